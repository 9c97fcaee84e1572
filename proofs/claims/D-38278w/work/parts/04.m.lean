/-! FirstdanceAgencyModel$Wedding -/
set_option maxRecDepth 100000
def RX11 : String := "FirstdanceAgencyModel$Wedding"
def TX11 : u_T := fun k => match k with
  | 0 => ("FirstdanceAgencyModel$Wedding", "band", "I", false)
  | 1 => ("FirstdanceAgencyModel$Wedding", "day", "I", false)
  | 2 => ("FirstdanceAgencyModel$Wedding", "town", "I", false)
  | 3 => ("FirstdanceAgencyModel$Wedding", "start", "I", false)
  | 4 => ("FirstdanceAgencyModel$Wedding", "length", "I", false)
  | 5 => ("FirstdanceAgencyModel$Wedding", "songs", "I", false)
  | 6 => ("FirstdanceAgencyModel$Wedding", "told", "I", false)
  | 7 => ("FirstdanceAgencyModel$Wedding", "state", "I", false)
  | 8 => ("FirstdanceAgencyModel$Wedding", "set", "I", false)
  | 9 => ("FirstdanceAgencyModel$Wedding", "price", "I", false)
  | 10 => ("FirstdanceAgencyModel$Wedding", "late", "I", false)
  | _ => ("FirstdanceAgencyModel$Wedding", "paid", "I", false)
def tyX11 : Nat → FieldType := fun k => match k with
  | 0 => .int
  | 1 => .int
  | 2 => .int
  | 3 => .int
  | 4 => .int
  | 5 => .int
  | 6 => .int
  | 7 => .int
  | 8 => .int
  | 9 => .int
  | 10 => .int
  | _ => .int
abbrev wsX110 : List Cond := u_ws RX11 TX11 12
theorem nmX11 : ∀ a, a < 12 → ∀ b, b < 12 → a ≠ b → (TX11 a).2.1 ≠ (TX11 b).2.1 := by decide +kernel
theorem tyX11_ok : ∀ k, k < 12 → parseFieldDescriptor (TX11 k).2.2.1 = some (tyX11 k) := by decide +kernel
abbrev cX11_init : ByteArray := prog_15_method_1_code
def yX11_init : MethodName := ⟨RX11, "<init>", "()V"⟩
theorem dX11_init_0 : decode cX11_init 0 = .ok (.aload_n 0, 1) := by decide +kernel
theorem dX11_init_1 : decode cX11_init 1 = .ok (.invokespecial 1, 3) := by decide +kernel
theorem dX11_init_4 : decode cX11_init 4 = .ok (.return_, 1) := by decide +kernel
abbrev cX11_quarters : ByteArray := prog_15_method_2_code
def yX11_quarters : MethodName := ⟨RX11, "quarters", "()I"⟩
def dkwX11_quarters_1 : List UInt8 := [96, 16, 15, 108, 172]
abbrev dktX11_quarters_1 : List UInt8 := dkwX11_quarters_1 ++ []
def dkwX11_quarters_0 : List UInt8 := [42, 180, 0, 7, 16, 60, 16, 24, 42, 180, 0, 13, 100, 42, 180, 0, 16, 100, 104, 184, 0, 19, 16, 14]
abbrev dktX11_quarters_0 : List UInt8 := dkwX11_quarters_0 ++ dktX11_quarters_1
theorem dksX11_quarters_0 : cX11_quarters.data.toList.drop 0 = dktX11_quarters_0 := by decide +kernel
theorem dksX11_quarters_1 : cX11_quarters.data.toList.drop 24 = dktX11_quarters_1 := dk_seg dksX11_quarters_0 24 rfl rfl
theorem dX11_quarters_0 : decode cX11_quarters 0 = .ok (.aload_n 0, 1) := dk_42 (dk_at dksX11_quarters_0 0 rfl rfl)
theorem dX11_quarters_1 : decode cX11_quarters 1 = .ok (.getfield 7, 3) := dk_180 0 7 (dk_at dksX11_quarters_0 1 rfl rfl)
theorem dX11_quarters_4 : decode cX11_quarters 4 = .ok (.bipush 60, 2) := dk_16 60 (dk_at dksX11_quarters_0 4 rfl rfl)
theorem dX11_quarters_6 : decode cX11_quarters 6 = .ok (.bipush 24, 2) := dk_16 24 (dk_at dksX11_quarters_0 6 rfl rfl)
theorem dX11_quarters_8 : decode cX11_quarters 8 = .ok (.aload_n 0, 1) := dk_42 (dk_at dksX11_quarters_0 8 rfl rfl)
theorem dX11_quarters_9 : decode cX11_quarters 9 = .ok (.getfield 13, 3) := dk_180 0 13 (dk_at dksX11_quarters_0 9 rfl rfl)
theorem dX11_quarters_12 : decode cX11_quarters 12 = .ok (.isub, 1) := dk_100 (dk_at dksX11_quarters_0 12 rfl rfl)
theorem dX11_quarters_13 : decode cX11_quarters 13 = .ok (.aload_n 0, 1) := dk_42 (dk_at dksX11_quarters_0 13 rfl rfl)
theorem dX11_quarters_14 : decode cX11_quarters 14 = .ok (.getfield 16, 3) := dk_180 0 16 (dk_at dksX11_quarters_0 14 rfl rfl)
theorem dX11_quarters_17 : decode cX11_quarters 17 = .ok (.isub, 1) := dk_100 (dk_at dksX11_quarters_0 17 rfl rfl)
theorem dX11_quarters_18 : decode cX11_quarters 18 = .ok (.imul, 1) := dk_104 (dk_at dksX11_quarters_0 18 rfl rfl)
theorem dX11_quarters_19 : decode cX11_quarters 19 = .ok (.invokestatic 19, 3) := dk_184 0 19 (dk_at dksX11_quarters_0 19 rfl rfl)
theorem dX11_quarters_22 : decode cX11_quarters 22 = .ok (.bipush 14, 2) := dk_16 14 (dk_at dksX11_quarters_0 22 rfl rfl)
theorem dX11_quarters_24 : decode cX11_quarters 24 = .ok (.iadd, 1) := dk_96 (dk_at dksX11_quarters_1 0 rfl rfl)
theorem dX11_quarters_25 : decode cX11_quarters 25 = .ok (.bipush 15, 2) := dk_16 15 (dk_at dksX11_quarters_1 1 rfl rfl)
theorem dX11_quarters_27 : decode cX11_quarters 27 = .ok (.idiv, 1) := dk_108 (dk_at dksX11_quarters_1 3 rfl rfl)
theorem dX11_quarters_28 : decode cX11_quarters 28 = .ok (.ireturn, 1) := dk_172 (dk_at dksX11_quarters_1 4 rfl rfl)
theorem q131 : (Jvm.Cond.initialized "FirstdanceAgencyModel$Wedding") ∈ lw_all := lw_g (lw_at lw_m1 32 rfl) rfl
theorem q274 : (Jvm.Cond.selects "FirstdanceAgencyModel$Wedding" ({ cls := "java/lang/Object", name := "getClass", desc := "()Ljava/lang/Class;" } : Jvm.MethodName) ({ cls := "java/lang/Object", name := "getClass", desc := "()Ljava/lang/Class;" } : Jvm.MethodName)) ∈ lw_all := lw_g (lw_at lw_m1 175 rfl) rfl
theorem q1696 : (Jvm.Cond.instantiable "FirstdanceAgencyModel$Wedding" (12 : Nat)) ∈ lw_all := lw_g (lw_at lw_m7 157 rfl) rfl
theorem q1698 : (Jvm.Cond.instanceMethod ({ cls := "FirstdanceAgencyModel$Wedding", name := "<init>", desc := "()V" } : Jvm.MethodName)) ∈ lw_all := lw_g (lw_at lw_m7 159 rfl) rfl
theorem q1699 : (Jvm.Cond.code ({ cls := "FirstdanceAgencyModel$Wedding", name := "<init>", desc := "()V" } : Jvm.MethodName) prog_15_method_1_code (1 : Nat) (Option.none : Option Jvm.ClassFile.FieldType)) ∈ lw_all := lw_g (lw_at lw_m7 160 rfl) rfl
theorem q1700 : (Jvm.Cond.methodLink "FirstdanceAgencyModel$Wedding" (1 : Nat) ({ cls := "java/lang/Object", name := "<init>", desc := "()V" } : Jvm.MethodName)) ∈ lw_all := lw_g (lw_at lw_m7 161 rfl) rfl
theorem q1704 : (Jvm.Cond.fieldLink "FirstdanceAgencyModel$Wedding" (13 : Nat) "FirstdanceAgencyModel$Wedding" "start" "I") ∈ lw_all := lw_g (lw_at lw_m7 165 rfl) rfl
theorem q1706 : (Jvm.Cond.fieldLink "FirstdanceAgencyModel$Wedding" (16 : Nat) "FirstdanceAgencyModel$Wedding" "length" "I") ∈ lw_all := lw_g (lw_at lw_m7 167 rfl) rfl
theorem q1713 : (Jvm.Cond.fieldLink "FirstdanceAgencyModel$Wedding" (7 : Nat) "FirstdanceAgencyModel$Wedding" "late" "I") ∈ lw_all := lw_g (lw_at lw_m7 174 rfl) rfl
theorem q1716 : (Jvm.Cond.lays "FirstdanceAgencyModel$Wedding" "FirstdanceAgencyModel$Wedding" "band" "I") ∈ lw_all := lw_g (lw_at lw_m7 177 rfl) rfl
theorem q1717 : (Jvm.Cond.soleField "FirstdanceAgencyModel$Wedding" "band") ∈ lw_all := lw_g (lw_at lw_m7 178 rfl) rfl
theorem q1718 : (Jvm.Cond.lays "FirstdanceAgencyModel$Wedding" "FirstdanceAgencyModel$Wedding" "day" "I") ∈ lw_all := lw_g (lw_at lw_m7 179 rfl) rfl
theorem q1719 : (Jvm.Cond.soleField "FirstdanceAgencyModel$Wedding" "day") ∈ lw_all := lw_g (lw_at lw_m7 180 rfl) rfl
theorem q1720 : (Jvm.Cond.lays "FirstdanceAgencyModel$Wedding" "FirstdanceAgencyModel$Wedding" "town" "I") ∈ lw_all := lw_g (lw_at lw_m7 181 rfl) rfl
theorem q1721 : (Jvm.Cond.soleField "FirstdanceAgencyModel$Wedding" "town") ∈ lw_all := lw_g (lw_at lw_m7 182 rfl) rfl
theorem q1722 : (Jvm.Cond.lays "FirstdanceAgencyModel$Wedding" "FirstdanceAgencyModel$Wedding" "start" "I") ∈ lw_all := lw_g (lw_at lw_m7 183 rfl) rfl
theorem q1723 : (Jvm.Cond.soleField "FirstdanceAgencyModel$Wedding" "start") ∈ lw_all := lw_g (lw_at lw_m7 184 rfl) rfl
theorem q1724 : (Jvm.Cond.lays "FirstdanceAgencyModel$Wedding" "FirstdanceAgencyModel$Wedding" "length" "I") ∈ lw_all := lw_g (lw_at lw_m7 185 rfl) rfl
theorem q1725 : (Jvm.Cond.soleField "FirstdanceAgencyModel$Wedding" "length") ∈ lw_all := lw_g (lw_at lw_m7 186 rfl) rfl
theorem q1726 : (Jvm.Cond.lays "FirstdanceAgencyModel$Wedding" "FirstdanceAgencyModel$Wedding" "songs" "I") ∈ lw_all := lw_g (lw_at lw_m7 187 rfl) rfl
theorem q1727 : (Jvm.Cond.soleField "FirstdanceAgencyModel$Wedding" "songs") ∈ lw_all := lw_g (lw_at lw_m7 188 rfl) rfl
theorem q1728 : (Jvm.Cond.lays "FirstdanceAgencyModel$Wedding" "FirstdanceAgencyModel$Wedding" "told" "I") ∈ lw_all := lw_g (lw_at lw_m7 189 rfl) rfl
theorem q1729 : (Jvm.Cond.soleField "FirstdanceAgencyModel$Wedding" "told") ∈ lw_all := lw_g (lw_at lw_m7 190 rfl) rfl
theorem q1730 : (Jvm.Cond.lays "FirstdanceAgencyModel$Wedding" "FirstdanceAgencyModel$Wedding" "state" "I") ∈ lw_all := lw_g (lw_at lw_m7 191 rfl) rfl
theorem q1731 : (Jvm.Cond.soleField "FirstdanceAgencyModel$Wedding" "state") ∈ lw_all := lw_g (lw_at lw_m7 192 rfl) rfl
theorem q1732 : (Jvm.Cond.lays "FirstdanceAgencyModel$Wedding" "FirstdanceAgencyModel$Wedding" "set" "I") ∈ lw_all := lw_g (lw_at lw_m7 193 rfl) rfl
theorem q1733 : (Jvm.Cond.soleField "FirstdanceAgencyModel$Wedding" "set") ∈ lw_all := lw_g (lw_at lw_m7 194 rfl) rfl
theorem q1734 : (Jvm.Cond.lays "FirstdanceAgencyModel$Wedding" "FirstdanceAgencyModel$Wedding" "price" "I") ∈ lw_all := lw_g (lw_at lw_m7 195 rfl) rfl
theorem q1735 : (Jvm.Cond.soleField "FirstdanceAgencyModel$Wedding" "price") ∈ lw_all := lw_g (lw_at lw_m7 196 rfl) rfl
theorem q1736 : (Jvm.Cond.lays "FirstdanceAgencyModel$Wedding" "FirstdanceAgencyModel$Wedding" "late" "I") ∈ lw_all := lw_g (lw_at lw_m7 197 rfl) rfl
theorem q1737 : (Jvm.Cond.soleField "FirstdanceAgencyModel$Wedding" "late") ∈ lw_all := lw_g (lw_at lw_m7 198 rfl) rfl
theorem q1738 : (Jvm.Cond.lays "FirstdanceAgencyModel$Wedding" "FirstdanceAgencyModel$Wedding" "paid" "I") ∈ lw_all := lw_g (lw_at lw_m7 199 rfl) rfl
theorem q1739 : (Jvm.Cond.soleField "FirstdanceAgencyModel$Wedding" "paid") ∈ lw_all := lw_g (lw_at lw_m7 200 rfl) rfl
theorem q1740 : (Jvm.Cond.superclass "FirstdanceAgencyModel$Wedding" "java/lang/Object") ∈ lw_all := lw_g (lw_at lw_m7 201 rfl) rfl
theorem q1874 : (Jvm.Cond.instanceMethod ({ cls := "FirstdanceAgencyModel$Wedding", name := "quarters", desc := "()I" } : Jvm.MethodName)) ∈ lw_all := lw_g (lw_at lw_m8 95 rfl) rfl
theorem q1875 : (Jvm.Cond.selects "FirstdanceAgencyModel$Wedding" ({ cls := "FirstdanceAgencyModel$Wedding", name := "quarters", desc := "()I" } : Jvm.MethodName) ({ cls := "FirstdanceAgencyModel$Wedding", name := "quarters", desc := "()I" } : Jvm.MethodName)) ∈ lw_all := lw_g (lw_at lw_m8 96 rfl) rfl
theorem q1876 : (Jvm.Cond.code ({ cls := "FirstdanceAgencyModel$Wedding", name := "quarters", desc := "()I" } : Jvm.MethodName) prog_15_method_2_code (1 : Nat) (Option.some Jvm.ClassFile.FieldType.int)) ∈ lw_all := lw_g (lw_at lw_m8 97 rfl) rfl
theorem q1877 : (Jvm.Cond.methodLink "FirstdanceAgencyModel$Wedding" (19 : Nat) ({ cls := "java/lang/Math", name := "min", desc := "(II)I" } : Jvm.MethodName)) ∈ lw_all := lw_g (lw_at lw_m8 98 rfl) rfl
theorem q2102 : (Jvm.Cond.castable "FirstdanceAgencyModel$Wedding" "java/lang/Object") ∈ lw_tbl := lw_at lw_m9 83 rfl
theorem in_X11 : ∀ w ∈ wsX110, w ∈ lw_all := lw_in wsX110 [1716, 1718, 1720, 1722, 1724, 1726, 1728, 1730, 1732, 1734, 1736, 1738] (by decide +kernel) (by decide +kernel)

/-! FirstdanceAgencyModel -/
set_option maxRecDepth 100000
def RX4 : String := "FirstdanceAgencyModel"
def TX4 : u_T := fun k => match k with
  | 0 => ("FirstdanceAgencyModel", "thrown", "I", false)
  | 1 => ("FirstdanceAgencyModel", "today", "I", false)
  | 2 => ("FirstdanceAgencyModel", "cash", "I", false)
  | 3 => ("FirstdanceAgencyModel", "players", "Ljava/util/ArrayList;", true)
  | 4 => ("FirstdanceAgencyModel", "bands", "Ljava/util/ArrayList;", true)
  | 5 => ("FirstdanceAgencyModel", "weddings", "Ljava/util/ArrayList;", true)
  | 6 => ("FirstdanceAgencyModel", "keys", "[I", true)
  | 7 => ("FirstdanceAgencyModel", "energies", "[I", true)
  | 8 => ("FirstdanceAgencyModel", "minutes", "[I", true)
  | 9 => ("FirstdanceAgencyModel", "plays", "[I", true)
  | 10 => ("FirstdanceAgencyModel", "roads", "[I", true)
  | 11 => ("FirstdanceAgencyModel", "drives", "[I", true)
  | _ => ("FirstdanceAgencyModel", "sum", "J", false)
def tyX4 : Nat → FieldType := fun k => match k with
  | 0 => .int
  | 1 => .int
  | 2 => .int
  | 3 => .object "java/util/ArrayList"
  | 4 => .object "java/util/ArrayList"
  | 5 => .object "java/util/ArrayList"
  | 6 => .array .int
  | 7 => .array .int
  | 8 => .array .int
  | 9 => .array .int
  | 10 => .array .int
  | 11 => .array .int
  | _ => .long
abbrev wsX40 : List Cond := u_ws RX4 TX4 13
set_option maxRecDepth 100000 in
theorem nmX4 : ∀ a, a < 13 → ∀ b, b < 13 → a ≠ b → (TX4 a).2.1 ≠ (TX4 b).2.1 := by decide +kernel
set_option maxRecDepth 100000 in
theorem tyX4_ok : ∀ k, k < 13 → parseFieldDescriptor (TX4 k).2.2.1 = some (tyX4 k) := by decide +kernel
abbrev cX4_init : ByteArray := prog_13_method_1_code
def yX4_init : MethodName := ⟨RX4, "<init>", "()V"⟩
def dkwX4_init_5 : List UInt8 := [132, 1, 1, 167, 255, 223, 42, 182, 0, 41, 177]
abbrev dktX4_init_5 : List UInt8 := dkwX4_init_5 ++ []
def dkwX4_init_4 : List UInt8 := [180, 0, 22, 27, 27, 16, 12, 112, 79, 42, 180, 0, 26, 27, 8, 79, 42, 180, 0, 29, 27, 6, 79]
abbrev dktX4_init_4 : List UInt8 := dkwX4_init_4 ++ dktX4_init_5
def dkwX4_init_3 : List UInt8 := [16, 36, 188, 10, 181, 0, 35, 42, 16, 36, 188, 10, 181, 0, 38, 3, 60, 27, 16, 16, 162, 0, 33, 42]
abbrev dktX4_init_3 : List UInt8 := dkwX4_init_3 ++ dktX4_init_4
def dkwX4_init_2 : List UInt8 := [16, 16, 188, 10, 181, 0, 26, 42, 16, 16, 188, 10, 181, 0, 29, 42, 16, 16, 188, 10, 181, 0, 32, 42]
abbrev dktX4_init_2 : List UInt8 := dkwX4_init_2 ++ dktX4_init_3
def dkwX4_init_1 : List UInt8 := [181, 0, 16, 42, 187, 0, 7, 89, 183, 0, 9, 181, 0, 19, 42, 16, 16, 188, 10, 181, 0, 22, 42]
abbrev dktX4_init_1 : List UInt8 := dkwX4_init_1 ++ dktX4_init_2
def dkwX4_init_0 : List UInt8 := [42, 183, 0, 1, 42, 187, 0, 7, 89, 183, 0, 9, 181, 0, 10, 42, 187, 0, 7, 89, 183, 0, 9]
abbrev dktX4_init_0 : List UInt8 := dkwX4_init_0 ++ dktX4_init_1
theorem dksX4_init_0 : cX4_init.data.toList.drop 0 = dktX4_init_0 := by decide +kernel
theorem dksX4_init_1 : cX4_init.data.toList.drop 23 = dktX4_init_1 := dk_seg dksX4_init_0 23 rfl rfl
theorem dksX4_init_2 : cX4_init.data.toList.drop 46 = dktX4_init_2 := dk_seg dksX4_init_1 23 rfl rfl
theorem dksX4_init_3 : cX4_init.data.toList.drop 70 = dktX4_init_3 := dk_seg dksX4_init_2 24 rfl rfl
theorem dksX4_init_4 : cX4_init.data.toList.drop 94 = dktX4_init_4 := dk_seg dksX4_init_3 24 rfl rfl
theorem dksX4_init_5 : cX4_init.data.toList.drop 117 = dktX4_init_5 := dk_seg dksX4_init_4 23 rfl rfl
theorem dX4_init_0 : decode cX4_init 0 = .ok (.aload_n 0, 1) := dk_42 (dk_at dksX4_init_0 0 rfl rfl)
theorem dX4_init_1 : decode cX4_init 1 = .ok (.invokespecial 1, 3) := dk_183 0 1 (dk_at dksX4_init_0 1 rfl rfl)
theorem dX4_init_4 : decode cX4_init 4 = .ok (.aload_n 0, 1) := dk_42 (dk_at dksX4_init_0 4 rfl rfl)
theorem dX4_init_5 : decode cX4_init 5 = .ok (.new 7, 3) := dk_187 0 7 (dk_at dksX4_init_0 5 rfl rfl)
theorem dX4_init_8 : decode cX4_init 8 = .ok (.dup, 1) := dk_89 (dk_at dksX4_init_0 8 rfl rfl)
theorem dX4_init_9 : decode cX4_init 9 = .ok (.invokespecial 9, 3) := dk_183 0 9 (dk_at dksX4_init_0 9 rfl rfl)
theorem dX4_init_12 : decode cX4_init 12 = .ok (.putfield 10, 3) := dk_181 0 10 (dk_at dksX4_init_0 12 rfl rfl)
theorem dX4_init_15 : decode cX4_init 15 = .ok (.aload_n 0, 1) := dk_42 (dk_at dksX4_init_0 15 rfl rfl)
theorem dX4_init_16 : decode cX4_init 16 = .ok (.new 7, 3) := dk_187 0 7 (dk_at dksX4_init_0 16 rfl rfl)
theorem dX4_init_19 : decode cX4_init 19 = .ok (.dup, 1) := dk_89 (dk_at dksX4_init_0 19 rfl rfl)
theorem dX4_init_20 : decode cX4_init 20 = .ok (.invokespecial 9, 3) := dk_183 0 9 (dk_at dksX4_init_0 20 rfl rfl)
theorem dX4_init_23 : decode cX4_init 23 = .ok (.putfield 16, 3) := dk_181 0 16 (dk_at dksX4_init_1 0 rfl rfl)
theorem dX4_init_26 : decode cX4_init 26 = .ok (.aload_n 0, 1) := dk_42 (dk_at dksX4_init_1 3 rfl rfl)
theorem dX4_init_27 : decode cX4_init 27 = .ok (.new 7, 3) := dk_187 0 7 (dk_at dksX4_init_1 4 rfl rfl)
theorem dX4_init_30 : decode cX4_init 30 = .ok (.dup, 1) := dk_89 (dk_at dksX4_init_1 7 rfl rfl)
theorem dX4_init_31 : decode cX4_init 31 = .ok (.invokespecial 9, 3) := dk_183 0 9 (dk_at dksX4_init_1 8 rfl rfl)
theorem dX4_init_34 : decode cX4_init 34 = .ok (.putfield 19, 3) := dk_181 0 19 (dk_at dksX4_init_1 11 rfl rfl)
theorem dX4_init_37 : decode cX4_init 37 = .ok (.aload_n 0, 1) := dk_42 (dk_at dksX4_init_1 14 rfl rfl)
theorem dX4_init_38 : decode cX4_init 38 = .ok (.bipush 16, 2) := dk_16 16 (dk_at dksX4_init_1 15 rfl rfl)
theorem dX4_init_40 : decode cX4_init 40 = .ok (.newarray .int, 2) := dk_188_10 (dk_at dksX4_init_1 17 rfl rfl)
theorem dX4_init_42 : decode cX4_init 42 = .ok (.putfield 22, 3) := dk_181 0 22 (dk_at dksX4_init_1 19 rfl rfl)
theorem dX4_init_45 : decode cX4_init 45 = .ok (.aload_n 0, 1) := dk_42 (dk_at dksX4_init_1 22 rfl rfl)
theorem dX4_init_46 : decode cX4_init 46 = .ok (.bipush 16, 2) := dk_16 16 (dk_at dksX4_init_2 0 rfl rfl)
theorem dX4_init_48 : decode cX4_init 48 = .ok (.newarray .int, 2) := dk_188_10 (dk_at dksX4_init_2 2 rfl rfl)
theorem dX4_init_50 : decode cX4_init 50 = .ok (.putfield 26, 3) := dk_181 0 26 (dk_at dksX4_init_2 4 rfl rfl)
theorem dX4_init_53 : decode cX4_init 53 = .ok (.aload_n 0, 1) := dk_42 (dk_at dksX4_init_2 7 rfl rfl)
theorem dX4_init_54 : decode cX4_init 54 = .ok (.bipush 16, 2) := dk_16 16 (dk_at dksX4_init_2 8 rfl rfl)
theorem dX4_init_56 : decode cX4_init 56 = .ok (.newarray .int, 2) := dk_188_10 (dk_at dksX4_init_2 10 rfl rfl)
theorem dX4_init_58 : decode cX4_init 58 = .ok (.putfield 29, 3) := dk_181 0 29 (dk_at dksX4_init_2 12 rfl rfl)
theorem dX4_init_61 : decode cX4_init 61 = .ok (.aload_n 0, 1) := dk_42 (dk_at dksX4_init_2 15 rfl rfl)
theorem dX4_init_62 : decode cX4_init 62 = .ok (.bipush 16, 2) := dk_16 16 (dk_at dksX4_init_2 16 rfl rfl)
theorem dX4_init_64 : decode cX4_init 64 = .ok (.newarray .int, 2) := dk_188_10 (dk_at dksX4_init_2 18 rfl rfl)
theorem dX4_init_66 : decode cX4_init 66 = .ok (.putfield 32, 3) := dk_181 0 32 (dk_at dksX4_init_2 20 rfl rfl)
theorem dX4_init_69 : decode cX4_init 69 = .ok (.aload_n 0, 1) := dk_42 (dk_at dksX4_init_2 23 rfl rfl)
theorem dX4_init_70 : decode cX4_init 70 = .ok (.bipush 36, 2) := dk_16 36 (dk_at dksX4_init_3 0 rfl rfl)
theorem dX4_init_72 : decode cX4_init 72 = .ok (.newarray .int, 2) := dk_188_10 (dk_at dksX4_init_3 2 rfl rfl)
theorem dX4_init_74 : decode cX4_init 74 = .ok (.putfield 35, 3) := dk_181 0 35 (dk_at dksX4_init_3 4 rfl rfl)
theorem dX4_init_77 : decode cX4_init 77 = .ok (.aload_n 0, 1) := dk_42 (dk_at dksX4_init_3 7 rfl rfl)
theorem dX4_init_78 : decode cX4_init 78 = .ok (.bipush 36, 2) := dk_16 36 (dk_at dksX4_init_3 8 rfl rfl)
theorem dX4_init_80 : decode cX4_init 80 = .ok (.newarray .int, 2) := dk_188_10 (dk_at dksX4_init_3 10 rfl rfl)
theorem dX4_init_82 : decode cX4_init 82 = .ok (.putfield 38, 3) := dk_181 0 38 (dk_at dksX4_init_3 12 rfl rfl)
theorem dX4_init_85 : decode cX4_init 85 = .ok (.iconst 0, 1) := dk_3 (dk_at dksX4_init_3 15 rfl rfl)
theorem dX4_init_86 : decode cX4_init 86 = .ok (.istore_n 1, 1) := dk_60 (dk_at dksX4_init_3 16 rfl rfl)
theorem dX4_init_87 : decode cX4_init 87 = .ok (.iload_n 1, 1) := dk_27 (dk_at dksX4_init_3 17 rfl rfl)
theorem dX4_init_88 : decode cX4_init 88 = .ok (.bipush 16, 2) := dk_16 16 (dk_at dksX4_init_3 18 rfl rfl)
theorem dX4_init_90 : decode cX4_init 90 = .ok (.if_icmp .ge 33, 3) := dk_162 0 33 (dk_at dksX4_init_3 20 rfl rfl)
theorem dX4_init_93 : decode cX4_init 93 = .ok (.aload_n 0, 1) := dk_42 (dk_at dksX4_init_3 23 rfl rfl)
theorem dX4_init_94 : decode cX4_init 94 = .ok (.getfield 22, 3) := dk_180 0 22 (dk_at dksX4_init_4 0 rfl rfl)
theorem dX4_init_97 : decode cX4_init 97 = .ok (.iload_n 1, 1) := dk_27 (dk_at dksX4_init_4 3 rfl rfl)
theorem dX4_init_98 : decode cX4_init 98 = .ok (.iload_n 1, 1) := dk_27 (dk_at dksX4_init_4 4 rfl rfl)
theorem dX4_init_99 : decode cX4_init 99 = .ok (.bipush 12, 2) := dk_16 12 (dk_at dksX4_init_4 5 rfl rfl)
theorem dX4_init_101 : decode cX4_init 101 = .ok (.irem, 1) := dk_112 (dk_at dksX4_init_4 7 rfl rfl)
theorem dX4_init_102 : decode cX4_init 102 = .ok (.iastore, 1) := dk_79 (dk_at dksX4_init_4 8 rfl rfl)
theorem dX4_init_103 : decode cX4_init 103 = .ok (.aload_n 0, 1) := dk_42 (dk_at dksX4_init_4 9 rfl rfl)
theorem dX4_init_104 : decode cX4_init 104 = .ok (.getfield 26, 3) := dk_180 0 26 (dk_at dksX4_init_4 10 rfl rfl)
theorem dX4_init_107 : decode cX4_init 107 = .ok (.iload_n 1, 1) := dk_27 (dk_at dksX4_init_4 13 rfl rfl)
theorem dX4_init_108 : decode cX4_init 108 = .ok (.iconst 5, 1) := dk_8 (dk_at dksX4_init_4 14 rfl rfl)
theorem dX4_init_109 : decode cX4_init 109 = .ok (.iastore, 1) := dk_79 (dk_at dksX4_init_4 15 rfl rfl)
theorem dX4_init_110 : decode cX4_init 110 = .ok (.aload_n 0, 1) := dk_42 (dk_at dksX4_init_4 16 rfl rfl)
theorem dX4_init_111 : decode cX4_init 111 = .ok (.getfield 29, 3) := dk_180 0 29 (dk_at dksX4_init_4 17 rfl rfl)
theorem dX4_init_114 : decode cX4_init 114 = .ok (.iload_n 1, 1) := dk_27 (dk_at dksX4_init_4 20 rfl rfl)
theorem dX4_init_115 : decode cX4_init 115 = .ok (.iconst 3, 1) := dk_6 (dk_at dksX4_init_4 21 rfl rfl)
theorem dX4_init_116 : decode cX4_init 116 = .ok (.iastore, 1) := dk_79 (dk_at dksX4_init_4 22 rfl rfl)
theorem dX4_init_117 : decode cX4_init 117 = .ok (.iinc 1 1, 3) := dk_132 1 1 (dk_at dksX4_init_5 0 rfl rfl)
theorem dX4_init_120 : decode cX4_init 120 = .ok (.goto (-33), 3) := dk_167 255 223 (dk_at dksX4_init_5 3 rfl rfl)
theorem dX4_init_123 : decode cX4_init 123 = .ok (.aload_n 0, 1) := dk_42 (dk_at dksX4_init_5 6 rfl rfl)
theorem dX4_init_124 : decode cX4_init 124 = .ok (.invokevirtual 41, 3) := dk_182 0 41 (dk_at dksX4_init_5 7 rfl rfl)
theorem dX4_init_127 : decode cX4_init 127 = .ok (.return_, 1) := dk_177 (dk_at dksX4_init_5 10 rfl rfl)
abbrev cX4_drive : ByteArray := prog_13_method_15_code
def yX4_drive : MethodName := ⟨RX4, "drive", "()V"⟩
def dkwX4_drive_8 : List UInt8 := [132, 3, 1, 167, 255, 164, 132, 2, 1, 167, 255, 150, 132, 1, 1, 167, 255, 136, 177]
abbrev dktX4_drive_8 : List UInt8 := dkwX4_drive_8 ++ []
def dkwX4_drive_7 : List UInt8 := [96, 21, 6, 162, 0, 19, 42, 180, 0, 38, 28, 16, 6, 104, 29, 96, 21, 4, 21, 5, 96, 79]
abbrev dktX4_drive_7 : List UInt8 := dkwX4_drive_7 ++ dktX4_drive_8
def dkwX4_drive_6 : List UInt8 := [54, 6, 21, 4, 2, 159, 0, 41, 21, 5, 2, 159, 0, 35, 21, 6, 2, 159, 0, 13, 21, 4, 21, 5]
abbrev dktX4_drive_6 : List UInt8 := dkwX4_drive_6 ++ dktX4_drive_7
def dkwX4_drive_5 : List UInt8 := [42, 180, 0, 38, 27, 16, 6, 104, 29, 96, 46, 54, 5, 42, 180, 0, 38, 28, 16, 6, 104, 29, 96, 46]
abbrev dktX4_drive_5 : List UInt8 := dkwX4_drive_5 ++ dktX4_drive_6
def dkwX4_drive_4 : List UInt8 := [162, 0, 106, 3, 62, 29, 16, 6, 162, 0, 92, 42, 180, 0, 38, 28, 16, 6, 104, 27, 96, 46, 54, 4]
abbrev dktX4_drive_4 : List UInt8 := dkwX4_drive_4 ++ dktX4_drive_5
def dkwX4_drive_3 : List UInt8 := [167, 255, 198, 132, 1, 1, 167, 255, 184, 3, 60, 27, 16, 6, 162, 0, 120, 3, 61, 28, 16, 6]
abbrev dktX4_drive_3 : List UInt8 := dkwX4_drive_3 ++ dktX4_drive_4
def dkwX4_drive_2 : List UInt8 := [154, 0, 7, 2, 167, 0, 14, 42, 180, 0, 35, 27, 16, 6, 104, 28, 96, 46, 79, 132, 2, 1]
abbrev dktX4_drive_2 : List UInt8 := dkwX4_drive_2 ++ dktX4_drive_3
def dkwX4_drive_1 : List UInt8 := [28, 96, 27, 28, 160, 0, 7, 3, 167, 0, 32, 42, 180, 0, 35, 27, 16, 6, 104, 28, 96, 46]
abbrev dktX4_drive_1 : List UInt8 := dkwX4_drive_1 ++ dktX4_drive_2
def dkwX4_drive_0 : List UInt8 := [3, 60, 27, 16, 6, 162, 0, 72, 3, 61, 28, 16, 6, 162, 0, 58, 42, 180, 0, 38, 27, 16, 6, 104]
abbrev dktX4_drive_0 : List UInt8 := dkwX4_drive_0 ++ dktX4_drive_1
theorem dksX4_drive_0 : cX4_drive.data.toList.drop 0 = dktX4_drive_0 := by decide +kernel
theorem dksX4_drive_1 : cX4_drive.data.toList.drop 24 = dktX4_drive_1 := dk_seg dksX4_drive_0 24 rfl rfl
theorem dksX4_drive_2 : cX4_drive.data.toList.drop 46 = dktX4_drive_2 := dk_seg dksX4_drive_1 22 rfl rfl
theorem dksX4_drive_3 : cX4_drive.data.toList.drop 68 = dktX4_drive_3 := dk_seg dksX4_drive_2 22 rfl rfl
theorem dksX4_drive_4 : cX4_drive.data.toList.drop 90 = dktX4_drive_4 := dk_seg dksX4_drive_3 22 rfl rfl
theorem dksX4_drive_5 : cX4_drive.data.toList.drop 114 = dktX4_drive_5 := dk_seg dksX4_drive_4 24 rfl rfl
theorem dksX4_drive_6 : cX4_drive.data.toList.drop 138 = dktX4_drive_6 := dk_seg dksX4_drive_5 24 rfl rfl
theorem dksX4_drive_7 : cX4_drive.data.toList.drop 162 = dktX4_drive_7 := dk_seg dksX4_drive_6 24 rfl rfl
theorem dksX4_drive_8 : cX4_drive.data.toList.drop 184 = dktX4_drive_8 := dk_seg dksX4_drive_7 22 rfl rfl
theorem dX4_drive_0 : decode cX4_drive 0 = .ok (.iconst 0, 1) := dk_3 (dk_at dksX4_drive_0 0 rfl rfl)
theorem dX4_drive_1 : decode cX4_drive 1 = .ok (.istore_n 1, 1) := dk_60 (dk_at dksX4_drive_0 1 rfl rfl)
theorem dX4_drive_2 : decode cX4_drive 2 = .ok (.iload_n 1, 1) := dk_27 (dk_at dksX4_drive_0 2 rfl rfl)
theorem dX4_drive_3 : decode cX4_drive 3 = .ok (.bipush 6, 2) := dk_16 6 (dk_at dksX4_drive_0 3 rfl rfl)
theorem dX4_drive_5 : decode cX4_drive 5 = .ok (.if_icmp .ge 72, 3) := dk_162 0 72 (dk_at dksX4_drive_0 5 rfl rfl)
theorem dX4_drive_8 : decode cX4_drive 8 = .ok (.iconst 0, 1) := dk_3 (dk_at dksX4_drive_0 8 rfl rfl)
theorem dX4_drive_9 : decode cX4_drive 9 = .ok (.istore_n 2, 1) := dk_61 (dk_at dksX4_drive_0 9 rfl rfl)
theorem dX4_drive_10 : decode cX4_drive 10 = .ok (.iload_n 2, 1) := dk_28 (dk_at dksX4_drive_0 10 rfl rfl)
theorem dX4_drive_11 : decode cX4_drive 11 = .ok (.bipush 6, 2) := dk_16 6 (dk_at dksX4_drive_0 11 rfl rfl)
theorem dX4_drive_13 : decode cX4_drive 13 = .ok (.if_icmp .ge 58, 3) := dk_162 0 58 (dk_at dksX4_drive_0 13 rfl rfl)
theorem dX4_drive_16 : decode cX4_drive 16 = .ok (.aload_n 0, 1) := dk_42 (dk_at dksX4_drive_0 16 rfl rfl)
theorem dX4_drive_17 : decode cX4_drive 17 = .ok (.getfield 38, 3) := dk_180 0 38 (dk_at dksX4_drive_0 17 rfl rfl)
theorem dX4_drive_20 : decode cX4_drive 20 = .ok (.iload_n 1, 1) := dk_27 (dk_at dksX4_drive_0 20 rfl rfl)
theorem dX4_drive_21 : decode cX4_drive 21 = .ok (.bipush 6, 2) := dk_16 6 (dk_at dksX4_drive_0 21 rfl rfl)
theorem dX4_drive_23 : decode cX4_drive 23 = .ok (.imul, 1) := dk_104 (dk_at dksX4_drive_0 23 rfl rfl)
theorem dX4_drive_24 : decode cX4_drive 24 = .ok (.iload_n 2, 1) := dk_28 (dk_at dksX4_drive_1 0 rfl rfl)
theorem dX4_drive_25 : decode cX4_drive 25 = .ok (.iadd, 1) := dk_96 (dk_at dksX4_drive_1 1 rfl rfl)
theorem dX4_drive_26 : decode cX4_drive 26 = .ok (.iload_n 1, 1) := dk_27 (dk_at dksX4_drive_1 2 rfl rfl)
theorem dX4_drive_27 : decode cX4_drive 27 = .ok (.iload_n 2, 1) := dk_28 (dk_at dksX4_drive_1 3 rfl rfl)
theorem dX4_drive_28 : decode cX4_drive 28 = .ok (.if_icmp .ne 7, 3) := dk_160 0 7 (dk_at dksX4_drive_1 4 rfl rfl)
theorem dX4_drive_31 : decode cX4_drive 31 = .ok (.iconst 0, 1) := dk_3 (dk_at dksX4_drive_1 7 rfl rfl)
theorem dX4_drive_32 : decode cX4_drive 32 = .ok (.goto 32, 3) := dk_167 0 32 (dk_at dksX4_drive_1 8 rfl rfl)
theorem dX4_drive_35 : decode cX4_drive 35 = .ok (.aload_n 0, 1) := dk_42 (dk_at dksX4_drive_1 11 rfl rfl)
theorem dX4_drive_36 : decode cX4_drive 36 = .ok (.getfield 35, 3) := dk_180 0 35 (dk_at dksX4_drive_1 12 rfl rfl)
theorem dX4_drive_39 : decode cX4_drive 39 = .ok (.iload_n 1, 1) := dk_27 (dk_at dksX4_drive_1 15 rfl rfl)
theorem dX4_drive_40 : decode cX4_drive 40 = .ok (.bipush 6, 2) := dk_16 6 (dk_at dksX4_drive_1 16 rfl rfl)
theorem dX4_drive_42 : decode cX4_drive 42 = .ok (.imul, 1) := dk_104 (dk_at dksX4_drive_1 18 rfl rfl)
theorem dX4_drive_43 : decode cX4_drive 43 = .ok (.iload_n 2, 1) := dk_28 (dk_at dksX4_drive_1 19 rfl rfl)
theorem dX4_drive_44 : decode cX4_drive 44 = .ok (.iadd, 1) := dk_96 (dk_at dksX4_drive_1 20 rfl rfl)
theorem dX4_drive_45 : decode cX4_drive 45 = .ok (.iaload, 1) := dk_46 (dk_at dksX4_drive_1 21 rfl rfl)
theorem dX4_drive_46 : decode cX4_drive 46 = .ok (.ifCond .ne 7, 3) := dk_154 0 7 (dk_at dksX4_drive_2 0 rfl rfl)
theorem dX4_drive_49 : decode cX4_drive 49 = .ok (.iconst (-1), 1) := dk_2 (dk_at dksX4_drive_2 3 rfl rfl)
theorem dX4_drive_50 : decode cX4_drive 50 = .ok (.goto 14, 3) := dk_167 0 14 (dk_at dksX4_drive_2 4 rfl rfl)
theorem dX4_drive_53 : decode cX4_drive 53 = .ok (.aload_n 0, 1) := dk_42 (dk_at dksX4_drive_2 7 rfl rfl)
theorem dX4_drive_54 : decode cX4_drive 54 = .ok (.getfield 35, 3) := dk_180 0 35 (dk_at dksX4_drive_2 8 rfl rfl)
theorem dX4_drive_57 : decode cX4_drive 57 = .ok (.iload_n 1, 1) := dk_27 (dk_at dksX4_drive_2 11 rfl rfl)
theorem dX4_drive_58 : decode cX4_drive 58 = .ok (.bipush 6, 2) := dk_16 6 (dk_at dksX4_drive_2 12 rfl rfl)
theorem dX4_drive_60 : decode cX4_drive 60 = .ok (.imul, 1) := dk_104 (dk_at dksX4_drive_2 14 rfl rfl)
theorem dX4_drive_61 : decode cX4_drive 61 = .ok (.iload_n 2, 1) := dk_28 (dk_at dksX4_drive_2 15 rfl rfl)
theorem dX4_drive_62 : decode cX4_drive 62 = .ok (.iadd, 1) := dk_96 (dk_at dksX4_drive_2 16 rfl rfl)
theorem dX4_drive_63 : decode cX4_drive 63 = .ok (.iaload, 1) := dk_46 (dk_at dksX4_drive_2 17 rfl rfl)
theorem dX4_drive_64 : decode cX4_drive 64 = .ok (.iastore, 1) := dk_79 (dk_at dksX4_drive_2 18 rfl rfl)
theorem dX4_drive_65 : decode cX4_drive 65 = .ok (.iinc 2 1, 3) := dk_132 2 1 (dk_at dksX4_drive_2 19 rfl rfl)
theorem dX4_drive_68 : decode cX4_drive 68 = .ok (.goto (-58), 3) := dk_167 255 198 (dk_at dksX4_drive_3 0 rfl rfl)
theorem dX4_drive_71 : decode cX4_drive 71 = .ok (.iinc 1 1, 3) := dk_132 1 1 (dk_at dksX4_drive_3 3 rfl rfl)
theorem dX4_drive_74 : decode cX4_drive 74 = .ok (.goto (-72), 3) := dk_167 255 184 (dk_at dksX4_drive_3 6 rfl rfl)
theorem dX4_drive_77 : decode cX4_drive 77 = .ok (.iconst 0, 1) := dk_3 (dk_at dksX4_drive_3 9 rfl rfl)
theorem dX4_drive_78 : decode cX4_drive 78 = .ok (.istore_n 1, 1) := dk_60 (dk_at dksX4_drive_3 10 rfl rfl)
theorem dX4_drive_79 : decode cX4_drive 79 = .ok (.iload_n 1, 1) := dk_27 (dk_at dksX4_drive_3 11 rfl rfl)
theorem dX4_drive_80 : decode cX4_drive 80 = .ok (.bipush 6, 2) := dk_16 6 (dk_at dksX4_drive_3 12 rfl rfl)
theorem dX4_drive_82 : decode cX4_drive 82 = .ok (.if_icmp .ge 120, 3) := dk_162 0 120 (dk_at dksX4_drive_3 14 rfl rfl)
theorem dX4_drive_85 : decode cX4_drive 85 = .ok (.iconst 0, 1) := dk_3 (dk_at dksX4_drive_3 17 rfl rfl)
theorem dX4_drive_86 : decode cX4_drive 86 = .ok (.istore_n 2, 1) := dk_61 (dk_at dksX4_drive_3 18 rfl rfl)
theorem dX4_drive_87 : decode cX4_drive 87 = .ok (.iload_n 2, 1) := dk_28 (dk_at dksX4_drive_3 19 rfl rfl)
theorem dX4_drive_88 : decode cX4_drive 88 = .ok (.bipush 6, 2) := dk_16 6 (dk_at dksX4_drive_3 20 rfl rfl)
theorem dX4_drive_90 : decode cX4_drive 90 = .ok (.if_icmp .ge 106, 3) := dk_162 0 106 (dk_at dksX4_drive_4 0 rfl rfl)
theorem dX4_drive_93 : decode cX4_drive 93 = .ok (.iconst 0, 1) := dk_3 (dk_at dksX4_drive_4 3 rfl rfl)
theorem dX4_drive_94 : decode cX4_drive 94 = .ok (.istore_n 3, 1) := dk_62 (dk_at dksX4_drive_4 4 rfl rfl)
theorem dX4_drive_95 : decode cX4_drive 95 = .ok (.iload_n 3, 1) := dk_29 (dk_at dksX4_drive_4 5 rfl rfl)
theorem dX4_drive_96 : decode cX4_drive 96 = .ok (.bipush 6, 2) := dk_16 6 (dk_at dksX4_drive_4 6 rfl rfl)
theorem dX4_drive_98 : decode cX4_drive 98 = .ok (.if_icmp .ge 92, 3) := dk_162 0 92 (dk_at dksX4_drive_4 8 rfl rfl)
theorem dX4_drive_101 : decode cX4_drive 101 = .ok (.aload_n 0, 1) := dk_42 (dk_at dksX4_drive_4 11 rfl rfl)
theorem dX4_drive_102 : decode cX4_drive 102 = .ok (.getfield 38, 3) := dk_180 0 38 (dk_at dksX4_drive_4 12 rfl rfl)
theorem dX4_drive_105 : decode cX4_drive 105 = .ok (.iload_n 2, 1) := dk_28 (dk_at dksX4_drive_4 15 rfl rfl)
theorem dX4_drive_106 : decode cX4_drive 106 = .ok (.bipush 6, 2) := dk_16 6 (dk_at dksX4_drive_4 16 rfl rfl)
theorem dX4_drive_108 : decode cX4_drive 108 = .ok (.imul, 1) := dk_104 (dk_at dksX4_drive_4 18 rfl rfl)
theorem dX4_drive_109 : decode cX4_drive 109 = .ok (.iload_n 1, 1) := dk_27 (dk_at dksX4_drive_4 19 rfl rfl)
theorem dX4_drive_110 : decode cX4_drive 110 = .ok (.iadd, 1) := dk_96 (dk_at dksX4_drive_4 20 rfl rfl)
theorem dX4_drive_111 : decode cX4_drive 111 = .ok (.iaload, 1) := dk_46 (dk_at dksX4_drive_4 21 rfl rfl)
theorem dX4_drive_112 : decode cX4_drive 112 = .ok (.istore 4, 2) := dk_54 4 (dk_at dksX4_drive_4 22 rfl rfl)
theorem dX4_drive_114 : decode cX4_drive 114 = .ok (.aload_n 0, 1) := dk_42 (dk_at dksX4_drive_5 0 rfl rfl)
theorem dX4_drive_115 : decode cX4_drive 115 = .ok (.getfield 38, 3) := dk_180 0 38 (dk_at dksX4_drive_5 1 rfl rfl)
theorem dX4_drive_118 : decode cX4_drive 118 = .ok (.iload_n 1, 1) := dk_27 (dk_at dksX4_drive_5 4 rfl rfl)
theorem dX4_drive_119 : decode cX4_drive 119 = .ok (.bipush 6, 2) := dk_16 6 (dk_at dksX4_drive_5 5 rfl rfl)
theorem dX4_drive_121 : decode cX4_drive 121 = .ok (.imul, 1) := dk_104 (dk_at dksX4_drive_5 7 rfl rfl)
theorem dX4_drive_122 : decode cX4_drive 122 = .ok (.iload_n 3, 1) := dk_29 (dk_at dksX4_drive_5 8 rfl rfl)
theorem dX4_drive_123 : decode cX4_drive 123 = .ok (.iadd, 1) := dk_96 (dk_at dksX4_drive_5 9 rfl rfl)
theorem dX4_drive_124 : decode cX4_drive 124 = .ok (.iaload, 1) := dk_46 (dk_at dksX4_drive_5 10 rfl rfl)
theorem dX4_drive_125 : decode cX4_drive 125 = .ok (.istore 5, 2) := dk_54 5 (dk_at dksX4_drive_5 11 rfl rfl)
theorem dX4_drive_127 : decode cX4_drive 127 = .ok (.aload_n 0, 1) := dk_42 (dk_at dksX4_drive_5 13 rfl rfl)
theorem dX4_drive_128 : decode cX4_drive 128 = .ok (.getfield 38, 3) := dk_180 0 38 (dk_at dksX4_drive_5 14 rfl rfl)
theorem dX4_drive_131 : decode cX4_drive 131 = .ok (.iload_n 2, 1) := dk_28 (dk_at dksX4_drive_5 17 rfl rfl)
theorem dX4_drive_132 : decode cX4_drive 132 = .ok (.bipush 6, 2) := dk_16 6 (dk_at dksX4_drive_5 18 rfl rfl)
theorem dX4_drive_134 : decode cX4_drive 134 = .ok (.imul, 1) := dk_104 (dk_at dksX4_drive_5 20 rfl rfl)
theorem dX4_drive_135 : decode cX4_drive 135 = .ok (.iload_n 3, 1) := dk_29 (dk_at dksX4_drive_5 21 rfl rfl)
theorem dX4_drive_136 : decode cX4_drive 136 = .ok (.iadd, 1) := dk_96 (dk_at dksX4_drive_5 22 rfl rfl)
theorem dX4_drive_137 : decode cX4_drive 137 = .ok (.iaload, 1) := dk_46 (dk_at dksX4_drive_5 23 rfl rfl)
theorem dX4_drive_138 : decode cX4_drive 138 = .ok (.istore 6, 2) := dk_54 6 (dk_at dksX4_drive_6 0 rfl rfl)
theorem dX4_drive_140 : decode cX4_drive 140 = .ok (.iload 4, 2) := dk_21 4 (dk_at dksX4_drive_6 2 rfl rfl)
theorem dX4_drive_142 : decode cX4_drive 142 = .ok (.iconst (-1), 1) := dk_2 (dk_at dksX4_drive_6 4 rfl rfl)
theorem dX4_drive_143 : decode cX4_drive 143 = .ok (.if_icmp .eq 41, 3) := dk_159 0 41 (dk_at dksX4_drive_6 5 rfl rfl)
theorem dX4_drive_146 : decode cX4_drive 146 = .ok (.iload 5, 2) := dk_21 5 (dk_at dksX4_drive_6 8 rfl rfl)
theorem dX4_drive_148 : decode cX4_drive 148 = .ok (.iconst (-1), 1) := dk_2 (dk_at dksX4_drive_6 10 rfl rfl)
theorem dX4_drive_149 : decode cX4_drive 149 = .ok (.if_icmp .eq 35, 3) := dk_159 0 35 (dk_at dksX4_drive_6 11 rfl rfl)
theorem dX4_drive_152 : decode cX4_drive 152 = .ok (.iload 6, 2) := dk_21 6 (dk_at dksX4_drive_6 14 rfl rfl)
theorem dX4_drive_154 : decode cX4_drive 154 = .ok (.iconst (-1), 1) := dk_2 (dk_at dksX4_drive_6 16 rfl rfl)
theorem dX4_drive_155 : decode cX4_drive 155 = .ok (.if_icmp .eq 13, 3) := dk_159 0 13 (dk_at dksX4_drive_6 17 rfl rfl)
theorem dX4_drive_158 : decode cX4_drive 158 = .ok (.iload 4, 2) := dk_21 4 (dk_at dksX4_drive_6 20 rfl rfl)
theorem dX4_drive_160 : decode cX4_drive 160 = .ok (.iload 5, 2) := dk_21 5 (dk_at dksX4_drive_6 22 rfl rfl)
theorem dX4_drive_162 : decode cX4_drive 162 = .ok (.iadd, 1) := dk_96 (dk_at dksX4_drive_7 0 rfl rfl)
theorem dX4_drive_163 : decode cX4_drive 163 = .ok (.iload 6, 2) := dk_21 6 (dk_at dksX4_drive_7 1 rfl rfl)
theorem dX4_drive_165 : decode cX4_drive 165 = .ok (.if_icmp .ge 19, 3) := dk_162 0 19 (dk_at dksX4_drive_7 3 rfl rfl)
theorem dX4_drive_168 : decode cX4_drive 168 = .ok (.aload_n 0, 1) := dk_42 (dk_at dksX4_drive_7 6 rfl rfl)
theorem dX4_drive_169 : decode cX4_drive 169 = .ok (.getfield 38, 3) := dk_180 0 38 (dk_at dksX4_drive_7 7 rfl rfl)
theorem dX4_drive_172 : decode cX4_drive 172 = .ok (.iload_n 2, 1) := dk_28 (dk_at dksX4_drive_7 10 rfl rfl)
theorem dX4_drive_173 : decode cX4_drive 173 = .ok (.bipush 6, 2) := dk_16 6 (dk_at dksX4_drive_7 11 rfl rfl)
theorem dX4_drive_175 : decode cX4_drive 175 = .ok (.imul, 1) := dk_104 (dk_at dksX4_drive_7 13 rfl rfl)
theorem dX4_drive_176 : decode cX4_drive 176 = .ok (.iload_n 3, 1) := dk_29 (dk_at dksX4_drive_7 14 rfl rfl)
theorem dX4_drive_177 : decode cX4_drive 177 = .ok (.iadd, 1) := dk_96 (dk_at dksX4_drive_7 15 rfl rfl)
theorem dX4_drive_178 : decode cX4_drive 178 = .ok (.iload 4, 2) := dk_21 4 (dk_at dksX4_drive_7 16 rfl rfl)
theorem dX4_drive_180 : decode cX4_drive 180 = .ok (.iload 5, 2) := dk_21 5 (dk_at dksX4_drive_7 18 rfl rfl)
theorem dX4_drive_182 : decode cX4_drive 182 = .ok (.iadd, 1) := dk_96 (dk_at dksX4_drive_7 20 rfl rfl)
theorem dX4_drive_183 : decode cX4_drive 183 = .ok (.iastore, 1) := dk_79 (dk_at dksX4_drive_7 21 rfl rfl)
theorem dX4_drive_184 : decode cX4_drive 184 = .ok (.iinc 3 1, 3) := dk_132 3 1 (dk_at dksX4_drive_8 0 rfl rfl)
theorem dX4_drive_187 : decode cX4_drive 187 = .ok (.goto (-92), 3) := dk_167 255 164 (dk_at dksX4_drive_8 3 rfl rfl)
theorem dX4_drive_190 : decode cX4_drive 190 = .ok (.iinc 2 1, 3) := dk_132 2 1 (dk_at dksX4_drive_8 6 rfl rfl)
theorem dX4_drive_193 : decode cX4_drive 193 = .ok (.goto (-106), 3) := dk_167 255 150 (dk_at dksX4_drive_8 9 rfl rfl)
theorem dX4_drive_196 : decode cX4_drive 196 = .ok (.iinc 1 1, 3) := dk_132 1 1 (dk_at dksX4_drive_8 12 rfl rfl)
theorem dX4_drive_199 : decode cX4_drive 199 = .ok (.goto (-120), 3) := dk_167 255 136 (dk_at dksX4_drive_8 15 rfl rfl)
theorem dX4_drive_202 : decode cX4_drive 202 = .ok (.return_, 1) := dk_177 (dk_at dksX4_drive_8 18 rfl rfl)
abbrev cX4_thrown : ByteArray := prog_13_method_2_code
def yX4_thrown : MethodName := ⟨RX4, "thrown", "()I"⟩
theorem dX4_thrown_0 : decode cX4_thrown 0 = .ok (.aload_n 0, 1) := by decide +kernel
theorem dX4_thrown_1 : decode cX4_thrown 1 = .ok (.getfield 44, 3) := by decide +kernel
theorem dX4_thrown_4 : decode cX4_thrown 4 = .ok (.ireturn, 1) := by decide +kernel
abbrev cX4_player : ByteArray := prog_13_method_10_code
def yX4_player : MethodName := ⟨RX4, "player", "(IIII)I"⟩
def dkwX4_player_5 : List UInt8 := [182, 0, 83, 87, 42, 180, 0, 10, 182, 0, 48, 4, 100, 172]
abbrev dktX4_player_5 : List UInt8 := dkwX4_player_5 ++ []
def dkwX4_player_4 : List UInt8 := [181, 0, 74, 25, 5, 29, 181, 0, 77, 25, 5, 21, 4, 181, 0, 80, 42, 180, 0, 10, 25, 5]
abbrev dktX4_player_4 : List UInt8 := dkwX4_player_4 ++ dktX4_player_5
def dkwX4_player_3 : List UInt8 := [182, 0, 60, 172, 187, 0, 68, 89, 183, 0, 70, 58, 5, 25, 5, 27, 181, 0, 71, 25, 5, 28]
abbrev dktX4_player_3 : List UInt8 := dkwX4_player_3 ++ dktX4_player_4
def dkwX4_player_2 : List UInt8 := [154, 0, 9, 42, 5, 182, 0, 60, 172, 42, 180, 0, 10, 182, 0, 48, 16, 10, 160, 0, 9, 42, 6]
abbrev dktX4_player_2 : List UInt8 := dkwX4_player_2 ++ dktX4_player_3
def dkwX4_player_1 : List UInt8 := [184, 0, 52, 153, 0, 22, 42, 28, 182, 0, 64, 153, 0, 14, 21, 4, 4, 16, 99, 184, 0, 52]
abbrev dktX4_player_1 : List UInt8 := dkwX4_player_1 ++ dktX4_player_2
def dkwX4_player_0 : List UInt8 := [42, 3, 181, 0, 44, 29, 3, 8, 184, 0, 52, 154, 0, 9, 42, 4, 182, 0, 60, 172, 27, 4, 16, 63]
abbrev dktX4_player_0 : List UInt8 := dkwX4_player_0 ++ dktX4_player_1
theorem dksX4_player_0 : cX4_player.data.toList.drop 0 = dktX4_player_0 := by decide +kernel
theorem dksX4_player_1 : cX4_player.data.toList.drop 24 = dktX4_player_1 := dk_seg dksX4_player_0 24 rfl rfl
theorem dksX4_player_2 : cX4_player.data.toList.drop 46 = dktX4_player_2 := dk_seg dksX4_player_1 22 rfl rfl
theorem dksX4_player_3 : cX4_player.data.toList.drop 69 = dktX4_player_3 := dk_seg dksX4_player_2 23 rfl rfl
theorem dksX4_player_4 : cX4_player.data.toList.drop 91 = dktX4_player_4 := dk_seg dksX4_player_3 22 rfl rfl
theorem dksX4_player_5 : cX4_player.data.toList.drop 113 = dktX4_player_5 := dk_seg dksX4_player_4 22 rfl rfl
theorem dX4_player_0 : decode cX4_player 0 = .ok (.aload_n 0, 1) := dk_42 (dk_at dksX4_player_0 0 rfl rfl)
theorem dX4_player_1 : decode cX4_player 1 = .ok (.iconst 0, 1) := dk_3 (dk_at dksX4_player_0 1 rfl rfl)
theorem dX4_player_2 : decode cX4_player 2 = .ok (.putfield 44, 3) := dk_181 0 44 (dk_at dksX4_player_0 2 rfl rfl)
theorem dX4_player_5 : decode cX4_player 5 = .ok (.iload_n 3, 1) := dk_29 (dk_at dksX4_player_0 5 rfl rfl)
theorem dX4_player_6 : decode cX4_player 6 = .ok (.iconst 0, 1) := dk_3 (dk_at dksX4_player_0 6 rfl rfl)
theorem dX4_player_7 : decode cX4_player 7 = .ok (.iconst 5, 1) := dk_8 (dk_at dksX4_player_0 7 rfl rfl)
theorem dX4_player_8 : decode cX4_player 8 = .ok (.invokestatic 52, 3) := dk_184 0 52 (dk_at dksX4_player_0 8 rfl rfl)
theorem dX4_player_11 : decode cX4_player 11 = .ok (.ifCond .ne 9, 3) := dk_154 0 9 (dk_at dksX4_player_0 11 rfl rfl)
theorem dX4_player_14 : decode cX4_player 14 = .ok (.aload_n 0, 1) := dk_42 (dk_at dksX4_player_0 14 rfl rfl)
theorem dX4_player_15 : decode cX4_player 15 = .ok (.iconst 1, 1) := dk_4 (dk_at dksX4_player_0 15 rfl rfl)
theorem dX4_player_16 : decode cX4_player 16 = .ok (.invokevirtual 60, 3) := dk_182 0 60 (dk_at dksX4_player_0 16 rfl rfl)
theorem dX4_player_19 : decode cX4_player 19 = .ok (.ireturn, 1) := dk_172 (dk_at dksX4_player_0 19 rfl rfl)
theorem dX4_player_20 : decode cX4_player 20 = .ok (.iload_n 1, 1) := dk_27 (dk_at dksX4_player_0 20 rfl rfl)
theorem dX4_player_21 : decode cX4_player 21 = .ok (.iconst 1, 1) := dk_4 (dk_at dksX4_player_0 21 rfl rfl)
theorem dX4_player_22 : decode cX4_player 22 = .ok (.bipush 63, 2) := dk_16 63 (dk_at dksX4_player_0 22 rfl rfl)
theorem dX4_player_24 : decode cX4_player 24 = .ok (.invokestatic 52, 3) := dk_184 0 52 (dk_at dksX4_player_1 0 rfl rfl)
theorem dX4_player_27 : decode cX4_player 27 = .ok (.ifCond .eq 22, 3) := dk_153 0 22 (dk_at dksX4_player_1 3 rfl rfl)
theorem dX4_player_30 : decode cX4_player 30 = .ok (.aload_n 0, 1) := dk_42 (dk_at dksX4_player_1 6 rfl rfl)
theorem dX4_player_31 : decode cX4_player 31 = .ok (.iload_n 2, 1) := dk_28 (dk_at dksX4_player_1 7 rfl rfl)
theorem dX4_player_32 : decode cX4_player 32 = .ok (.invokevirtual 64, 3) := dk_182 0 64 (dk_at dksX4_player_1 8 rfl rfl)
theorem dX4_player_35 : decode cX4_player 35 = .ok (.ifCond .eq 14, 3) := dk_153 0 14 (dk_at dksX4_player_1 11 rfl rfl)
theorem dX4_player_38 : decode cX4_player 38 = .ok (.iload 4, 2) := dk_21 4 (dk_at dksX4_player_1 14 rfl rfl)
theorem dX4_player_40 : decode cX4_player 40 = .ok (.iconst 1, 1) := dk_4 (dk_at dksX4_player_1 16 rfl rfl)
theorem dX4_player_41 : decode cX4_player 41 = .ok (.bipush 99, 2) := dk_16 99 (dk_at dksX4_player_1 17 rfl rfl)
theorem dX4_player_43 : decode cX4_player 43 = .ok (.invokestatic 52, 3) := dk_184 0 52 (dk_at dksX4_player_1 19 rfl rfl)
theorem dX4_player_46 : decode cX4_player 46 = .ok (.ifCond .ne 9, 3) := dk_154 0 9 (dk_at dksX4_player_2 0 rfl rfl)
theorem dX4_player_49 : decode cX4_player 49 = .ok (.aload_n 0, 1) := dk_42 (dk_at dksX4_player_2 3 rfl rfl)
theorem dX4_player_50 : decode cX4_player 50 = .ok (.iconst 2, 1) := dk_5 (dk_at dksX4_player_2 4 rfl rfl)
theorem dX4_player_51 : decode cX4_player 51 = .ok (.invokevirtual 60, 3) := dk_182 0 60 (dk_at dksX4_player_2 5 rfl rfl)
theorem dX4_player_54 : decode cX4_player 54 = .ok (.ireturn, 1) := dk_172 (dk_at dksX4_player_2 8 rfl rfl)
theorem dX4_player_55 : decode cX4_player 55 = .ok (.aload_n 0, 1) := dk_42 (dk_at dksX4_player_2 9 rfl rfl)
theorem dX4_player_56 : decode cX4_player 56 = .ok (.getfield 10, 3) := dk_180 0 10 (dk_at dksX4_player_2 10 rfl rfl)
theorem dX4_player_59 : decode cX4_player 59 = .ok (.invokevirtual 48, 3) := dk_182 0 48 (dk_at dksX4_player_2 13 rfl rfl)
theorem dX4_player_62 : decode cX4_player 62 = .ok (.bipush 10, 2) := dk_16 10 (dk_at dksX4_player_2 16 rfl rfl)
theorem dX4_player_64 : decode cX4_player 64 = .ok (.if_icmp .ne 9, 3) := dk_160 0 9 (dk_at dksX4_player_2 18 rfl rfl)
theorem dX4_player_67 : decode cX4_player 67 = .ok (.aload_n 0, 1) := dk_42 (dk_at dksX4_player_2 21 rfl rfl)
theorem dX4_player_68 : decode cX4_player 68 = .ok (.iconst 3, 1) := dk_6 (dk_at dksX4_player_2 22 rfl rfl)
theorem dX4_player_69 : decode cX4_player 69 = .ok (.invokevirtual 60, 3) := dk_182 0 60 (dk_at dksX4_player_3 0 rfl rfl)
theorem dX4_player_72 : decode cX4_player 72 = .ok (.ireturn, 1) := dk_172 (dk_at dksX4_player_3 3 rfl rfl)
theorem dX4_player_73 : decode cX4_player 73 = .ok (.new 68, 3) := dk_187 0 68 (dk_at dksX4_player_3 4 rfl rfl)
theorem dX4_player_76 : decode cX4_player 76 = .ok (.dup, 1) := dk_89 (dk_at dksX4_player_3 7 rfl rfl)
theorem dX4_player_77 : decode cX4_player 77 = .ok (.invokespecial 70, 3) := dk_183 0 70 (dk_at dksX4_player_3 8 rfl rfl)
theorem dX4_player_80 : decode cX4_player 80 = .ok (.astore 5, 2) := dk_58 5 (dk_at dksX4_player_3 11 rfl rfl)
theorem dX4_player_82 : decode cX4_player 82 = .ok (.aload 5, 2) := dk_25 5 (dk_at dksX4_player_3 13 rfl rfl)
theorem dX4_player_84 : decode cX4_player 84 = .ok (.iload_n 1, 1) := dk_27 (dk_at dksX4_player_3 15 rfl rfl)
theorem dX4_player_85 : decode cX4_player 85 = .ok (.putfield 71, 3) := dk_181 0 71 (dk_at dksX4_player_3 16 rfl rfl)
theorem dX4_player_88 : decode cX4_player 88 = .ok (.aload 5, 2) := dk_25 5 (dk_at dksX4_player_3 19 rfl rfl)
theorem dX4_player_90 : decode cX4_player 90 = .ok (.iload_n 2, 1) := dk_28 (dk_at dksX4_player_3 21 rfl rfl)
theorem dX4_player_91 : decode cX4_player 91 = .ok (.putfield 74, 3) := dk_181 0 74 (dk_at dksX4_player_4 0 rfl rfl)
theorem dX4_player_94 : decode cX4_player 94 = .ok (.aload 5, 2) := dk_25 5 (dk_at dksX4_player_4 3 rfl rfl)
theorem dX4_player_96 : decode cX4_player 96 = .ok (.iload_n 3, 1) := dk_29 (dk_at dksX4_player_4 5 rfl rfl)
theorem dX4_player_97 : decode cX4_player 97 = .ok (.putfield 77, 3) := dk_181 0 77 (dk_at dksX4_player_4 6 rfl rfl)
theorem dX4_player_100 : decode cX4_player 100 = .ok (.aload 5, 2) := dk_25 5 (dk_at dksX4_player_4 9 rfl rfl)
theorem dX4_player_102 : decode cX4_player 102 = .ok (.iload 4, 2) := dk_21 4 (dk_at dksX4_player_4 11 rfl rfl)
theorem dX4_player_104 : decode cX4_player 104 = .ok (.putfield 80, 3) := dk_181 0 80 (dk_at dksX4_player_4 13 rfl rfl)
theorem dX4_player_107 : decode cX4_player 107 = .ok (.aload_n 0, 1) := dk_42 (dk_at dksX4_player_4 16 rfl rfl)
theorem dX4_player_108 : decode cX4_player 108 = .ok (.getfield 10, 3) := dk_180 0 10 (dk_at dksX4_player_4 17 rfl rfl)
theorem dX4_player_111 : decode cX4_player 111 = .ok (.aload 5, 2) := dk_25 5 (dk_at dksX4_player_4 20 rfl rfl)
theorem dX4_player_113 : decode cX4_player 113 = .ok (.invokevirtual 83, 3) := dk_182 0 83 (dk_at dksX4_player_5 0 rfl rfl)
theorem dX4_player_116 : decode cX4_player 116 = .ok (.pop, 1) := dk_87 (dk_at dksX4_player_5 3 rfl rfl)
theorem dX4_player_117 : decode cX4_player 117 = .ok (.aload_n 0, 1) := dk_42 (dk_at dksX4_player_5 4 rfl rfl)
theorem dX4_player_118 : decode cX4_player 118 = .ok (.getfield 10, 3) := dk_180 0 10 (dk_at dksX4_player_5 5 rfl rfl)
theorem dX4_player_121 : decode cX4_player 121 = .ok (.invokevirtual 48, 3) := dk_182 0 48 (dk_at dksX4_player_5 8 rfl rfl)
theorem dX4_player_124 : decode cX4_player 124 = .ok (.iconst 1, 1) := dk_4 (dk_at dksX4_player_5 11 rfl rfl)
theorem dX4_player_125 : decode cX4_player 125 = .ok (.isub, 1) := dk_100 (dk_at dksX4_player_5 12 rfl rfl)
theorem dX4_player_126 : decode cX4_player 126 = .ok (.ireturn, 1) := dk_172 (dk_at dksX4_player_5 13 rfl rfl)
abbrev cX4_is : ByteArray := prog_13_method_4_code
def yX4_is : MethodName := ⟨RX4, "is", "(III)Z"⟩
def dkwX4_is_0 : List UInt8 := [26, 27, 161, 0, 12, 26, 28, 163, 0, 7, 4, 167, 0, 4, 3, 172]
abbrev dktX4_is_0 : List UInt8 := dkwX4_is_0 ++ []
theorem dksX4_is_0 : cX4_is.data.toList.drop 0 = dktX4_is_0 := by decide +kernel
theorem dX4_is_0 : decode cX4_is 0 = .ok (.iload_n 0, 1) := dk_26 (dk_at dksX4_is_0 0 rfl rfl)
theorem dX4_is_1 : decode cX4_is 1 = .ok (.iload_n 1, 1) := dk_27 (dk_at dksX4_is_0 1 rfl rfl)
theorem dX4_is_2 : decode cX4_is 2 = .ok (.if_icmp .lt 12, 3) := dk_161 0 12 (dk_at dksX4_is_0 2 rfl rfl)
theorem dX4_is_5 : decode cX4_is 5 = .ok (.iload_n 0, 1) := dk_26 (dk_at dksX4_is_0 5 rfl rfl)
theorem dX4_is_6 : decode cX4_is 6 = .ok (.iload_n 2, 1) := dk_28 (dk_at dksX4_is_0 6 rfl rfl)
theorem dX4_is_7 : decode cX4_is 7 = .ok (.if_icmp .gt 7, 3) := dk_163 0 7 (dk_at dksX4_is_0 7 rfl rfl)
theorem dX4_is_10 : decode cX4_is 10 = .ok (.iconst 1, 1) := dk_4 (dk_at dksX4_is_0 10 rfl rfl)
theorem dX4_is_11 : decode cX4_is 11 = .ok (.goto 4, 3) := dk_167 0 4 (dk_at dksX4_is_0 11 rfl rfl)
theorem dX4_is_14 : decode cX4_is 14 = .ok (.iconst 0, 1) := dk_3 (dk_at dksX4_is_0 14 rfl rfl)
theorem dX4_is_15 : decode cX4_is 15 = .ok (.ireturn, 1) := dk_172 (dk_at dksX4_is_0 15 rfl rfl)
abbrev cX4_refuse : ByteArray := prog_13_method_3_code
def yX4_refuse : MethodName := ⟨RX4, "refuse", "(I)I"⟩
def dkwX4_refuse_0 : List UInt8 := [42, 27, 181, 0, 44, 3, 172]
abbrev dktX4_refuse_0 : List UInt8 := dkwX4_refuse_0 ++ []
theorem dksX4_refuse_0 : cX4_refuse.data.toList.drop 0 = dktX4_refuse_0 := by decide +kernel
theorem dX4_refuse_0 : decode cX4_refuse 0 = .ok (.aload_n 0, 1) := dk_42 (dk_at dksX4_refuse_0 0 rfl rfl)
theorem dX4_refuse_1 : decode cX4_refuse 1 = .ok (.iload_n 1, 1) := dk_27 (dk_at dksX4_refuse_0 1 rfl rfl)
theorem dX4_refuse_2 : decode cX4_refuse 2 = .ok (.putfield 44, 3) := dk_181 0 44 (dk_at dksX4_refuse_0 2 rfl rfl)
theorem dX4_refuse_5 : decode cX4_refuse 5 = .ok (.iconst 0, 1) := dk_3 (dk_at dksX4_refuse_0 5 rfl rfl)
theorem dX4_refuse_6 : decode cX4_refuse 6 = .ok (.ireturn, 1) := dk_172 (dk_at dksX4_refuse_0 6 rfl rfl)
abbrev cX4_areSongs : ByteArray := prog_13_method_7_code
def yX4_areSongs : MethodName := ⟨RX4, "areSongs", "(I)Z"⟩
def dkwX4_areSongs_0 : List UInt8 := [27, 3, 18, 56, 184, 0, 52, 172]
abbrev dktX4_areSongs_0 : List UInt8 := dkwX4_areSongs_0 ++ []
theorem dksX4_areSongs_0 : cX4_areSongs.data.toList.drop 0 = dktX4_areSongs_0 := by decide +kernel
theorem dX4_areSongs_0 : decode cX4_areSongs 0 = .ok (.iload_n 1, 1) := dk_27 (dk_at dksX4_areSongs_0 0 rfl rfl)
theorem dX4_areSongs_1 : decode cX4_areSongs 1 = .ok (.iconst 0, 1) := dk_3 (dk_at dksX4_areSongs_0 1 rfl rfl)
theorem dX4_areSongs_2 : decode cX4_areSongs 2 = .ok (.ldc 56, 2) := dk_18 56 (dk_at dksX4_areSongs_0 2 rfl rfl)
theorem dX4_areSongs_4 : decode cX4_areSongs 4 = .ok (.invokestatic 52, 3) := dk_184 0 52 (dk_at dksX4_areSongs_0 4 rfl rfl)
theorem dX4_areSongs_7 : decode cX4_areSongs 7 = .ok (.ireturn, 1) := dk_172 (dk_at dksX4_areSongs_0 7 rfl rfl)
abbrev cX4_learn : ByteArray := prog_13_method_11_code
def yX4_learn : MethodName := ⟨RX4, "learn", "(II)I"⟩
def dkwX4_learn_2 : List UInt8 := [28, 128, 181, 0, 74, 42, 180, 0, 10, 27, 182, 0, 90, 192, 0, 68, 180, 0, 74, 184, 0, 94, 172]
abbrev dktX4_learn_2 : List UInt8 := dkwX4_learn_2 ++ []
def dkwX4_learn_1 : List UInt8 := [154, 0, 9, 42, 5, 182, 0, 60, 172, 42, 180, 0, 10, 27, 182, 0, 90, 192, 0, 68, 89, 180, 0, 74]
abbrev dktX4_learn_1 : List UInt8 := dkwX4_learn_1 ++ dktX4_learn_2
def dkwX4_learn_0 : List UInt8 := [42, 3, 181, 0, 44, 42, 27, 182, 0, 87, 154, 0, 9, 42, 4, 182, 0, 60, 172, 42, 28, 182, 0, 64]
abbrev dktX4_learn_0 : List UInt8 := dkwX4_learn_0 ++ dktX4_learn_1
theorem dksX4_learn_0 : cX4_learn.data.toList.drop 0 = dktX4_learn_0 := by decide +kernel
theorem dksX4_learn_1 : cX4_learn.data.toList.drop 24 = dktX4_learn_1 := dk_seg dksX4_learn_0 24 rfl rfl
theorem dksX4_learn_2 : cX4_learn.data.toList.drop 48 = dktX4_learn_2 := dk_seg dksX4_learn_1 24 rfl rfl
theorem dX4_learn_0 : decode cX4_learn 0 = .ok (.aload_n 0, 1) := dk_42 (dk_at dksX4_learn_0 0 rfl rfl)
theorem dX4_learn_1 : decode cX4_learn 1 = .ok (.iconst 0, 1) := dk_3 (dk_at dksX4_learn_0 1 rfl rfl)
theorem dX4_learn_2 : decode cX4_learn 2 = .ok (.putfield 44, 3) := dk_181 0 44 (dk_at dksX4_learn_0 2 rfl rfl)
theorem dX4_learn_5 : decode cX4_learn 5 = .ok (.aload_n 0, 1) := dk_42 (dk_at dksX4_learn_0 5 rfl rfl)
theorem dX4_learn_6 : decode cX4_learn 6 = .ok (.iload_n 1, 1) := dk_27 (dk_at dksX4_learn_0 6 rfl rfl)
theorem dX4_learn_7 : decode cX4_learn 7 = .ok (.invokevirtual 87, 3) := dk_182 0 87 (dk_at dksX4_learn_0 7 rfl rfl)
theorem dX4_learn_10 : decode cX4_learn 10 = .ok (.ifCond .ne 9, 3) := dk_154 0 9 (dk_at dksX4_learn_0 10 rfl rfl)
theorem dX4_learn_13 : decode cX4_learn 13 = .ok (.aload_n 0, 1) := dk_42 (dk_at dksX4_learn_0 13 rfl rfl)
theorem dX4_learn_14 : decode cX4_learn 14 = .ok (.iconst 1, 1) := dk_4 (dk_at dksX4_learn_0 14 rfl rfl)
theorem dX4_learn_15 : decode cX4_learn 15 = .ok (.invokevirtual 60, 3) := dk_182 0 60 (dk_at dksX4_learn_0 15 rfl rfl)
theorem dX4_learn_18 : decode cX4_learn 18 = .ok (.ireturn, 1) := dk_172 (dk_at dksX4_learn_0 18 rfl rfl)
theorem dX4_learn_19 : decode cX4_learn 19 = .ok (.aload_n 0, 1) := dk_42 (dk_at dksX4_learn_0 19 rfl rfl)
theorem dX4_learn_20 : decode cX4_learn 20 = .ok (.iload_n 2, 1) := dk_28 (dk_at dksX4_learn_0 20 rfl rfl)
theorem dX4_learn_21 : decode cX4_learn 21 = .ok (.invokevirtual 64, 3) := dk_182 0 64 (dk_at dksX4_learn_0 21 rfl rfl)
theorem dX4_learn_24 : decode cX4_learn 24 = .ok (.ifCond .ne 9, 3) := dk_154 0 9 (dk_at dksX4_learn_1 0 rfl rfl)
theorem dX4_learn_27 : decode cX4_learn 27 = .ok (.aload_n 0, 1) := dk_42 (dk_at dksX4_learn_1 3 rfl rfl)
theorem dX4_learn_28 : decode cX4_learn 28 = .ok (.iconst 2, 1) := dk_5 (dk_at dksX4_learn_1 4 rfl rfl)
theorem dX4_learn_29 : decode cX4_learn 29 = .ok (.invokevirtual 60, 3) := dk_182 0 60 (dk_at dksX4_learn_1 5 rfl rfl)
theorem dX4_learn_32 : decode cX4_learn 32 = .ok (.ireturn, 1) := dk_172 (dk_at dksX4_learn_1 8 rfl rfl)
theorem dX4_learn_33 : decode cX4_learn 33 = .ok (.aload_n 0, 1) := dk_42 (dk_at dksX4_learn_1 9 rfl rfl)
theorem dX4_learn_34 : decode cX4_learn 34 = .ok (.getfield 10, 3) := dk_180 0 10 (dk_at dksX4_learn_1 10 rfl rfl)
theorem dX4_learn_37 : decode cX4_learn 37 = .ok (.iload_n 1, 1) := dk_27 (dk_at dksX4_learn_1 13 rfl rfl)
theorem dX4_learn_38 : decode cX4_learn 38 = .ok (.invokevirtual 90, 3) := dk_182 0 90 (dk_at dksX4_learn_1 14 rfl rfl)
theorem dX4_learn_41 : decode cX4_learn 41 = .ok (.checkcast 68, 3) := dk_192 0 68 (dk_at dksX4_learn_1 17 rfl rfl)
theorem dX4_learn_44 : decode cX4_learn 44 = .ok (.dup, 1) := dk_89 (dk_at dksX4_learn_1 20 rfl rfl)
theorem dX4_learn_45 : decode cX4_learn 45 = .ok (.getfield 74, 3) := dk_180 0 74 (dk_at dksX4_learn_1 21 rfl rfl)
theorem dX4_learn_48 : decode cX4_learn 48 = .ok (.iload_n 2, 1) := dk_28 (dk_at dksX4_learn_2 0 rfl rfl)
theorem dX4_learn_49 : decode cX4_learn 49 = .ok (.ior, 1) := dk_128 (dk_at dksX4_learn_2 1 rfl rfl)
theorem dX4_learn_50 : decode cX4_learn 50 = .ok (.putfield 74, 3) := dk_181 0 74 (dk_at dksX4_learn_2 2 rfl rfl)
theorem dX4_learn_53 : decode cX4_learn 53 = .ok (.aload_n 0, 1) := dk_42 (dk_at dksX4_learn_2 5 rfl rfl)
theorem dX4_learn_54 : decode cX4_learn 54 = .ok (.getfield 10, 3) := dk_180 0 10 (dk_at dksX4_learn_2 6 rfl rfl)
theorem dX4_learn_57 : decode cX4_learn 57 = .ok (.iload_n 1, 1) := dk_27 (dk_at dksX4_learn_2 9 rfl rfl)
theorem dX4_learn_58 : decode cX4_learn 58 = .ok (.invokevirtual 90, 3) := dk_182 0 90 (dk_at dksX4_learn_2 10 rfl rfl)
theorem dX4_learn_61 : decode cX4_learn 61 = .ok (.checkcast 68, 3) := dk_192 0 68 (dk_at dksX4_learn_2 13 rfl rfl)
theorem dX4_learn_64 : decode cX4_learn 64 = .ok (.getfield 74, 3) := dk_180 0 74 (dk_at dksX4_learn_2 16 rfl rfl)
theorem dX4_learn_67 : decode cX4_learn 67 = .ok (.invokestatic 94, 3) := dk_184 0 94 (dk_at dksX4_learn_2 19 rfl rfl)
theorem dX4_learn_70 : decode cX4_learn 70 = .ok (.ireturn, 1) := dk_172 (dk_at dksX4_learn_2 22 rfl rfl)
abbrev cX4_isPlayer : ByteArray := prog_13_method_5_code
def yX4_isPlayer : MethodName := ⟨RX4, "isPlayer", "(I)Z"⟩
def dkwX4_isPlayer_0 : List UInt8 := [27, 3, 42, 180, 0, 10, 182, 0, 48, 4, 100, 184, 0, 52, 172]
abbrev dktX4_isPlayer_0 : List UInt8 := dkwX4_isPlayer_0 ++ []
theorem dksX4_isPlayer_0 : cX4_isPlayer.data.toList.drop 0 = dktX4_isPlayer_0 := by decide +kernel
theorem dX4_isPlayer_0 : decode cX4_isPlayer 0 = .ok (.iload_n 1, 1) := dk_27 (dk_at dksX4_isPlayer_0 0 rfl rfl)
theorem dX4_isPlayer_1 : decode cX4_isPlayer 1 = .ok (.iconst 0, 1) := dk_3 (dk_at dksX4_isPlayer_0 1 rfl rfl)
theorem dX4_isPlayer_2 : decode cX4_isPlayer 2 = .ok (.aload_n 0, 1) := dk_42 (dk_at dksX4_isPlayer_0 2 rfl rfl)
theorem dX4_isPlayer_3 : decode cX4_isPlayer 3 = .ok (.getfield 10, 3) := dk_180 0 10 (dk_at dksX4_isPlayer_0 3 rfl rfl)
theorem dX4_isPlayer_6 : decode cX4_isPlayer 6 = .ok (.invokevirtual 48, 3) := dk_182 0 48 (dk_at dksX4_isPlayer_0 6 rfl rfl)
theorem dX4_isPlayer_9 : decode cX4_isPlayer 9 = .ok (.iconst 1, 1) := dk_4 (dk_at dksX4_isPlayer_0 9 rfl rfl)
theorem dX4_isPlayer_10 : decode cX4_isPlayer 10 = .ok (.isub, 1) := dk_100 (dk_at dksX4_isPlayer_0 10 rfl rfl)
theorem dX4_isPlayer_11 : decode cX4_isPlayer 11 = .ok (.invokestatic 52, 3) := dk_184 0 52 (dk_at dksX4_isPlayer_0 11 rfl rfl)
theorem dX4_isPlayer_14 : decode cX4_isPlayer 14 = .ok (.ireturn, 1) := dk_172 (dk_at dksX4_isPlayer_0 14 rfl rfl)
abbrev cX4_song : ByteArray := prog_13_method_12_code
def yX4_song : MethodName := ⟨RX4, "song", "(IIII)I"⟩
def dkwX4_song_3 : List UInt8 := [27, 28, 79, 42, 180, 0, 26, 27, 29, 79, 42, 180, 0, 29, 27, 21, 4, 79, 21, 5, 172]
abbrev dktX4_song_3 : List UInt8 := dkwX4_song_3 ++ []
def dkwX4_song_2 : List UInt8 := [184, 0, 52, 154, 0, 9, 42, 5, 182, 0, 60, 172, 42, 180, 0, 29, 27, 46, 54, 5, 42, 180, 0, 22]
abbrev dktX4_song_2 : List UInt8 := dkwX4_song_2 ++ dktX4_song_3
def dkwX4_song_1 : List UInt8 := [16, 11, 184, 0, 52, 153, 0, 24, 29, 3, 16, 9, 184, 0, 52, 153, 0, 14, 21, 4, 5, 16, 9]
abbrev dktX4_song_1 : List UInt8 := dkwX4_song_1 ++ dktX4_song_2
def dkwX4_song_0 : List UInt8 := [42, 3, 181, 0, 44, 27, 3, 16, 15, 184, 0, 52, 154, 0, 9, 42, 4, 182, 0, 60, 172, 28, 3]
abbrev dktX4_song_0 : List UInt8 := dkwX4_song_0 ++ dktX4_song_1
theorem dksX4_song_0 : cX4_song.data.toList.drop 0 = dktX4_song_0 := by decide +kernel
theorem dksX4_song_1 : cX4_song.data.toList.drop 23 = dktX4_song_1 := dk_seg dksX4_song_0 23 rfl rfl
theorem dksX4_song_2 : cX4_song.data.toList.drop 46 = dktX4_song_2 := dk_seg dksX4_song_1 23 rfl rfl
theorem dksX4_song_3 : cX4_song.data.toList.drop 70 = dktX4_song_3 := dk_seg dksX4_song_2 24 rfl rfl
theorem dX4_song_0 : decode cX4_song 0 = .ok (.aload_n 0, 1) := dk_42 (dk_at dksX4_song_0 0 rfl rfl)
theorem dX4_song_1 : decode cX4_song 1 = .ok (.iconst 0, 1) := dk_3 (dk_at dksX4_song_0 1 rfl rfl)
theorem dX4_song_2 : decode cX4_song 2 = .ok (.putfield 44, 3) := dk_181 0 44 (dk_at dksX4_song_0 2 rfl rfl)
theorem dX4_song_5 : decode cX4_song 5 = .ok (.iload_n 1, 1) := dk_27 (dk_at dksX4_song_0 5 rfl rfl)
theorem dX4_song_6 : decode cX4_song 6 = .ok (.iconst 0, 1) := dk_3 (dk_at dksX4_song_0 6 rfl rfl)
theorem dX4_song_7 : decode cX4_song 7 = .ok (.bipush 15, 2) := dk_16 15 (dk_at dksX4_song_0 7 rfl rfl)
theorem dX4_song_9 : decode cX4_song 9 = .ok (.invokestatic 52, 3) := dk_184 0 52 (dk_at dksX4_song_0 9 rfl rfl)
theorem dX4_song_12 : decode cX4_song 12 = .ok (.ifCond .ne 9, 3) := dk_154 0 9 (dk_at dksX4_song_0 12 rfl rfl)
theorem dX4_song_15 : decode cX4_song 15 = .ok (.aload_n 0, 1) := dk_42 (dk_at dksX4_song_0 15 rfl rfl)
theorem dX4_song_16 : decode cX4_song 16 = .ok (.iconst 1, 1) := dk_4 (dk_at dksX4_song_0 16 rfl rfl)
theorem dX4_song_17 : decode cX4_song 17 = .ok (.invokevirtual 60, 3) := dk_182 0 60 (dk_at dksX4_song_0 17 rfl rfl)
theorem dX4_song_20 : decode cX4_song 20 = .ok (.ireturn, 1) := dk_172 (dk_at dksX4_song_0 20 rfl rfl)
theorem dX4_song_21 : decode cX4_song 21 = .ok (.iload_n 2, 1) := dk_28 (dk_at dksX4_song_0 21 rfl rfl)
theorem dX4_song_22 : decode cX4_song 22 = .ok (.iconst 0, 1) := dk_3 (dk_at dksX4_song_0 22 rfl rfl)
theorem dX4_song_23 : decode cX4_song 23 = .ok (.bipush 11, 2) := dk_16 11 (dk_at dksX4_song_1 0 rfl rfl)
theorem dX4_song_25 : decode cX4_song 25 = .ok (.invokestatic 52, 3) := dk_184 0 52 (dk_at dksX4_song_1 2 rfl rfl)
theorem dX4_song_28 : decode cX4_song 28 = .ok (.ifCond .eq 24, 3) := dk_153 0 24 (dk_at dksX4_song_1 5 rfl rfl)
theorem dX4_song_31 : decode cX4_song 31 = .ok (.iload_n 3, 1) := dk_29 (dk_at dksX4_song_1 8 rfl rfl)
theorem dX4_song_32 : decode cX4_song 32 = .ok (.iconst 0, 1) := dk_3 (dk_at dksX4_song_1 9 rfl rfl)
theorem dX4_song_33 : decode cX4_song 33 = .ok (.bipush 9, 2) := dk_16 9 (dk_at dksX4_song_1 10 rfl rfl)
theorem dX4_song_35 : decode cX4_song 35 = .ok (.invokestatic 52, 3) := dk_184 0 52 (dk_at dksX4_song_1 12 rfl rfl)
theorem dX4_song_38 : decode cX4_song 38 = .ok (.ifCond .eq 14, 3) := dk_153 0 14 (dk_at dksX4_song_1 15 rfl rfl)
theorem dX4_song_41 : decode cX4_song 41 = .ok (.iload 4, 2) := dk_21 4 (dk_at dksX4_song_1 18 rfl rfl)
theorem dX4_song_43 : decode cX4_song 43 = .ok (.iconst 2, 1) := dk_5 (dk_at dksX4_song_1 20 rfl rfl)
theorem dX4_song_44 : decode cX4_song 44 = .ok (.bipush 9, 2) := dk_16 9 (dk_at dksX4_song_1 21 rfl rfl)
theorem dX4_song_46 : decode cX4_song 46 = .ok (.invokestatic 52, 3) := dk_184 0 52 (dk_at dksX4_song_2 0 rfl rfl)
theorem dX4_song_49 : decode cX4_song 49 = .ok (.ifCond .ne 9, 3) := dk_154 0 9 (dk_at dksX4_song_2 3 rfl rfl)
theorem dX4_song_52 : decode cX4_song 52 = .ok (.aload_n 0, 1) := dk_42 (dk_at dksX4_song_2 6 rfl rfl)
theorem dX4_song_53 : decode cX4_song 53 = .ok (.iconst 2, 1) := dk_5 (dk_at dksX4_song_2 7 rfl rfl)
theorem dX4_song_54 : decode cX4_song 54 = .ok (.invokevirtual 60, 3) := dk_182 0 60 (dk_at dksX4_song_2 8 rfl rfl)
theorem dX4_song_57 : decode cX4_song 57 = .ok (.ireturn, 1) := dk_172 (dk_at dksX4_song_2 11 rfl rfl)
theorem dX4_song_58 : decode cX4_song 58 = .ok (.aload_n 0, 1) := dk_42 (dk_at dksX4_song_2 12 rfl rfl)
theorem dX4_song_59 : decode cX4_song 59 = .ok (.getfield 29, 3) := dk_180 0 29 (dk_at dksX4_song_2 13 rfl rfl)
theorem dX4_song_62 : decode cX4_song 62 = .ok (.iload_n 1, 1) := dk_27 (dk_at dksX4_song_2 16 rfl rfl)
theorem dX4_song_63 : decode cX4_song 63 = .ok (.iaload, 1) := dk_46 (dk_at dksX4_song_2 17 rfl rfl)
theorem dX4_song_64 : decode cX4_song 64 = .ok (.istore 5, 2) := dk_54 5 (dk_at dksX4_song_2 18 rfl rfl)
theorem dX4_song_66 : decode cX4_song 66 = .ok (.aload_n 0, 1) := dk_42 (dk_at dksX4_song_2 20 rfl rfl)
theorem dX4_song_67 : decode cX4_song 67 = .ok (.getfield 22, 3) := dk_180 0 22 (dk_at dksX4_song_2 21 rfl rfl)
theorem dX4_song_70 : decode cX4_song 70 = .ok (.iload_n 1, 1) := dk_27 (dk_at dksX4_song_3 0 rfl rfl)
theorem dX4_song_71 : decode cX4_song 71 = .ok (.iload_n 2, 1) := dk_28 (dk_at dksX4_song_3 1 rfl rfl)
theorem dX4_song_72 : decode cX4_song 72 = .ok (.iastore, 1) := dk_79 (dk_at dksX4_song_3 2 rfl rfl)
theorem dX4_song_73 : decode cX4_song 73 = .ok (.aload_n 0, 1) := dk_42 (dk_at dksX4_song_3 3 rfl rfl)
theorem dX4_song_74 : decode cX4_song 74 = .ok (.getfield 26, 3) := dk_180 0 26 (dk_at dksX4_song_3 4 rfl rfl)
theorem dX4_song_77 : decode cX4_song 77 = .ok (.iload_n 1, 1) := dk_27 (dk_at dksX4_song_3 7 rfl rfl)
theorem dX4_song_78 : decode cX4_song 78 = .ok (.iload_n 3, 1) := dk_29 (dk_at dksX4_song_3 8 rfl rfl)
theorem dX4_song_79 : decode cX4_song 79 = .ok (.iastore, 1) := dk_79 (dk_at dksX4_song_3 9 rfl rfl)
theorem dX4_song_80 : decode cX4_song 80 = .ok (.aload_n 0, 1) := dk_42 (dk_at dksX4_song_3 10 rfl rfl)
theorem dX4_song_81 : decode cX4_song 81 = .ok (.getfield 29, 3) := dk_180 0 29 (dk_at dksX4_song_3 11 rfl rfl)
theorem dX4_song_84 : decode cX4_song 84 = .ok (.iload_n 1, 1) := dk_27 (dk_at dksX4_song_3 14 rfl rfl)
theorem dX4_song_85 : decode cX4_song 85 = .ok (.iload 4, 2) := dk_21 4 (dk_at dksX4_song_3 15 rfl rfl)
theorem dX4_song_87 : decode cX4_song 87 = .ok (.iastore, 1) := dk_79 (dk_at dksX4_song_3 17 rfl rfl)
theorem dX4_song_88 : decode cX4_song 88 = .ok (.iload 5, 2) := dk_21 5 (dk_at dksX4_song_3 18 rfl rfl)
theorem dX4_song_90 : decode cX4_song 90 = .ok (.ireturn, 1) := dk_172 (dk_at dksX4_song_3 20 rfl rfl)
abbrev cX4_feud : ByteArray := prog_13_method_13_code
def yX4_feud : MethodName := ⟨RX4, "feud", "(IIZ)Z"⟩
def dkwX4_feud_6 : List UInt8 := [181, 0, 99, 21, 6, 172]
abbrev dktX4_feud_6 : List UInt8 := dkwX4_feud_6 ++ []
def dkwX4_feud_5 : List UInt8 := [25, 5, 180, 0, 99, 4, 27, 120, 128, 167, 0, 14, 25, 5, 180, 0, 99, 4, 27, 120, 2, 130, 126]
abbrev dktX4_feud_5 : List UInt8 := dkwX4_feud_5 ++ dktX4_feud_6
def dkwX4_feud_4 : List UInt8 := [167, 0, 14, 25, 4, 180, 0, 99, 4, 28, 120, 2, 130, 126, 181, 0, 99, 25, 5, 29, 153, 0, 15]
abbrev dktX4_feud_4 : List UInt8 := dkwX4_feud_4 ++ dktX4_feud_5
def dkwX4_feud_3 : List UInt8 := [180, 0, 99, 28, 184, 0, 102, 54, 6, 25, 4, 29, 153, 0, 15, 25, 4, 180, 0, 99, 4, 28, 120, 128]
abbrev dktX4_feud_3 : List UInt8 := dkwX4_feud_3 ++ dktX4_feud_4
def dkwX4_feud_2 : List UInt8 := [27, 182, 0, 90, 192, 0, 68, 58, 4, 42, 180, 0, 10, 28, 182, 0, 90, 192, 0, 68, 58, 5, 25, 4]
abbrev dktX4_feud_2 : List UInt8 := dkwX4_feud_2 ++ dktX4_feud_3
def dkwX4_feud_1 : List UInt8 := [160, 0, 7, 5, 167, 0, 4, 3, 181, 0, 44, 42, 180, 0, 44, 158, 0, 5, 3, 172, 42, 180, 0, 10]
abbrev dktX4_feud_1 : List UInt8 := dkwX4_feud_1 ++ dktX4_feud_2
def dkwX4_feud_0 : List UInt8 := [42, 42, 27, 182, 0, 87, 153, 0, 11, 42, 28, 182, 0, 87, 154, 0, 7, 4, 167, 0, 13, 27, 28]
abbrev dktX4_feud_0 : List UInt8 := dkwX4_feud_0 ++ dktX4_feud_1
theorem dksX4_feud_0 : cX4_feud.data.toList.drop 0 = dktX4_feud_0 := by decide +kernel
theorem dksX4_feud_1 : cX4_feud.data.toList.drop 23 = dktX4_feud_1 := dk_seg dksX4_feud_0 23 rfl rfl
theorem dksX4_feud_2 : cX4_feud.data.toList.drop 47 = dktX4_feud_2 := dk_seg dksX4_feud_1 24 rfl rfl
theorem dksX4_feud_3 : cX4_feud.data.toList.drop 71 = dktX4_feud_3 := dk_seg dksX4_feud_2 24 rfl rfl
theorem dksX4_feud_4 : cX4_feud.data.toList.drop 95 = dktX4_feud_4 := dk_seg dksX4_feud_3 24 rfl rfl
theorem dksX4_feud_5 : cX4_feud.data.toList.drop 118 = dktX4_feud_5 := dk_seg dksX4_feud_4 23 rfl rfl
theorem dksX4_feud_6 : cX4_feud.data.toList.drop 141 = dktX4_feud_6 := dk_seg dksX4_feud_5 23 rfl rfl
theorem dX4_feud_0 : decode cX4_feud 0 = .ok (.aload_n 0, 1) := dk_42 (dk_at dksX4_feud_0 0 rfl rfl)
theorem dX4_feud_1 : decode cX4_feud 1 = .ok (.aload_n 0, 1) := dk_42 (dk_at dksX4_feud_0 1 rfl rfl)
theorem dX4_feud_2 : decode cX4_feud 2 = .ok (.iload_n 1, 1) := dk_27 (dk_at dksX4_feud_0 2 rfl rfl)
theorem dX4_feud_3 : decode cX4_feud 3 = .ok (.invokevirtual 87, 3) := dk_182 0 87 (dk_at dksX4_feud_0 3 rfl rfl)
theorem dX4_feud_6 : decode cX4_feud 6 = .ok (.ifCond .eq 11, 3) := dk_153 0 11 (dk_at dksX4_feud_0 6 rfl rfl)
theorem dX4_feud_9 : decode cX4_feud 9 = .ok (.aload_n 0, 1) := dk_42 (dk_at dksX4_feud_0 9 rfl rfl)
theorem dX4_feud_10 : decode cX4_feud 10 = .ok (.iload_n 2, 1) := dk_28 (dk_at dksX4_feud_0 10 rfl rfl)
theorem dX4_feud_11 : decode cX4_feud 11 = .ok (.invokevirtual 87, 3) := dk_182 0 87 (dk_at dksX4_feud_0 11 rfl rfl)
theorem dX4_feud_14 : decode cX4_feud 14 = .ok (.ifCond .ne 7, 3) := dk_154 0 7 (dk_at dksX4_feud_0 14 rfl rfl)
theorem dX4_feud_17 : decode cX4_feud 17 = .ok (.iconst 1, 1) := dk_4 (dk_at dksX4_feud_0 17 rfl rfl)
theorem dX4_feud_18 : decode cX4_feud 18 = .ok (.goto 13, 3) := dk_167 0 13 (dk_at dksX4_feud_0 18 rfl rfl)
theorem dX4_feud_21 : decode cX4_feud 21 = .ok (.iload_n 1, 1) := dk_27 (dk_at dksX4_feud_0 21 rfl rfl)
theorem dX4_feud_22 : decode cX4_feud 22 = .ok (.iload_n 2, 1) := dk_28 (dk_at dksX4_feud_0 22 rfl rfl)
theorem dX4_feud_23 : decode cX4_feud 23 = .ok (.if_icmp .ne 7, 3) := dk_160 0 7 (dk_at dksX4_feud_1 0 rfl rfl)
theorem dX4_feud_26 : decode cX4_feud 26 = .ok (.iconst 2, 1) := dk_5 (dk_at dksX4_feud_1 3 rfl rfl)
theorem dX4_feud_27 : decode cX4_feud 27 = .ok (.goto 4, 3) := dk_167 0 4 (dk_at dksX4_feud_1 4 rfl rfl)
theorem dX4_feud_30 : decode cX4_feud 30 = .ok (.iconst 0, 1) := dk_3 (dk_at dksX4_feud_1 7 rfl rfl)
theorem dX4_feud_31 : decode cX4_feud 31 = .ok (.putfield 44, 3) := dk_181 0 44 (dk_at dksX4_feud_1 8 rfl rfl)
theorem dX4_feud_34 : decode cX4_feud 34 = .ok (.aload_n 0, 1) := dk_42 (dk_at dksX4_feud_1 11 rfl rfl)
theorem dX4_feud_35 : decode cX4_feud 35 = .ok (.getfield 44, 3) := dk_180 0 44 (dk_at dksX4_feud_1 12 rfl rfl)
theorem dX4_feud_38 : decode cX4_feud 38 = .ok (.ifCond .le 5, 3) := dk_158 0 5 (dk_at dksX4_feud_1 15 rfl rfl)
theorem dX4_feud_41 : decode cX4_feud 41 = .ok (.iconst 0, 1) := dk_3 (dk_at dksX4_feud_1 18 rfl rfl)
theorem dX4_feud_42 : decode cX4_feud 42 = .ok (.ireturn, 1) := dk_172 (dk_at dksX4_feud_1 19 rfl rfl)
theorem dX4_feud_43 : decode cX4_feud 43 = .ok (.aload_n 0, 1) := dk_42 (dk_at dksX4_feud_1 20 rfl rfl)
theorem dX4_feud_44 : decode cX4_feud 44 = .ok (.getfield 10, 3) := dk_180 0 10 (dk_at dksX4_feud_1 21 rfl rfl)
theorem dX4_feud_47 : decode cX4_feud 47 = .ok (.iload_n 1, 1) := dk_27 (dk_at dksX4_feud_2 0 rfl rfl)
theorem dX4_feud_48 : decode cX4_feud 48 = .ok (.invokevirtual 90, 3) := dk_182 0 90 (dk_at dksX4_feud_2 1 rfl rfl)
theorem dX4_feud_51 : decode cX4_feud 51 = .ok (.checkcast 68, 3) := dk_192 0 68 (dk_at dksX4_feud_2 4 rfl rfl)
theorem dX4_feud_54 : decode cX4_feud 54 = .ok (.astore 4, 2) := dk_58 4 (dk_at dksX4_feud_2 7 rfl rfl)
theorem dX4_feud_56 : decode cX4_feud 56 = .ok (.aload_n 0, 1) := dk_42 (dk_at dksX4_feud_2 9 rfl rfl)
theorem dX4_feud_57 : decode cX4_feud 57 = .ok (.getfield 10, 3) := dk_180 0 10 (dk_at dksX4_feud_2 10 rfl rfl)
theorem dX4_feud_60 : decode cX4_feud 60 = .ok (.iload_n 2, 1) := dk_28 (dk_at dksX4_feud_2 13 rfl rfl)
theorem dX4_feud_61 : decode cX4_feud 61 = .ok (.invokevirtual 90, 3) := dk_182 0 90 (dk_at dksX4_feud_2 14 rfl rfl)
theorem dX4_feud_64 : decode cX4_feud 64 = .ok (.checkcast 68, 3) := dk_192 0 68 (dk_at dksX4_feud_2 17 rfl rfl)
theorem dX4_feud_67 : decode cX4_feud 67 = .ok (.astore 5, 2) := dk_58 5 (dk_at dksX4_feud_2 20 rfl rfl)
theorem dX4_feud_69 : decode cX4_feud 69 = .ok (.aload 4, 2) := dk_25 4 (dk_at dksX4_feud_2 22 rfl rfl)
theorem dX4_feud_71 : decode cX4_feud 71 = .ok (.getfield 99, 3) := dk_180 0 99 (dk_at dksX4_feud_3 0 rfl rfl)
theorem dX4_feud_74 : decode cX4_feud 74 = .ok (.iload_n 2, 1) := dk_28 (dk_at dksX4_feud_3 3 rfl rfl)
theorem dX4_feud_75 : decode cX4_feud 75 = .ok (.invokestatic 102, 3) := dk_184 0 102 (dk_at dksX4_feud_3 4 rfl rfl)
theorem dX4_feud_78 : decode cX4_feud 78 = .ok (.istore 6, 2) := dk_54 6 (dk_at dksX4_feud_3 7 rfl rfl)
theorem dX4_feud_80 : decode cX4_feud 80 = .ok (.aload 4, 2) := dk_25 4 (dk_at dksX4_feud_3 9 rfl rfl)
theorem dX4_feud_82 : decode cX4_feud 82 = .ok (.iload_n 3, 1) := dk_29 (dk_at dksX4_feud_3 11 rfl rfl)
theorem dX4_feud_83 : decode cX4_feud 83 = .ok (.ifCond .eq 15, 3) := dk_153 0 15 (dk_at dksX4_feud_3 12 rfl rfl)
theorem dX4_feud_86 : decode cX4_feud 86 = .ok (.aload 4, 2) := dk_25 4 (dk_at dksX4_feud_3 15 rfl rfl)
theorem dX4_feud_88 : decode cX4_feud 88 = .ok (.getfield 99, 3) := dk_180 0 99 (dk_at dksX4_feud_3 17 rfl rfl)
theorem dX4_feud_91 : decode cX4_feud 91 = .ok (.iconst 1, 1) := dk_4 (dk_at dksX4_feud_3 20 rfl rfl)
theorem dX4_feud_92 : decode cX4_feud 92 = .ok (.iload_n 2, 1) := dk_28 (dk_at dksX4_feud_3 21 rfl rfl)
theorem dX4_feud_93 : decode cX4_feud 93 = .ok (.ishl, 1) := dk_120 (dk_at dksX4_feud_3 22 rfl rfl)
theorem dX4_feud_94 : decode cX4_feud 94 = .ok (.ior, 1) := dk_128 (dk_at dksX4_feud_3 23 rfl rfl)
theorem dX4_feud_95 : decode cX4_feud 95 = .ok (.goto 14, 3) := dk_167 0 14 (dk_at dksX4_feud_4 0 rfl rfl)
theorem dX4_feud_98 : decode cX4_feud 98 = .ok (.aload 4, 2) := dk_25 4 (dk_at dksX4_feud_4 3 rfl rfl)
theorem dX4_feud_100 : decode cX4_feud 100 = .ok (.getfield 99, 3) := dk_180 0 99 (dk_at dksX4_feud_4 5 rfl rfl)
theorem dX4_feud_103 : decode cX4_feud 103 = .ok (.iconst 1, 1) := dk_4 (dk_at dksX4_feud_4 8 rfl rfl)
theorem dX4_feud_104 : decode cX4_feud 104 = .ok (.iload_n 2, 1) := dk_28 (dk_at dksX4_feud_4 9 rfl rfl)
theorem dX4_feud_105 : decode cX4_feud 105 = .ok (.ishl, 1) := dk_120 (dk_at dksX4_feud_4 10 rfl rfl)
theorem dX4_feud_106 : decode cX4_feud 106 = .ok (.iconst (-1), 1) := dk_2 (dk_at dksX4_feud_4 11 rfl rfl)
theorem dX4_feud_107 : decode cX4_feud 107 = .ok (.ixor, 1) := dk_130 (dk_at dksX4_feud_4 12 rfl rfl)
theorem dX4_feud_108 : decode cX4_feud 108 = .ok (.iand, 1) := dk_126 (dk_at dksX4_feud_4 13 rfl rfl)
theorem dX4_feud_109 : decode cX4_feud 109 = .ok (.putfield 99, 3) := dk_181 0 99 (dk_at dksX4_feud_4 14 rfl rfl)
theorem dX4_feud_112 : decode cX4_feud 112 = .ok (.aload 5, 2) := dk_25 5 (dk_at dksX4_feud_4 17 rfl rfl)
theorem dX4_feud_114 : decode cX4_feud 114 = .ok (.iload_n 3, 1) := dk_29 (dk_at dksX4_feud_4 19 rfl rfl)
theorem dX4_feud_115 : decode cX4_feud 115 = .ok (.ifCond .eq 15, 3) := dk_153 0 15 (dk_at dksX4_feud_4 20 rfl rfl)
theorem dX4_feud_118 : decode cX4_feud 118 = .ok (.aload 5, 2) := dk_25 5 (dk_at dksX4_feud_5 0 rfl rfl)
theorem dX4_feud_120 : decode cX4_feud 120 = .ok (.getfield 99, 3) := dk_180 0 99 (dk_at dksX4_feud_5 2 rfl rfl)
theorem dX4_feud_123 : decode cX4_feud 123 = .ok (.iconst 1, 1) := dk_4 (dk_at dksX4_feud_5 5 rfl rfl)
theorem dX4_feud_124 : decode cX4_feud 124 = .ok (.iload_n 1, 1) := dk_27 (dk_at dksX4_feud_5 6 rfl rfl)
theorem dX4_feud_125 : decode cX4_feud 125 = .ok (.ishl, 1) := dk_120 (dk_at dksX4_feud_5 7 rfl rfl)
theorem dX4_feud_126 : decode cX4_feud 126 = .ok (.ior, 1) := dk_128 (dk_at dksX4_feud_5 8 rfl rfl)
theorem dX4_feud_127 : decode cX4_feud 127 = .ok (.goto 14, 3) := dk_167 0 14 (dk_at dksX4_feud_5 9 rfl rfl)
theorem dX4_feud_130 : decode cX4_feud 130 = .ok (.aload 5, 2) := dk_25 5 (dk_at dksX4_feud_5 12 rfl rfl)
theorem dX4_feud_132 : decode cX4_feud 132 = .ok (.getfield 99, 3) := dk_180 0 99 (dk_at dksX4_feud_5 14 rfl rfl)
theorem dX4_feud_135 : decode cX4_feud 135 = .ok (.iconst 1, 1) := dk_4 (dk_at dksX4_feud_5 17 rfl rfl)
theorem dX4_feud_136 : decode cX4_feud 136 = .ok (.iload_n 1, 1) := dk_27 (dk_at dksX4_feud_5 18 rfl rfl)
theorem dX4_feud_137 : decode cX4_feud 137 = .ok (.ishl, 1) := dk_120 (dk_at dksX4_feud_5 19 rfl rfl)
theorem dX4_feud_138 : decode cX4_feud 138 = .ok (.iconst (-1), 1) := dk_2 (dk_at dksX4_feud_5 20 rfl rfl)
theorem dX4_feud_139 : decode cX4_feud 139 = .ok (.ixor, 1) := dk_130 (dk_at dksX4_feud_5 21 rfl rfl)
theorem dX4_feud_140 : decode cX4_feud 140 = .ok (.iand, 1) := dk_126 (dk_at dksX4_feud_5 22 rfl rfl)
theorem dX4_feud_141 : decode cX4_feud 141 = .ok (.putfield 99, 3) := dk_181 0 99 (dk_at dksX4_feud_6 0 rfl rfl)
theorem dX4_feud_144 : decode cX4_feud 144 = .ok (.iload 6, 2) := dk_21 6 (dk_at dksX4_feud_6 3 rfl rfl)
theorem dX4_feud_146 : decode cX4_feud 146 = .ok (.ireturn, 1) := dk_172 (dk_at dksX4_feud_6 5 rfl rfl)
abbrev cX4_isIn : ByteArray := prog_13_method_9_code
def yX4_isIn : MethodName := ⟨RX4, "isIn", "(II)Z"⟩
def dkwX4_isIn_0 : List UInt8 := [26, 27, 122, 4, 126, 4, 160, 0, 7, 4, 167, 0, 4, 3, 172]
abbrev dktX4_isIn_0 : List UInt8 := dkwX4_isIn_0 ++ []
theorem dksX4_isIn_0 : cX4_isIn.data.toList.drop 0 = dktX4_isIn_0 := by decide +kernel
theorem dX4_isIn_0 : decode cX4_isIn 0 = .ok (.iload_n 0, 1) := dk_26 (dk_at dksX4_isIn_0 0 rfl rfl)
theorem dX4_isIn_1 : decode cX4_isIn 1 = .ok (.iload_n 1, 1) := dk_27 (dk_at dksX4_isIn_0 1 rfl rfl)
theorem dX4_isIn_2 : decode cX4_isIn 2 = .ok (.ishr, 1) := dk_122 (dk_at dksX4_isIn_0 2 rfl rfl)
theorem dX4_isIn_3 : decode cX4_isIn 3 = .ok (.iconst 1, 1) := dk_4 (dk_at dksX4_isIn_0 3 rfl rfl)
theorem dX4_isIn_4 : decode cX4_isIn 4 = .ok (.iand, 1) := dk_126 (dk_at dksX4_isIn_0 4 rfl rfl)
theorem dX4_isIn_5 : decode cX4_isIn 5 = .ok (.iconst 1, 1) := dk_4 (dk_at dksX4_isIn_0 5 rfl rfl)
theorem dX4_isIn_6 : decode cX4_isIn 6 = .ok (.if_icmp .ne 7, 3) := dk_160 0 7 (dk_at dksX4_isIn_0 6 rfl rfl)
theorem dX4_isIn_9 : decode cX4_isIn 9 = .ok (.iconst 1, 1) := dk_4 (dk_at dksX4_isIn_0 9 rfl rfl)
theorem dX4_isIn_10 : decode cX4_isIn 10 = .ok (.goto 4, 3) := dk_167 0 4 (dk_at dksX4_isIn_0 10 rfl rfl)
theorem dX4_isIn_13 : decode cX4_isIn 13 = .ok (.iconst 0, 1) := dk_3 (dk_at dksX4_isIn_0 13 rfl rfl)
theorem dX4_isIn_14 : decode cX4_isIn 14 = .ok (.ireturn, 1) := dk_172 (dk_at dksX4_isIn_0 14 rfl rfl)
abbrev cX4_road : ByteArray := prog_13_method_17_code
def yX4_road : MethodName := ⟨RX4, "road", "(III)I"⟩
def dkwX4_road_3 : List UInt8 := [182, 0, 41, 42, 27, 28, 182, 0, 109, 172]
abbrev dktX4_road_3 : List UInt8 := dkwX4_road_3 ++ []
def dkwX4_road_2 : List UInt8 := [180, 0, 35, 27, 16, 6, 104, 28, 96, 29, 79, 42, 180, 0, 35, 28, 16, 6, 104, 27, 96, 29, 79, 42]
abbrev dktX4_road_2 : List UInt8 := dkwX4_road_2 ++ dktX4_road_3
def dkwX4_road_1 : List UInt8 := [172, 27, 28, 159, 0, 13, 29, 3, 16, 9, 184, 0, 52, 154, 0, 9, 42, 5, 182, 0, 60, 172, 42]
abbrev dktX4_road_1 : List UInt8 := dkwX4_road_1 ++ dktX4_road_2
def dkwX4_road_0 : List UInt8 := [42, 3, 181, 0, 44, 27, 184, 0, 106, 153, 0, 10, 28, 184, 0, 106, 154, 0, 9, 42, 4, 182, 0, 60]
abbrev dktX4_road_0 : List UInt8 := dkwX4_road_0 ++ dktX4_road_1
theorem dksX4_road_0 : cX4_road.data.toList.drop 0 = dktX4_road_0 := by decide +kernel
theorem dksX4_road_1 : cX4_road.data.toList.drop 24 = dktX4_road_1 := dk_seg dksX4_road_0 24 rfl rfl
theorem dksX4_road_2 : cX4_road.data.toList.drop 47 = dktX4_road_2 := dk_seg dksX4_road_1 23 rfl rfl
theorem dksX4_road_3 : cX4_road.data.toList.drop 71 = dktX4_road_3 := dk_seg dksX4_road_2 24 rfl rfl
theorem dX4_road_0 : decode cX4_road 0 = .ok (.aload_n 0, 1) := dk_42 (dk_at dksX4_road_0 0 rfl rfl)
theorem dX4_road_1 : decode cX4_road 1 = .ok (.iconst 0, 1) := dk_3 (dk_at dksX4_road_0 1 rfl rfl)
theorem dX4_road_2 : decode cX4_road 2 = .ok (.putfield 44, 3) := dk_181 0 44 (dk_at dksX4_road_0 2 rfl rfl)
theorem dX4_road_5 : decode cX4_road 5 = .ok (.iload_n 1, 1) := dk_27 (dk_at dksX4_road_0 5 rfl rfl)
theorem dX4_road_6 : decode cX4_road 6 = .ok (.invokestatic 106, 3) := dk_184 0 106 (dk_at dksX4_road_0 6 rfl rfl)
theorem dX4_road_9 : decode cX4_road 9 = .ok (.ifCond .eq 10, 3) := dk_153 0 10 (dk_at dksX4_road_0 9 rfl rfl)
theorem dX4_road_12 : decode cX4_road 12 = .ok (.iload_n 2, 1) := dk_28 (dk_at dksX4_road_0 12 rfl rfl)
theorem dX4_road_13 : decode cX4_road 13 = .ok (.invokestatic 106, 3) := dk_184 0 106 (dk_at dksX4_road_0 13 rfl rfl)
theorem dX4_road_16 : decode cX4_road 16 = .ok (.ifCond .ne 9, 3) := dk_154 0 9 (dk_at dksX4_road_0 16 rfl rfl)
theorem dX4_road_19 : decode cX4_road 19 = .ok (.aload_n 0, 1) := dk_42 (dk_at dksX4_road_0 19 rfl rfl)
theorem dX4_road_20 : decode cX4_road 20 = .ok (.iconst 1, 1) := dk_4 (dk_at dksX4_road_0 20 rfl rfl)
theorem dX4_road_21 : decode cX4_road 21 = .ok (.invokevirtual 60, 3) := dk_182 0 60 (dk_at dksX4_road_0 21 rfl rfl)
theorem dX4_road_24 : decode cX4_road 24 = .ok (.ireturn, 1) := dk_172 (dk_at dksX4_road_1 0 rfl rfl)
theorem dX4_road_25 : decode cX4_road 25 = .ok (.iload_n 1, 1) := dk_27 (dk_at dksX4_road_1 1 rfl rfl)
theorem dX4_road_26 : decode cX4_road 26 = .ok (.iload_n 2, 1) := dk_28 (dk_at dksX4_road_1 2 rfl rfl)
theorem dX4_road_27 : decode cX4_road 27 = .ok (.if_icmp .eq 13, 3) := dk_159 0 13 (dk_at dksX4_road_1 3 rfl rfl)
theorem dX4_road_30 : decode cX4_road 30 = .ok (.iload_n 3, 1) := dk_29 (dk_at dksX4_road_1 6 rfl rfl)
theorem dX4_road_31 : decode cX4_road 31 = .ok (.iconst 0, 1) := dk_3 (dk_at dksX4_road_1 7 rfl rfl)
theorem dX4_road_32 : decode cX4_road 32 = .ok (.bipush 9, 2) := dk_16 9 (dk_at dksX4_road_1 8 rfl rfl)
theorem dX4_road_34 : decode cX4_road 34 = .ok (.invokestatic 52, 3) := dk_184 0 52 (dk_at dksX4_road_1 10 rfl rfl)
theorem dX4_road_37 : decode cX4_road 37 = .ok (.ifCond .ne 9, 3) := dk_154 0 9 (dk_at dksX4_road_1 13 rfl rfl)
theorem dX4_road_40 : decode cX4_road 40 = .ok (.aload_n 0, 1) := dk_42 (dk_at dksX4_road_1 16 rfl rfl)
theorem dX4_road_41 : decode cX4_road 41 = .ok (.iconst 2, 1) := dk_5 (dk_at dksX4_road_1 17 rfl rfl)
theorem dX4_road_42 : decode cX4_road 42 = .ok (.invokevirtual 60, 3) := dk_182 0 60 (dk_at dksX4_road_1 18 rfl rfl)
theorem dX4_road_45 : decode cX4_road 45 = .ok (.ireturn, 1) := dk_172 (dk_at dksX4_road_1 21 rfl rfl)
theorem dX4_road_46 : decode cX4_road 46 = .ok (.aload_n 0, 1) := dk_42 (dk_at dksX4_road_1 22 rfl rfl)
theorem dX4_road_47 : decode cX4_road 47 = .ok (.getfield 35, 3) := dk_180 0 35 (dk_at dksX4_road_2 0 rfl rfl)
theorem dX4_road_50 : decode cX4_road 50 = .ok (.iload_n 1, 1) := dk_27 (dk_at dksX4_road_2 3 rfl rfl)
theorem dX4_road_51 : decode cX4_road 51 = .ok (.bipush 6, 2) := dk_16 6 (dk_at dksX4_road_2 4 rfl rfl)
theorem dX4_road_53 : decode cX4_road 53 = .ok (.imul, 1) := dk_104 (dk_at dksX4_road_2 6 rfl rfl)
theorem dX4_road_54 : decode cX4_road 54 = .ok (.iload_n 2, 1) := dk_28 (dk_at dksX4_road_2 7 rfl rfl)
theorem dX4_road_55 : decode cX4_road 55 = .ok (.iadd, 1) := dk_96 (dk_at dksX4_road_2 8 rfl rfl)
theorem dX4_road_56 : decode cX4_road 56 = .ok (.iload_n 3, 1) := dk_29 (dk_at dksX4_road_2 9 rfl rfl)
theorem dX4_road_57 : decode cX4_road 57 = .ok (.iastore, 1) := dk_79 (dk_at dksX4_road_2 10 rfl rfl)
theorem dX4_road_58 : decode cX4_road 58 = .ok (.aload_n 0, 1) := dk_42 (dk_at dksX4_road_2 11 rfl rfl)
theorem dX4_road_59 : decode cX4_road 59 = .ok (.getfield 35, 3) := dk_180 0 35 (dk_at dksX4_road_2 12 rfl rfl)
theorem dX4_road_62 : decode cX4_road 62 = .ok (.iload_n 2, 1) := dk_28 (dk_at dksX4_road_2 15 rfl rfl)
theorem dX4_road_63 : decode cX4_road 63 = .ok (.bipush 6, 2) := dk_16 6 (dk_at dksX4_road_2 16 rfl rfl)
theorem dX4_road_65 : decode cX4_road 65 = .ok (.imul, 1) := dk_104 (dk_at dksX4_road_2 18 rfl rfl)
theorem dX4_road_66 : decode cX4_road 66 = .ok (.iload_n 1, 1) := dk_27 (dk_at dksX4_road_2 19 rfl rfl)
theorem dX4_road_67 : decode cX4_road 67 = .ok (.iadd, 1) := dk_96 (dk_at dksX4_road_2 20 rfl rfl)
theorem dX4_road_68 : decode cX4_road 68 = .ok (.iload_n 3, 1) := dk_29 (dk_at dksX4_road_2 21 rfl rfl)
theorem dX4_road_69 : decode cX4_road 69 = .ok (.iastore, 1) := dk_79 (dk_at dksX4_road_2 22 rfl rfl)
theorem dX4_road_70 : decode cX4_road 70 = .ok (.aload_n 0, 1) := dk_42 (dk_at dksX4_road_2 23 rfl rfl)
theorem dX4_road_71 : decode cX4_road 71 = .ok (.invokevirtual 41, 3) := dk_182 0 41 (dk_at dksX4_road_3 0 rfl rfl)
theorem dX4_road_74 : decode cX4_road 74 = .ok (.aload_n 0, 1) := dk_42 (dk_at dksX4_road_3 3 rfl rfl)
theorem dX4_road_75 : decode cX4_road 75 = .ok (.iload_n 1, 1) := dk_27 (dk_at dksX4_road_3 4 rfl rfl)
theorem dX4_road_76 : decode cX4_road 76 = .ok (.iload_n 2, 1) := dk_28 (dk_at dksX4_road_3 5 rfl rfl)
theorem dX4_road_77 : decode cX4_road 77 = .ok (.invokevirtual 109, 3) := dk_182 0 109 (dk_at dksX4_road_3 6 rfl rfl)
theorem dX4_road_80 : decode cX4_road 80 = .ok (.ireturn, 1) := dk_172 (dk_at dksX4_road_3 9 rfl rfl)
abbrev cX4_isTown : ByteArray := prog_13_method_14_code
def yX4_isTown : MethodName := ⟨RX4, "isTown", "(I)Z"⟩
def dkwX4_isTown_0 : List UInt8 := [26, 3, 8, 184, 0, 52, 172]
abbrev dktX4_isTown_0 : List UInt8 := dkwX4_isTown_0 ++ []
theorem dksX4_isTown_0 : cX4_isTown.data.toList.drop 0 = dktX4_isTown_0 := by decide +kernel
theorem dX4_isTown_0 : decode cX4_isTown 0 = .ok (.iload_n 0, 1) := dk_26 (dk_at dksX4_isTown_0 0 rfl rfl)
theorem dX4_isTown_1 : decode cX4_isTown 1 = .ok (.iconst 0, 1) := dk_3 (dk_at dksX4_isTown_0 1 rfl rfl)
theorem dX4_isTown_2 : decode cX4_isTown 2 = .ok (.iconst 5, 1) := dk_8 (dk_at dksX4_isTown_0 2 rfl rfl)
theorem dX4_isTown_3 : decode cX4_isTown 3 = .ok (.invokestatic 52, 3) := dk_184 0 52 (dk_at dksX4_isTown_0 3 rfl rfl)
theorem dX4_isTown_6 : decode cX4_isTown 6 = .ok (.ireturn, 1) := dk_172 (dk_at dksX4_isTown_0 6 rfl rfl)
abbrev cX4_driveOf : ByteArray := prog_13_method_16_code
def yX4_driveOf : MethodName := ⟨RX4, "driveOf", "(II)I"⟩
def dkwX4_driveOf_0 : List UInt8 := [42, 180, 0, 38, 27, 16, 6, 104, 28, 96, 46, 172]
abbrev dktX4_driveOf_0 : List UInt8 := dkwX4_driveOf_0 ++ []
theorem dksX4_driveOf_0 : cX4_driveOf.data.toList.drop 0 = dktX4_driveOf_0 := by decide +kernel
theorem dX4_driveOf_0 : decode cX4_driveOf 0 = .ok (.aload_n 0, 1) := dk_42 (dk_at dksX4_driveOf_0 0 rfl rfl)
theorem dX4_driveOf_1 : decode cX4_driveOf 1 = .ok (.getfield 38, 3) := dk_180 0 38 (dk_at dksX4_driveOf_0 1 rfl rfl)
theorem dX4_driveOf_4 : decode cX4_driveOf 4 = .ok (.iload_n 1, 1) := dk_27 (dk_at dksX4_driveOf_0 4 rfl rfl)
theorem dX4_driveOf_5 : decode cX4_driveOf 5 = .ok (.bipush 6, 2) := dk_16 6 (dk_at dksX4_driveOf_0 5 rfl rfl)
theorem dX4_driveOf_7 : decode cX4_driveOf 7 = .ok (.imul, 1) := dk_104 (dk_at dksX4_driveOf_0 7 rfl rfl)
theorem dX4_driveOf_8 : decode cX4_driveOf 8 = .ok (.iload_n 2, 1) := dk_28 (dk_at dksX4_driveOf_0 8 rfl rfl)
theorem dX4_driveOf_9 : decode cX4_driveOf 9 = .ok (.iadd, 1) := dk_96 (dk_at dksX4_driveOf_0 9 rfl rfl)
theorem dX4_driveOf_10 : decode cX4_driveOf 10 = .ok (.iaload, 1) := dk_46 (dk_at dksX4_driveOf_0 10 rfl rfl)
theorem dX4_driveOf_11 : decode cX4_driveOf 11 = .ok (.ireturn, 1) := dk_172 (dk_at dksX4_driveOf_0 11 rfl rfl)
abbrev cX4_band : ByteArray := prog_13_method_20_code
def yX4_band : MethodName := ⟨RX4, "band", "(I)I"⟩
def dkwX4_band_2 : List UInt8 := [42, 180, 0, 16, 27, 184, 0, 118, 182, 0, 83, 87, 42, 180, 0, 16, 182, 0, 48, 4, 100, 172]
abbrev dktX4_band_2 : List UInt8 := dkwX4_band_2 ++ []
def dkwX4_band_1 : List UInt8 := [42, 4, 182, 0, 60, 172, 42, 180, 0, 16, 182, 0, 48, 16, 6, 160, 0, 9, 42, 5, 182, 0, 60, 172]
abbrev dktX4_band_1 : List UInt8 := dkwX4_band_1 ++ dktX4_band_2
def dkwX4_band_0 : List UInt8 := [42, 3, 181, 0, 44, 27, 4, 17, 2, 216, 184, 0, 52, 153, 0, 11, 27, 184, 0, 116, 8, 164, 0, 9]
abbrev dktX4_band_0 : List UInt8 := dkwX4_band_0 ++ dktX4_band_1
theorem dksX4_band_0 : cX4_band.data.toList.drop 0 = dktX4_band_0 := by decide +kernel
theorem dksX4_band_1 : cX4_band.data.toList.drop 24 = dktX4_band_1 := dk_seg dksX4_band_0 24 rfl rfl
theorem dksX4_band_2 : cX4_band.data.toList.drop 48 = dktX4_band_2 := dk_seg dksX4_band_1 24 rfl rfl
theorem dX4_band_0 : decode cX4_band 0 = .ok (.aload_n 0, 1) := dk_42 (dk_at dksX4_band_0 0 rfl rfl)
theorem dX4_band_1 : decode cX4_band 1 = .ok (.iconst 0, 1) := dk_3 (dk_at dksX4_band_0 1 rfl rfl)
theorem dX4_band_2 : decode cX4_band 2 = .ok (.putfield 44, 3) := dk_181 0 44 (dk_at dksX4_band_0 2 rfl rfl)
theorem dX4_band_5 : decode cX4_band 5 = .ok (.iload_n 1, 1) := dk_27 (dk_at dksX4_band_0 5 rfl rfl)
theorem dX4_band_6 : decode cX4_band 6 = .ok (.iconst 1, 1) := dk_4 (dk_at dksX4_band_0 6 rfl rfl)
theorem dX4_band_7 : decode cX4_band 7 = .ok (.sipush 728, 3) := dk_17 2 216 (dk_at dksX4_band_0 7 rfl rfl)
theorem dX4_band_10 : decode cX4_band 10 = .ok (.invokestatic 52, 3) := dk_184 0 52 (dk_at dksX4_band_0 10 rfl rfl)
theorem dX4_band_13 : decode cX4_band 13 = .ok (.ifCond .eq 11, 3) := dk_153 0 11 (dk_at dksX4_band_0 13 rfl rfl)
theorem dX4_band_16 : decode cX4_band 16 = .ok (.iload_n 1, 1) := dk_27 (dk_at dksX4_band_0 16 rfl rfl)
theorem dX4_band_17 : decode cX4_band 17 = .ok (.invokestatic 116, 3) := dk_184 0 116 (dk_at dksX4_band_0 17 rfl rfl)
theorem dX4_band_20 : decode cX4_band 20 = .ok (.iconst 5, 1) := dk_8 (dk_at dksX4_band_0 20 rfl rfl)
theorem dX4_band_21 : decode cX4_band 21 = .ok (.if_icmp .le 9, 3) := dk_164 0 9 (dk_at dksX4_band_0 21 rfl rfl)
theorem dX4_band_24 : decode cX4_band 24 = .ok (.aload_n 0, 1) := dk_42 (dk_at dksX4_band_1 0 rfl rfl)
theorem dX4_band_25 : decode cX4_band 25 = .ok (.iconst 1, 1) := dk_4 (dk_at dksX4_band_1 1 rfl rfl)
theorem dX4_band_26 : decode cX4_band 26 = .ok (.invokevirtual 60, 3) := dk_182 0 60 (dk_at dksX4_band_1 2 rfl rfl)
theorem dX4_band_29 : decode cX4_band 29 = .ok (.ireturn, 1) := dk_172 (dk_at dksX4_band_1 5 rfl rfl)
theorem dX4_band_30 : decode cX4_band 30 = .ok (.aload_n 0, 1) := dk_42 (dk_at dksX4_band_1 6 rfl rfl)
theorem dX4_band_31 : decode cX4_band 31 = .ok (.getfield 16, 3) := dk_180 0 16 (dk_at dksX4_band_1 7 rfl rfl)
theorem dX4_band_34 : decode cX4_band 34 = .ok (.invokevirtual 48, 3) := dk_182 0 48 (dk_at dksX4_band_1 10 rfl rfl)
theorem dX4_band_37 : decode cX4_band 37 = .ok (.bipush 6, 2) := dk_16 6 (dk_at dksX4_band_1 13 rfl rfl)
theorem dX4_band_39 : decode cX4_band 39 = .ok (.if_icmp .ne 9, 3) := dk_160 0 9 (dk_at dksX4_band_1 15 rfl rfl)
theorem dX4_band_42 : decode cX4_band 42 = .ok (.aload_n 0, 1) := dk_42 (dk_at dksX4_band_1 18 rfl rfl)
theorem dX4_band_43 : decode cX4_band 43 = .ok (.iconst 2, 1) := dk_5 (dk_at dksX4_band_1 19 rfl rfl)
theorem dX4_band_44 : decode cX4_band 44 = .ok (.invokevirtual 60, 3) := dk_182 0 60 (dk_at dksX4_band_1 20 rfl rfl)
theorem dX4_band_47 : decode cX4_band 47 = .ok (.ireturn, 1) := dk_172 (dk_at dksX4_band_1 23 rfl rfl)
theorem dX4_band_48 : decode cX4_band 48 = .ok (.aload_n 0, 1) := dk_42 (dk_at dksX4_band_2 0 rfl rfl)
theorem dX4_band_49 : decode cX4_band 49 = .ok (.getfield 16, 3) := dk_180 0 16 (dk_at dksX4_band_2 1 rfl rfl)
theorem dX4_band_52 : decode cX4_band 52 = .ok (.iload_n 1, 1) := dk_27 (dk_at dksX4_band_2 4 rfl rfl)
theorem dX4_band_53 : decode cX4_band 53 = .ok (.invokestatic 118, 3) := dk_184 0 118 (dk_at dksX4_band_2 5 rfl rfl)
theorem dX4_band_56 : decode cX4_band 56 = .ok (.invokevirtual 83, 3) := dk_182 0 83 (dk_at dksX4_band_2 8 rfl rfl)
theorem dX4_band_59 : decode cX4_band 59 = .ok (.pop, 1) := dk_87 (dk_at dksX4_band_2 11 rfl rfl)
theorem dX4_band_60 : decode cX4_band 60 = .ok (.aload_n 0, 1) := dk_42 (dk_at dksX4_band_2 12 rfl rfl)
theorem dX4_band_61 : decode cX4_band 61 = .ok (.getfield 16, 3) := dk_180 0 16 (dk_at dksX4_band_2 13 rfl rfl)
theorem dX4_band_64 : decode cX4_band 64 = .ok (.invokevirtual 48, 3) := dk_182 0 48 (dk_at dksX4_band_2 16 rfl rfl)
theorem dX4_band_67 : decode cX4_band 67 = .ok (.iconst 1, 1) := dk_4 (dk_at dksX4_band_2 19 rfl rfl)
theorem dX4_band_68 : decode cX4_band 68 = .ok (.isub, 1) := dk_100 (dk_at dksX4_band_2 20 rfl rfl)
theorem dX4_band_69 : decode cX4_band 69 = .ok (.ireturn, 1) := dk_172 (dk_at dksX4_band_2 21 rfl rfl)
abbrev cX4_needed : ByteArray := prog_13_method_19_code
def yX4_needed : MethodName := ⟨RX4, "needed", "(I)I"⟩
def dkwX4_needed_1 : List UInt8 := [27, 172]
abbrev dktX4_needed_1 : List UInt8 := dkwX4_needed_1 ++ []
def dkwX4_needed_0 : List UInt8 := [3, 60, 3, 61, 28, 16, 6, 162, 0, 17, 27, 26, 28, 184, 0, 113, 96, 60, 132, 2, 1, 167, 255, 239]
abbrev dktX4_needed_0 : List UInt8 := dkwX4_needed_0 ++ dktX4_needed_1
theorem dksX4_needed_0 : cX4_needed.data.toList.drop 0 = dktX4_needed_0 := by decide +kernel
theorem dksX4_needed_1 : cX4_needed.data.toList.drop 24 = dktX4_needed_1 := dk_seg dksX4_needed_0 24 rfl rfl
theorem dX4_needed_0 : decode cX4_needed 0 = .ok (.iconst 0, 1) := dk_3 (dk_at dksX4_needed_0 0 rfl rfl)
theorem dX4_needed_1 : decode cX4_needed 1 = .ok (.istore_n 1, 1) := dk_60 (dk_at dksX4_needed_0 1 rfl rfl)
theorem dX4_needed_2 : decode cX4_needed 2 = .ok (.iconst 0, 1) := dk_3 (dk_at dksX4_needed_0 2 rfl rfl)
theorem dX4_needed_3 : decode cX4_needed 3 = .ok (.istore_n 2, 1) := dk_61 (dk_at dksX4_needed_0 3 rfl rfl)
theorem dX4_needed_4 : decode cX4_needed 4 = .ok (.iload_n 2, 1) := dk_28 (dk_at dksX4_needed_0 4 rfl rfl)
theorem dX4_needed_5 : decode cX4_needed 5 = .ok (.bipush 6, 2) := dk_16 6 (dk_at dksX4_needed_0 5 rfl rfl)
theorem dX4_needed_7 : decode cX4_needed 7 = .ok (.if_icmp .ge 17, 3) := dk_162 0 17 (dk_at dksX4_needed_0 7 rfl rfl)
theorem dX4_needed_10 : decode cX4_needed 10 = .ok (.iload_n 1, 1) := dk_27 (dk_at dksX4_needed_0 10 rfl rfl)
theorem dX4_needed_11 : decode cX4_needed 11 = .ok (.iload_n 0, 1) := dk_26 (dk_at dksX4_needed_0 11 rfl rfl)
theorem dX4_needed_12 : decode cX4_needed 12 = .ok (.iload_n 2, 1) := dk_28 (dk_at dksX4_needed_0 12 rfl rfl)
theorem dX4_needed_13 : decode cX4_needed 13 = .ok (.invokestatic 113, 3) := dk_184 0 113 (dk_at dksX4_needed_0 13 rfl rfl)
theorem dX4_needed_16 : decode cX4_needed 16 = .ok (.iadd, 1) := dk_96 (dk_at dksX4_needed_0 16 rfl rfl)
theorem dX4_needed_17 : decode cX4_needed 17 = .ok (.istore_n 1, 1) := dk_60 (dk_at dksX4_needed_0 17 rfl rfl)
theorem dX4_needed_18 : decode cX4_needed 18 = .ok (.iinc 2 1, 3) := dk_132 2 1 (dk_at dksX4_needed_0 18 rfl rfl)
theorem dX4_needed_21 : decode cX4_needed 21 = .ok (.goto (-17), 3) := dk_167 255 239 (dk_at dksX4_needed_0 21 rfl rfl)
theorem dX4_needed_24 : decode cX4_needed 24 = .ok (.iload_n 1, 1) := dk_27 (dk_at dksX4_needed_1 0 rfl rfl)
theorem dX4_needed_25 : decode cX4_needed 25 = .ok (.ireturn, 1) := dk_172 (dk_at dksX4_needed_1 1 rfl rfl)
abbrev cX4_needed_2 : ByteArray := prog_13_method_18_code
def yX4_needed_2 : MethodName := ⟨RX4, "needed", "(II)I"⟩
def dkwX4_needed_2_0 : List UInt8 := [26, 61, 3, 62, 29, 27, 162, 0, 13, 28, 6, 108, 61, 132, 3, 1, 167, 255, 244, 28, 6, 112, 172]
abbrev dktX4_needed_2_0 : List UInt8 := dkwX4_needed_2_0 ++ []
theorem dksX4_needed_2_0 : cX4_needed_2.data.toList.drop 0 = dktX4_needed_2_0 := by decide +kernel
theorem dX4_needed_2_0 : decode cX4_needed_2 0 = .ok (.iload_n 0, 1) := dk_26 (dk_at dksX4_needed_2_0 0 rfl rfl)
theorem dX4_needed_2_1 : decode cX4_needed_2 1 = .ok (.istore_n 2, 1) := dk_61 (dk_at dksX4_needed_2_0 1 rfl rfl)
theorem dX4_needed_2_2 : decode cX4_needed_2 2 = .ok (.iconst 0, 1) := dk_3 (dk_at dksX4_needed_2_0 2 rfl rfl)
theorem dX4_needed_2_3 : decode cX4_needed_2 3 = .ok (.istore_n 3, 1) := dk_62 (dk_at dksX4_needed_2_0 3 rfl rfl)
theorem dX4_needed_2_4 : decode cX4_needed_2 4 = .ok (.iload_n 3, 1) := dk_29 (dk_at dksX4_needed_2_0 4 rfl rfl)
theorem dX4_needed_2_5 : decode cX4_needed_2 5 = .ok (.iload_n 1, 1) := dk_27 (dk_at dksX4_needed_2_0 5 rfl rfl)
theorem dX4_needed_2_6 : decode cX4_needed_2 6 = .ok (.if_icmp .ge 13, 3) := dk_162 0 13 (dk_at dksX4_needed_2_0 6 rfl rfl)
theorem dX4_needed_2_9 : decode cX4_needed_2 9 = .ok (.iload_n 2, 1) := dk_28 (dk_at dksX4_needed_2_0 9 rfl rfl)
theorem dX4_needed_2_10 : decode cX4_needed_2 10 = .ok (.iconst 3, 1) := dk_6 (dk_at dksX4_needed_2_0 10 rfl rfl)
theorem dX4_needed_2_11 : decode cX4_needed_2 11 = .ok (.idiv, 1) := dk_108 (dk_at dksX4_needed_2_0 11 rfl rfl)
theorem dX4_needed_2_12 : decode cX4_needed_2 12 = .ok (.istore_n 2, 1) := dk_61 (dk_at dksX4_needed_2_0 12 rfl rfl)
theorem dX4_needed_2_13 : decode cX4_needed_2 13 = .ok (.iinc 3 1, 3) := dk_132 3 1 (dk_at dksX4_needed_2_0 13 rfl rfl)
theorem dX4_needed_2_16 : decode cX4_needed_2 16 = .ok (.goto (-12), 3) := dk_167 255 244 (dk_at dksX4_needed_2_0 16 rfl rfl)
theorem dX4_needed_2_19 : decode cX4_needed_2 19 = .ok (.iload_n 2, 1) := dk_28 (dk_at dksX4_needed_2_0 19 rfl rfl)
theorem dX4_needed_2_20 : decode cX4_needed_2 20 = .ok (.iconst 3, 1) := dk_6 (dk_at dksX4_needed_2_0 20 rfl rfl)
theorem dX4_needed_2_21 : decode cX4_needed_2 21 = .ok (.irem, 1) := dk_112 (dk_at dksX4_needed_2_0 21 rfl rfl)
theorem dX4_needed_2_22 : decode cX4_needed_2 22 = .ok (.ireturn, 1) := dk_172 (dk_at dksX4_needed_2_0 22 rfl rfl)
abbrev cX4_ask : ByteArray := prog_13_method_23_code
def yX4_ask : MethodName := ⟨RX4, "ask", "(IIIIII)I"⟩
def dkwX4_ask_7 : List UInt8 := [181, 0, 153, 42, 180, 0, 19, 25, 7, 182, 0, 83, 87, 42, 180, 0, 19, 182, 0, 48, 4, 100, 172]
abbrev dktX4_ask_7 : List UInt8 := dkwX4_ask_7 ++ []
def dkwX4_ask_6 : List UInt8 := [181, 0, 146, 25, 7, 21, 5, 181, 0, 149, 25, 7, 21, 6, 181, 0, 152, 25, 7, 42, 180, 0, 57]
abbrev dktX4_ask_6 : List UInt8 := dkwX4_ask_6 ++ dktX4_ask_7
def dkwX4_ask_5 : List UInt8 := [25, 7, 27, 181, 0, 127, 25, 7, 28, 181, 0, 130, 25, 7, 29, 181, 0, 143, 25, 7, 21, 4]
abbrev dktX4_ask_5 : List UInt8 := dkwX4_ask_5 ++ dktX4_ask_6
def dkwX4_ask_4 : List UInt8 := [42, 27, 28, 182, 0, 139, 153, 0, 9, 42, 6, 182, 0, 60, 172, 187, 0, 122, 89, 183, 0, 142, 58, 7]
abbrev dktX4_ask_4 : List UInt8 := dkwX4_ask_4 ++ dktX4_ask_5
def dkwX4_ask_3 : List UInt8 := [182, 0, 64, 154, 0, 9, 42, 5, 182, 0, 60, 172, 42, 180, 0, 19, 182, 0, 48, 16, 14, 159, 0, 12]
abbrev dktX4_ask_3 : List UInt8 := dkwX4_ask_3 ++ dktX4_ask_4
def dkwX4_ask_2 : List UInt8 := [21, 5, 4, 16, 6, 184, 0, 52, 153, 0, 22, 21, 4, 21, 5, 96, 16, 24, 163, 0, 12, 42, 21, 6]
abbrev dktX4_ask_2 : List UInt8 := dkwX4_ask_2 ++ dktX4_ask_3
def dkwX4_ask_1 : List UInt8 := [182, 0, 60, 172, 42, 28, 182, 0, 136, 153, 0, 45, 21, 4, 16, 10, 16, 22, 184, 0, 52, 153, 0, 33]
abbrev dktX4_ask_1 : List UInt8 := dkwX4_ask_1 ++ dktX4_ask_2
def dkwX4_ask_0 : List UInt8 := [42, 3, 181, 0, 44, 42, 27, 182, 0, 133, 153, 0, 10, 29, 184, 0, 106, 154, 0, 9, 42, 4]
abbrev dktX4_ask_0 : List UInt8 := dkwX4_ask_0 ++ dktX4_ask_1
theorem dksX4_ask_0 : cX4_ask.data.toList.drop 0 = dktX4_ask_0 := by decide +kernel
theorem dksX4_ask_1 : cX4_ask.data.toList.drop 22 = dktX4_ask_1 := dk_seg dksX4_ask_0 22 rfl rfl
theorem dksX4_ask_2 : cX4_ask.data.toList.drop 46 = dktX4_ask_2 := dk_seg dksX4_ask_1 24 rfl rfl
theorem dksX4_ask_3 : cX4_ask.data.toList.drop 70 = dktX4_ask_3 := dk_seg dksX4_ask_2 24 rfl rfl
theorem dksX4_ask_4 : cX4_ask.data.toList.drop 94 = dktX4_ask_4 := dk_seg dksX4_ask_3 24 rfl rfl
theorem dksX4_ask_5 : cX4_ask.data.toList.drop 118 = dktX4_ask_5 := dk_seg dksX4_ask_4 24 rfl rfl
theorem dksX4_ask_6 : cX4_ask.data.toList.drop 140 = dktX4_ask_6 := dk_seg dksX4_ask_5 22 rfl rfl
theorem dksX4_ask_7 : cX4_ask.data.toList.drop 163 = dktX4_ask_7 := dk_seg dksX4_ask_6 23 rfl rfl
theorem dX4_ask_0 : decode cX4_ask 0 = .ok (.aload_n 0, 1) := dk_42 (dk_at dksX4_ask_0 0 rfl rfl)
theorem dX4_ask_1 : decode cX4_ask 1 = .ok (.iconst 0, 1) := dk_3 (dk_at dksX4_ask_0 1 rfl rfl)
theorem dX4_ask_2 : decode cX4_ask 2 = .ok (.putfield 44, 3) := dk_181 0 44 (dk_at dksX4_ask_0 2 rfl rfl)
theorem dX4_ask_5 : decode cX4_ask 5 = .ok (.aload_n 0, 1) := dk_42 (dk_at dksX4_ask_0 5 rfl rfl)
theorem dX4_ask_6 : decode cX4_ask 6 = .ok (.iload_n 1, 1) := dk_27 (dk_at dksX4_ask_0 6 rfl rfl)
theorem dX4_ask_7 : decode cX4_ask 7 = .ok (.invokevirtual 133, 3) := dk_182 0 133 (dk_at dksX4_ask_0 7 rfl rfl)
theorem dX4_ask_10 : decode cX4_ask 10 = .ok (.ifCond .eq 10, 3) := dk_153 0 10 (dk_at dksX4_ask_0 10 rfl rfl)
theorem dX4_ask_13 : decode cX4_ask 13 = .ok (.iload_n 3, 1) := dk_29 (dk_at dksX4_ask_0 13 rfl rfl)
theorem dX4_ask_14 : decode cX4_ask 14 = .ok (.invokestatic 106, 3) := dk_184 0 106 (dk_at dksX4_ask_0 14 rfl rfl)
theorem dX4_ask_17 : decode cX4_ask 17 = .ok (.ifCond .ne 9, 3) := dk_154 0 9 (dk_at dksX4_ask_0 17 rfl rfl)
theorem dX4_ask_20 : decode cX4_ask 20 = .ok (.aload_n 0, 1) := dk_42 (dk_at dksX4_ask_0 20 rfl rfl)
theorem dX4_ask_21 : decode cX4_ask 21 = .ok (.iconst 1, 1) := dk_4 (dk_at dksX4_ask_0 21 rfl rfl)
theorem dX4_ask_22 : decode cX4_ask 22 = .ok (.invokevirtual 60, 3) := dk_182 0 60 (dk_at dksX4_ask_1 0 rfl rfl)
theorem dX4_ask_25 : decode cX4_ask 25 = .ok (.ireturn, 1) := dk_172 (dk_at dksX4_ask_1 3 rfl rfl)
theorem dX4_ask_26 : decode cX4_ask 26 = .ok (.aload_n 0, 1) := dk_42 (dk_at dksX4_ask_1 4 rfl rfl)
theorem dX4_ask_27 : decode cX4_ask 27 = .ok (.iload_n 2, 1) := dk_28 (dk_at dksX4_ask_1 5 rfl rfl)
theorem dX4_ask_28 : decode cX4_ask 28 = .ok (.invokevirtual 136, 3) := dk_182 0 136 (dk_at dksX4_ask_1 6 rfl rfl)
theorem dX4_ask_31 : decode cX4_ask 31 = .ok (.ifCond .eq 45, 3) := dk_153 0 45 (dk_at dksX4_ask_1 9 rfl rfl)
theorem dX4_ask_34 : decode cX4_ask 34 = .ok (.iload 4, 2) := dk_21 4 (dk_at dksX4_ask_1 12 rfl rfl)
theorem dX4_ask_36 : decode cX4_ask 36 = .ok (.bipush 10, 2) := dk_16 10 (dk_at dksX4_ask_1 14 rfl rfl)
theorem dX4_ask_38 : decode cX4_ask 38 = .ok (.bipush 22, 2) := dk_16 22 (dk_at dksX4_ask_1 16 rfl rfl)
theorem dX4_ask_40 : decode cX4_ask 40 = .ok (.invokestatic 52, 3) := dk_184 0 52 (dk_at dksX4_ask_1 18 rfl rfl)
theorem dX4_ask_43 : decode cX4_ask 43 = .ok (.ifCond .eq 33, 3) := dk_153 0 33 (dk_at dksX4_ask_1 21 rfl rfl)
theorem dX4_ask_46 : decode cX4_ask 46 = .ok (.iload 5, 2) := dk_21 5 (dk_at dksX4_ask_2 0 rfl rfl)
theorem dX4_ask_48 : decode cX4_ask 48 = .ok (.iconst 1, 1) := dk_4 (dk_at dksX4_ask_2 2 rfl rfl)
theorem dX4_ask_49 : decode cX4_ask 49 = .ok (.bipush 6, 2) := dk_16 6 (dk_at dksX4_ask_2 3 rfl rfl)
theorem dX4_ask_51 : decode cX4_ask 51 = .ok (.invokestatic 52, 3) := dk_184 0 52 (dk_at dksX4_ask_2 5 rfl rfl)
theorem dX4_ask_54 : decode cX4_ask 54 = .ok (.ifCond .eq 22, 3) := dk_153 0 22 (dk_at dksX4_ask_2 8 rfl rfl)
theorem dX4_ask_57 : decode cX4_ask 57 = .ok (.iload 4, 2) := dk_21 4 (dk_at dksX4_ask_2 11 rfl rfl)
theorem dX4_ask_59 : decode cX4_ask 59 = .ok (.iload 5, 2) := dk_21 5 (dk_at dksX4_ask_2 13 rfl rfl)
theorem dX4_ask_61 : decode cX4_ask 61 = .ok (.iadd, 1) := dk_96 (dk_at dksX4_ask_2 15 rfl rfl)
theorem dX4_ask_62 : decode cX4_ask 62 = .ok (.bipush 24, 2) := dk_16 24 (dk_at dksX4_ask_2 16 rfl rfl)
theorem dX4_ask_64 : decode cX4_ask 64 = .ok (.if_icmp .gt 12, 3) := dk_163 0 12 (dk_at dksX4_ask_2 18 rfl rfl)
theorem dX4_ask_67 : decode cX4_ask 67 = .ok (.aload_n 0, 1) := dk_42 (dk_at dksX4_ask_2 21 rfl rfl)
theorem dX4_ask_68 : decode cX4_ask 68 = .ok (.iload 6, 2) := dk_21 6 (dk_at dksX4_ask_2 22 rfl rfl)
theorem dX4_ask_70 : decode cX4_ask 70 = .ok (.invokevirtual 64, 3) := dk_182 0 64 (dk_at dksX4_ask_3 0 rfl rfl)
theorem dX4_ask_73 : decode cX4_ask 73 = .ok (.ifCond .ne 9, 3) := dk_154 0 9 (dk_at dksX4_ask_3 3 rfl rfl)
theorem dX4_ask_76 : decode cX4_ask 76 = .ok (.aload_n 0, 1) := dk_42 (dk_at dksX4_ask_3 6 rfl rfl)
theorem dX4_ask_77 : decode cX4_ask 77 = .ok (.iconst 2, 1) := dk_5 (dk_at dksX4_ask_3 7 rfl rfl)
theorem dX4_ask_78 : decode cX4_ask 78 = .ok (.invokevirtual 60, 3) := dk_182 0 60 (dk_at dksX4_ask_3 8 rfl rfl)
theorem dX4_ask_81 : decode cX4_ask 81 = .ok (.ireturn, 1) := dk_172 (dk_at dksX4_ask_3 11 rfl rfl)
theorem dX4_ask_82 : decode cX4_ask 82 = .ok (.aload_n 0, 1) := dk_42 (dk_at dksX4_ask_3 12 rfl rfl)
theorem dX4_ask_83 : decode cX4_ask 83 = .ok (.getfield 19, 3) := dk_180 0 19 (dk_at dksX4_ask_3 13 rfl rfl)
theorem dX4_ask_86 : decode cX4_ask 86 = .ok (.invokevirtual 48, 3) := dk_182 0 48 (dk_at dksX4_ask_3 16 rfl rfl)
theorem dX4_ask_89 : decode cX4_ask 89 = .ok (.bipush 14, 2) := dk_16 14 (dk_at dksX4_ask_3 19 rfl rfl)
theorem dX4_ask_91 : decode cX4_ask 91 = .ok (.if_icmp .eq 12, 3) := dk_159 0 12 (dk_at dksX4_ask_3 21 rfl rfl)
theorem dX4_ask_94 : decode cX4_ask 94 = .ok (.aload_n 0, 1) := dk_42 (dk_at dksX4_ask_4 0 rfl rfl)
theorem dX4_ask_95 : decode cX4_ask 95 = .ok (.iload_n 1, 1) := dk_27 (dk_at dksX4_ask_4 1 rfl rfl)
theorem dX4_ask_96 : decode cX4_ask 96 = .ok (.iload_n 2, 1) := dk_28 (dk_at dksX4_ask_4 2 rfl rfl)
theorem dX4_ask_97 : decode cX4_ask 97 = .ok (.invokevirtual 139, 3) := dk_182 0 139 (dk_at dksX4_ask_4 3 rfl rfl)
theorem dX4_ask_100 : decode cX4_ask 100 = .ok (.ifCond .eq 9, 3) := dk_153 0 9 (dk_at dksX4_ask_4 6 rfl rfl)
theorem dX4_ask_103 : decode cX4_ask 103 = .ok (.aload_n 0, 1) := dk_42 (dk_at dksX4_ask_4 9 rfl rfl)
theorem dX4_ask_104 : decode cX4_ask 104 = .ok (.iconst 3, 1) := dk_6 (dk_at dksX4_ask_4 10 rfl rfl)
theorem dX4_ask_105 : decode cX4_ask 105 = .ok (.invokevirtual 60, 3) := dk_182 0 60 (dk_at dksX4_ask_4 11 rfl rfl)
theorem dX4_ask_108 : decode cX4_ask 108 = .ok (.ireturn, 1) := dk_172 (dk_at dksX4_ask_4 14 rfl rfl)
theorem dX4_ask_109 : decode cX4_ask 109 = .ok (.new 122, 3) := dk_187 0 122 (dk_at dksX4_ask_4 15 rfl rfl)
theorem dX4_ask_112 : decode cX4_ask 112 = .ok (.dup, 1) := dk_89 (dk_at dksX4_ask_4 18 rfl rfl)
theorem dX4_ask_113 : decode cX4_ask 113 = .ok (.invokespecial 142, 3) := dk_183 0 142 (dk_at dksX4_ask_4 19 rfl rfl)
theorem dX4_ask_116 : decode cX4_ask 116 = .ok (.astore 7, 2) := dk_58 7 (dk_at dksX4_ask_4 22 rfl rfl)
theorem dX4_ask_118 : decode cX4_ask 118 = .ok (.aload 7, 2) := dk_25 7 (dk_at dksX4_ask_5 0 rfl rfl)
theorem dX4_ask_120 : decode cX4_ask 120 = .ok (.iload_n 1, 1) := dk_27 (dk_at dksX4_ask_5 2 rfl rfl)
theorem dX4_ask_121 : decode cX4_ask 121 = .ok (.putfield 127, 3) := dk_181 0 127 (dk_at dksX4_ask_5 3 rfl rfl)
theorem dX4_ask_124 : decode cX4_ask 124 = .ok (.aload 7, 2) := dk_25 7 (dk_at dksX4_ask_5 6 rfl rfl)
theorem dX4_ask_126 : decode cX4_ask 126 = .ok (.iload_n 2, 1) := dk_28 (dk_at dksX4_ask_5 8 rfl rfl)
theorem dX4_ask_127 : decode cX4_ask 127 = .ok (.putfield 130, 3) := dk_181 0 130 (dk_at dksX4_ask_5 9 rfl rfl)
theorem dX4_ask_130 : decode cX4_ask 130 = .ok (.aload 7, 2) := dk_25 7 (dk_at dksX4_ask_5 12 rfl rfl)
theorem dX4_ask_132 : decode cX4_ask 132 = .ok (.iload_n 3, 1) := dk_29 (dk_at dksX4_ask_5 14 rfl rfl)
theorem dX4_ask_133 : decode cX4_ask 133 = .ok (.putfield 143, 3) := dk_181 0 143 (dk_at dksX4_ask_5 15 rfl rfl)
theorem dX4_ask_136 : decode cX4_ask 136 = .ok (.aload 7, 2) := dk_25 7 (dk_at dksX4_ask_5 18 rfl rfl)
theorem dX4_ask_138 : decode cX4_ask 138 = .ok (.iload 4, 2) := dk_21 4 (dk_at dksX4_ask_5 20 rfl rfl)
theorem dX4_ask_140 : decode cX4_ask 140 = .ok (.putfield 146, 3) := dk_181 0 146 (dk_at dksX4_ask_6 0 rfl rfl)
theorem dX4_ask_143 : decode cX4_ask 143 = .ok (.aload 7, 2) := dk_25 7 (dk_at dksX4_ask_6 3 rfl rfl)
theorem dX4_ask_145 : decode cX4_ask 145 = .ok (.iload 5, 2) := dk_21 5 (dk_at dksX4_ask_6 5 rfl rfl)
theorem dX4_ask_147 : decode cX4_ask 147 = .ok (.putfield 149, 3) := dk_181 0 149 (dk_at dksX4_ask_6 7 rfl rfl)
theorem dX4_ask_150 : decode cX4_ask 150 = .ok (.aload 7, 2) := dk_25 7 (dk_at dksX4_ask_6 10 rfl rfl)
theorem dX4_ask_152 : decode cX4_ask 152 = .ok (.iload 6, 2) := dk_21 6 (dk_at dksX4_ask_6 12 rfl rfl)
theorem dX4_ask_154 : decode cX4_ask 154 = .ok (.putfield 152, 3) := dk_181 0 152 (dk_at dksX4_ask_6 14 rfl rfl)
theorem dX4_ask_157 : decode cX4_ask 157 = .ok (.aload 7, 2) := dk_25 7 (dk_at dksX4_ask_6 17 rfl rfl)
theorem dX4_ask_159 : decode cX4_ask 159 = .ok (.aload_n 0, 1) := dk_42 (dk_at dksX4_ask_6 19 rfl rfl)
theorem dX4_ask_160 : decode cX4_ask 160 = .ok (.getfield 57, 3) := dk_180 0 57 (dk_at dksX4_ask_6 20 rfl rfl)
theorem dX4_ask_163 : decode cX4_ask 163 = .ok (.putfield 153, 3) := dk_181 0 153 (dk_at dksX4_ask_7 0 rfl rfl)
theorem dX4_ask_166 : decode cX4_ask 166 = .ok (.aload_n 0, 1) := dk_42 (dk_at dksX4_ask_7 3 rfl rfl)
theorem dX4_ask_167 : decode cX4_ask 167 = .ok (.getfield 19, 3) := dk_180 0 19 (dk_at dksX4_ask_7 4 rfl rfl)
theorem dX4_ask_170 : decode cX4_ask 170 = .ok (.aload 7, 2) := dk_25 7 (dk_at dksX4_ask_7 7 rfl rfl)
theorem dX4_ask_172 : decode cX4_ask 172 = .ok (.invokevirtual 83, 3) := dk_182 0 83 (dk_at dksX4_ask_7 9 rfl rfl)
theorem dX4_ask_175 : decode cX4_ask 175 = .ok (.pop, 1) := dk_87 (dk_at dksX4_ask_7 12 rfl rfl)
theorem dX4_ask_176 : decode cX4_ask 176 = .ok (.aload_n 0, 1) := dk_42 (dk_at dksX4_ask_7 13 rfl rfl)
theorem dX4_ask_177 : decode cX4_ask 177 = .ok (.getfield 19, 3) := dk_180 0 19 (dk_at dksX4_ask_7 14 rfl rfl)
theorem dX4_ask_180 : decode cX4_ask 180 = .ok (.invokevirtual 48, 3) := dk_182 0 48 (dk_at dksX4_ask_7 17 rfl rfl)
theorem dX4_ask_183 : decode cX4_ask 183 = .ok (.iconst 1, 1) := dk_4 (dk_at dksX4_ask_7 20 rfl rfl)
theorem dX4_ask_184 : decode cX4_ask 184 = .ok (.isub, 1) := dk_100 (dk_at dksX4_ask_7 21 rfl rfl)
theorem dX4_ask_185 : decode cX4_ask 185 = .ok (.ireturn, 1) := dk_172 (dk_at dksX4_ask_7 22 rfl rfl)
abbrev cX4_isBand : ByteArray := prog_13_method_21_code
def yX4_isBand : MethodName := ⟨RX4, "isBand", "(I)Z"⟩
def dkwX4_isBand_0 : List UInt8 := [27, 3, 42, 180, 0, 16, 182, 0, 48, 4, 100, 184, 0, 52, 172]
abbrev dktX4_isBand_0 : List UInt8 := dkwX4_isBand_0 ++ []
theorem dksX4_isBand_0 : cX4_isBand.data.toList.drop 0 = dktX4_isBand_0 := by decide +kernel
theorem dX4_isBand_0 : decode cX4_isBand 0 = .ok (.iload_n 1, 1) := dk_27 (dk_at dksX4_isBand_0 0 rfl rfl)
theorem dX4_isBand_1 : decode cX4_isBand 1 = .ok (.iconst 0, 1) := dk_3 (dk_at dksX4_isBand_0 1 rfl rfl)
theorem dX4_isBand_2 : decode cX4_isBand 2 = .ok (.aload_n 0, 1) := dk_42 (dk_at dksX4_isBand_0 2 rfl rfl)
theorem dX4_isBand_3 : decode cX4_isBand 3 = .ok (.getfield 16, 3) := dk_180 0 16 (dk_at dksX4_isBand_0 3 rfl rfl)
theorem dX4_isBand_6 : decode cX4_isBand 6 = .ok (.invokevirtual 48, 3) := dk_182 0 48 (dk_at dksX4_isBand_0 6 rfl rfl)
theorem dX4_isBand_9 : decode cX4_isBand 9 = .ok (.iconst 1, 1) := dk_4 (dk_at dksX4_isBand_0 9 rfl rfl)
theorem dX4_isBand_10 : decode cX4_isBand 10 = .ok (.isub, 1) := dk_100 (dk_at dksX4_isBand_0 10 rfl rfl)
theorem dX4_isBand_11 : decode cX4_isBand 11 = .ok (.invokestatic 52, 3) := dk_184 0 52 (dk_at dksX4_isBand_0 11 rfl rfl)
theorem dX4_isBand_14 : decode cX4_isBand 14 = .ok (.ireturn, 1) := dk_172 (dk_at dksX4_isBand_0 14 rfl rfl)
abbrev cX4_isDay : ByteArray := prog_13_method_8_code
def yX4_isDay : MethodName := ⟨RX4, "isDay", "(I)Z"⟩
def dkwX4_isDay_0 : List UInt8 := [27, 42, 180, 0, 57, 17, 1, 109, 184, 0, 52, 172]
abbrev dktX4_isDay_0 : List UInt8 := dkwX4_isDay_0 ++ []
theorem dksX4_isDay_0 : cX4_isDay.data.toList.drop 0 = dktX4_isDay_0 := by decide +kernel
theorem dX4_isDay_0 : decode cX4_isDay 0 = .ok (.iload_n 1, 1) := dk_27 (dk_at dksX4_isDay_0 0 rfl rfl)
theorem dX4_isDay_1 : decode cX4_isDay 1 = .ok (.aload_n 0, 1) := dk_42 (dk_at dksX4_isDay_0 1 rfl rfl)
theorem dX4_isDay_2 : decode cX4_isDay 2 = .ok (.getfield 57, 3) := dk_180 0 57 (dk_at dksX4_isDay_0 2 rfl rfl)
theorem dX4_isDay_5 : decode cX4_isDay 5 = .ok (.sipush 365, 3) := dk_17 1 109 (dk_at dksX4_isDay_0 5 rfl rfl)
theorem dX4_isDay_8 : decode cX4_isDay 8 = .ok (.invokestatic 52, 3) := dk_184 0 52 (dk_at dksX4_isDay_0 8 rfl rfl)
theorem dX4_isDay_11 : decode cX4_isDay 11 = .ok (.ireturn, 1) := dk_172 (dk_at dksX4_isDay_0 11 rfl rfl)
abbrev cX4_isFixed : ByteArray := prog_13_method_22_code
def yX4_isFixed : MethodName := ⟨RX4, "isFixed", "(II)Z"⟩
def dkwX4_isFixed_2 : List UInt8 := [180, 0, 130, 28, 160, 0, 5, 4, 172, 132, 3, 1, 167, 255, 200, 3, 172]
abbrev dktX4_isFixed_2 : List UInt8 := dkwX4_isFixed_2 ++ []
def dkwX4_isFixed_1 : List UInt8 := [58, 4, 25, 4, 180, 0, 124, 4, 160, 0, 23, 25, 4, 180, 0, 127, 27, 160, 0, 14, 25, 4]
abbrev dktX4_isFixed_1 : List UInt8 := dkwX4_isFixed_1 ++ dktX4_isFixed_2
def dkwX4_isFixed_0 : List UInt8 := [3, 62, 29, 42, 180, 0, 19, 182, 0, 48, 162, 0, 51, 42, 180, 0, 19, 29, 182, 0, 90, 192, 0, 122]
abbrev dktX4_isFixed_0 : List UInt8 := dkwX4_isFixed_0 ++ dktX4_isFixed_1
theorem dksX4_isFixed_0 : cX4_isFixed.data.toList.drop 0 = dktX4_isFixed_0 := by decide +kernel
theorem dksX4_isFixed_1 : cX4_isFixed.data.toList.drop 24 = dktX4_isFixed_1 := dk_seg dksX4_isFixed_0 24 rfl rfl
theorem dksX4_isFixed_2 : cX4_isFixed.data.toList.drop 46 = dktX4_isFixed_2 := dk_seg dksX4_isFixed_1 22 rfl rfl
theorem dX4_isFixed_0 : decode cX4_isFixed 0 = .ok (.iconst 0, 1) := dk_3 (dk_at dksX4_isFixed_0 0 rfl rfl)
theorem dX4_isFixed_1 : decode cX4_isFixed 1 = .ok (.istore_n 3, 1) := dk_62 (dk_at dksX4_isFixed_0 1 rfl rfl)
theorem dX4_isFixed_2 : decode cX4_isFixed 2 = .ok (.iload_n 3, 1) := dk_29 (dk_at dksX4_isFixed_0 2 rfl rfl)
theorem dX4_isFixed_3 : decode cX4_isFixed 3 = .ok (.aload_n 0, 1) := dk_42 (dk_at dksX4_isFixed_0 3 rfl rfl)
theorem dX4_isFixed_4 : decode cX4_isFixed 4 = .ok (.getfield 19, 3) := dk_180 0 19 (dk_at dksX4_isFixed_0 4 rfl rfl)
theorem dX4_isFixed_7 : decode cX4_isFixed 7 = .ok (.invokevirtual 48, 3) := dk_182 0 48 (dk_at dksX4_isFixed_0 7 rfl rfl)
theorem dX4_isFixed_10 : decode cX4_isFixed 10 = .ok (.if_icmp .ge 51, 3) := dk_162 0 51 (dk_at dksX4_isFixed_0 10 rfl rfl)
theorem dX4_isFixed_13 : decode cX4_isFixed 13 = .ok (.aload_n 0, 1) := dk_42 (dk_at dksX4_isFixed_0 13 rfl rfl)
theorem dX4_isFixed_14 : decode cX4_isFixed 14 = .ok (.getfield 19, 3) := dk_180 0 19 (dk_at dksX4_isFixed_0 14 rfl rfl)
theorem dX4_isFixed_17 : decode cX4_isFixed 17 = .ok (.iload_n 3, 1) := dk_29 (dk_at dksX4_isFixed_0 17 rfl rfl)
theorem dX4_isFixed_18 : decode cX4_isFixed 18 = .ok (.invokevirtual 90, 3) := dk_182 0 90 (dk_at dksX4_isFixed_0 18 rfl rfl)
theorem dX4_isFixed_21 : decode cX4_isFixed 21 = .ok (.checkcast 122, 3) := dk_192 0 122 (dk_at dksX4_isFixed_0 21 rfl rfl)
theorem dX4_isFixed_24 : decode cX4_isFixed 24 = .ok (.astore 4, 2) := dk_58 4 (dk_at dksX4_isFixed_1 0 rfl rfl)
theorem dX4_isFixed_26 : decode cX4_isFixed 26 = .ok (.aload 4, 2) := dk_25 4 (dk_at dksX4_isFixed_1 2 rfl rfl)
theorem dX4_isFixed_28 : decode cX4_isFixed 28 = .ok (.getfield 124, 3) := dk_180 0 124 (dk_at dksX4_isFixed_1 4 rfl rfl)
theorem dX4_isFixed_31 : decode cX4_isFixed 31 = .ok (.iconst 1, 1) := dk_4 (dk_at dksX4_isFixed_1 7 rfl rfl)
theorem dX4_isFixed_32 : decode cX4_isFixed 32 = .ok (.if_icmp .ne 23, 3) := dk_160 0 23 (dk_at dksX4_isFixed_1 8 rfl rfl)
theorem dX4_isFixed_35 : decode cX4_isFixed 35 = .ok (.aload 4, 2) := dk_25 4 (dk_at dksX4_isFixed_1 11 rfl rfl)
theorem dX4_isFixed_37 : decode cX4_isFixed 37 = .ok (.getfield 127, 3) := dk_180 0 127 (dk_at dksX4_isFixed_1 13 rfl rfl)
theorem dX4_isFixed_40 : decode cX4_isFixed 40 = .ok (.iload_n 1, 1) := dk_27 (dk_at dksX4_isFixed_1 16 rfl rfl)
theorem dX4_isFixed_41 : decode cX4_isFixed 41 = .ok (.if_icmp .ne 14, 3) := dk_160 0 14 (dk_at dksX4_isFixed_1 17 rfl rfl)
theorem dX4_isFixed_44 : decode cX4_isFixed 44 = .ok (.aload 4, 2) := dk_25 4 (dk_at dksX4_isFixed_1 20 rfl rfl)
theorem dX4_isFixed_46 : decode cX4_isFixed 46 = .ok (.getfield 130, 3) := dk_180 0 130 (dk_at dksX4_isFixed_2 0 rfl rfl)
theorem dX4_isFixed_49 : decode cX4_isFixed 49 = .ok (.iload_n 2, 1) := dk_28 (dk_at dksX4_isFixed_2 3 rfl rfl)
theorem dX4_isFixed_50 : decode cX4_isFixed 50 = .ok (.if_icmp .ne 5, 3) := dk_160 0 5 (dk_at dksX4_isFixed_2 4 rfl rfl)
theorem dX4_isFixed_53 : decode cX4_isFixed 53 = .ok (.iconst 1, 1) := dk_4 (dk_at dksX4_isFixed_2 7 rfl rfl)
theorem dX4_isFixed_54 : decode cX4_isFixed 54 = .ok (.ireturn, 1) := dk_172 (dk_at dksX4_isFixed_2 8 rfl rfl)
theorem dX4_isFixed_55 : decode cX4_isFixed 55 = .ok (.iinc 3 1, 3) := dk_132 3 1 (dk_at dksX4_isFixed_2 9 rfl rfl)
theorem dX4_isFixed_58 : decode cX4_isFixed 58 = .ok (.goto (-56), 3) := dk_167 255 200 (dk_at dksX4_isFixed_2 12 rfl rfl)
theorem dX4_isFixed_61 : decode cX4_isFixed 61 = .ok (.iconst 0, 1) := dk_3 (dk_at dksX4_isFixed_2 15 rfl rfl)
theorem dX4_isFixed_62 : decode cX4_isFixed 62 = .ok (.ireturn, 1) := dk_172 (dk_at dksX4_isFixed_2 16 rfl rfl)
abbrev cX4_fix : ByteArray := prog_13_method_40_code
def yX4_fix : MethodName := ⟨RX4, "fix", "(I)I"⟩
def dkwX4_fix_6 : List UInt8 := [167, 255, 196, 45, 180, 0, 207, 172]
abbrev dktX4_fix_6 : List UInt8 := dkwX4_fix_6 ++ []
def dkwX4_fix_5 : List UInt8 := [180, 0, 127, 160, 0, 21, 25, 5, 180, 0, 130, 45, 180, 0, 130, 160, 0, 9, 25, 5, 6, 181, 0, 124]
abbrev dktX4_fix_5 : List UInt8 := dkwX4_fix_5 ++ dktX4_fix_6
def dkwX4_fix_4 : List UInt8 := [185, 0, 236, 1, 0, 192, 0, 122, 58, 5, 25, 5, 180, 0, 124, 154, 0, 33, 25, 5, 180, 0, 127, 45]
abbrev dktX4_fix_4 : List UInt8 := dkwX4_fix_4 ++ dktX4_fix_5
def dkwX4_fix_3 : List UInt8 := [180, 0, 19, 182, 0, 226, 58, 4, 25, 4, 185, 0, 230, 1, 0, 153, 0, 56, 25, 4]
abbrev dktX4_fix_3 : List UInt8 := dkwX4_fix_3 ++ dktX4_fix_4
def dkwX4_fix_2 : List UInt8 := [182, 0, 60, 172, 42, 27, 28, 182, 0, 222, 42, 180, 0, 19, 27, 182, 0, 90, 192, 0, 122, 78, 42]
abbrev dktX4_fix_2 : List UInt8 := dkwX4_fix_2 ++ dktX4_fix_3
def dkwX4_fix_1 : List UInt8 := [154, 0, 13, 42, 27, 3, 3, 182, 0, 200, 167, 0, 4, 2, 61, 28, 2, 160, 0, 9, 42, 5]
abbrev dktX4_fix_1 : List UInt8 := dkwX4_fix_1 ++ dktX4_fix_2
def dkwX4_fix_0 : List UInt8 := [42, 3, 181, 0, 44, 42, 27, 182, 0, 216, 154, 0, 9, 42, 4, 182, 0, 60, 172, 42, 27, 182, 0, 219]
abbrev dktX4_fix_0 : List UInt8 := dkwX4_fix_0 ++ dktX4_fix_1
theorem dksX4_fix_0 : cX4_fix.data.toList.drop 0 = dktX4_fix_0 := by decide +kernel
theorem dksX4_fix_1 : cX4_fix.data.toList.drop 24 = dktX4_fix_1 := dk_seg dksX4_fix_0 24 rfl rfl
theorem dksX4_fix_2 : cX4_fix.data.toList.drop 46 = dktX4_fix_2 := dk_seg dksX4_fix_1 22 rfl rfl
theorem dksX4_fix_3 : cX4_fix.data.toList.drop 69 = dktX4_fix_3 := dk_seg dksX4_fix_2 23 rfl rfl
theorem dksX4_fix_4 : cX4_fix.data.toList.drop 89 = dktX4_fix_4 := dk_seg dksX4_fix_3 20 rfl rfl
theorem dksX4_fix_5 : cX4_fix.data.toList.drop 113 = dktX4_fix_5 := dk_seg dksX4_fix_4 24 rfl rfl
theorem dksX4_fix_6 : cX4_fix.data.toList.drop 137 = dktX4_fix_6 := dk_seg dksX4_fix_5 24 rfl rfl
theorem dX4_fix_0 : decode cX4_fix 0 = .ok (.aload_n 0, 1) := dk_42 (dk_at dksX4_fix_0 0 rfl rfl)
theorem dX4_fix_1 : decode cX4_fix 1 = .ok (.iconst 0, 1) := dk_3 (dk_at dksX4_fix_0 1 rfl rfl)
theorem dX4_fix_2 : decode cX4_fix 2 = .ok (.putfield 44, 3) := dk_181 0 44 (dk_at dksX4_fix_0 2 rfl rfl)
theorem dX4_fix_5 : decode cX4_fix 5 = .ok (.aload_n 0, 1) := dk_42 (dk_at dksX4_fix_0 5 rfl rfl)
theorem dX4_fix_6 : decode cX4_fix 6 = .ok (.iload_n 1, 1) := dk_27 (dk_at dksX4_fix_0 6 rfl rfl)
theorem dX4_fix_7 : decode cX4_fix 7 = .ok (.invokevirtual 216, 3) := dk_182 0 216 (dk_at dksX4_fix_0 7 rfl rfl)
theorem dX4_fix_10 : decode cX4_fix 10 = .ok (.ifCond .ne 9, 3) := dk_154 0 9 (dk_at dksX4_fix_0 10 rfl rfl)
theorem dX4_fix_13 : decode cX4_fix 13 = .ok (.aload_n 0, 1) := dk_42 (dk_at dksX4_fix_0 13 rfl rfl)
theorem dX4_fix_14 : decode cX4_fix 14 = .ok (.iconst 1, 1) := dk_4 (dk_at dksX4_fix_0 14 rfl rfl)
theorem dX4_fix_15 : decode cX4_fix 15 = .ok (.invokevirtual 60, 3) := dk_182 0 60 (dk_at dksX4_fix_0 15 rfl rfl)
theorem dX4_fix_18 : decode cX4_fix 18 = .ok (.ireturn, 1) := dk_172 (dk_at dksX4_fix_0 18 rfl rfl)
theorem dX4_fix_19 : decode cX4_fix 19 = .ok (.aload_n 0, 1) := dk_42 (dk_at dksX4_fix_0 19 rfl rfl)
theorem dX4_fix_20 : decode cX4_fix 20 = .ok (.iload_n 1, 1) := dk_27 (dk_at dksX4_fix_0 20 rfl rfl)
theorem dX4_fix_21 : decode cX4_fix 21 = .ok (.invokevirtual 219, 3) := dk_182 0 219 (dk_at dksX4_fix_0 21 rfl rfl)
theorem dX4_fix_24 : decode cX4_fix 24 = .ok (.ifCond .ne 13, 3) := dk_154 0 13 (dk_at dksX4_fix_1 0 rfl rfl)
theorem dX4_fix_27 : decode cX4_fix 27 = .ok (.aload_n 0, 1) := dk_42 (dk_at dksX4_fix_1 3 rfl rfl)
theorem dX4_fix_28 : decode cX4_fix 28 = .ok (.iload_n 1, 1) := dk_27 (dk_at dksX4_fix_1 4 rfl rfl)
theorem dX4_fix_29 : decode cX4_fix 29 = .ok (.iconst 0, 1) := dk_3 (dk_at dksX4_fix_1 5 rfl rfl)
theorem dX4_fix_30 : decode cX4_fix 30 = .ok (.iconst 0, 1) := dk_3 (dk_at dksX4_fix_1 6 rfl rfl)
theorem dX4_fix_31 : decode cX4_fix 31 = .ok (.invokevirtual 200, 3) := dk_182 0 200 (dk_at dksX4_fix_1 7 rfl rfl)
theorem dX4_fix_34 : decode cX4_fix 34 = .ok (.goto 4, 3) := dk_167 0 4 (dk_at dksX4_fix_1 10 rfl rfl)
theorem dX4_fix_37 : decode cX4_fix 37 = .ok (.iconst (-1), 1) := dk_2 (dk_at dksX4_fix_1 13 rfl rfl)
theorem dX4_fix_38 : decode cX4_fix 38 = .ok (.istore_n 2, 1) := dk_61 (dk_at dksX4_fix_1 14 rfl rfl)
theorem dX4_fix_39 : decode cX4_fix 39 = .ok (.iload_n 2, 1) := dk_28 (dk_at dksX4_fix_1 15 rfl rfl)
theorem dX4_fix_40 : decode cX4_fix 40 = .ok (.iconst (-1), 1) := dk_2 (dk_at dksX4_fix_1 16 rfl rfl)
theorem dX4_fix_41 : decode cX4_fix 41 = .ok (.if_icmp .ne 9, 3) := dk_160 0 9 (dk_at dksX4_fix_1 17 rfl rfl)
theorem dX4_fix_44 : decode cX4_fix 44 = .ok (.aload_n 0, 1) := dk_42 (dk_at dksX4_fix_1 20 rfl rfl)
theorem dX4_fix_45 : decode cX4_fix 45 = .ok (.iconst 2, 1) := dk_5 (dk_at dksX4_fix_1 21 rfl rfl)
theorem dX4_fix_46 : decode cX4_fix 46 = .ok (.invokevirtual 60, 3) := dk_182 0 60 (dk_at dksX4_fix_2 0 rfl rfl)
theorem dX4_fix_49 : decode cX4_fix 49 = .ok (.ireturn, 1) := dk_172 (dk_at dksX4_fix_2 3 rfl rfl)
theorem dX4_fix_50 : decode cX4_fix 50 = .ok (.aload_n 0, 1) := dk_42 (dk_at dksX4_fix_2 4 rfl rfl)
theorem dX4_fix_51 : decode cX4_fix 51 = .ok (.iload_n 1, 1) := dk_27 (dk_at dksX4_fix_2 5 rfl rfl)
theorem dX4_fix_52 : decode cX4_fix 52 = .ok (.iload_n 2, 1) := dk_28 (dk_at dksX4_fix_2 6 rfl rfl)
theorem dX4_fix_53 : decode cX4_fix 53 = .ok (.invokevirtual 222, 3) := dk_182 0 222 (dk_at dksX4_fix_2 7 rfl rfl)
theorem dX4_fix_56 : decode cX4_fix 56 = .ok (.aload_n 0, 1) := dk_42 (dk_at dksX4_fix_2 10 rfl rfl)
theorem dX4_fix_57 : decode cX4_fix 57 = .ok (.getfield 19, 3) := dk_180 0 19 (dk_at dksX4_fix_2 11 rfl rfl)
theorem dX4_fix_60 : decode cX4_fix 60 = .ok (.iload_n 1, 1) := dk_27 (dk_at dksX4_fix_2 14 rfl rfl)
theorem dX4_fix_61 : decode cX4_fix 61 = .ok (.invokevirtual 90, 3) := dk_182 0 90 (dk_at dksX4_fix_2 15 rfl rfl)
theorem dX4_fix_64 : decode cX4_fix 64 = .ok (.checkcast 122, 3) := dk_192 0 122 (dk_at dksX4_fix_2 18 rfl rfl)
theorem dX4_fix_67 : decode cX4_fix 67 = .ok (.astore_n 3, 1) := dk_78 (dk_at dksX4_fix_2 21 rfl rfl)
theorem dX4_fix_68 : decode cX4_fix 68 = .ok (.aload_n 0, 1) := dk_42 (dk_at dksX4_fix_2 22 rfl rfl)
theorem dX4_fix_69 : decode cX4_fix 69 = .ok (.getfield 19, 3) := dk_180 0 19 (dk_at dksX4_fix_3 0 rfl rfl)
theorem dX4_fix_72 : decode cX4_fix 72 = .ok (.invokevirtual 226, 3) := dk_182 0 226 (dk_at dksX4_fix_3 3 rfl rfl)
theorem dX4_fix_75 : decode cX4_fix 75 = .ok (.astore 4, 2) := dk_58 4 (dk_at dksX4_fix_3 6 rfl rfl)
theorem dX4_fix_77 : decode cX4_fix 77 = .ok (.aload 4, 2) := dk_25 4 (dk_at dksX4_fix_3 8 rfl rfl)
theorem dX4_fix_79 : decode cX4_fix 79 = .ok (.invokeinterface 230 1, 5) := by decide +kernel
theorem dX4_fix_84 : decode cX4_fix 84 = .ok (.ifCond .eq 56, 3) := dk_153 0 56 (dk_at dksX4_fix_3 15 rfl rfl)
theorem dX4_fix_87 : decode cX4_fix 87 = .ok (.aload 4, 2) := dk_25 4 (dk_at dksX4_fix_3 18 rfl rfl)
theorem dX4_fix_89 : decode cX4_fix 89 = .ok (.invokeinterface 236 1, 5) := by decide +kernel
theorem dX4_fix_94 : decode cX4_fix 94 = .ok (.checkcast 122, 3) := dk_192 0 122 (dk_at dksX4_fix_4 5 rfl rfl)
theorem dX4_fix_97 : decode cX4_fix 97 = .ok (.astore 5, 2) := dk_58 5 (dk_at dksX4_fix_4 8 rfl rfl)
theorem dX4_fix_99 : decode cX4_fix 99 = .ok (.aload 5, 2) := dk_25 5 (dk_at dksX4_fix_4 10 rfl rfl)
theorem dX4_fix_101 : decode cX4_fix 101 = .ok (.getfield 124, 3) := dk_180 0 124 (dk_at dksX4_fix_4 12 rfl rfl)
theorem dX4_fix_104 : decode cX4_fix 104 = .ok (.ifCond .ne 33, 3) := dk_154 0 33 (dk_at dksX4_fix_4 15 rfl rfl)
theorem dX4_fix_107 : decode cX4_fix 107 = .ok (.aload 5, 2) := dk_25 5 (dk_at dksX4_fix_4 18 rfl rfl)
theorem dX4_fix_109 : decode cX4_fix 109 = .ok (.getfield 127, 3) := dk_180 0 127 (dk_at dksX4_fix_4 20 rfl rfl)
theorem dX4_fix_112 : decode cX4_fix 112 = .ok (.aload_n 3, 1) := dk_45 (dk_at dksX4_fix_4 23 rfl rfl)
theorem dX4_fix_113 : decode cX4_fix 113 = .ok (.getfield 127, 3) := dk_180 0 127 (dk_at dksX4_fix_5 0 rfl rfl)
theorem dX4_fix_116 : decode cX4_fix 116 = .ok (.if_icmp .ne 21, 3) := dk_160 0 21 (dk_at dksX4_fix_5 3 rfl rfl)
theorem dX4_fix_119 : decode cX4_fix 119 = .ok (.aload 5, 2) := dk_25 5 (dk_at dksX4_fix_5 6 rfl rfl)
theorem dX4_fix_121 : decode cX4_fix 121 = .ok (.getfield 130, 3) := dk_180 0 130 (dk_at dksX4_fix_5 8 rfl rfl)
theorem dX4_fix_124 : decode cX4_fix 124 = .ok (.aload_n 3, 1) := dk_45 (dk_at dksX4_fix_5 11 rfl rfl)
theorem dX4_fix_125 : decode cX4_fix 125 = .ok (.getfield 130, 3) := dk_180 0 130 (dk_at dksX4_fix_5 12 rfl rfl)
theorem dX4_fix_128 : decode cX4_fix 128 = .ok (.if_icmp .ne 9, 3) := dk_160 0 9 (dk_at dksX4_fix_5 15 rfl rfl)
theorem dX4_fix_131 : decode cX4_fix 131 = .ok (.aload 5, 2) := dk_25 5 (dk_at dksX4_fix_5 18 rfl rfl)
theorem dX4_fix_133 : decode cX4_fix 133 = .ok (.iconst 3, 1) := dk_6 (dk_at dksX4_fix_5 20 rfl rfl)
theorem dX4_fix_134 : decode cX4_fix 134 = .ok (.putfield 124, 3) := dk_181 0 124 (dk_at dksX4_fix_5 21 rfl rfl)
theorem dX4_fix_137 : decode cX4_fix 137 = .ok (.goto (-60), 3) := dk_167 255 196 (dk_at dksX4_fix_6 0 rfl rfl)
theorem dX4_fix_140 : decode cX4_fix 140 = .ok (.aload_n 3, 1) := dk_45 (dk_at dksX4_fix_6 3 rfl rfl)
theorem dX4_fix_141 : decode cX4_fix 141 = .ok (.getfield 207, 3) := dk_180 0 207 (dk_at dksX4_fix_6 4 rfl rfl)
theorem dX4_fix_144 : decode cX4_fix 144 = .ok (.ireturn, 1) := dk_172 (dk_at dksX4_fix_6 7 rfl rfl)
abbrev cX4_isWedding : ByteArray := prog_13_method_6_code
def yX4_isWedding : MethodName := ⟨RX4, "isWedding", "(I)Z"⟩
def dkwX4_isWedding_0 : List UInt8 := [27, 3, 42, 180, 0, 19, 182, 0, 48, 4, 100, 184, 0, 52, 172]
abbrev dktX4_isWedding_0 : List UInt8 := dkwX4_isWedding_0 ++ []
theorem dksX4_isWedding_0 : cX4_isWedding.data.toList.drop 0 = dktX4_isWedding_0 := by decide +kernel
theorem dX4_isWedding_0 : decode cX4_isWedding 0 = .ok (.iload_n 1, 1) := dk_27 (dk_at dksX4_isWedding_0 0 rfl rfl)
theorem dX4_isWedding_1 : decode cX4_isWedding 1 = .ok (.iconst 0, 1) := dk_3 (dk_at dksX4_isWedding_0 1 rfl rfl)
theorem dX4_isWedding_2 : decode cX4_isWedding 2 = .ok (.aload_n 0, 1) := dk_42 (dk_at dksX4_isWedding_0 2 rfl rfl)
theorem dX4_isWedding_3 : decode cX4_isWedding 3 = .ok (.getfield 19, 3) := dk_180 0 19 (dk_at dksX4_isWedding_0 3 rfl rfl)
theorem dX4_isWedding_6 : decode cX4_isWedding 6 = .ok (.invokevirtual 48, 3) := dk_182 0 48 (dk_at dksX4_isWedding_0 6 rfl rfl)
theorem dX4_isWedding_9 : decode cX4_isWedding 9 = .ok (.iconst 1, 1) := dk_4 (dk_at dksX4_isWedding_0 9 rfl rfl)
theorem dX4_isWedding_10 : decode cX4_isWedding 10 = .ok (.isub, 1) := dk_100 (dk_at dksX4_isWedding_0 10 rfl rfl)
theorem dX4_isWedding_11 : decode cX4_isWedding 11 = .ok (.invokestatic 52, 3) := dk_184 0 52 (dk_at dksX4_isWedding_0 11 rfl rfl)
theorem dX4_isWedding_14 : decode cX4_isWedding 14 = .ok (.ireturn, 1) := dk_172 (dk_at dksX4_isWedding_0 14 rfl rfl)
abbrev cX4_place : ByteArray := prog_13_method_24_code
def yX4_place : MethodName := ⟨RX4, "place", "(I)I"⟩
def dkwX4_place_4 : List UInt8 := [172]
abbrev dktX4_place_4 : List UInt8 := dkwX4_place_4 ++ []
def dkwX4_place_3 : List UInt8 := [180, 0, 130, 44, 180, 0, 130, 160, 0, 7, 4, 167, 0, 4, 3, 96, 62, 132, 4, 1, 167, 255, 193, 29]
abbrev dktX4_place_3 : List UInt8 := dkwX4_place_3 ++ dktX4_place_4
def dkwX4_place_2 : List UInt8 := [25, 5, 180, 0, 124, 154, 0, 31, 25, 5, 180, 0, 127, 44, 180, 0, 127, 160, 0, 19, 25, 5]
abbrev dktX4_place_2 : List UInt8 := dkwX4_place_2 ++ dktX4_place_3
def dkwX4_place_1 : List UInt8 := [54, 4, 21, 4, 27, 162, 0, 63, 42, 180, 0, 19, 21, 4, 182, 0, 90, 192, 0, 122, 58, 5, 29]
abbrev dktX4_place_1 : List UInt8 := dkwX4_place_1 ++ dktX4_place_2
def dkwX4_place_0 : List UInt8 := [42, 180, 0, 19, 27, 182, 0, 90, 192, 0, 122, 77, 44, 180, 0, 124, 153, 0, 5, 2, 172, 3, 62, 3]
abbrev dktX4_place_0 : List UInt8 := dkwX4_place_0 ++ dktX4_place_1
theorem dksX4_place_0 : cX4_place.data.toList.drop 0 = dktX4_place_0 := by decide +kernel
theorem dksX4_place_1 : cX4_place.data.toList.drop 24 = dktX4_place_1 := dk_seg dksX4_place_0 24 rfl rfl
theorem dksX4_place_2 : cX4_place.data.toList.drop 47 = dktX4_place_2 := dk_seg dksX4_place_1 23 rfl rfl
theorem dksX4_place_3 : cX4_place.data.toList.drop 69 = dktX4_place_3 := dk_seg dksX4_place_2 22 rfl rfl
theorem dksX4_place_4 : cX4_place.data.toList.drop 93 = dktX4_place_4 := dk_seg dksX4_place_3 24 rfl rfl
theorem dX4_place_0 : decode cX4_place 0 = .ok (.aload_n 0, 1) := dk_42 (dk_at dksX4_place_0 0 rfl rfl)
theorem dX4_place_1 : decode cX4_place 1 = .ok (.getfield 19, 3) := dk_180 0 19 (dk_at dksX4_place_0 1 rfl rfl)
theorem dX4_place_4 : decode cX4_place 4 = .ok (.iload_n 1, 1) := dk_27 (dk_at dksX4_place_0 4 rfl rfl)
theorem dX4_place_5 : decode cX4_place 5 = .ok (.invokevirtual 90, 3) := dk_182 0 90 (dk_at dksX4_place_0 5 rfl rfl)
theorem dX4_place_8 : decode cX4_place 8 = .ok (.checkcast 122, 3) := dk_192 0 122 (dk_at dksX4_place_0 8 rfl rfl)
theorem dX4_place_11 : decode cX4_place 11 = .ok (.astore_n 2, 1) := dk_77 (dk_at dksX4_place_0 11 rfl rfl)
theorem dX4_place_12 : decode cX4_place 12 = .ok (.aload_n 2, 1) := dk_44 (dk_at dksX4_place_0 12 rfl rfl)
theorem dX4_place_13 : decode cX4_place 13 = .ok (.getfield 124, 3) := dk_180 0 124 (dk_at dksX4_place_0 13 rfl rfl)
theorem dX4_place_16 : decode cX4_place 16 = .ok (.ifCond .eq 5, 3) := dk_153 0 5 (dk_at dksX4_place_0 16 rfl rfl)
theorem dX4_place_19 : decode cX4_place 19 = .ok (.iconst (-1), 1) := dk_2 (dk_at dksX4_place_0 19 rfl rfl)
theorem dX4_place_20 : decode cX4_place 20 = .ok (.ireturn, 1) := dk_172 (dk_at dksX4_place_0 20 rfl rfl)
theorem dX4_place_21 : decode cX4_place 21 = .ok (.iconst 0, 1) := dk_3 (dk_at dksX4_place_0 21 rfl rfl)
theorem dX4_place_22 : decode cX4_place 22 = .ok (.istore_n 3, 1) := dk_62 (dk_at dksX4_place_0 22 rfl rfl)
theorem dX4_place_23 : decode cX4_place 23 = .ok (.iconst 0, 1) := dk_3 (dk_at dksX4_place_0 23 rfl rfl)
theorem dX4_place_24 : decode cX4_place 24 = .ok (.istore 4, 2) := dk_54 4 (dk_at dksX4_place_1 0 rfl rfl)
theorem dX4_place_26 : decode cX4_place 26 = .ok (.iload 4, 2) := dk_21 4 (dk_at dksX4_place_1 2 rfl rfl)
theorem dX4_place_28 : decode cX4_place 28 = .ok (.iload_n 1, 1) := dk_27 (dk_at dksX4_place_1 4 rfl rfl)
theorem dX4_place_29 : decode cX4_place 29 = .ok (.if_icmp .ge 63, 3) := dk_162 0 63 (dk_at dksX4_place_1 5 rfl rfl)
theorem dX4_place_32 : decode cX4_place 32 = .ok (.aload_n 0, 1) := dk_42 (dk_at dksX4_place_1 8 rfl rfl)
theorem dX4_place_33 : decode cX4_place 33 = .ok (.getfield 19, 3) := dk_180 0 19 (dk_at dksX4_place_1 9 rfl rfl)
theorem dX4_place_36 : decode cX4_place 36 = .ok (.iload 4, 2) := dk_21 4 (dk_at dksX4_place_1 12 rfl rfl)
theorem dX4_place_38 : decode cX4_place 38 = .ok (.invokevirtual 90, 3) := dk_182 0 90 (dk_at dksX4_place_1 14 rfl rfl)
theorem dX4_place_41 : decode cX4_place 41 = .ok (.checkcast 122, 3) := dk_192 0 122 (dk_at dksX4_place_1 17 rfl rfl)
theorem dX4_place_44 : decode cX4_place 44 = .ok (.astore 5, 2) := dk_58 5 (dk_at dksX4_place_1 20 rfl rfl)
theorem dX4_place_46 : decode cX4_place 46 = .ok (.iload_n 3, 1) := dk_29 (dk_at dksX4_place_1 22 rfl rfl)
theorem dX4_place_47 : decode cX4_place 47 = .ok (.aload 5, 2) := dk_25 5 (dk_at dksX4_place_2 0 rfl rfl)
theorem dX4_place_49 : decode cX4_place 49 = .ok (.getfield 124, 3) := dk_180 0 124 (dk_at dksX4_place_2 2 rfl rfl)
theorem dX4_place_52 : decode cX4_place 52 = .ok (.ifCond .ne 31, 3) := dk_154 0 31 (dk_at dksX4_place_2 5 rfl rfl)
theorem dX4_place_55 : decode cX4_place 55 = .ok (.aload 5, 2) := dk_25 5 (dk_at dksX4_place_2 8 rfl rfl)
theorem dX4_place_57 : decode cX4_place 57 = .ok (.getfield 127, 3) := dk_180 0 127 (dk_at dksX4_place_2 10 rfl rfl)
theorem dX4_place_60 : decode cX4_place 60 = .ok (.aload_n 2, 1) := dk_44 (dk_at dksX4_place_2 13 rfl rfl)
theorem dX4_place_61 : decode cX4_place 61 = .ok (.getfield 127, 3) := dk_180 0 127 (dk_at dksX4_place_2 14 rfl rfl)
theorem dX4_place_64 : decode cX4_place 64 = .ok (.if_icmp .ne 19, 3) := dk_160 0 19 (dk_at dksX4_place_2 17 rfl rfl)
theorem dX4_place_67 : decode cX4_place 67 = .ok (.aload 5, 2) := dk_25 5 (dk_at dksX4_place_2 20 rfl rfl)
theorem dX4_place_69 : decode cX4_place 69 = .ok (.getfield 130, 3) := dk_180 0 130 (dk_at dksX4_place_3 0 rfl rfl)
theorem dX4_place_72 : decode cX4_place 72 = .ok (.aload_n 2, 1) := dk_44 (dk_at dksX4_place_3 3 rfl rfl)
theorem dX4_place_73 : decode cX4_place 73 = .ok (.getfield 130, 3) := dk_180 0 130 (dk_at dksX4_place_3 4 rfl rfl)
theorem dX4_place_76 : decode cX4_place 76 = .ok (.if_icmp .ne 7, 3) := dk_160 0 7 (dk_at dksX4_place_3 7 rfl rfl)
theorem dX4_place_79 : decode cX4_place 79 = .ok (.iconst 1, 1) := dk_4 (dk_at dksX4_place_3 10 rfl rfl)
theorem dX4_place_80 : decode cX4_place 80 = .ok (.goto 4, 3) := dk_167 0 4 (dk_at dksX4_place_3 11 rfl rfl)
theorem dX4_place_83 : decode cX4_place 83 = .ok (.iconst 0, 1) := dk_3 (dk_at dksX4_place_3 14 rfl rfl)
theorem dX4_place_84 : decode cX4_place 84 = .ok (.iadd, 1) := dk_96 (dk_at dksX4_place_3 15 rfl rfl)
theorem dX4_place_85 : decode cX4_place 85 = .ok (.istore_n 3, 1) := dk_62 (dk_at dksX4_place_3 16 rfl rfl)
theorem dX4_place_86 : decode cX4_place 86 = .ok (.iinc 4 1, 3) := dk_132 4 1 (dk_at dksX4_place_3 17 rfl rfl)
theorem dX4_place_89 : decode cX4_place 89 = .ok (.goto (-63), 3) := dk_167 255 193 (dk_at dksX4_place_3 20 rfl rfl)
theorem dX4_place_92 : decode cX4_place 92 = .ok (.iload_n 3, 1) := dk_29 (dk_at dksX4_place_3 23 rfl rfl)
theorem dX4_place_93 : decode cX4_place 93 = .ok (.ireturn, 1) := dk_172 (dk_at dksX4_place_4 0 rfl rfl)
abbrev cX4_best : ByteArray := prog_13_method_34_code
def yX4_best : MethodName := ⟨RX4, "best", "(III)I"⟩
def dkwX4_best_4 : List UInt8 := [21, 6, 172]
abbrev dktX4_best_4 : List UInt8 := dkwX4_best_4 ++ []
def dkwX4_best_3 : List UInt8 := [21, 7, 21, 6, 29, 25, 4, 182, 0, 193, 153, 0, 7, 21, 7, 54, 6, 21, 8, 54, 7, 167, 255, 202]
abbrev dktX4_best_3 : List UInt8 := dkwX4_best_3 ++ dktX4_best_4
def dkwX4_best_2 : List UInt8 := [21, 5, 126, 54, 8, 42, 21, 7, 25, 4, 182, 0, 189, 153, 0, 27, 21, 6, 2, 159, 0, 17, 42]
abbrev dktX4_best_2 : List UInt8 := dkwX4_best_2 ++ dktX4_best_3
def dkwX4_best_1 : List UInt8 := [2, 54, 6, 21, 5, 21, 5, 116, 126, 54, 7, 3, 54, 8, 21, 7, 158, 0, 55, 21, 7, 21, 5, 100]
abbrev dktX4_best_1 : List UInt8 := dkwX4_best_1 ++ dktX4_best_2
def dkwX4_best_0 : List UInt8 := [42, 180, 0, 19, 27, 182, 0, 90, 192, 0, 122, 58, 4, 42, 27, 182, 0, 186, 28, 2, 130, 126, 54, 5]
abbrev dktX4_best_0 : List UInt8 := dkwX4_best_0 ++ dktX4_best_1
theorem dksX4_best_0 : cX4_best.data.toList.drop 0 = dktX4_best_0 := by decide +kernel
theorem dksX4_best_1 : cX4_best.data.toList.drop 24 = dktX4_best_1 := dk_seg dksX4_best_0 24 rfl rfl
theorem dksX4_best_2 : cX4_best.data.toList.drop 48 = dktX4_best_2 := dk_seg dksX4_best_1 24 rfl rfl
theorem dksX4_best_3 : cX4_best.data.toList.drop 71 = dktX4_best_3 := dk_seg dksX4_best_2 23 rfl rfl
theorem dksX4_best_4 : cX4_best.data.toList.drop 95 = dktX4_best_4 := dk_seg dksX4_best_3 24 rfl rfl
theorem dX4_best_0 : decode cX4_best 0 = .ok (.aload_n 0, 1) := dk_42 (dk_at dksX4_best_0 0 rfl rfl)
theorem dX4_best_1 : decode cX4_best 1 = .ok (.getfield 19, 3) := dk_180 0 19 (dk_at dksX4_best_0 1 rfl rfl)
theorem dX4_best_4 : decode cX4_best 4 = .ok (.iload_n 1, 1) := dk_27 (dk_at dksX4_best_0 4 rfl rfl)
theorem dX4_best_5 : decode cX4_best 5 = .ok (.invokevirtual 90, 3) := dk_182 0 90 (dk_at dksX4_best_0 5 rfl rfl)
theorem dX4_best_8 : decode cX4_best 8 = .ok (.checkcast 122, 3) := dk_192 0 122 (dk_at dksX4_best_0 8 rfl rfl)
theorem dX4_best_11 : decode cX4_best 11 = .ok (.astore 4, 2) := dk_58 4 (dk_at dksX4_best_0 11 rfl rfl)
theorem dX4_best_13 : decode cX4_best 13 = .ok (.aload_n 0, 1) := dk_42 (dk_at dksX4_best_0 13 rfl rfl)
theorem dX4_best_14 : decode cX4_best 14 = .ok (.iload_n 1, 1) := dk_27 (dk_at dksX4_best_0 14 rfl rfl)
theorem dX4_best_15 : decode cX4_best 15 = .ok (.invokevirtual 186, 3) := dk_182 0 186 (dk_at dksX4_best_0 15 rfl rfl)
theorem dX4_best_18 : decode cX4_best 18 = .ok (.iload_n 2, 1) := dk_28 (dk_at dksX4_best_0 18 rfl rfl)
theorem dX4_best_19 : decode cX4_best 19 = .ok (.iconst (-1), 1) := dk_2 (dk_at dksX4_best_0 19 rfl rfl)
theorem dX4_best_20 : decode cX4_best 20 = .ok (.ixor, 1) := dk_130 (dk_at dksX4_best_0 20 rfl rfl)
theorem dX4_best_21 : decode cX4_best 21 = .ok (.iand, 1) := dk_126 (dk_at dksX4_best_0 21 rfl rfl)
theorem dX4_best_22 : decode cX4_best 22 = .ok (.istore 5, 2) := dk_54 5 (dk_at dksX4_best_0 22 rfl rfl)
theorem dX4_best_24 : decode cX4_best 24 = .ok (.iconst (-1), 1) := dk_2 (dk_at dksX4_best_1 0 rfl rfl)
theorem dX4_best_25 : decode cX4_best 25 = .ok (.istore 6, 2) := dk_54 6 (dk_at dksX4_best_1 1 rfl rfl)
theorem dX4_best_27 : decode cX4_best 27 = .ok (.iload 5, 2) := dk_21 5 (dk_at dksX4_best_1 3 rfl rfl)
theorem dX4_best_29 : decode cX4_best 29 = .ok (.iload 5, 2) := dk_21 5 (dk_at dksX4_best_1 5 rfl rfl)
theorem dX4_best_31 : decode cX4_best 31 = .ok (.ineg, 1) := dk_116 (dk_at dksX4_best_1 7 rfl rfl)
theorem dX4_best_32 : decode cX4_best 32 = .ok (.iand, 1) := dk_126 (dk_at dksX4_best_1 8 rfl rfl)
theorem dX4_best_33 : decode cX4_best 33 = .ok (.istore 7, 2) := dk_54 7 (dk_at dksX4_best_1 9 rfl rfl)
theorem dX4_best_35 : decode cX4_best 35 = .ok (.iconst 0, 1) := dk_3 (dk_at dksX4_best_1 11 rfl rfl)
theorem dX4_best_36 : decode cX4_best 36 = .ok (.istore 8, 2) := dk_54 8 (dk_at dksX4_best_1 12 rfl rfl)
theorem dX4_best_38 : decode cX4_best 38 = .ok (.iload 7, 2) := dk_21 7 (dk_at dksX4_best_1 14 rfl rfl)
theorem dX4_best_40 : decode cX4_best 40 = .ok (.ifCond .le 55, 3) := dk_158 0 55 (dk_at dksX4_best_1 16 rfl rfl)
theorem dX4_best_43 : decode cX4_best 43 = .ok (.iload 7, 2) := dk_21 7 (dk_at dksX4_best_1 19 rfl rfl)
theorem dX4_best_45 : decode cX4_best 45 = .ok (.iload 5, 2) := dk_21 5 (dk_at dksX4_best_1 21 rfl rfl)
theorem dX4_best_47 : decode cX4_best 47 = .ok (.isub, 1) := dk_100 (dk_at dksX4_best_1 23 rfl rfl)
theorem dX4_best_48 : decode cX4_best 48 = .ok (.iload 5, 2) := dk_21 5 (dk_at dksX4_best_2 0 rfl rfl)
theorem dX4_best_50 : decode cX4_best 50 = .ok (.iand, 1) := dk_126 (dk_at dksX4_best_2 2 rfl rfl)
theorem dX4_best_51 : decode cX4_best 51 = .ok (.istore 8, 2) := dk_54 8 (dk_at dksX4_best_2 3 rfl rfl)
theorem dX4_best_53 : decode cX4_best 53 = .ok (.aload_n 0, 1) := dk_42 (dk_at dksX4_best_2 5 rfl rfl)
theorem dX4_best_54 : decode cX4_best 54 = .ok (.iload 7, 2) := dk_21 7 (dk_at dksX4_best_2 6 rfl rfl)
theorem dX4_best_56 : decode cX4_best 56 = .ok (.aload 4, 2) := dk_25 4 (dk_at dksX4_best_2 8 rfl rfl)
theorem dX4_best_58 : decode cX4_best 58 = .ok (.invokevirtual 189, 3) := dk_182 0 189 (dk_at dksX4_best_2 10 rfl rfl)
theorem dX4_best_61 : decode cX4_best 61 = .ok (.ifCond .eq 27, 3) := dk_153 0 27 (dk_at dksX4_best_2 13 rfl rfl)
theorem dX4_best_64 : decode cX4_best 64 = .ok (.iload 6, 2) := dk_21 6 (dk_at dksX4_best_2 16 rfl rfl)
theorem dX4_best_66 : decode cX4_best 66 = .ok (.iconst (-1), 1) := dk_2 (dk_at dksX4_best_2 18 rfl rfl)
theorem dX4_best_67 : decode cX4_best 67 = .ok (.if_icmp .eq 17, 3) := dk_159 0 17 (dk_at dksX4_best_2 19 rfl rfl)
theorem dX4_best_70 : decode cX4_best 70 = .ok (.aload_n 0, 1) := dk_42 (dk_at dksX4_best_2 22 rfl rfl)
theorem dX4_best_71 : decode cX4_best 71 = .ok (.iload 7, 2) := dk_21 7 (dk_at dksX4_best_3 0 rfl rfl)
theorem dX4_best_73 : decode cX4_best 73 = .ok (.iload 6, 2) := dk_21 6 (dk_at dksX4_best_3 2 rfl rfl)
theorem dX4_best_75 : decode cX4_best 75 = .ok (.iload_n 3, 1) := dk_29 (dk_at dksX4_best_3 4 rfl rfl)
theorem dX4_best_76 : decode cX4_best 76 = .ok (.aload 4, 2) := dk_25 4 (dk_at dksX4_best_3 5 rfl rfl)
theorem dX4_best_78 : decode cX4_best 78 = .ok (.invokevirtual 193, 3) := dk_182 0 193 (dk_at dksX4_best_3 7 rfl rfl)
theorem dX4_best_81 : decode cX4_best 81 = .ok (.ifCond .eq 7, 3) := dk_153 0 7 (dk_at dksX4_best_3 10 rfl rfl)
theorem dX4_best_84 : decode cX4_best 84 = .ok (.iload 7, 2) := dk_21 7 (dk_at dksX4_best_3 13 rfl rfl)
theorem dX4_best_86 : decode cX4_best 86 = .ok (.istore 6, 2) := dk_54 6 (dk_at dksX4_best_3 15 rfl rfl)
theorem dX4_best_88 : decode cX4_best 88 = .ok (.iload 8, 2) := dk_21 8 (dk_at dksX4_best_3 17 rfl rfl)
theorem dX4_best_90 : decode cX4_best 90 = .ok (.istore 7, 2) := dk_54 7 (dk_at dksX4_best_3 19 rfl rfl)
theorem dX4_best_92 : decode cX4_best 92 = .ok (.goto (-54), 3) := dk_167 255 202 (dk_at dksX4_best_3 21 rfl rfl)
theorem dX4_best_95 : decode cX4_best 95 = .ok (.iload 6, 2) := dk_21 6 (dk_at dksX4_best_4 0 rfl rfl)
theorem dX4_best_97 : decode cX4_best 97 = .ok (.ireturn, 1) := dk_172 (dk_at dksX4_best_4 2 rfl rfl)
abbrev cX4_freeFor : ByteArray := prog_13_method_26_code
def yX4_freeFor : MethodName := ⟨RX4, "freeFor", "(I)I"⟩
def dkwX4_freeFor_1 : List UInt8 := [153, 0, 9, 4, 29, 120, 167, 0, 4, 3, 128, 61, 132, 3, 1, 167, 255, 223, 28, 172]
abbrev dktX4_freeFor_1 : List UInt8 := dkwX4_freeFor_1 ++ []
def dkwX4_freeFor_0 : List UInt8 := [3, 61, 3, 62, 29, 42, 180, 0, 10, 182, 0, 48, 162, 0, 28, 28, 42, 29, 27, 182, 0, 163]
abbrev dktX4_freeFor_0 : List UInt8 := dkwX4_freeFor_0 ++ dktX4_freeFor_1
theorem dksX4_freeFor_0 : cX4_freeFor.data.toList.drop 0 = dktX4_freeFor_0 := by decide +kernel
theorem dksX4_freeFor_1 : cX4_freeFor.data.toList.drop 22 = dktX4_freeFor_1 := dk_seg dksX4_freeFor_0 22 rfl rfl
theorem dX4_freeFor_0 : decode cX4_freeFor 0 = .ok (.iconst 0, 1) := dk_3 (dk_at dksX4_freeFor_0 0 rfl rfl)
theorem dX4_freeFor_1 : decode cX4_freeFor 1 = .ok (.istore_n 2, 1) := dk_61 (dk_at dksX4_freeFor_0 1 rfl rfl)
theorem dX4_freeFor_2 : decode cX4_freeFor 2 = .ok (.iconst 0, 1) := dk_3 (dk_at dksX4_freeFor_0 2 rfl rfl)
theorem dX4_freeFor_3 : decode cX4_freeFor 3 = .ok (.istore_n 3, 1) := dk_62 (dk_at dksX4_freeFor_0 3 rfl rfl)
theorem dX4_freeFor_4 : decode cX4_freeFor 4 = .ok (.iload_n 3, 1) := dk_29 (dk_at dksX4_freeFor_0 4 rfl rfl)
theorem dX4_freeFor_5 : decode cX4_freeFor 5 = .ok (.aload_n 0, 1) := dk_42 (dk_at dksX4_freeFor_0 5 rfl rfl)
theorem dX4_freeFor_6 : decode cX4_freeFor 6 = .ok (.getfield 10, 3) := dk_180 0 10 (dk_at dksX4_freeFor_0 6 rfl rfl)
theorem dX4_freeFor_9 : decode cX4_freeFor 9 = .ok (.invokevirtual 48, 3) := dk_182 0 48 (dk_at dksX4_freeFor_0 9 rfl rfl)
theorem dX4_freeFor_12 : decode cX4_freeFor 12 = .ok (.if_icmp .ge 28, 3) := dk_162 0 28 (dk_at dksX4_freeFor_0 12 rfl rfl)
theorem dX4_freeFor_15 : decode cX4_freeFor 15 = .ok (.iload_n 2, 1) := dk_28 (dk_at dksX4_freeFor_0 15 rfl rfl)
theorem dX4_freeFor_16 : decode cX4_freeFor 16 = .ok (.aload_n 0, 1) := dk_42 (dk_at dksX4_freeFor_0 16 rfl rfl)
theorem dX4_freeFor_17 : decode cX4_freeFor 17 = .ok (.iload_n 3, 1) := dk_29 (dk_at dksX4_freeFor_0 17 rfl rfl)
theorem dX4_freeFor_18 : decode cX4_freeFor 18 = .ok (.iload_n 1, 1) := dk_27 (dk_at dksX4_freeFor_0 18 rfl rfl)
theorem dX4_freeFor_19 : decode cX4_freeFor 19 = .ok (.invokevirtual 163, 3) := dk_182 0 163 (dk_at dksX4_freeFor_0 19 rfl rfl)
theorem dX4_freeFor_22 : decode cX4_freeFor 22 = .ok (.ifCond .eq 9, 3) := dk_153 0 9 (dk_at dksX4_freeFor_1 0 rfl rfl)
theorem dX4_freeFor_25 : decode cX4_freeFor 25 = .ok (.iconst 1, 1) := dk_4 (dk_at dksX4_freeFor_1 3 rfl rfl)
theorem dX4_freeFor_26 : decode cX4_freeFor 26 = .ok (.iload_n 3, 1) := dk_29 (dk_at dksX4_freeFor_1 4 rfl rfl)
theorem dX4_freeFor_27 : decode cX4_freeFor 27 = .ok (.ishl, 1) := dk_120 (dk_at dksX4_freeFor_1 5 rfl rfl)
theorem dX4_freeFor_28 : decode cX4_freeFor 28 = .ok (.goto 4, 3) := dk_167 0 4 (dk_at dksX4_freeFor_1 6 rfl rfl)
theorem dX4_freeFor_31 : decode cX4_freeFor 31 = .ok (.iconst 0, 1) := dk_3 (dk_at dksX4_freeFor_1 9 rfl rfl)
theorem dX4_freeFor_32 : decode cX4_freeFor 32 = .ok (.ior, 1) := dk_128 (dk_at dksX4_freeFor_1 10 rfl rfl)
theorem dX4_freeFor_33 : decode cX4_freeFor 33 = .ok (.istore_n 2, 1) := dk_61 (dk_at dksX4_freeFor_1 11 rfl rfl)
theorem dX4_freeFor_34 : decode cX4_freeFor 34 = .ok (.iinc 3 1, 3) := dk_132 3 1 (dk_at dksX4_freeFor_1 12 rfl rfl)
theorem dX4_freeFor_37 : decode cX4_freeFor 37 = .ok (.goto (-33), 3) := dk_167 255 223 (dk_at dksX4_freeFor_1 15 rfl rfl)
theorem dX4_freeFor_40 : decode cX4_freeFor 40 = .ok (.iload_n 2, 1) := dk_28 (dk_at dksX4_freeFor_1 18 rfl rfl)
theorem dX4_freeFor_41 : decode cX4_freeFor 41 = .ok (.ireturn, 1) := dk_172 (dk_at dksX4_freeFor_1 19 rfl rfl)
abbrev cX4_isFree : ByteArray := prog_13_method_25_code
def yX4_isFree : MethodName := ⟨RX4, "isFree", "(II)Z"⟩
def dkwX4_isFree_10 : List UInt8 := [180, 0, 146, 164, 0, 5, 3, 172, 132, 5, 1, 167, 255, 77, 4, 172]
abbrev dktX4_isFree_10 : List UInt8 := dkwX4_isFree_10 ++ []
def dkwX4_isFree_9 : List UInt8 := [21, 10, 2, 159, 0, 25, 25, 8, 180, 0, 146, 25, 8, 180, 0, 149, 96, 21, 10, 96, 25, 9]
abbrev dktX4_isFree_9 : List UInt8 := dkwX4_isFree_9 ++ dktX4_isFree_10
def dkwX4_isFree_8 : List UInt8 := [45, 167, 0, 5, 25, 6, 58, 9, 42, 45, 180, 0, 143, 25, 6, 180, 0, 143, 182, 0, 109, 54, 10]
abbrev dktX4_isFree_8 : List UInt8 := dkwX4_isFree_8 ++ dktX4_isFree_9
def dkwX4_isFree_7 : List UInt8 := [167, 0, 4, 3, 54, 7, 21, 7, 153, 0, 8, 25, 6, 167, 0, 4, 45, 58, 8, 21, 7, 153, 0, 7]
abbrev dktX4_isFree_7 : List UInt8 := dkwX4_isFree_7 ++ dktX4_isFree_8
def dkwX4_isFree_6 : List UInt8 := [161, 0, 21, 25, 6, 180, 0, 146, 45, 180, 0, 146, 160, 0, 13, 21, 5, 28, 162, 0, 7, 4]
abbrev dktX4_isFree_6 : List UInt8 := dkwX4_isFree_6 ++ dktX4_isFree_7
def dkwX4_isFree_5 : List UInt8 := [180, 0, 160, 27, 184, 0, 102, 154, 0, 6, 167, 0, 111, 25, 6, 180, 0, 146, 45, 180, 0, 146]
abbrev dktX4_isFree_5 : List UInt8 := dkwX4_isFree_5 ++ dktX4_isFree_6
def dkwX4_isFree_4 : List UInt8 := [25, 6, 180, 0, 124, 4, 160, 0, 138, 25, 6, 180, 0, 130, 45, 180, 0, 130, 160, 0, 126, 25, 6]
abbrev dktX4_isFree_4 : List UInt8 := dkwX4_isFree_4 ++ dktX4_isFree_5
def dkwX4_isFree_3 : List UInt8 := [162, 0, 173, 42, 180, 0, 19, 21, 5, 182, 0, 90, 192, 0, 122, 58, 6, 21, 5, 28, 159, 0, 147]
abbrev dktX4_isFree_3 : List UInt8 := dkwX4_isFree_3 ++ dktX4_isFree_4
def dkwX4_isFree_2 : List UInt8 := [180, 0, 143, 182, 0, 109, 2, 160, 0, 5, 3, 172, 3, 54, 5, 21, 5, 42, 180, 0, 19, 182, 0, 48]
abbrev dktX4_isFree_2 : List UInt8 := dkwX4_isFree_2 ++ dktX4_isFree_3
def dkwX4_isFree_1 : List UInt8 := [58, 4, 25, 4, 180, 0, 156, 45, 180, 0, 130, 51, 154, 0, 20, 42, 25, 4, 180, 0, 77, 45]
abbrev dktX4_isFree_1 : List UInt8 := dkwX4_isFree_1 ++ dktX4_isFree_2
def dkwX4_isFree_0 : List UInt8 := [42, 180, 0, 19, 28, 182, 0, 90, 192, 0, 122, 78, 42, 180, 0, 10, 27, 182, 0, 90, 192, 0, 68]
abbrev dktX4_isFree_0 : List UInt8 := dkwX4_isFree_0 ++ dktX4_isFree_1
theorem dksX4_isFree_0 : cX4_isFree.data.toList.drop 0 = dktX4_isFree_0 := by decide +kernel
theorem dksX4_isFree_1 : cX4_isFree.data.toList.drop 23 = dktX4_isFree_1 := dk_seg dksX4_isFree_0 23 rfl rfl
theorem dksX4_isFree_2 : cX4_isFree.data.toList.drop 45 = dktX4_isFree_2 := dk_seg dksX4_isFree_1 22 rfl rfl
theorem dksX4_isFree_3 : cX4_isFree.data.toList.drop 69 = dktX4_isFree_3 := dk_seg dksX4_isFree_2 24 rfl rfl
theorem dksX4_isFree_4 : cX4_isFree.data.toList.drop 92 = dktX4_isFree_4 := dk_seg dksX4_isFree_3 23 rfl rfl
theorem dksX4_isFree_5 : cX4_isFree.data.toList.drop 115 = dktX4_isFree_5 := dk_seg dksX4_isFree_4 23 rfl rfl
theorem dksX4_isFree_6 : cX4_isFree.data.toList.drop 137 = dktX4_isFree_6 := dk_seg dksX4_isFree_5 22 rfl rfl
theorem dksX4_isFree_7 : cX4_isFree.data.toList.drop 159 = dktX4_isFree_7 := dk_seg dksX4_isFree_6 22 rfl rfl
theorem dksX4_isFree_8 : cX4_isFree.data.toList.drop 183 = dktX4_isFree_8 := dk_seg dksX4_isFree_7 24 rfl rfl
theorem dksX4_isFree_9 : cX4_isFree.data.toList.drop 206 = dktX4_isFree_9 := dk_seg dksX4_isFree_8 23 rfl rfl
theorem dksX4_isFree_10 : cX4_isFree.data.toList.drop 228 = dktX4_isFree_10 := dk_seg dksX4_isFree_9 22 rfl rfl
theorem dX4_isFree_0 : decode cX4_isFree 0 = .ok (.aload_n 0, 1) := dk_42 (dk_at dksX4_isFree_0 0 rfl rfl)
theorem dX4_isFree_1 : decode cX4_isFree 1 = .ok (.getfield 19, 3) := dk_180 0 19 (dk_at dksX4_isFree_0 1 rfl rfl)
theorem dX4_isFree_4 : decode cX4_isFree 4 = .ok (.iload_n 2, 1) := dk_28 (dk_at dksX4_isFree_0 4 rfl rfl)
theorem dX4_isFree_5 : decode cX4_isFree 5 = .ok (.invokevirtual 90, 3) := dk_182 0 90 (dk_at dksX4_isFree_0 5 rfl rfl)
theorem dX4_isFree_8 : decode cX4_isFree 8 = .ok (.checkcast 122, 3) := dk_192 0 122 (dk_at dksX4_isFree_0 8 rfl rfl)
theorem dX4_isFree_11 : decode cX4_isFree 11 = .ok (.astore_n 3, 1) := dk_78 (dk_at dksX4_isFree_0 11 rfl rfl)
theorem dX4_isFree_12 : decode cX4_isFree 12 = .ok (.aload_n 0, 1) := dk_42 (dk_at dksX4_isFree_0 12 rfl rfl)
theorem dX4_isFree_13 : decode cX4_isFree 13 = .ok (.getfield 10, 3) := dk_180 0 10 (dk_at dksX4_isFree_0 13 rfl rfl)
theorem dX4_isFree_16 : decode cX4_isFree 16 = .ok (.iload_n 1, 1) := dk_27 (dk_at dksX4_isFree_0 16 rfl rfl)
theorem dX4_isFree_17 : decode cX4_isFree 17 = .ok (.invokevirtual 90, 3) := dk_182 0 90 (dk_at dksX4_isFree_0 17 rfl rfl)
theorem dX4_isFree_20 : decode cX4_isFree 20 = .ok (.checkcast 68, 3) := dk_192 0 68 (dk_at dksX4_isFree_0 20 rfl rfl)
theorem dX4_isFree_23 : decode cX4_isFree 23 = .ok (.astore 4, 2) := dk_58 4 (dk_at dksX4_isFree_1 0 rfl rfl)
theorem dX4_isFree_25 : decode cX4_isFree 25 = .ok (.aload 4, 2) := dk_25 4 (dk_at dksX4_isFree_1 2 rfl rfl)
theorem dX4_isFree_27 : decode cX4_isFree 27 = .ok (.getfield 156, 3) := dk_180 0 156 (dk_at dksX4_isFree_1 4 rfl rfl)
theorem dX4_isFree_30 : decode cX4_isFree 30 = .ok (.aload_n 3, 1) := dk_45 (dk_at dksX4_isFree_1 7 rfl rfl)
theorem dX4_isFree_31 : decode cX4_isFree 31 = .ok (.getfield 130, 3) := dk_180 0 130 (dk_at dksX4_isFree_1 8 rfl rfl)
theorem dX4_isFree_34 : decode cX4_isFree 34 = .ok (.baload, 1) := dk_51 (dk_at dksX4_isFree_1 11 rfl rfl)
theorem dX4_isFree_35 : decode cX4_isFree 35 = .ok (.ifCond .ne 20, 3) := dk_154 0 20 (dk_at dksX4_isFree_1 12 rfl rfl)
theorem dX4_isFree_38 : decode cX4_isFree 38 = .ok (.aload_n 0, 1) := dk_42 (dk_at dksX4_isFree_1 15 rfl rfl)
theorem dX4_isFree_39 : decode cX4_isFree 39 = .ok (.aload 4, 2) := dk_25 4 (dk_at dksX4_isFree_1 16 rfl rfl)
theorem dX4_isFree_41 : decode cX4_isFree 41 = .ok (.getfield 77, 3) := dk_180 0 77 (dk_at dksX4_isFree_1 18 rfl rfl)
theorem dX4_isFree_44 : decode cX4_isFree 44 = .ok (.aload_n 3, 1) := dk_45 (dk_at dksX4_isFree_1 21 rfl rfl)
theorem dX4_isFree_45 : decode cX4_isFree 45 = .ok (.getfield 143, 3) := dk_180 0 143 (dk_at dksX4_isFree_2 0 rfl rfl)
theorem dX4_isFree_48 : decode cX4_isFree 48 = .ok (.invokevirtual 109, 3) := dk_182 0 109 (dk_at dksX4_isFree_2 3 rfl rfl)
theorem dX4_isFree_51 : decode cX4_isFree 51 = .ok (.iconst (-1), 1) := dk_2 (dk_at dksX4_isFree_2 6 rfl rfl)
theorem dX4_isFree_52 : decode cX4_isFree 52 = .ok (.if_icmp .ne 5, 3) := dk_160 0 5 (dk_at dksX4_isFree_2 7 rfl rfl)
theorem dX4_isFree_55 : decode cX4_isFree 55 = .ok (.iconst 0, 1) := dk_3 (dk_at dksX4_isFree_2 10 rfl rfl)
theorem dX4_isFree_56 : decode cX4_isFree 56 = .ok (.ireturn, 1) := dk_172 (dk_at dksX4_isFree_2 11 rfl rfl)
theorem dX4_isFree_57 : decode cX4_isFree 57 = .ok (.iconst 0, 1) := dk_3 (dk_at dksX4_isFree_2 12 rfl rfl)
theorem dX4_isFree_58 : decode cX4_isFree 58 = .ok (.istore 5, 2) := dk_54 5 (dk_at dksX4_isFree_2 13 rfl rfl)
theorem dX4_isFree_60 : decode cX4_isFree 60 = .ok (.iload 5, 2) := dk_21 5 (dk_at dksX4_isFree_2 15 rfl rfl)
theorem dX4_isFree_62 : decode cX4_isFree 62 = .ok (.aload_n 0, 1) := dk_42 (dk_at dksX4_isFree_2 17 rfl rfl)
theorem dX4_isFree_63 : decode cX4_isFree 63 = .ok (.getfield 19, 3) := dk_180 0 19 (dk_at dksX4_isFree_2 18 rfl rfl)
theorem dX4_isFree_66 : decode cX4_isFree 66 = .ok (.invokevirtual 48, 3) := dk_182 0 48 (dk_at dksX4_isFree_2 21 rfl rfl)
theorem dX4_isFree_69 : decode cX4_isFree 69 = .ok (.if_icmp .ge 173, 3) := dk_162 0 173 (dk_at dksX4_isFree_3 0 rfl rfl)
theorem dX4_isFree_72 : decode cX4_isFree 72 = .ok (.aload_n 0, 1) := dk_42 (dk_at dksX4_isFree_3 3 rfl rfl)
theorem dX4_isFree_73 : decode cX4_isFree 73 = .ok (.getfield 19, 3) := dk_180 0 19 (dk_at dksX4_isFree_3 4 rfl rfl)
theorem dX4_isFree_76 : decode cX4_isFree 76 = .ok (.iload 5, 2) := dk_21 5 (dk_at dksX4_isFree_3 7 rfl rfl)
theorem dX4_isFree_78 : decode cX4_isFree 78 = .ok (.invokevirtual 90, 3) := dk_182 0 90 (dk_at dksX4_isFree_3 9 rfl rfl)
theorem dX4_isFree_81 : decode cX4_isFree 81 = .ok (.checkcast 122, 3) := dk_192 0 122 (dk_at dksX4_isFree_3 12 rfl rfl)
theorem dX4_isFree_84 : decode cX4_isFree 84 = .ok (.astore 6, 2) := dk_58 6 (dk_at dksX4_isFree_3 15 rfl rfl)
theorem dX4_isFree_86 : decode cX4_isFree 86 = .ok (.iload 5, 2) := dk_21 5 (dk_at dksX4_isFree_3 17 rfl rfl)
theorem dX4_isFree_88 : decode cX4_isFree 88 = .ok (.iload_n 2, 1) := dk_28 (dk_at dksX4_isFree_3 19 rfl rfl)
theorem dX4_isFree_89 : decode cX4_isFree 89 = .ok (.if_icmp .eq 147, 3) := dk_159 0 147 (dk_at dksX4_isFree_3 20 rfl rfl)
theorem dX4_isFree_92 : decode cX4_isFree 92 = .ok (.aload 6, 2) := dk_25 6 (dk_at dksX4_isFree_4 0 rfl rfl)
theorem dX4_isFree_94 : decode cX4_isFree 94 = .ok (.getfield 124, 3) := dk_180 0 124 (dk_at dksX4_isFree_4 2 rfl rfl)
theorem dX4_isFree_97 : decode cX4_isFree 97 = .ok (.iconst 1, 1) := dk_4 (dk_at dksX4_isFree_4 5 rfl rfl)
theorem dX4_isFree_98 : decode cX4_isFree 98 = .ok (.if_icmp .ne 138, 3) := dk_160 0 138 (dk_at dksX4_isFree_4 6 rfl rfl)
theorem dX4_isFree_101 : decode cX4_isFree 101 = .ok (.aload 6, 2) := dk_25 6 (dk_at dksX4_isFree_4 9 rfl rfl)
theorem dX4_isFree_103 : decode cX4_isFree 103 = .ok (.getfield 130, 3) := dk_180 0 130 (dk_at dksX4_isFree_4 11 rfl rfl)
theorem dX4_isFree_106 : decode cX4_isFree 106 = .ok (.aload_n 3, 1) := dk_45 (dk_at dksX4_isFree_4 14 rfl rfl)
theorem dX4_isFree_107 : decode cX4_isFree 107 = .ok (.getfield 130, 3) := dk_180 0 130 (dk_at dksX4_isFree_4 15 rfl rfl)
theorem dX4_isFree_110 : decode cX4_isFree 110 = .ok (.if_icmp .ne 126, 3) := dk_160 0 126 (dk_at dksX4_isFree_4 18 rfl rfl)
theorem dX4_isFree_113 : decode cX4_isFree 113 = .ok (.aload 6, 2) := dk_25 6 (dk_at dksX4_isFree_4 21 rfl rfl)
theorem dX4_isFree_115 : decode cX4_isFree 115 = .ok (.getfield 160, 3) := dk_180 0 160 (dk_at dksX4_isFree_5 0 rfl rfl)
theorem dX4_isFree_118 : decode cX4_isFree 118 = .ok (.iload_n 1, 1) := dk_27 (dk_at dksX4_isFree_5 3 rfl rfl)
theorem dX4_isFree_119 : decode cX4_isFree 119 = .ok (.invokestatic 102, 3) := dk_184 0 102 (dk_at dksX4_isFree_5 4 rfl rfl)
theorem dX4_isFree_122 : decode cX4_isFree 122 = .ok (.ifCond .ne 6, 3) := dk_154 0 6 (dk_at dksX4_isFree_5 7 rfl rfl)
theorem dX4_isFree_125 : decode cX4_isFree 125 = .ok (.goto 111, 3) := dk_167 0 111 (dk_at dksX4_isFree_5 10 rfl rfl)
theorem dX4_isFree_128 : decode cX4_isFree 128 = .ok (.aload 6, 2) := dk_25 6 (dk_at dksX4_isFree_5 13 rfl rfl)
theorem dX4_isFree_130 : decode cX4_isFree 130 = .ok (.getfield 146, 3) := dk_180 0 146 (dk_at dksX4_isFree_5 15 rfl rfl)
theorem dX4_isFree_133 : decode cX4_isFree 133 = .ok (.aload_n 3, 1) := dk_45 (dk_at dksX4_isFree_5 18 rfl rfl)
theorem dX4_isFree_134 : decode cX4_isFree 134 = .ok (.getfield 146, 3) := dk_180 0 146 (dk_at dksX4_isFree_5 19 rfl rfl)
theorem dX4_isFree_137 : decode cX4_isFree 137 = .ok (.if_icmp .lt 21, 3) := dk_161 0 21 (dk_at dksX4_isFree_6 0 rfl rfl)
theorem dX4_isFree_140 : decode cX4_isFree 140 = .ok (.aload 6, 2) := dk_25 6 (dk_at dksX4_isFree_6 3 rfl rfl)
theorem dX4_isFree_142 : decode cX4_isFree 142 = .ok (.getfield 146, 3) := dk_180 0 146 (dk_at dksX4_isFree_6 5 rfl rfl)
theorem dX4_isFree_145 : decode cX4_isFree 145 = .ok (.aload_n 3, 1) := dk_45 (dk_at dksX4_isFree_6 8 rfl rfl)
theorem dX4_isFree_146 : decode cX4_isFree 146 = .ok (.getfield 146, 3) := dk_180 0 146 (dk_at dksX4_isFree_6 9 rfl rfl)
theorem dX4_isFree_149 : decode cX4_isFree 149 = .ok (.if_icmp .ne 13, 3) := dk_160 0 13 (dk_at dksX4_isFree_6 12 rfl rfl)
theorem dX4_isFree_152 : decode cX4_isFree 152 = .ok (.iload 5, 2) := dk_21 5 (dk_at dksX4_isFree_6 15 rfl rfl)
theorem dX4_isFree_154 : decode cX4_isFree 154 = .ok (.iload_n 2, 1) := dk_28 (dk_at dksX4_isFree_6 17 rfl rfl)
theorem dX4_isFree_155 : decode cX4_isFree 155 = .ok (.if_icmp .ge 7, 3) := dk_162 0 7 (dk_at dksX4_isFree_6 18 rfl rfl)
theorem dX4_isFree_158 : decode cX4_isFree 158 = .ok (.iconst 1, 1) := dk_4 (dk_at dksX4_isFree_6 21 rfl rfl)
theorem dX4_isFree_159 : decode cX4_isFree 159 = .ok (.goto 4, 3) := dk_167 0 4 (dk_at dksX4_isFree_7 0 rfl rfl)
theorem dX4_isFree_162 : decode cX4_isFree 162 = .ok (.iconst 0, 1) := dk_3 (dk_at dksX4_isFree_7 3 rfl rfl)
theorem dX4_isFree_163 : decode cX4_isFree 163 = .ok (.istore 7, 2) := dk_54 7 (dk_at dksX4_isFree_7 4 rfl rfl)
theorem dX4_isFree_165 : decode cX4_isFree 165 = .ok (.iload 7, 2) := dk_21 7 (dk_at dksX4_isFree_7 6 rfl rfl)
theorem dX4_isFree_167 : decode cX4_isFree 167 = .ok (.ifCond .eq 8, 3) := dk_153 0 8 (dk_at dksX4_isFree_7 8 rfl rfl)
theorem dX4_isFree_170 : decode cX4_isFree 170 = .ok (.aload 6, 2) := dk_25 6 (dk_at dksX4_isFree_7 11 rfl rfl)
theorem dX4_isFree_172 : decode cX4_isFree 172 = .ok (.goto 4, 3) := dk_167 0 4 (dk_at dksX4_isFree_7 13 rfl rfl)
theorem dX4_isFree_175 : decode cX4_isFree 175 = .ok (.aload_n 3, 1) := dk_45 (dk_at dksX4_isFree_7 16 rfl rfl)
theorem dX4_isFree_176 : decode cX4_isFree 176 = .ok (.astore 8, 2) := dk_58 8 (dk_at dksX4_isFree_7 17 rfl rfl)
theorem dX4_isFree_178 : decode cX4_isFree 178 = .ok (.iload 7, 2) := dk_21 7 (dk_at dksX4_isFree_7 19 rfl rfl)
theorem dX4_isFree_180 : decode cX4_isFree 180 = .ok (.ifCond .eq 7, 3) := dk_153 0 7 (dk_at dksX4_isFree_7 21 rfl rfl)
theorem dX4_isFree_183 : decode cX4_isFree 183 = .ok (.aload_n 3, 1) := dk_45 (dk_at dksX4_isFree_8 0 rfl rfl)
theorem dX4_isFree_184 : decode cX4_isFree 184 = .ok (.goto 5, 3) := dk_167 0 5 (dk_at dksX4_isFree_8 1 rfl rfl)
theorem dX4_isFree_187 : decode cX4_isFree 187 = .ok (.aload 6, 2) := dk_25 6 (dk_at dksX4_isFree_8 4 rfl rfl)
theorem dX4_isFree_189 : decode cX4_isFree 189 = .ok (.astore 9, 2) := dk_58 9 (dk_at dksX4_isFree_8 6 rfl rfl)
theorem dX4_isFree_191 : decode cX4_isFree 191 = .ok (.aload_n 0, 1) := dk_42 (dk_at dksX4_isFree_8 8 rfl rfl)
theorem dX4_isFree_192 : decode cX4_isFree 192 = .ok (.aload_n 3, 1) := dk_45 (dk_at dksX4_isFree_8 9 rfl rfl)
theorem dX4_isFree_193 : decode cX4_isFree 193 = .ok (.getfield 143, 3) := dk_180 0 143 (dk_at dksX4_isFree_8 10 rfl rfl)
theorem dX4_isFree_196 : decode cX4_isFree 196 = .ok (.aload 6, 2) := dk_25 6 (dk_at dksX4_isFree_8 13 rfl rfl)
theorem dX4_isFree_198 : decode cX4_isFree 198 = .ok (.getfield 143, 3) := dk_180 0 143 (dk_at dksX4_isFree_8 15 rfl rfl)
theorem dX4_isFree_201 : decode cX4_isFree 201 = .ok (.invokevirtual 109, 3) := dk_182 0 109 (dk_at dksX4_isFree_8 18 rfl rfl)
theorem dX4_isFree_204 : decode cX4_isFree 204 = .ok (.istore 10, 2) := dk_54 10 (dk_at dksX4_isFree_8 21 rfl rfl)
theorem dX4_isFree_206 : decode cX4_isFree 206 = .ok (.iload 10, 2) := dk_21 10 (dk_at dksX4_isFree_9 0 rfl rfl)
theorem dX4_isFree_208 : decode cX4_isFree 208 = .ok (.iconst (-1), 1) := dk_2 (dk_at dksX4_isFree_9 2 rfl rfl)
theorem dX4_isFree_209 : decode cX4_isFree 209 = .ok (.if_icmp .eq 25, 3) := dk_159 0 25 (dk_at dksX4_isFree_9 3 rfl rfl)
theorem dX4_isFree_212 : decode cX4_isFree 212 = .ok (.aload 8, 2) := dk_25 8 (dk_at dksX4_isFree_9 6 rfl rfl)
theorem dX4_isFree_214 : decode cX4_isFree 214 = .ok (.getfield 146, 3) := dk_180 0 146 (dk_at dksX4_isFree_9 8 rfl rfl)
theorem dX4_isFree_217 : decode cX4_isFree 217 = .ok (.aload 8, 2) := dk_25 8 (dk_at dksX4_isFree_9 11 rfl rfl)
theorem dX4_isFree_219 : decode cX4_isFree 219 = .ok (.getfield 149, 3) := dk_180 0 149 (dk_at dksX4_isFree_9 13 rfl rfl)
theorem dX4_isFree_222 : decode cX4_isFree 222 = .ok (.iadd, 1) := dk_96 (dk_at dksX4_isFree_9 16 rfl rfl)
theorem dX4_isFree_223 : decode cX4_isFree 223 = .ok (.iload 10, 2) := dk_21 10 (dk_at dksX4_isFree_9 17 rfl rfl)
theorem dX4_isFree_225 : decode cX4_isFree 225 = .ok (.iadd, 1) := dk_96 (dk_at dksX4_isFree_9 19 rfl rfl)
theorem dX4_isFree_226 : decode cX4_isFree 226 = .ok (.aload 9, 2) := dk_25 9 (dk_at dksX4_isFree_9 20 rfl rfl)
theorem dX4_isFree_228 : decode cX4_isFree 228 = .ok (.getfield 146, 3) := dk_180 0 146 (dk_at dksX4_isFree_10 0 rfl rfl)
theorem dX4_isFree_231 : decode cX4_isFree 231 = .ok (.if_icmp .le 5, 3) := dk_164 0 5 (dk_at dksX4_isFree_10 3 rfl rfl)
theorem dX4_isFree_234 : decode cX4_isFree 234 = .ok (.iconst 0, 1) := dk_3 (dk_at dksX4_isFree_10 6 rfl rfl)
theorem dX4_isFree_235 : decode cX4_isFree 235 = .ok (.ireturn, 1) := dk_172 (dk_at dksX4_isFree_10 7 rfl rfl)
theorem dX4_isFree_236 : decode cX4_isFree 236 = .ok (.iinc 5 1, 3) := dk_132 5 1 (dk_at dksX4_isFree_10 8 rfl rfl)
theorem dX4_isFree_239 : decode cX4_isFree 239 = .ok (.goto (-179), 3) := dk_167 255 77 (dk_at dksX4_isFree_10 11 rfl rfl)
theorem dX4_isFree_242 : decode cX4_isFree 242 = .ok (.iconst 1, 1) := dk_4 (dk_at dksX4_isFree_10 14 rfl rfl)
theorem dX4_isFree_243 : decode cX4_isFree 243 = .ok (.ireturn, 1) := dk_172 (dk_at dksX4_isFree_10 15 rfl rfl)
abbrev cX4_isFilling : ByteArray := prog_13_method_33_code
def yX4_isFilling : MethodName := ⟨RX4, "isFilling", "(ILFirstdanceAgencyModel$Wedding;)Z"⟩
def dkwX4_isFilling_2 : List UInt8 := [153, 0, 18, 42, 27, 29, 3, 3, 182, 0, 166, 153, 0, 7, 4, 167, 0, 4, 3, 172]
abbrev dktX4_isFilling_2 : List UInt8 := dkwX4_isFilling_2 ++ []
def dkwX4_isFilling_1 : List UInt8 := [184, 0, 116, 160, 0, 38, 42, 27, 182, 0, 180, 153, 0, 30, 42, 27, 44, 180, 0, 152, 182, 0, 183]
abbrev dktX4_isFilling_1 : List UInt8 := dkwX4_isFilling_1 ++ dktX4_isFilling_2
def dkwX4_isFilling_0 : List UInt8 := [42, 180, 0, 16, 44, 180, 0, 127, 182, 0, 90, 192, 0, 95, 182, 0, 177, 62, 27, 184, 0, 94, 29]
abbrev dktX4_isFilling_0 : List UInt8 := dkwX4_isFilling_0 ++ dktX4_isFilling_1
theorem dksX4_isFilling_0 : cX4_isFilling.data.toList.drop 0 = dktX4_isFilling_0 := by decide +kernel
theorem dksX4_isFilling_1 : cX4_isFilling.data.toList.drop 23 = dktX4_isFilling_1 := dk_seg dksX4_isFilling_0 23 rfl rfl
theorem dksX4_isFilling_2 : cX4_isFilling.data.toList.drop 46 = dktX4_isFilling_2 := dk_seg dksX4_isFilling_1 23 rfl rfl
theorem dX4_isFilling_0 : decode cX4_isFilling 0 = .ok (.aload_n 0, 1) := dk_42 (dk_at dksX4_isFilling_0 0 rfl rfl)
theorem dX4_isFilling_1 : decode cX4_isFilling 1 = .ok (.getfield 16, 3) := dk_180 0 16 (dk_at dksX4_isFilling_0 1 rfl rfl)
theorem dX4_isFilling_4 : decode cX4_isFilling 4 = .ok (.aload_n 2, 1) := dk_44 (dk_at dksX4_isFilling_0 4 rfl rfl)
theorem dX4_isFilling_5 : decode cX4_isFilling 5 = .ok (.getfield 127, 3) := dk_180 0 127 (dk_at dksX4_isFilling_0 5 rfl rfl)
theorem dX4_isFilling_8 : decode cX4_isFilling 8 = .ok (.invokevirtual 90, 3) := dk_182 0 90 (dk_at dksX4_isFilling_0 8 rfl rfl)
theorem dX4_isFilling_11 : decode cX4_isFilling 11 = .ok (.checkcast 95, 3) := dk_192 0 95 (dk_at dksX4_isFilling_0 11 rfl rfl)
theorem dX4_isFilling_14 : decode cX4_isFilling 14 = .ok (.invokevirtual 177, 3) := dk_182 0 177 (dk_at dksX4_isFilling_0 14 rfl rfl)
theorem dX4_isFilling_17 : decode cX4_isFilling 17 = .ok (.istore_n 3, 1) := dk_62 (dk_at dksX4_isFilling_0 17 rfl rfl)
theorem dX4_isFilling_18 : decode cX4_isFilling 18 = .ok (.iload_n 1, 1) := dk_27 (dk_at dksX4_isFilling_0 18 rfl rfl)
theorem dX4_isFilling_19 : decode cX4_isFilling 19 = .ok (.invokestatic 94, 3) := dk_184 0 94 (dk_at dksX4_isFilling_0 19 rfl rfl)
theorem dX4_isFilling_22 : decode cX4_isFilling 22 = .ok (.iload_n 3, 1) := dk_29 (dk_at dksX4_isFilling_0 22 rfl rfl)
theorem dX4_isFilling_23 : decode cX4_isFilling 23 = .ok (.invokestatic 116, 3) := dk_184 0 116 (dk_at dksX4_isFilling_1 0 rfl rfl)
theorem dX4_isFilling_26 : decode cX4_isFilling 26 = .ok (.if_icmp .ne 38, 3) := dk_160 0 38 (dk_at dksX4_isFilling_1 3 rfl rfl)
theorem dX4_isFilling_29 : decode cX4_isFilling 29 = .ok (.aload_n 0, 1) := dk_42 (dk_at dksX4_isFilling_1 6 rfl rfl)
theorem dX4_isFilling_30 : decode cX4_isFilling 30 = .ok (.iload_n 1, 1) := dk_27 (dk_at dksX4_isFilling_1 7 rfl rfl)
theorem dX4_isFilling_31 : decode cX4_isFilling 31 = .ok (.invokevirtual 180, 3) := dk_182 0 180 (dk_at dksX4_isFilling_1 8 rfl rfl)
theorem dX4_isFilling_34 : decode cX4_isFilling 34 = .ok (.ifCond .eq 30, 3) := dk_153 0 30 (dk_at dksX4_isFilling_1 11 rfl rfl)
theorem dX4_isFilling_37 : decode cX4_isFilling 37 = .ok (.aload_n 0, 1) := dk_42 (dk_at dksX4_isFilling_1 14 rfl rfl)
theorem dX4_isFilling_38 : decode cX4_isFilling 38 = .ok (.iload_n 1, 1) := dk_27 (dk_at dksX4_isFilling_1 15 rfl rfl)
theorem dX4_isFilling_39 : decode cX4_isFilling 39 = .ok (.aload_n 2, 1) := dk_44 (dk_at dksX4_isFilling_1 16 rfl rfl)
theorem dX4_isFilling_40 : decode cX4_isFilling 40 = .ok (.getfield 152, 3) := dk_180 0 152 (dk_at dksX4_isFilling_1 17 rfl rfl)
theorem dX4_isFilling_43 : decode cX4_isFilling 43 = .ok (.invokevirtual 183, 3) := dk_182 0 183 (dk_at dksX4_isFilling_1 20 rfl rfl)
theorem dX4_isFilling_46 : decode cX4_isFilling 46 = .ok (.ifCond .eq 18, 3) := dk_153 0 18 (dk_at dksX4_isFilling_2 0 rfl rfl)
theorem dX4_isFilling_49 : decode cX4_isFilling 49 = .ok (.aload_n 0, 1) := dk_42 (dk_at dksX4_isFilling_2 3 rfl rfl)
theorem dX4_isFilling_50 : decode cX4_isFilling 50 = .ok (.iload_n 1, 1) := dk_27 (dk_at dksX4_isFilling_2 4 rfl rfl)
theorem dX4_isFilling_51 : decode cX4_isFilling 51 = .ok (.iload_n 3, 1) := dk_29 (dk_at dksX4_isFilling_2 5 rfl rfl)
theorem dX4_isFilling_52 : decode cX4_isFilling 52 = .ok (.iconst 0, 1) := dk_3 (dk_at dksX4_isFilling_2 6 rfl rfl)
theorem dX4_isFilling_53 : decode cX4_isFilling 53 = .ok (.iconst 0, 1) := dk_3 (dk_at dksX4_isFilling_2 7 rfl rfl)
theorem dX4_isFilling_54 : decode cX4_isFilling 54 = .ok (.invokevirtual 166, 3) := dk_182 0 166 (dk_at dksX4_isFilling_2 8 rfl rfl)
theorem dX4_isFilling_57 : decode cX4_isFilling 57 = .ok (.ifCond .eq 7, 3) := dk_153 0 7 (dk_at dksX4_isFilling_2 11 rfl rfl)
theorem dX4_isFilling_60 : decode cX4_isFilling 60 = .ok (.iconst 1, 1) := dk_4 (dk_at dksX4_isFilling_2 14 rfl rfl)
theorem dX4_isFilling_61 : decode cX4_isFilling 61 = .ok (.goto 4, 3) := dk_167 0 4 (dk_at dksX4_isFilling_2 15 rfl rfl)
theorem dX4_isFilling_64 : decode cX4_isFilling 64 = .ok (.iconst 0, 1) := dk_3 (dk_at dksX4_isFilling_2 18 rfl rfl)
theorem dX4_isFilling_65 : decode cX4_isFilling 65 = .ok (.ireturn, 1) := dk_172 (dk_at dksX4_isFilling_2 19 rfl rfl)
abbrev cX4_isPeaceful : ByteArray := prog_13_method_28_code
def yX4_isPeaceful : MethodName := ⟨RX4, "isPeaceful", "(I)Z"⟩
def dkwX4_isPeaceful_2 : List UInt8 := [167, 255, 213, 4, 172]
abbrev dktX4_isPeaceful_2 : List UInt8 := dkwX4_isPeaceful_2 ++ []
def dkwX4_isPeaceful_1 : List UInt8 := [180, 0, 10, 28, 182, 0, 90, 192, 0, 68, 180, 0, 99, 27, 126, 153, 0, 5, 3, 172, 132, 2, 1]
abbrev dktX4_isPeaceful_1 : List UInt8 := dkwX4_isPeaceful_1 ++ dktX4_isPeaceful_2
def dkwX4_isPeaceful_0 : List UInt8 := [3, 61, 28, 42, 180, 0, 10, 182, 0, 48, 162, 0, 38, 27, 28, 184, 0, 102, 153, 0, 24, 42]
abbrev dktX4_isPeaceful_0 : List UInt8 := dkwX4_isPeaceful_0 ++ dktX4_isPeaceful_1
theorem dksX4_isPeaceful_0 : cX4_isPeaceful.data.toList.drop 0 = dktX4_isPeaceful_0 := by decide +kernel
theorem dksX4_isPeaceful_1 : cX4_isPeaceful.data.toList.drop 22 = dktX4_isPeaceful_1 := dk_seg dksX4_isPeaceful_0 22 rfl rfl
theorem dksX4_isPeaceful_2 : cX4_isPeaceful.data.toList.drop 45 = dktX4_isPeaceful_2 := dk_seg dksX4_isPeaceful_1 23 rfl rfl
theorem dX4_isPeaceful_0 : decode cX4_isPeaceful 0 = .ok (.iconst 0, 1) := dk_3 (dk_at dksX4_isPeaceful_0 0 rfl rfl)
theorem dX4_isPeaceful_1 : decode cX4_isPeaceful 1 = .ok (.istore_n 2, 1) := dk_61 (dk_at dksX4_isPeaceful_0 1 rfl rfl)
theorem dX4_isPeaceful_2 : decode cX4_isPeaceful 2 = .ok (.iload_n 2, 1) := dk_28 (dk_at dksX4_isPeaceful_0 2 rfl rfl)
theorem dX4_isPeaceful_3 : decode cX4_isPeaceful 3 = .ok (.aload_n 0, 1) := dk_42 (dk_at dksX4_isPeaceful_0 3 rfl rfl)
theorem dX4_isPeaceful_4 : decode cX4_isPeaceful 4 = .ok (.getfield 10, 3) := dk_180 0 10 (dk_at dksX4_isPeaceful_0 4 rfl rfl)
theorem dX4_isPeaceful_7 : decode cX4_isPeaceful 7 = .ok (.invokevirtual 48, 3) := dk_182 0 48 (dk_at dksX4_isPeaceful_0 7 rfl rfl)
theorem dX4_isPeaceful_10 : decode cX4_isPeaceful 10 = .ok (.if_icmp .ge 38, 3) := dk_162 0 38 (dk_at dksX4_isPeaceful_0 10 rfl rfl)
theorem dX4_isPeaceful_13 : decode cX4_isPeaceful 13 = .ok (.iload_n 1, 1) := dk_27 (dk_at dksX4_isPeaceful_0 13 rfl rfl)
theorem dX4_isPeaceful_14 : decode cX4_isPeaceful 14 = .ok (.iload_n 2, 1) := dk_28 (dk_at dksX4_isPeaceful_0 14 rfl rfl)
theorem dX4_isPeaceful_15 : decode cX4_isPeaceful 15 = .ok (.invokestatic 102, 3) := dk_184 0 102 (dk_at dksX4_isPeaceful_0 15 rfl rfl)
theorem dX4_isPeaceful_18 : decode cX4_isPeaceful 18 = .ok (.ifCond .eq 24, 3) := dk_153 0 24 (dk_at dksX4_isPeaceful_0 18 rfl rfl)
theorem dX4_isPeaceful_21 : decode cX4_isPeaceful 21 = .ok (.aload_n 0, 1) := dk_42 (dk_at dksX4_isPeaceful_0 21 rfl rfl)
theorem dX4_isPeaceful_22 : decode cX4_isPeaceful 22 = .ok (.getfield 10, 3) := dk_180 0 10 (dk_at dksX4_isPeaceful_1 0 rfl rfl)
theorem dX4_isPeaceful_25 : decode cX4_isPeaceful 25 = .ok (.iload_n 2, 1) := dk_28 (dk_at dksX4_isPeaceful_1 3 rfl rfl)
theorem dX4_isPeaceful_26 : decode cX4_isPeaceful 26 = .ok (.invokevirtual 90, 3) := dk_182 0 90 (dk_at dksX4_isPeaceful_1 4 rfl rfl)
theorem dX4_isPeaceful_29 : decode cX4_isPeaceful 29 = .ok (.checkcast 68, 3) := dk_192 0 68 (dk_at dksX4_isPeaceful_1 7 rfl rfl)
theorem dX4_isPeaceful_32 : decode cX4_isPeaceful 32 = .ok (.getfield 99, 3) := dk_180 0 99 (dk_at dksX4_isPeaceful_1 10 rfl rfl)
theorem dX4_isPeaceful_35 : decode cX4_isPeaceful 35 = .ok (.iload_n 1, 1) := dk_27 (dk_at dksX4_isPeaceful_1 13 rfl rfl)
theorem dX4_isPeaceful_36 : decode cX4_isPeaceful 36 = .ok (.iand, 1) := dk_126 (dk_at dksX4_isPeaceful_1 14 rfl rfl)
theorem dX4_isPeaceful_37 : decode cX4_isPeaceful 37 = .ok (.ifCond .eq 5, 3) := dk_153 0 5 (dk_at dksX4_isPeaceful_1 15 rfl rfl)
theorem dX4_isPeaceful_40 : decode cX4_isPeaceful 40 = .ok (.iconst 0, 1) := dk_3 (dk_at dksX4_isPeaceful_1 18 rfl rfl)
theorem dX4_isPeaceful_41 : decode cX4_isPeaceful 41 = .ok (.ireturn, 1) := dk_172 (dk_at dksX4_isPeaceful_1 19 rfl rfl)
theorem dX4_isPeaceful_42 : decode cX4_isPeaceful 42 = .ok (.iinc 2 1, 3) := dk_132 2 1 (dk_at dksX4_isPeaceful_1 20 rfl rfl)
theorem dX4_isPeaceful_45 : decode cX4_isPeaceful 45 = .ok (.goto (-43), 3) := dk_167 255 213 (dk_at dksX4_isPeaceful_2 0 rfl rfl)
theorem dX4_isPeaceful_48 : decode cX4_isPeaceful 48 = .ok (.iconst 1, 1) := dk_4 (dk_at dksX4_isPeaceful_2 3 rfl rfl)
theorem dX4_isPeaceful_49 : decode cX4_isPeaceful 49 = .ok (.ireturn, 1) := dk_172 (dk_at dksX4_isPeaceful_2 4 rfl rfl)
abbrev cX4_areKnown : ByteArray := prog_13_method_30_code
def yX4_areKnown : MethodName := ⟨RX4, "areKnown", "(II)Z"⟩
def dkwX4_areKnown_1 : List UInt8 := [154, 0, 5, 3, 172, 132, 3, 1, 167, 255, 228, 4, 172]
abbrev dktX4_areKnown_1 : List UInt8 := dkwX4_areKnown_1 ++ []
def dkwX4_areKnown_0 : List UInt8 := [3, 62, 29, 16, 16, 162, 0, 28, 28, 29, 184, 0, 102, 153, 0, 14, 42, 27, 29, 182, 0, 170]
abbrev dktX4_areKnown_0 : List UInt8 := dkwX4_areKnown_0 ++ dktX4_areKnown_1
theorem dksX4_areKnown_0 : cX4_areKnown.data.toList.drop 0 = dktX4_areKnown_0 := by decide +kernel
theorem dksX4_areKnown_1 : cX4_areKnown.data.toList.drop 22 = dktX4_areKnown_1 := dk_seg dksX4_areKnown_0 22 rfl rfl
theorem dX4_areKnown_0 : decode cX4_areKnown 0 = .ok (.iconst 0, 1) := dk_3 (dk_at dksX4_areKnown_0 0 rfl rfl)
theorem dX4_areKnown_1 : decode cX4_areKnown 1 = .ok (.istore_n 3, 1) := dk_62 (dk_at dksX4_areKnown_0 1 rfl rfl)
theorem dX4_areKnown_2 : decode cX4_areKnown 2 = .ok (.iload_n 3, 1) := dk_29 (dk_at dksX4_areKnown_0 2 rfl rfl)
theorem dX4_areKnown_3 : decode cX4_areKnown 3 = .ok (.bipush 16, 2) := dk_16 16 (dk_at dksX4_areKnown_0 3 rfl rfl)
theorem dX4_areKnown_5 : decode cX4_areKnown 5 = .ok (.if_icmp .ge 28, 3) := dk_162 0 28 (dk_at dksX4_areKnown_0 5 rfl rfl)
theorem dX4_areKnown_8 : decode cX4_areKnown 8 = .ok (.iload_n 2, 1) := dk_28 (dk_at dksX4_areKnown_0 8 rfl rfl)
theorem dX4_areKnown_9 : decode cX4_areKnown 9 = .ok (.iload_n 3, 1) := dk_29 (dk_at dksX4_areKnown_0 9 rfl rfl)
theorem dX4_areKnown_10 : decode cX4_areKnown 10 = .ok (.invokestatic 102, 3) := dk_184 0 102 (dk_at dksX4_areKnown_0 10 rfl rfl)
theorem dX4_areKnown_13 : decode cX4_areKnown 13 = .ok (.ifCond .eq 14, 3) := dk_153 0 14 (dk_at dksX4_areKnown_0 13 rfl rfl)
theorem dX4_areKnown_16 : decode cX4_areKnown 16 = .ok (.aload_n 0, 1) := dk_42 (dk_at dksX4_areKnown_0 16 rfl rfl)
theorem dX4_areKnown_17 : decode cX4_areKnown 17 = .ok (.iload_n 1, 1) := dk_27 (dk_at dksX4_areKnown_0 17 rfl rfl)
theorem dX4_areKnown_18 : decode cX4_areKnown 18 = .ok (.iload_n 3, 1) := dk_29 (dk_at dksX4_areKnown_0 18 rfl rfl)
theorem dX4_areKnown_19 : decode cX4_areKnown 19 = .ok (.invokevirtual 170, 3) := dk_182 0 170 (dk_at dksX4_areKnown_0 19 rfl rfl)
theorem dX4_areKnown_22 : decode cX4_areKnown 22 = .ok (.ifCond .ne 5, 3) := dk_154 0 5 (dk_at dksX4_areKnown_1 0 rfl rfl)
theorem dX4_areKnown_25 : decode cX4_areKnown 25 = .ok (.iconst 0, 1) := dk_3 (dk_at dksX4_areKnown_1 3 rfl rfl)
theorem dX4_areKnown_26 : decode cX4_areKnown 26 = .ok (.ireturn, 1) := dk_172 (dk_at dksX4_areKnown_1 4 rfl rfl)
theorem dX4_areKnown_27 : decode cX4_areKnown 27 = .ok (.iinc 3 1, 3) := dk_132 3 1 (dk_at dksX4_areKnown_1 5 rfl rfl)
theorem dX4_areKnown_30 : decode cX4_areKnown 30 = .ok (.goto (-28), 3) := dk_167 255 228 (dk_at dksX4_areKnown_1 8 rfl rfl)
theorem dX4_areKnown_33 : decode cX4_areKnown 33 = .ok (.iconst 1, 1) := dk_4 (dk_at dksX4_areKnown_1 11 rfl rfl)
theorem dX4_areKnown_34 : decode cX4_areKnown 34 = .ok (.ireturn, 1) := dk_172 (dk_at dksX4_areKnown_1 12 rfl rfl)
abbrev cX4_isKnown : ByteArray := prog_13_method_29_code
def yX4_isKnown : MethodName := ⟨RX4, "isKnown", "(II)Z"⟩
def dkwX4_isKnown_3 : List UInt8 := [160, 0, 15, 27, 184, 0, 94, 4, 160, 0, 7, 4, 167, 0, 4, 3, 172]
abbrev dktX4_isKnown_3 : List UInt8 := dkwX4_isKnown_3 ++ []
def dkwX4_isKnown_2 : List UInt8 := [153, 0, 7, 4, 167, 0, 4, 3, 96, 62, 132, 4, 1, 167, 255, 202, 29, 5, 162, 0, 16, 29, 4]
abbrev dktX4_isKnown_2 : List UInt8 := dkwX4_isKnown_2 ++ dktX4_isKnown_3
def dkwX4_isKnown_1 : List UInt8 := [153, 0, 29, 42, 180, 0, 10, 21, 4, 182, 0, 90, 192, 0, 68, 180, 0, 74, 28, 184, 0, 102]
abbrev dktX4_isKnown_1 : List UInt8 := dkwX4_isKnown_1 ++ dktX4_isKnown_2
def dkwX4_isKnown_0 : List UInt8 := [3, 62, 3, 54, 4, 21, 4, 42, 180, 0, 10, 182, 0, 48, 162, 0, 48, 29, 27, 21, 4, 184, 0, 102]
abbrev dktX4_isKnown_0 : List UInt8 := dkwX4_isKnown_0 ++ dktX4_isKnown_1
theorem dksX4_isKnown_0 : cX4_isKnown.data.toList.drop 0 = dktX4_isKnown_0 := by decide +kernel
theorem dksX4_isKnown_1 : cX4_isKnown.data.toList.drop 24 = dktX4_isKnown_1 := dk_seg dksX4_isKnown_0 24 rfl rfl
theorem dksX4_isKnown_2 : cX4_isKnown.data.toList.drop 46 = dktX4_isKnown_2 := dk_seg dksX4_isKnown_1 22 rfl rfl
theorem dksX4_isKnown_3 : cX4_isKnown.data.toList.drop 69 = dktX4_isKnown_3 := dk_seg dksX4_isKnown_2 23 rfl rfl
theorem dX4_isKnown_0 : decode cX4_isKnown 0 = .ok (.iconst 0, 1) := dk_3 (dk_at dksX4_isKnown_0 0 rfl rfl)
theorem dX4_isKnown_1 : decode cX4_isKnown 1 = .ok (.istore_n 3, 1) := dk_62 (dk_at dksX4_isKnown_0 1 rfl rfl)
theorem dX4_isKnown_2 : decode cX4_isKnown 2 = .ok (.iconst 0, 1) := dk_3 (dk_at dksX4_isKnown_0 2 rfl rfl)
theorem dX4_isKnown_3 : decode cX4_isKnown 3 = .ok (.istore 4, 2) := dk_54 4 (dk_at dksX4_isKnown_0 3 rfl rfl)
theorem dX4_isKnown_5 : decode cX4_isKnown 5 = .ok (.iload 4, 2) := dk_21 4 (dk_at dksX4_isKnown_0 5 rfl rfl)
theorem dX4_isKnown_7 : decode cX4_isKnown 7 = .ok (.aload_n 0, 1) := dk_42 (dk_at dksX4_isKnown_0 7 rfl rfl)
theorem dX4_isKnown_8 : decode cX4_isKnown 8 = .ok (.getfield 10, 3) := dk_180 0 10 (dk_at dksX4_isKnown_0 8 rfl rfl)
theorem dX4_isKnown_11 : decode cX4_isKnown 11 = .ok (.invokevirtual 48, 3) := dk_182 0 48 (dk_at dksX4_isKnown_0 11 rfl rfl)
theorem dX4_isKnown_14 : decode cX4_isKnown 14 = .ok (.if_icmp .ge 48, 3) := dk_162 0 48 (dk_at dksX4_isKnown_0 14 rfl rfl)
theorem dX4_isKnown_17 : decode cX4_isKnown 17 = .ok (.iload_n 3, 1) := dk_29 (dk_at dksX4_isKnown_0 17 rfl rfl)
theorem dX4_isKnown_18 : decode cX4_isKnown 18 = .ok (.iload_n 1, 1) := dk_27 (dk_at dksX4_isKnown_0 18 rfl rfl)
theorem dX4_isKnown_19 : decode cX4_isKnown 19 = .ok (.iload 4, 2) := dk_21 4 (dk_at dksX4_isKnown_0 19 rfl rfl)
theorem dX4_isKnown_21 : decode cX4_isKnown 21 = .ok (.invokestatic 102, 3) := dk_184 0 102 (dk_at dksX4_isKnown_0 21 rfl rfl)
theorem dX4_isKnown_24 : decode cX4_isKnown 24 = .ok (.ifCond .eq 29, 3) := dk_153 0 29 (dk_at dksX4_isKnown_1 0 rfl rfl)
theorem dX4_isKnown_27 : decode cX4_isKnown 27 = .ok (.aload_n 0, 1) := dk_42 (dk_at dksX4_isKnown_1 3 rfl rfl)
theorem dX4_isKnown_28 : decode cX4_isKnown 28 = .ok (.getfield 10, 3) := dk_180 0 10 (dk_at dksX4_isKnown_1 4 rfl rfl)
theorem dX4_isKnown_31 : decode cX4_isKnown 31 = .ok (.iload 4, 2) := dk_21 4 (dk_at dksX4_isKnown_1 7 rfl rfl)
theorem dX4_isKnown_33 : decode cX4_isKnown 33 = .ok (.invokevirtual 90, 3) := dk_182 0 90 (dk_at dksX4_isKnown_1 9 rfl rfl)
theorem dX4_isKnown_36 : decode cX4_isKnown 36 = .ok (.checkcast 68, 3) := dk_192 0 68 (dk_at dksX4_isKnown_1 12 rfl rfl)
theorem dX4_isKnown_39 : decode cX4_isKnown 39 = .ok (.getfield 74, 3) := dk_180 0 74 (dk_at dksX4_isKnown_1 15 rfl rfl)
theorem dX4_isKnown_42 : decode cX4_isKnown 42 = .ok (.iload_n 2, 1) := dk_28 (dk_at dksX4_isKnown_1 18 rfl rfl)
theorem dX4_isKnown_43 : decode cX4_isKnown 43 = .ok (.invokestatic 102, 3) := dk_184 0 102 (dk_at dksX4_isKnown_1 19 rfl rfl)
theorem dX4_isKnown_46 : decode cX4_isKnown 46 = .ok (.ifCond .eq 7, 3) := dk_153 0 7 (dk_at dksX4_isKnown_2 0 rfl rfl)
theorem dX4_isKnown_49 : decode cX4_isKnown 49 = .ok (.iconst 1, 1) := dk_4 (dk_at dksX4_isKnown_2 3 rfl rfl)
theorem dX4_isKnown_50 : decode cX4_isKnown 50 = .ok (.goto 4, 3) := dk_167 0 4 (dk_at dksX4_isKnown_2 4 rfl rfl)
theorem dX4_isKnown_53 : decode cX4_isKnown 53 = .ok (.iconst 0, 1) := dk_3 (dk_at dksX4_isKnown_2 7 rfl rfl)
theorem dX4_isKnown_54 : decode cX4_isKnown 54 = .ok (.iadd, 1) := dk_96 (dk_at dksX4_isKnown_2 8 rfl rfl)
theorem dX4_isKnown_55 : decode cX4_isKnown 55 = .ok (.istore_n 3, 1) := dk_62 (dk_at dksX4_isKnown_2 9 rfl rfl)
theorem dX4_isKnown_56 : decode cX4_isKnown 56 = .ok (.iinc 4 1, 3) := dk_132 4 1 (dk_at dksX4_isKnown_2 10 rfl rfl)
theorem dX4_isKnown_59 : decode cX4_isKnown 59 = .ok (.goto (-54), 3) := dk_167 255 202 (dk_at dksX4_isKnown_2 13 rfl rfl)
theorem dX4_isKnown_62 : decode cX4_isKnown 62 = .ok (.iload_n 3, 1) := dk_29 (dk_at dksX4_isKnown_2 16 rfl rfl)
theorem dX4_isKnown_63 : decode cX4_isKnown 63 = .ok (.iconst 2, 1) := dk_5 (dk_at dksX4_isKnown_2 17 rfl rfl)
theorem dX4_isKnown_64 : decode cX4_isKnown 64 = .ok (.if_icmp .ge 16, 3) := dk_162 0 16 (dk_at dksX4_isKnown_2 18 rfl rfl)
theorem dX4_isKnown_67 : decode cX4_isKnown 67 = .ok (.iload_n 3, 1) := dk_29 (dk_at dksX4_isKnown_2 21 rfl rfl)
theorem dX4_isKnown_68 : decode cX4_isKnown 68 = .ok (.iconst 1, 1) := dk_4 (dk_at dksX4_isKnown_2 22 rfl rfl)
theorem dX4_isKnown_69 : decode cX4_isKnown 69 = .ok (.if_icmp .ne 15, 3) := dk_160 0 15 (dk_at dksX4_isKnown_3 0 rfl rfl)
theorem dX4_isKnown_72 : decode cX4_isKnown 72 = .ok (.iload_n 1, 1) := dk_27 (dk_at dksX4_isKnown_3 3 rfl rfl)
theorem dX4_isKnown_73 : decode cX4_isKnown 73 = .ok (.invokestatic 94, 3) := dk_184 0 94 (dk_at dksX4_isKnown_3 4 rfl rfl)
theorem dX4_isKnown_76 : decode cX4_isKnown 76 = .ok (.iconst 1, 1) := dk_4 (dk_at dksX4_isKnown_3 7 rfl rfl)
theorem dX4_isKnown_77 : decode cX4_isKnown 77 = .ok (.if_icmp .ne 7, 3) := dk_160 0 7 (dk_at dksX4_isKnown_3 8 rfl rfl)
theorem dX4_isKnown_80 : decode cX4_isKnown 80 = .ok (.iconst 1, 1) := dk_4 (dk_at dksX4_isKnown_3 11 rfl rfl)
theorem dX4_isKnown_81 : decode cX4_isKnown 81 = .ok (.goto 4, 3) := dk_167 0 4 (dk_at dksX4_isKnown_3 12 rfl rfl)
theorem dX4_isKnown_84 : decode cX4_isKnown 84 = .ok (.iconst 0, 1) := dk_3 (dk_at dksX4_isKnown_3 15 rfl rfl)
theorem dX4_isKnown_85 : decode cX4_isKnown 85 = .ok (.ireturn, 1) := dk_172 (dk_at dksX4_isKnown_3 16 rfl rfl)
abbrev cX4_canPlay : ByteArray := prog_13_method_27_code
def yX4_canPlay : MethodName := ⟨RX4, "canPlay", "(IIII)Z"⟩
def dkwX4_canPlay_8 : List UInt8 := [120, 128, 182, 0, 166, 153, 0, 5, 4, 172, 132, 8, 1, 167, 255, 178, 132, 6, 1, 167, 255, 84, 3, 172]
abbrev dktX4_canPlay_8 : List UInt8 := dkwX4_canPlay_8 ++ []
def dkwX4_canPlay_7 : List UInt8 := [192, 0, 68, 180, 0, 71, 29, 184, 0, 102, 153, 0, 24, 42, 27, 28, 29, 4, 96, 21, 7, 4, 21, 8]
abbrev dktX4_canPlay_7 : List UInt8 := dkwX4_canPlay_7 ++ dktX4_canPlay_8
def dkwX4_canPlay_6 : List UInt8 := [27, 21, 7, 2, 130, 126, 21, 8, 184, 0, 102, 153, 0, 46, 42, 180, 0, 10, 21, 8, 182, 0, 90]
abbrev dktX4_canPlay_6 : List UInt8 := dkwX4_canPlay_6 ++ dktX4_canPlay_7
def dkwX4_canPlay_5 : List UInt8 := [21, 6, 4, 96, 54, 8, 21, 8, 42, 180, 0, 10, 182, 0, 48, 162, 0, 72, 21, 5, 5, 160, 0, 66]
abbrev dktX4_canPlay_5 : List UInt8 := dkwX4_canPlay_5 ++ dktX4_canPlay_6
def dkwX4_canPlay_4 : List UInt8 := [54, 7, 21, 5, 4, 160, 0, 19, 42, 27, 28, 29, 4, 96, 21, 7, 182, 0, 166, 153, 0, 5, 4, 172]
abbrev dktX4_canPlay_4 : List UInt8 := dkwX4_canPlay_4 ++ dktX4_canPlay_5
def dkwX4_canPlay_3 : List UInt8 := [192, 0, 68, 180, 0, 71, 29, 184, 0, 102, 154, 0, 6, 167, 0, 121, 21, 4, 4, 21, 6, 120, 128]
abbrev dktX4_canPlay_3 : List UInt8 := dkwX4_canPlay_3 ++ dktX4_canPlay_4
def dkwX4_canPlay_2 : List UInt8 := [21, 4, 2, 130, 126, 21, 6, 184, 0, 102, 153, 0, 146, 42, 180, 0, 10, 21, 6, 182, 0, 90]
abbrev dktX4_canPlay_2 : List UInt8 := dkwX4_canPlay_2 ++ dktX4_canPlay_3
def dkwX4_canPlay_1 : List UInt8 := [4, 96, 21, 4, 182, 0, 166, 172, 3, 54, 6, 21, 6, 42, 180, 0, 10, 182, 0, 48, 162, 0, 166, 27]
abbrev dktX4_canPlay_1 : List UInt8 := dkwX4_canPlay_1 ++ dktX4_canPlay_2
def dkwX4_canPlay_0 : List UInt8 := [29, 16, 6, 160, 0, 5, 4, 172, 28, 29, 184, 0, 113, 54, 5, 21, 5, 154, 0, 15, 42, 27, 28, 29]
abbrev dktX4_canPlay_0 : List UInt8 := dkwX4_canPlay_0 ++ dktX4_canPlay_1
theorem dksX4_canPlay_0 : cX4_canPlay.data.toList.drop 0 = dktX4_canPlay_0 := by decide +kernel
theorem dksX4_canPlay_1 : cX4_canPlay.data.toList.drop 24 = dktX4_canPlay_1 := dk_seg dksX4_canPlay_0 24 rfl rfl
theorem dksX4_canPlay_2 : cX4_canPlay.data.toList.drop 48 = dktX4_canPlay_2 := dk_seg dksX4_canPlay_1 24 rfl rfl
theorem dksX4_canPlay_3 : cX4_canPlay.data.toList.drop 70 = dktX4_canPlay_3 := dk_seg dksX4_canPlay_2 22 rfl rfl
theorem dksX4_canPlay_4 : cX4_canPlay.data.toList.drop 93 = dktX4_canPlay_4 := dk_seg dksX4_canPlay_3 23 rfl rfl
theorem dksX4_canPlay_5 : cX4_canPlay.data.toList.drop 117 = dktX4_canPlay_5 := dk_seg dksX4_canPlay_4 24 rfl rfl
theorem dksX4_canPlay_6 : cX4_canPlay.data.toList.drop 141 = dktX4_canPlay_6 := dk_seg dksX4_canPlay_5 24 rfl rfl
theorem dksX4_canPlay_7 : cX4_canPlay.data.toList.drop 164 = dktX4_canPlay_7 := dk_seg dksX4_canPlay_6 23 rfl rfl
theorem dksX4_canPlay_8 : cX4_canPlay.data.toList.drop 188 = dktX4_canPlay_8 := dk_seg dksX4_canPlay_7 24 rfl rfl
theorem dX4_canPlay_0 : decode cX4_canPlay 0 = .ok (.iload_n 3, 1) := dk_29 (dk_at dksX4_canPlay_0 0 rfl rfl)
theorem dX4_canPlay_1 : decode cX4_canPlay 1 = .ok (.bipush 6, 2) := dk_16 6 (dk_at dksX4_canPlay_0 1 rfl rfl)
theorem dX4_canPlay_3 : decode cX4_canPlay 3 = .ok (.if_icmp .ne 5, 3) := dk_160 0 5 (dk_at dksX4_canPlay_0 3 rfl rfl)
theorem dX4_canPlay_6 : decode cX4_canPlay 6 = .ok (.iconst 1, 1) := dk_4 (dk_at dksX4_canPlay_0 6 rfl rfl)
theorem dX4_canPlay_7 : decode cX4_canPlay 7 = .ok (.ireturn, 1) := dk_172 (dk_at dksX4_canPlay_0 7 rfl rfl)
theorem dX4_canPlay_8 : decode cX4_canPlay 8 = .ok (.iload_n 2, 1) := dk_28 (dk_at dksX4_canPlay_0 8 rfl rfl)
theorem dX4_canPlay_9 : decode cX4_canPlay 9 = .ok (.iload_n 3, 1) := dk_29 (dk_at dksX4_canPlay_0 9 rfl rfl)
theorem dX4_canPlay_10 : decode cX4_canPlay 10 = .ok (.invokestatic 113, 3) := dk_184 0 113 (dk_at dksX4_canPlay_0 10 rfl rfl)
theorem dX4_canPlay_13 : decode cX4_canPlay 13 = .ok (.istore 5, 2) := dk_54 5 (dk_at dksX4_canPlay_0 13 rfl rfl)
theorem dX4_canPlay_15 : decode cX4_canPlay 15 = .ok (.iload 5, 2) := dk_21 5 (dk_at dksX4_canPlay_0 15 rfl rfl)
theorem dX4_canPlay_17 : decode cX4_canPlay 17 = .ok (.ifCond .ne 15, 3) := dk_154 0 15 (dk_at dksX4_canPlay_0 17 rfl rfl)
theorem dX4_canPlay_20 : decode cX4_canPlay 20 = .ok (.aload_n 0, 1) := dk_42 (dk_at dksX4_canPlay_0 20 rfl rfl)
theorem dX4_canPlay_21 : decode cX4_canPlay 21 = .ok (.iload_n 1, 1) := dk_27 (dk_at dksX4_canPlay_0 21 rfl rfl)
theorem dX4_canPlay_22 : decode cX4_canPlay 22 = .ok (.iload_n 2, 1) := dk_28 (dk_at dksX4_canPlay_0 22 rfl rfl)
theorem dX4_canPlay_23 : decode cX4_canPlay 23 = .ok (.iload_n 3, 1) := dk_29 (dk_at dksX4_canPlay_0 23 rfl rfl)
theorem dX4_canPlay_24 : decode cX4_canPlay 24 = .ok (.iconst 1, 1) := dk_4 (dk_at dksX4_canPlay_1 0 rfl rfl)
theorem dX4_canPlay_25 : decode cX4_canPlay 25 = .ok (.iadd, 1) := dk_96 (dk_at dksX4_canPlay_1 1 rfl rfl)
theorem dX4_canPlay_26 : decode cX4_canPlay 26 = .ok (.iload 4, 2) := dk_21 4 (dk_at dksX4_canPlay_1 2 rfl rfl)
theorem dX4_canPlay_28 : decode cX4_canPlay 28 = .ok (.invokevirtual 166, 3) := dk_182 0 166 (dk_at dksX4_canPlay_1 4 rfl rfl)
theorem dX4_canPlay_31 : decode cX4_canPlay 31 = .ok (.ireturn, 1) := dk_172 (dk_at dksX4_canPlay_1 7 rfl rfl)
theorem dX4_canPlay_32 : decode cX4_canPlay 32 = .ok (.iconst 0, 1) := dk_3 (dk_at dksX4_canPlay_1 8 rfl rfl)
theorem dX4_canPlay_33 : decode cX4_canPlay 33 = .ok (.istore 6, 2) := dk_54 6 (dk_at dksX4_canPlay_1 9 rfl rfl)
theorem dX4_canPlay_35 : decode cX4_canPlay 35 = .ok (.iload 6, 2) := dk_21 6 (dk_at dksX4_canPlay_1 11 rfl rfl)
theorem dX4_canPlay_37 : decode cX4_canPlay 37 = .ok (.aload_n 0, 1) := dk_42 (dk_at dksX4_canPlay_1 13 rfl rfl)
theorem dX4_canPlay_38 : decode cX4_canPlay 38 = .ok (.getfield 10, 3) := dk_180 0 10 (dk_at dksX4_canPlay_1 14 rfl rfl)
theorem dX4_canPlay_41 : decode cX4_canPlay 41 = .ok (.invokevirtual 48, 3) := dk_182 0 48 (dk_at dksX4_canPlay_1 17 rfl rfl)
theorem dX4_canPlay_44 : decode cX4_canPlay 44 = .ok (.if_icmp .ge 166, 3) := dk_162 0 166 (dk_at dksX4_canPlay_1 20 rfl rfl)
theorem dX4_canPlay_47 : decode cX4_canPlay 47 = .ok (.iload_n 1, 1) := dk_27 (dk_at dksX4_canPlay_1 23 rfl rfl)
theorem dX4_canPlay_48 : decode cX4_canPlay 48 = .ok (.iload 4, 2) := dk_21 4 (dk_at dksX4_canPlay_2 0 rfl rfl)
theorem dX4_canPlay_50 : decode cX4_canPlay 50 = .ok (.iconst (-1), 1) := dk_2 (dk_at dksX4_canPlay_2 2 rfl rfl)
theorem dX4_canPlay_51 : decode cX4_canPlay 51 = .ok (.ixor, 1) := dk_130 (dk_at dksX4_canPlay_2 3 rfl rfl)
theorem dX4_canPlay_52 : decode cX4_canPlay 52 = .ok (.iand, 1) := dk_126 (dk_at dksX4_canPlay_2 4 rfl rfl)
theorem dX4_canPlay_53 : decode cX4_canPlay 53 = .ok (.iload 6, 2) := dk_21 6 (dk_at dksX4_canPlay_2 5 rfl rfl)
theorem dX4_canPlay_55 : decode cX4_canPlay 55 = .ok (.invokestatic 102, 3) := dk_184 0 102 (dk_at dksX4_canPlay_2 7 rfl rfl)
theorem dX4_canPlay_58 : decode cX4_canPlay 58 = .ok (.ifCond .eq 146, 3) := dk_153 0 146 (dk_at dksX4_canPlay_2 10 rfl rfl)
theorem dX4_canPlay_61 : decode cX4_canPlay 61 = .ok (.aload_n 0, 1) := dk_42 (dk_at dksX4_canPlay_2 13 rfl rfl)
theorem dX4_canPlay_62 : decode cX4_canPlay 62 = .ok (.getfield 10, 3) := dk_180 0 10 (dk_at dksX4_canPlay_2 14 rfl rfl)
theorem dX4_canPlay_65 : decode cX4_canPlay 65 = .ok (.iload 6, 2) := dk_21 6 (dk_at dksX4_canPlay_2 17 rfl rfl)
theorem dX4_canPlay_67 : decode cX4_canPlay 67 = .ok (.invokevirtual 90, 3) := dk_182 0 90 (dk_at dksX4_canPlay_2 19 rfl rfl)
theorem dX4_canPlay_70 : decode cX4_canPlay 70 = .ok (.checkcast 68, 3) := dk_192 0 68 (dk_at dksX4_canPlay_3 0 rfl rfl)
theorem dX4_canPlay_73 : decode cX4_canPlay 73 = .ok (.getfield 71, 3) := dk_180 0 71 (dk_at dksX4_canPlay_3 3 rfl rfl)
theorem dX4_canPlay_76 : decode cX4_canPlay 76 = .ok (.iload_n 3, 1) := dk_29 (dk_at dksX4_canPlay_3 6 rfl rfl)
theorem dX4_canPlay_77 : decode cX4_canPlay 77 = .ok (.invokestatic 102, 3) := dk_184 0 102 (dk_at dksX4_canPlay_3 7 rfl rfl)
theorem dX4_canPlay_80 : decode cX4_canPlay 80 = .ok (.ifCond .ne 6, 3) := dk_154 0 6 (dk_at dksX4_canPlay_3 10 rfl rfl)
theorem dX4_canPlay_83 : decode cX4_canPlay 83 = .ok (.goto 121, 3) := dk_167 0 121 (dk_at dksX4_canPlay_3 13 rfl rfl)
theorem dX4_canPlay_86 : decode cX4_canPlay 86 = .ok (.iload 4, 2) := dk_21 4 (dk_at dksX4_canPlay_3 16 rfl rfl)
theorem dX4_canPlay_88 : decode cX4_canPlay 88 = .ok (.iconst 1, 1) := dk_4 (dk_at dksX4_canPlay_3 18 rfl rfl)
theorem dX4_canPlay_89 : decode cX4_canPlay 89 = .ok (.iload 6, 2) := dk_21 6 (dk_at dksX4_canPlay_3 19 rfl rfl)
theorem dX4_canPlay_91 : decode cX4_canPlay 91 = .ok (.ishl, 1) := dk_120 (dk_at dksX4_canPlay_3 21 rfl rfl)
theorem dX4_canPlay_92 : decode cX4_canPlay 92 = .ok (.ior, 1) := dk_128 (dk_at dksX4_canPlay_3 22 rfl rfl)
theorem dX4_canPlay_93 : decode cX4_canPlay 93 = .ok (.istore 7, 2) := dk_54 7 (dk_at dksX4_canPlay_4 0 rfl rfl)
theorem dX4_canPlay_95 : decode cX4_canPlay 95 = .ok (.iload 5, 2) := dk_21 5 (dk_at dksX4_canPlay_4 2 rfl rfl)
theorem dX4_canPlay_97 : decode cX4_canPlay 97 = .ok (.iconst 1, 1) := dk_4 (dk_at dksX4_canPlay_4 4 rfl rfl)
theorem dX4_canPlay_98 : decode cX4_canPlay 98 = .ok (.if_icmp .ne 19, 3) := dk_160 0 19 (dk_at dksX4_canPlay_4 5 rfl rfl)
theorem dX4_canPlay_101 : decode cX4_canPlay 101 = .ok (.aload_n 0, 1) := dk_42 (dk_at dksX4_canPlay_4 8 rfl rfl)
theorem dX4_canPlay_102 : decode cX4_canPlay 102 = .ok (.iload_n 1, 1) := dk_27 (dk_at dksX4_canPlay_4 9 rfl rfl)
theorem dX4_canPlay_103 : decode cX4_canPlay 103 = .ok (.iload_n 2, 1) := dk_28 (dk_at dksX4_canPlay_4 10 rfl rfl)
theorem dX4_canPlay_104 : decode cX4_canPlay 104 = .ok (.iload_n 3, 1) := dk_29 (dk_at dksX4_canPlay_4 11 rfl rfl)
theorem dX4_canPlay_105 : decode cX4_canPlay 105 = .ok (.iconst 1, 1) := dk_4 (dk_at dksX4_canPlay_4 12 rfl rfl)
theorem dX4_canPlay_106 : decode cX4_canPlay 106 = .ok (.iadd, 1) := dk_96 (dk_at dksX4_canPlay_4 13 rfl rfl)
theorem dX4_canPlay_107 : decode cX4_canPlay 107 = .ok (.iload 7, 2) := dk_21 7 (dk_at dksX4_canPlay_4 14 rfl rfl)
theorem dX4_canPlay_109 : decode cX4_canPlay 109 = .ok (.invokevirtual 166, 3) := dk_182 0 166 (dk_at dksX4_canPlay_4 16 rfl rfl)
theorem dX4_canPlay_112 : decode cX4_canPlay 112 = .ok (.ifCond .eq 5, 3) := dk_153 0 5 (dk_at dksX4_canPlay_4 19 rfl rfl)
theorem dX4_canPlay_115 : decode cX4_canPlay 115 = .ok (.iconst 1, 1) := dk_4 (dk_at dksX4_canPlay_4 22 rfl rfl)
theorem dX4_canPlay_116 : decode cX4_canPlay 116 = .ok (.ireturn, 1) := dk_172 (dk_at dksX4_canPlay_4 23 rfl rfl)
theorem dX4_canPlay_117 : decode cX4_canPlay 117 = .ok (.iload 6, 2) := dk_21 6 (dk_at dksX4_canPlay_5 0 rfl rfl)
theorem dX4_canPlay_119 : decode cX4_canPlay 119 = .ok (.iconst 1, 1) := dk_4 (dk_at dksX4_canPlay_5 2 rfl rfl)
theorem dX4_canPlay_120 : decode cX4_canPlay 120 = .ok (.iadd, 1) := dk_96 (dk_at dksX4_canPlay_5 3 rfl rfl)
theorem dX4_canPlay_121 : decode cX4_canPlay 121 = .ok (.istore 8, 2) := dk_54 8 (dk_at dksX4_canPlay_5 4 rfl rfl)
theorem dX4_canPlay_123 : decode cX4_canPlay 123 = .ok (.iload 8, 2) := dk_21 8 (dk_at dksX4_canPlay_5 6 rfl rfl)
theorem dX4_canPlay_125 : decode cX4_canPlay 125 = .ok (.aload_n 0, 1) := dk_42 (dk_at dksX4_canPlay_5 8 rfl rfl)
theorem dX4_canPlay_126 : decode cX4_canPlay 126 = .ok (.getfield 10, 3) := dk_180 0 10 (dk_at dksX4_canPlay_5 9 rfl rfl)
theorem dX4_canPlay_129 : decode cX4_canPlay 129 = .ok (.invokevirtual 48, 3) := dk_182 0 48 (dk_at dksX4_canPlay_5 12 rfl rfl)
theorem dX4_canPlay_132 : decode cX4_canPlay 132 = .ok (.if_icmp .ge 72, 3) := dk_162 0 72 (dk_at dksX4_canPlay_5 15 rfl rfl)
theorem dX4_canPlay_135 : decode cX4_canPlay 135 = .ok (.iload 5, 2) := dk_21 5 (dk_at dksX4_canPlay_5 18 rfl rfl)
theorem dX4_canPlay_137 : decode cX4_canPlay 137 = .ok (.iconst 2, 1) := dk_5 (dk_at dksX4_canPlay_5 20 rfl rfl)
theorem dX4_canPlay_138 : decode cX4_canPlay 138 = .ok (.if_icmp .ne 66, 3) := dk_160 0 66 (dk_at dksX4_canPlay_5 21 rfl rfl)
theorem dX4_canPlay_141 : decode cX4_canPlay 141 = .ok (.iload_n 1, 1) := dk_27 (dk_at dksX4_canPlay_6 0 rfl rfl)
theorem dX4_canPlay_142 : decode cX4_canPlay 142 = .ok (.iload 7, 2) := dk_21 7 (dk_at dksX4_canPlay_6 1 rfl rfl)
theorem dX4_canPlay_144 : decode cX4_canPlay 144 = .ok (.iconst (-1), 1) := dk_2 (dk_at dksX4_canPlay_6 3 rfl rfl)
theorem dX4_canPlay_145 : decode cX4_canPlay 145 = .ok (.ixor, 1) := dk_130 (dk_at dksX4_canPlay_6 4 rfl rfl)
theorem dX4_canPlay_146 : decode cX4_canPlay 146 = .ok (.iand, 1) := dk_126 (dk_at dksX4_canPlay_6 5 rfl rfl)
theorem dX4_canPlay_147 : decode cX4_canPlay 147 = .ok (.iload 8, 2) := dk_21 8 (dk_at dksX4_canPlay_6 6 rfl rfl)
theorem dX4_canPlay_149 : decode cX4_canPlay 149 = .ok (.invokestatic 102, 3) := dk_184 0 102 (dk_at dksX4_canPlay_6 8 rfl rfl)
theorem dX4_canPlay_152 : decode cX4_canPlay 152 = .ok (.ifCond .eq 46, 3) := dk_153 0 46 (dk_at dksX4_canPlay_6 11 rfl rfl)
theorem dX4_canPlay_155 : decode cX4_canPlay 155 = .ok (.aload_n 0, 1) := dk_42 (dk_at dksX4_canPlay_6 14 rfl rfl)
theorem dX4_canPlay_156 : decode cX4_canPlay 156 = .ok (.getfield 10, 3) := dk_180 0 10 (dk_at dksX4_canPlay_6 15 rfl rfl)
theorem dX4_canPlay_159 : decode cX4_canPlay 159 = .ok (.iload 8, 2) := dk_21 8 (dk_at dksX4_canPlay_6 18 rfl rfl)
theorem dX4_canPlay_161 : decode cX4_canPlay 161 = .ok (.invokevirtual 90, 3) := dk_182 0 90 (dk_at dksX4_canPlay_6 20 rfl rfl)
theorem dX4_canPlay_164 : decode cX4_canPlay 164 = .ok (.checkcast 68, 3) := dk_192 0 68 (dk_at dksX4_canPlay_7 0 rfl rfl)
theorem dX4_canPlay_167 : decode cX4_canPlay 167 = .ok (.getfield 71, 3) := dk_180 0 71 (dk_at dksX4_canPlay_7 3 rfl rfl)
theorem dX4_canPlay_170 : decode cX4_canPlay 170 = .ok (.iload_n 3, 1) := dk_29 (dk_at dksX4_canPlay_7 6 rfl rfl)
theorem dX4_canPlay_171 : decode cX4_canPlay 171 = .ok (.invokestatic 102, 3) := dk_184 0 102 (dk_at dksX4_canPlay_7 7 rfl rfl)
theorem dX4_canPlay_174 : decode cX4_canPlay 174 = .ok (.ifCond .eq 24, 3) := dk_153 0 24 (dk_at dksX4_canPlay_7 10 rfl rfl)
theorem dX4_canPlay_177 : decode cX4_canPlay 177 = .ok (.aload_n 0, 1) := dk_42 (dk_at dksX4_canPlay_7 13 rfl rfl)
theorem dX4_canPlay_178 : decode cX4_canPlay 178 = .ok (.iload_n 1, 1) := dk_27 (dk_at dksX4_canPlay_7 14 rfl rfl)
theorem dX4_canPlay_179 : decode cX4_canPlay 179 = .ok (.iload_n 2, 1) := dk_28 (dk_at dksX4_canPlay_7 15 rfl rfl)
theorem dX4_canPlay_180 : decode cX4_canPlay 180 = .ok (.iload_n 3, 1) := dk_29 (dk_at dksX4_canPlay_7 16 rfl rfl)
theorem dX4_canPlay_181 : decode cX4_canPlay 181 = .ok (.iconst 1, 1) := dk_4 (dk_at dksX4_canPlay_7 17 rfl rfl)
theorem dX4_canPlay_182 : decode cX4_canPlay 182 = .ok (.iadd, 1) := dk_96 (dk_at dksX4_canPlay_7 18 rfl rfl)
theorem dX4_canPlay_183 : decode cX4_canPlay 183 = .ok (.iload 7, 2) := dk_21 7 (dk_at dksX4_canPlay_7 19 rfl rfl)
theorem dX4_canPlay_185 : decode cX4_canPlay 185 = .ok (.iconst 1, 1) := dk_4 (dk_at dksX4_canPlay_7 21 rfl rfl)
theorem dX4_canPlay_186 : decode cX4_canPlay 186 = .ok (.iload 8, 2) := dk_21 8 (dk_at dksX4_canPlay_7 22 rfl rfl)
theorem dX4_canPlay_188 : decode cX4_canPlay 188 = .ok (.ishl, 1) := dk_120 (dk_at dksX4_canPlay_8 0 rfl rfl)
theorem dX4_canPlay_189 : decode cX4_canPlay 189 = .ok (.ior, 1) := dk_128 (dk_at dksX4_canPlay_8 1 rfl rfl)
theorem dX4_canPlay_190 : decode cX4_canPlay 190 = .ok (.invokevirtual 166, 3) := dk_182 0 166 (dk_at dksX4_canPlay_8 2 rfl rfl)
theorem dX4_canPlay_193 : decode cX4_canPlay 193 = .ok (.ifCond .eq 5, 3) := dk_153 0 5 (dk_at dksX4_canPlay_8 5 rfl rfl)
theorem dX4_canPlay_196 : decode cX4_canPlay 196 = .ok (.iconst 1, 1) := dk_4 (dk_at dksX4_canPlay_8 8 rfl rfl)
theorem dX4_canPlay_197 : decode cX4_canPlay 197 = .ok (.ireturn, 1) := dk_172 (dk_at dksX4_canPlay_8 9 rfl rfl)
theorem dX4_canPlay_198 : decode cX4_canPlay 198 = .ok (.iinc 8 1, 3) := dk_132 8 1 (dk_at dksX4_canPlay_8 10 rfl rfl)
theorem dX4_canPlay_201 : decode cX4_canPlay 201 = .ok (.goto (-78), 3) := dk_167 255 178 (dk_at dksX4_canPlay_8 13 rfl rfl)
theorem dX4_canPlay_204 : decode cX4_canPlay 204 = .ok (.iinc 6 1, 3) := dk_132 6 1 (dk_at dksX4_canPlay_8 16 rfl rfl)
theorem dX4_canPlay_207 : decode cX4_canPlay 207 = .ok (.goto (-172), 3) := dk_167 255 84 (dk_at dksX4_canPlay_8 19 rfl rfl)
theorem dX4_canPlay_210 : decode cX4_canPlay 210 = .ok (.iconst 0, 1) := dk_3 (dk_at dksX4_canPlay_8 22 rfl rfl)
theorem dX4_canPlay_211 : decode cX4_canPlay 211 = .ok (.ireturn, 1) := dk_172 (dk_at dksX4_canPlay_8 23 rfl rfl)
abbrev cX4_isBetter : ByteArray := prog_13_method_35_code
def yX4_isBetter : MethodName := ⟨RX4, "isBetter", "(IIILFirstdanceAgencyModel$Wedding;)Z"⟩
def dkwX4_isBetter_2 : List UInt8 := [3, 172]
abbrev dktX4_isBetter_2 : List UInt8 := dkwX4_isBetter_2 ++ []
def dkwX4_isBetter_1 : List UInt8 := [154, 0, 24, 42, 27, 25, 4, 182, 0, 197, 42, 28, 25, 4, 182, 0, 197, 162, 0, 7, 4, 167, 0, 4]
abbrev dktX4_isBetter_1 : List UInt8 := dkwX4_isBetter_1 ++ dktX4_isBetter_2
def dkwX4_isBetter_0 : List UInt8 := [27, 29, 126, 184, 0, 94, 28, 29, 126, 184, 0, 94, 100, 54, 5, 21, 5, 157, 0, 25, 21, 5]
abbrev dktX4_isBetter_0 : List UInt8 := dkwX4_isBetter_0 ++ dktX4_isBetter_1
theorem dksX4_isBetter_0 : cX4_isBetter.data.toList.drop 0 = dktX4_isBetter_0 := by decide +kernel
theorem dksX4_isBetter_1 : cX4_isBetter.data.toList.drop 22 = dktX4_isBetter_1 := dk_seg dksX4_isBetter_0 22 rfl rfl
theorem dksX4_isBetter_2 : cX4_isBetter.data.toList.drop 46 = dktX4_isBetter_2 := dk_seg dksX4_isBetter_1 24 rfl rfl
theorem dX4_isBetter_0 : decode cX4_isBetter 0 = .ok (.iload_n 1, 1) := dk_27 (dk_at dksX4_isBetter_0 0 rfl rfl)
theorem dX4_isBetter_1 : decode cX4_isBetter 1 = .ok (.iload_n 3, 1) := dk_29 (dk_at dksX4_isBetter_0 1 rfl rfl)
theorem dX4_isBetter_2 : decode cX4_isBetter 2 = .ok (.iand, 1) := dk_126 (dk_at dksX4_isBetter_0 2 rfl rfl)
theorem dX4_isBetter_3 : decode cX4_isBetter 3 = .ok (.invokestatic 94, 3) := dk_184 0 94 (dk_at dksX4_isBetter_0 3 rfl rfl)
theorem dX4_isBetter_6 : decode cX4_isBetter 6 = .ok (.iload_n 2, 1) := dk_28 (dk_at dksX4_isBetter_0 6 rfl rfl)
theorem dX4_isBetter_7 : decode cX4_isBetter 7 = .ok (.iload_n 3, 1) := dk_29 (dk_at dksX4_isBetter_0 7 rfl rfl)
theorem dX4_isBetter_8 : decode cX4_isBetter 8 = .ok (.iand, 1) := dk_126 (dk_at dksX4_isBetter_0 8 rfl rfl)
theorem dX4_isBetter_9 : decode cX4_isBetter 9 = .ok (.invokestatic 94, 3) := dk_184 0 94 (dk_at dksX4_isBetter_0 9 rfl rfl)
theorem dX4_isBetter_12 : decode cX4_isBetter 12 = .ok (.isub, 1) := dk_100 (dk_at dksX4_isBetter_0 12 rfl rfl)
theorem dX4_isBetter_13 : decode cX4_isBetter 13 = .ok (.istore 5, 2) := dk_54 5 (dk_at dksX4_isBetter_0 13 rfl rfl)
theorem dX4_isBetter_15 : decode cX4_isBetter 15 = .ok (.iload 5, 2) := dk_21 5 (dk_at dksX4_isBetter_0 15 rfl rfl)
theorem dX4_isBetter_17 : decode cX4_isBetter 17 = .ok (.ifCond .gt 25, 3) := dk_157 0 25 (dk_at dksX4_isBetter_0 17 rfl rfl)
theorem dX4_isBetter_20 : decode cX4_isBetter 20 = .ok (.iload 5, 2) := dk_21 5 (dk_at dksX4_isBetter_0 20 rfl rfl)
theorem dX4_isBetter_22 : decode cX4_isBetter 22 = .ok (.ifCond .ne 24, 3) := dk_154 0 24 (dk_at dksX4_isBetter_1 0 rfl rfl)
theorem dX4_isBetter_25 : decode cX4_isBetter 25 = .ok (.aload_n 0, 1) := dk_42 (dk_at dksX4_isBetter_1 3 rfl rfl)
theorem dX4_isBetter_26 : decode cX4_isBetter 26 = .ok (.iload_n 1, 1) := dk_27 (dk_at dksX4_isBetter_1 4 rfl rfl)
theorem dX4_isBetter_27 : decode cX4_isBetter 27 = .ok (.aload 4, 2) := dk_25 4 (dk_at dksX4_isBetter_1 5 rfl rfl)
theorem dX4_isBetter_29 : decode cX4_isBetter 29 = .ok (.invokevirtual 197, 3) := dk_182 0 197 (dk_at dksX4_isBetter_1 7 rfl rfl)
theorem dX4_isBetter_32 : decode cX4_isBetter 32 = .ok (.aload_n 0, 1) := dk_42 (dk_at dksX4_isBetter_1 10 rfl rfl)
theorem dX4_isBetter_33 : decode cX4_isBetter 33 = .ok (.iload_n 2, 1) := dk_28 (dk_at dksX4_isBetter_1 11 rfl rfl)
theorem dX4_isBetter_34 : decode cX4_isBetter 34 = .ok (.aload 4, 2) := dk_25 4 (dk_at dksX4_isBetter_1 12 rfl rfl)
theorem dX4_isBetter_36 : decode cX4_isBetter 36 = .ok (.invokevirtual 197, 3) := dk_182 0 197 (dk_at dksX4_isBetter_1 14 rfl rfl)
theorem dX4_isBetter_39 : decode cX4_isBetter 39 = .ok (.if_icmp .ge 7, 3) := dk_162 0 7 (dk_at dksX4_isBetter_1 17 rfl rfl)
theorem dX4_isBetter_42 : decode cX4_isBetter 42 = .ok (.iconst 1, 1) := dk_4 (dk_at dksX4_isBetter_1 20 rfl rfl)
theorem dX4_isBetter_43 : decode cX4_isBetter 43 = .ok (.goto 4, 3) := dk_167 0 4 (dk_at dksX4_isBetter_1 21 rfl rfl)
theorem dX4_isBetter_46 : decode cX4_isBetter 46 = .ok (.iconst 0, 1) := dk_3 (dk_at dksX4_isBetter_2 0 rfl rfl)
theorem dX4_isBetter_47 : decode cX4_isBetter 47 = .ok (.ireturn, 1) := dk_172 (dk_at dksX4_isBetter_2 1 rfl rfl)
abbrev cX4_costOf : ByteArray := prog_13_method_32_code
def yX4_costOf : MethodName := ⟨RX4, "costOf", "(ILFirstdanceAgencyModel$Wedding;)I"⟩
def dkwX4_costOf_1 : List UInt8 := [153, 0, 13, 42, 21, 4, 44, 182, 0, 173, 167, 0, 4, 3, 96, 62, 132, 4, 1, 167, 255, 218, 29, 172]
abbrev dktX4_costOf_1 : List UInt8 := dkwX4_costOf_1 ++ []
def dkwX4_costOf_0 : List UInt8 := [3, 62, 3, 54, 4, 21, 4, 42, 180, 0, 10, 182, 0, 48, 162, 0, 32, 29, 27, 21, 4, 184, 0, 102]
abbrev dktX4_costOf_0 : List UInt8 := dkwX4_costOf_0 ++ dktX4_costOf_1
theorem dksX4_costOf_0 : cX4_costOf.data.toList.drop 0 = dktX4_costOf_0 := by decide +kernel
theorem dksX4_costOf_1 : cX4_costOf.data.toList.drop 24 = dktX4_costOf_1 := dk_seg dksX4_costOf_0 24 rfl rfl
theorem dX4_costOf_0 : decode cX4_costOf 0 = .ok (.iconst 0, 1) := dk_3 (dk_at dksX4_costOf_0 0 rfl rfl)
theorem dX4_costOf_1 : decode cX4_costOf 1 = .ok (.istore_n 3, 1) := dk_62 (dk_at dksX4_costOf_0 1 rfl rfl)
theorem dX4_costOf_2 : decode cX4_costOf 2 = .ok (.iconst 0, 1) := dk_3 (dk_at dksX4_costOf_0 2 rfl rfl)
theorem dX4_costOf_3 : decode cX4_costOf 3 = .ok (.istore 4, 2) := dk_54 4 (dk_at dksX4_costOf_0 3 rfl rfl)
theorem dX4_costOf_5 : decode cX4_costOf 5 = .ok (.iload 4, 2) := dk_21 4 (dk_at dksX4_costOf_0 5 rfl rfl)
theorem dX4_costOf_7 : decode cX4_costOf 7 = .ok (.aload_n 0, 1) := dk_42 (dk_at dksX4_costOf_0 7 rfl rfl)
theorem dX4_costOf_8 : decode cX4_costOf 8 = .ok (.getfield 10, 3) := dk_180 0 10 (dk_at dksX4_costOf_0 8 rfl rfl)
theorem dX4_costOf_11 : decode cX4_costOf 11 = .ok (.invokevirtual 48, 3) := dk_182 0 48 (dk_at dksX4_costOf_0 11 rfl rfl)
theorem dX4_costOf_14 : decode cX4_costOf 14 = .ok (.if_icmp .ge 32, 3) := dk_162 0 32 (dk_at dksX4_costOf_0 14 rfl rfl)
theorem dX4_costOf_17 : decode cX4_costOf 17 = .ok (.iload_n 3, 1) := dk_29 (dk_at dksX4_costOf_0 17 rfl rfl)
theorem dX4_costOf_18 : decode cX4_costOf 18 = .ok (.iload_n 1, 1) := dk_27 (dk_at dksX4_costOf_0 18 rfl rfl)
theorem dX4_costOf_19 : decode cX4_costOf 19 = .ok (.iload 4, 2) := dk_21 4 (dk_at dksX4_costOf_0 19 rfl rfl)
theorem dX4_costOf_21 : decode cX4_costOf 21 = .ok (.invokestatic 102, 3) := dk_184 0 102 (dk_at dksX4_costOf_0 21 rfl rfl)
theorem dX4_costOf_24 : decode cX4_costOf 24 = .ok (.ifCond .eq 13, 3) := dk_153 0 13 (dk_at dksX4_costOf_1 0 rfl rfl)
theorem dX4_costOf_27 : decode cX4_costOf 27 = .ok (.aload_n 0, 1) := dk_42 (dk_at dksX4_costOf_1 3 rfl rfl)
theorem dX4_costOf_28 : decode cX4_costOf 28 = .ok (.iload 4, 2) := dk_21 4 (dk_at dksX4_costOf_1 4 rfl rfl)
theorem dX4_costOf_30 : decode cX4_costOf 30 = .ok (.aload_n 2, 1) := dk_44 (dk_at dksX4_costOf_1 6 rfl rfl)
theorem dX4_costOf_31 : decode cX4_costOf 31 = .ok (.invokevirtual 173, 3) := dk_182 0 173 (dk_at dksX4_costOf_1 7 rfl rfl)
theorem dX4_costOf_34 : decode cX4_costOf 34 = .ok (.goto 4, 3) := dk_167 0 4 (dk_at dksX4_costOf_1 10 rfl rfl)
theorem dX4_costOf_37 : decode cX4_costOf 37 = .ok (.iconst 0, 1) := dk_3 (dk_at dksX4_costOf_1 13 rfl rfl)
theorem dX4_costOf_38 : decode cX4_costOf 38 = .ok (.iadd, 1) := dk_96 (dk_at dksX4_costOf_1 14 rfl rfl)
theorem dX4_costOf_39 : decode cX4_costOf 39 = .ok (.istore_n 3, 1) := dk_62 (dk_at dksX4_costOf_1 15 rfl rfl)
theorem dX4_costOf_40 : decode cX4_costOf 40 = .ok (.iinc 4 1, 3) := dk_132 4 1 (dk_at dksX4_costOf_1 16 rfl rfl)
theorem dX4_costOf_43 : decode cX4_costOf 43 = .ok (.goto (-38), 3) := dk_167 255 218 (dk_at dksX4_costOf_1 19 rfl rfl)
theorem dX4_costOf_46 : decode cX4_costOf 46 = .ok (.iload_n 3, 1) := dk_29 (dk_at dksX4_costOf_1 22 rfl rfl)
theorem dX4_costOf_47 : decode cX4_costOf 47 = .ok (.ireturn, 1) := dk_172 (dk_at dksX4_costOf_1 23 rfl rfl)
abbrev cX4_cost : ByteArray := prog_13_method_31_code
def yX4_cost : MethodName := ⟨RX4, "cost", "(ILFirstdanceAgencyModel$Wedding;)I"⟩
def dkwX4_cost_2 : List UInt8 := [21, 4, 104, 96, 172]
abbrev dktX4_cost_2 : List UInt8 := dkwX4_cost_2 ++ []
def dkwX4_cost_1 : List UInt8 := [54, 4, 45, 180, 0, 80, 44, 180, 0, 149, 104, 21, 4, 2, 160, 0, 7, 3, 167, 0, 8, 16, 10]
abbrev dktX4_cost_1 : List UInt8 := dkwX4_cost_1 ++ dktX4_cost_2
def dkwX4_cost_0 : List UInt8 := [42, 180, 0, 10, 27, 182, 0, 90, 192, 0, 68, 78, 42, 45, 180, 0, 77, 44, 180, 0, 143, 182, 0, 109]
abbrev dktX4_cost_0 : List UInt8 := dkwX4_cost_0 ++ dktX4_cost_1
theorem dksX4_cost_0 : cX4_cost.data.toList.drop 0 = dktX4_cost_0 := by decide +kernel
theorem dksX4_cost_1 : cX4_cost.data.toList.drop 24 = dktX4_cost_1 := dk_seg dksX4_cost_0 24 rfl rfl
theorem dksX4_cost_2 : cX4_cost.data.toList.drop 47 = dktX4_cost_2 := dk_seg dksX4_cost_1 23 rfl rfl
theorem dX4_cost_0 : decode cX4_cost 0 = .ok (.aload_n 0, 1) := dk_42 (dk_at dksX4_cost_0 0 rfl rfl)
theorem dX4_cost_1 : decode cX4_cost 1 = .ok (.getfield 10, 3) := dk_180 0 10 (dk_at dksX4_cost_0 1 rfl rfl)
theorem dX4_cost_4 : decode cX4_cost 4 = .ok (.iload_n 1, 1) := dk_27 (dk_at dksX4_cost_0 4 rfl rfl)
theorem dX4_cost_5 : decode cX4_cost 5 = .ok (.invokevirtual 90, 3) := dk_182 0 90 (dk_at dksX4_cost_0 5 rfl rfl)
theorem dX4_cost_8 : decode cX4_cost 8 = .ok (.checkcast 68, 3) := dk_192 0 68 (dk_at dksX4_cost_0 8 rfl rfl)
theorem dX4_cost_11 : decode cX4_cost 11 = .ok (.astore_n 3, 1) := dk_78 (dk_at dksX4_cost_0 11 rfl rfl)
theorem dX4_cost_12 : decode cX4_cost 12 = .ok (.aload_n 0, 1) := dk_42 (dk_at dksX4_cost_0 12 rfl rfl)
theorem dX4_cost_13 : decode cX4_cost 13 = .ok (.aload_n 3, 1) := dk_45 (dk_at dksX4_cost_0 13 rfl rfl)
theorem dX4_cost_14 : decode cX4_cost 14 = .ok (.getfield 77, 3) := dk_180 0 77 (dk_at dksX4_cost_0 14 rfl rfl)
theorem dX4_cost_17 : decode cX4_cost 17 = .ok (.aload_n 2, 1) := dk_44 (dk_at dksX4_cost_0 17 rfl rfl)
theorem dX4_cost_18 : decode cX4_cost 18 = .ok (.getfield 143, 3) := dk_180 0 143 (dk_at dksX4_cost_0 18 rfl rfl)
theorem dX4_cost_21 : decode cX4_cost 21 = .ok (.invokevirtual 109, 3) := dk_182 0 109 (dk_at dksX4_cost_0 21 rfl rfl)
theorem dX4_cost_24 : decode cX4_cost 24 = .ok (.istore 4, 2) := dk_54 4 (dk_at dksX4_cost_1 0 rfl rfl)
theorem dX4_cost_26 : decode cX4_cost 26 = .ok (.aload_n 3, 1) := dk_45 (dk_at dksX4_cost_1 2 rfl rfl)
theorem dX4_cost_27 : decode cX4_cost 27 = .ok (.getfield 80, 3) := dk_180 0 80 (dk_at dksX4_cost_1 3 rfl rfl)
theorem dX4_cost_30 : decode cX4_cost 30 = .ok (.aload_n 2, 1) := dk_44 (dk_at dksX4_cost_1 6 rfl rfl)
theorem dX4_cost_31 : decode cX4_cost 31 = .ok (.getfield 149, 3) := dk_180 0 149 (dk_at dksX4_cost_1 7 rfl rfl)
theorem dX4_cost_34 : decode cX4_cost 34 = .ok (.imul, 1) := dk_104 (dk_at dksX4_cost_1 10 rfl rfl)
theorem dX4_cost_35 : decode cX4_cost 35 = .ok (.iload 4, 2) := dk_21 4 (dk_at dksX4_cost_1 11 rfl rfl)
theorem dX4_cost_37 : decode cX4_cost 37 = .ok (.iconst (-1), 1) := dk_2 (dk_at dksX4_cost_1 13 rfl rfl)
theorem dX4_cost_38 : decode cX4_cost 38 = .ok (.if_icmp .ne 7, 3) := dk_160 0 7 (dk_at dksX4_cost_1 14 rfl rfl)
theorem dX4_cost_41 : decode cX4_cost 41 = .ok (.iconst 0, 1) := dk_3 (dk_at dksX4_cost_1 17 rfl rfl)
theorem dX4_cost_42 : decode cX4_cost 42 = .ok (.goto 8, 3) := dk_167 0 8 (dk_at dksX4_cost_1 18 rfl rfl)
theorem dX4_cost_45 : decode cX4_cost 45 = .ok (.bipush 10, 2) := dk_16 10 (dk_at dksX4_cost_1 21 rfl rfl)
theorem dX4_cost_47 : decode cX4_cost 47 = .ok (.iload 4, 2) := dk_21 4 (dk_at dksX4_cost_2 0 rfl rfl)
theorem dX4_cost_49 : decode cX4_cost 49 = .ok (.imul, 1) := dk_104 (dk_at dksX4_cost_2 2 rfl rfl)
theorem dX4_cost_50 : decode cX4_cost 50 = .ok (.iadd, 1) := dk_96 (dk_at dksX4_cost_2 3 rfl rfl)
theorem dX4_cost_51 : decode cX4_cost 51 = .ok (.ireturn, 1) := dk_172 (dk_at dksX4_cost_2 4 rfl rfl)
abbrev cX4_fixNow : ByteArray := prog_13_method_39_code
def yX4_fixNow : MethodName := ⟨RX4, "fixNow", "(II)V"⟩
def dkwX4_fixNow_2 : List UInt8 := [180, 0, 213, 45, 180, 0, 210, 96, 181, 0, 213, 177]
abbrev dktX4_fixNow_2 : List UInt8 := dkwX4_fixNow_2 ++ []
def dkwX4_fixNow_1 : List UInt8 := [28, 45, 182, 0, 197, 184, 0, 204, 181, 0, 207, 45, 45, 180, 0, 207, 8, 108, 181, 0, 210, 42, 89]
abbrev dktX4_fixNow_1 : List UInt8 := dkwX4_fixNow_1 ++ dktX4_fixNow_2
def dkwX4_fixNow_0 : List UInt8 := [42, 180, 0, 19, 27, 182, 0, 90, 192, 0, 122, 78, 45, 4, 181, 0, 124, 45, 28, 181, 0, 160, 45, 42]
abbrev dktX4_fixNow_0 : List UInt8 := dkwX4_fixNow_0 ++ dktX4_fixNow_1
theorem dksX4_fixNow_0 : cX4_fixNow.data.toList.drop 0 = dktX4_fixNow_0 := by decide +kernel
theorem dksX4_fixNow_1 : cX4_fixNow.data.toList.drop 24 = dktX4_fixNow_1 := dk_seg dksX4_fixNow_0 24 rfl rfl
theorem dksX4_fixNow_2 : cX4_fixNow.data.toList.drop 47 = dktX4_fixNow_2 := dk_seg dksX4_fixNow_1 23 rfl rfl
theorem dX4_fixNow_0 : decode cX4_fixNow 0 = .ok (.aload_n 0, 1) := dk_42 (dk_at dksX4_fixNow_0 0 rfl rfl)
theorem dX4_fixNow_1 : decode cX4_fixNow 1 = .ok (.getfield 19, 3) := dk_180 0 19 (dk_at dksX4_fixNow_0 1 rfl rfl)
theorem dX4_fixNow_4 : decode cX4_fixNow 4 = .ok (.iload_n 1, 1) := dk_27 (dk_at dksX4_fixNow_0 4 rfl rfl)
theorem dX4_fixNow_5 : decode cX4_fixNow 5 = .ok (.invokevirtual 90, 3) := dk_182 0 90 (dk_at dksX4_fixNow_0 5 rfl rfl)
theorem dX4_fixNow_8 : decode cX4_fixNow 8 = .ok (.checkcast 122, 3) := dk_192 0 122 (dk_at dksX4_fixNow_0 8 rfl rfl)
theorem dX4_fixNow_11 : decode cX4_fixNow 11 = .ok (.astore_n 3, 1) := dk_78 (dk_at dksX4_fixNow_0 11 rfl rfl)
theorem dX4_fixNow_12 : decode cX4_fixNow 12 = .ok (.aload_n 3, 1) := dk_45 (dk_at dksX4_fixNow_0 12 rfl rfl)
theorem dX4_fixNow_13 : decode cX4_fixNow 13 = .ok (.iconst 1, 1) := dk_4 (dk_at dksX4_fixNow_0 13 rfl rfl)
theorem dX4_fixNow_14 : decode cX4_fixNow 14 = .ok (.putfield 124, 3) := dk_181 0 124 (dk_at dksX4_fixNow_0 14 rfl rfl)
theorem dX4_fixNow_17 : decode cX4_fixNow 17 = .ok (.aload_n 3, 1) := dk_45 (dk_at dksX4_fixNow_0 17 rfl rfl)
theorem dX4_fixNow_18 : decode cX4_fixNow 18 = .ok (.iload_n 2, 1) := dk_28 (dk_at dksX4_fixNow_0 18 rfl rfl)
theorem dX4_fixNow_19 : decode cX4_fixNow 19 = .ok (.putfield 160, 3) := dk_181 0 160 (dk_at dksX4_fixNow_0 19 rfl rfl)
theorem dX4_fixNow_22 : decode cX4_fixNow 22 = .ok (.aload_n 3, 1) := dk_45 (dk_at dksX4_fixNow_0 22 rfl rfl)
theorem dX4_fixNow_23 : decode cX4_fixNow 23 = .ok (.aload_n 0, 1) := dk_42 (dk_at dksX4_fixNow_0 23 rfl rfl)
theorem dX4_fixNow_24 : decode cX4_fixNow 24 = .ok (.iload_n 2, 1) := dk_28 (dk_at dksX4_fixNow_1 0 rfl rfl)
theorem dX4_fixNow_25 : decode cX4_fixNow 25 = .ok (.aload_n 3, 1) := dk_45 (dk_at dksX4_fixNow_1 1 rfl rfl)
theorem dX4_fixNow_26 : decode cX4_fixNow 26 = .ok (.invokevirtual 197, 3) := dk_182 0 197 (dk_at dksX4_fixNow_1 2 rfl rfl)
theorem dX4_fixNow_29 : decode cX4_fixNow 29 = .ok (.invokestatic 204, 3) := dk_184 0 204 (dk_at dksX4_fixNow_1 5 rfl rfl)
theorem dX4_fixNow_32 : decode cX4_fixNow 32 = .ok (.putfield 207, 3) := dk_181 0 207 (dk_at dksX4_fixNow_1 8 rfl rfl)
theorem dX4_fixNow_35 : decode cX4_fixNow 35 = .ok (.aload_n 3, 1) := dk_45 (dk_at dksX4_fixNow_1 11 rfl rfl)
theorem dX4_fixNow_36 : decode cX4_fixNow 36 = .ok (.aload_n 3, 1) := dk_45 (dk_at dksX4_fixNow_1 12 rfl rfl)
theorem dX4_fixNow_37 : decode cX4_fixNow 37 = .ok (.getfield 207, 3) := dk_180 0 207 (dk_at dksX4_fixNow_1 13 rfl rfl)
theorem dX4_fixNow_40 : decode cX4_fixNow 40 = .ok (.iconst 5, 1) := dk_8 (dk_at dksX4_fixNow_1 16 rfl rfl)
theorem dX4_fixNow_41 : decode cX4_fixNow 41 = .ok (.idiv, 1) := dk_108 (dk_at dksX4_fixNow_1 17 rfl rfl)
theorem dX4_fixNow_42 : decode cX4_fixNow 42 = .ok (.putfield 210, 3) := dk_181 0 210 (dk_at dksX4_fixNow_1 18 rfl rfl)
theorem dX4_fixNow_45 : decode cX4_fixNow 45 = .ok (.aload_n 0, 1) := dk_42 (dk_at dksX4_fixNow_1 21 rfl rfl)
theorem dX4_fixNow_46 : decode cX4_fixNow 46 = .ok (.dup, 1) := dk_89 (dk_at dksX4_fixNow_1 22 rfl rfl)
theorem dX4_fixNow_47 : decode cX4_fixNow 47 = .ok (.getfield 213, 3) := dk_180 0 213 (dk_at dksX4_fixNow_2 0 rfl rfl)
theorem dX4_fixNow_50 : decode cX4_fixNow 50 = .ok (.aload_n 3, 1) := dk_45 (dk_at dksX4_fixNow_2 3 rfl rfl)
theorem dX4_fixNow_51 : decode cX4_fixNow 51 = .ok (.getfield 210, 3) := dk_180 0 210 (dk_at dksX4_fixNow_2 4 rfl rfl)
theorem dX4_fixNow_54 : decode cX4_fixNow 54 = .ok (.iadd, 1) := dk_96 (dk_at dksX4_fixNow_2 7 rfl rfl)
theorem dX4_fixNow_55 : decode cX4_fixNow 55 = .ok (.putfield 213, 3) := dk_181 0 213 (dk_at dksX4_fixNow_2 8 rfl rfl)
theorem dX4_fixNow_58 : decode cX4_fixNow 58 = .ok (.return_, 1) := dk_177 (dk_at dksX4_fixNow_2 11 rfl rfl)
abbrev cX4_priceOf : ByteArray := prog_13_method_38_code
def yX4_priceOf : MethodName := ⟨RX4, "priceOf", "(I)I"⟩
def dkwX4_priceOf_0 : List UInt8 := [26, 16, 6, 104, 8, 108, 16, 50, 96, 172]
abbrev dktX4_priceOf_0 : List UInt8 := dkwX4_priceOf_0 ++ []
theorem dksX4_priceOf_0 : cX4_priceOf.data.toList.drop 0 = dktX4_priceOf_0 := by decide +kernel
theorem dX4_priceOf_0 : decode cX4_priceOf 0 = .ok (.iload_n 0, 1) := dk_26 (dk_at dksX4_priceOf_0 0 rfl rfl)
theorem dX4_priceOf_1 : decode cX4_priceOf 1 = .ok (.bipush 6, 2) := dk_16 6 (dk_at dksX4_priceOf_0 1 rfl rfl)
theorem dX4_priceOf_3 : decode cX4_priceOf 3 = .ok (.imul, 1) := dk_104 (dk_at dksX4_priceOf_0 3 rfl rfl)
theorem dX4_priceOf_4 : decode cX4_priceOf 4 = .ok (.iconst 5, 1) := dk_8 (dk_at dksX4_priceOf_0 4 rfl rfl)
theorem dX4_priceOf_5 : decode cX4_priceOf 5 = .ok (.idiv, 1) := dk_108 (dk_at dksX4_priceOf_0 5 rfl rfl)
theorem dX4_priceOf_6 : decode cX4_priceOf 6 = .ok (.bipush 50, 2) := dk_16 50 (dk_at dksX4_priceOf_0 6 rfl rfl)
theorem dX4_priceOf_8 : decode cX4_priceOf 8 = .ok (.iadd, 1) := dk_96 (dk_at dksX4_priceOf_0 8 rfl rfl)
theorem dX4_priceOf_9 : decode cX4_priceOf 9 = .ok (.ireturn, 1) := dk_172 (dk_at dksX4_priceOf_0 9 rfl rfl)
abbrev cX4_cancel : ByteArray := prog_13_method_42_code
def yX4_cancel : MethodName := ⟨RX4, "cancel", "(I)I"⟩
def dkwX4_cancel_4 : List UInt8 := [181, 0, 213, 44, 6, 181, 0, 124, 29, 172]
abbrev dktX4_cancel_4 : List UInt8 := dkwX4_cancel_4 ++ []
def dkwX4_cancel_3 : List UInt8 := [184, 0, 244, 54, 4, 44, 89, 180, 0, 210, 21, 4, 96, 181, 0, 210, 42, 89, 180, 0, 213, 21, 4, 96]
abbrev dktX4_cancel_3 : List UInt8 := dkwX4_cancel_3 ++ dktX4_cancel_4
def dkwX4_cancel_2 : List UInt8 := [180, 0, 124, 4, 160, 0, 11, 42, 44, 182, 0, 240, 167, 0, 4, 3, 62, 3, 29, 44, 180, 0, 210, 100]
abbrev dktX4_cancel_2 : List UInt8 := dkwX4_cancel_2 ++ dktX4_cancel_3
def dkwX4_cancel_1 : List UInt8 := [182, 0, 90, 192, 0, 122, 77, 44, 180, 0, 124, 4, 164, 0, 9, 42, 5, 182, 0, 60, 172, 44]
abbrev dktX4_cancel_1 : List UInt8 := dkwX4_cancel_1 ++ dktX4_cancel_2
def dkwX4_cancel_0 : List UInt8 := [42, 3, 181, 0, 44, 42, 27, 182, 0, 216, 154, 0, 9, 42, 4, 182, 0, 60, 172, 42, 180, 0, 19, 27]
abbrev dktX4_cancel_0 : List UInt8 := dkwX4_cancel_0 ++ dktX4_cancel_1
theorem dksX4_cancel_0 : cX4_cancel.data.toList.drop 0 = dktX4_cancel_0 := by decide +kernel
theorem dksX4_cancel_1 : cX4_cancel.data.toList.drop 24 = dktX4_cancel_1 := dk_seg dksX4_cancel_0 24 rfl rfl
theorem dksX4_cancel_2 : cX4_cancel.data.toList.drop 46 = dktX4_cancel_2 := dk_seg dksX4_cancel_1 22 rfl rfl
theorem dksX4_cancel_3 : cX4_cancel.data.toList.drop 70 = dktX4_cancel_3 := dk_seg dksX4_cancel_2 24 rfl rfl
theorem dksX4_cancel_4 : cX4_cancel.data.toList.drop 94 = dktX4_cancel_4 := dk_seg dksX4_cancel_3 24 rfl rfl
theorem dX4_cancel_0 : decode cX4_cancel 0 = .ok (.aload_n 0, 1) := dk_42 (dk_at dksX4_cancel_0 0 rfl rfl)
theorem dX4_cancel_1 : decode cX4_cancel 1 = .ok (.iconst 0, 1) := dk_3 (dk_at dksX4_cancel_0 1 rfl rfl)
theorem dX4_cancel_2 : decode cX4_cancel 2 = .ok (.putfield 44, 3) := dk_181 0 44 (dk_at dksX4_cancel_0 2 rfl rfl)
theorem dX4_cancel_5 : decode cX4_cancel 5 = .ok (.aload_n 0, 1) := dk_42 (dk_at dksX4_cancel_0 5 rfl rfl)
theorem dX4_cancel_6 : decode cX4_cancel 6 = .ok (.iload_n 1, 1) := dk_27 (dk_at dksX4_cancel_0 6 rfl rfl)
theorem dX4_cancel_7 : decode cX4_cancel 7 = .ok (.invokevirtual 216, 3) := dk_182 0 216 (dk_at dksX4_cancel_0 7 rfl rfl)
theorem dX4_cancel_10 : decode cX4_cancel 10 = .ok (.ifCond .ne 9, 3) := dk_154 0 9 (dk_at dksX4_cancel_0 10 rfl rfl)
theorem dX4_cancel_13 : decode cX4_cancel 13 = .ok (.aload_n 0, 1) := dk_42 (dk_at dksX4_cancel_0 13 rfl rfl)
theorem dX4_cancel_14 : decode cX4_cancel 14 = .ok (.iconst 1, 1) := dk_4 (dk_at dksX4_cancel_0 14 rfl rfl)
theorem dX4_cancel_15 : decode cX4_cancel 15 = .ok (.invokevirtual 60, 3) := dk_182 0 60 (dk_at dksX4_cancel_0 15 rfl rfl)
theorem dX4_cancel_18 : decode cX4_cancel 18 = .ok (.ireturn, 1) := dk_172 (dk_at dksX4_cancel_0 18 rfl rfl)
theorem dX4_cancel_19 : decode cX4_cancel 19 = .ok (.aload_n 0, 1) := dk_42 (dk_at dksX4_cancel_0 19 rfl rfl)
theorem dX4_cancel_20 : decode cX4_cancel 20 = .ok (.getfield 19, 3) := dk_180 0 19 (dk_at dksX4_cancel_0 20 rfl rfl)
theorem dX4_cancel_23 : decode cX4_cancel 23 = .ok (.iload_n 1, 1) := dk_27 (dk_at dksX4_cancel_0 23 rfl rfl)
theorem dX4_cancel_24 : decode cX4_cancel 24 = .ok (.invokevirtual 90, 3) := dk_182 0 90 (dk_at dksX4_cancel_1 0 rfl rfl)
theorem dX4_cancel_27 : decode cX4_cancel 27 = .ok (.checkcast 122, 3) := dk_192 0 122 (dk_at dksX4_cancel_1 3 rfl rfl)
theorem dX4_cancel_30 : decode cX4_cancel 30 = .ok (.astore_n 2, 1) := dk_77 (dk_at dksX4_cancel_1 6 rfl rfl)
theorem dX4_cancel_31 : decode cX4_cancel 31 = .ok (.aload_n 2, 1) := dk_44 (dk_at dksX4_cancel_1 7 rfl rfl)
theorem dX4_cancel_32 : decode cX4_cancel 32 = .ok (.getfield 124, 3) := dk_180 0 124 (dk_at dksX4_cancel_1 8 rfl rfl)
theorem dX4_cancel_35 : decode cX4_cancel 35 = .ok (.iconst 1, 1) := dk_4 (dk_at dksX4_cancel_1 11 rfl rfl)
theorem dX4_cancel_36 : decode cX4_cancel 36 = .ok (.if_icmp .le 9, 3) := dk_164 0 9 (dk_at dksX4_cancel_1 12 rfl rfl)
theorem dX4_cancel_39 : decode cX4_cancel 39 = .ok (.aload_n 0, 1) := dk_42 (dk_at dksX4_cancel_1 15 rfl rfl)
theorem dX4_cancel_40 : decode cX4_cancel 40 = .ok (.iconst 2, 1) := dk_5 (dk_at dksX4_cancel_1 16 rfl rfl)
theorem dX4_cancel_41 : decode cX4_cancel 41 = .ok (.invokevirtual 60, 3) := dk_182 0 60 (dk_at dksX4_cancel_1 17 rfl rfl)
theorem dX4_cancel_44 : decode cX4_cancel 44 = .ok (.ireturn, 1) := dk_172 (dk_at dksX4_cancel_1 20 rfl rfl)
theorem dX4_cancel_45 : decode cX4_cancel 45 = .ok (.aload_n 2, 1) := dk_44 (dk_at dksX4_cancel_1 21 rfl rfl)
theorem dX4_cancel_46 : decode cX4_cancel 46 = .ok (.getfield 124, 3) := dk_180 0 124 (dk_at dksX4_cancel_2 0 rfl rfl)
theorem dX4_cancel_49 : decode cX4_cancel 49 = .ok (.iconst 1, 1) := dk_4 (dk_at dksX4_cancel_2 3 rfl rfl)
theorem dX4_cancel_50 : decode cX4_cancel 50 = .ok (.if_icmp .ne 11, 3) := dk_160 0 11 (dk_at dksX4_cancel_2 4 rfl rfl)
theorem dX4_cancel_53 : decode cX4_cancel 53 = .ok (.aload_n 0, 1) := dk_42 (dk_at dksX4_cancel_2 7 rfl rfl)
theorem dX4_cancel_54 : decode cX4_cancel 54 = .ok (.aload_n 2, 1) := dk_44 (dk_at dksX4_cancel_2 8 rfl rfl)
theorem dX4_cancel_55 : decode cX4_cancel 55 = .ok (.invokevirtual 240, 3) := dk_182 0 240 (dk_at dksX4_cancel_2 9 rfl rfl)
theorem dX4_cancel_58 : decode cX4_cancel 58 = .ok (.goto 4, 3) := dk_167 0 4 (dk_at dksX4_cancel_2 12 rfl rfl)
theorem dX4_cancel_61 : decode cX4_cancel 61 = .ok (.iconst 0, 1) := dk_3 (dk_at dksX4_cancel_2 15 rfl rfl)
theorem dX4_cancel_62 : decode cX4_cancel 62 = .ok (.istore_n 3, 1) := dk_62 (dk_at dksX4_cancel_2 16 rfl rfl)
theorem dX4_cancel_63 : decode cX4_cancel 63 = .ok (.iconst 0, 1) := dk_3 (dk_at dksX4_cancel_2 17 rfl rfl)
theorem dX4_cancel_64 : decode cX4_cancel 64 = .ok (.iload_n 3, 1) := dk_29 (dk_at dksX4_cancel_2 18 rfl rfl)
theorem dX4_cancel_65 : decode cX4_cancel 65 = .ok (.aload_n 2, 1) := dk_44 (dk_at dksX4_cancel_2 19 rfl rfl)
theorem dX4_cancel_66 : decode cX4_cancel 66 = .ok (.getfield 210, 3) := dk_180 0 210 (dk_at dksX4_cancel_2 20 rfl rfl)
theorem dX4_cancel_69 : decode cX4_cancel 69 = .ok (.isub, 1) := dk_100 (dk_at dksX4_cancel_2 23 rfl rfl)
theorem dX4_cancel_70 : decode cX4_cancel 70 = .ok (.invokestatic 244, 3) := dk_184 0 244 (dk_at dksX4_cancel_3 0 rfl rfl)
theorem dX4_cancel_73 : decode cX4_cancel 73 = .ok (.istore 4, 2) := dk_54 4 (dk_at dksX4_cancel_3 3 rfl rfl)
theorem dX4_cancel_75 : decode cX4_cancel 75 = .ok (.aload_n 2, 1) := dk_44 (dk_at dksX4_cancel_3 5 rfl rfl)
theorem dX4_cancel_76 : decode cX4_cancel 76 = .ok (.dup, 1) := dk_89 (dk_at dksX4_cancel_3 6 rfl rfl)
theorem dX4_cancel_77 : decode cX4_cancel 77 = .ok (.getfield 210, 3) := dk_180 0 210 (dk_at dksX4_cancel_3 7 rfl rfl)
theorem dX4_cancel_80 : decode cX4_cancel 80 = .ok (.iload 4, 2) := dk_21 4 (dk_at dksX4_cancel_3 10 rfl rfl)
theorem dX4_cancel_82 : decode cX4_cancel 82 = .ok (.iadd, 1) := dk_96 (dk_at dksX4_cancel_3 12 rfl rfl)
theorem dX4_cancel_83 : decode cX4_cancel 83 = .ok (.putfield 210, 3) := dk_181 0 210 (dk_at dksX4_cancel_3 13 rfl rfl)
theorem dX4_cancel_86 : decode cX4_cancel 86 = .ok (.aload_n 0, 1) := dk_42 (dk_at dksX4_cancel_3 16 rfl rfl)
theorem dX4_cancel_87 : decode cX4_cancel 87 = .ok (.dup, 1) := dk_89 (dk_at dksX4_cancel_3 17 rfl rfl)
theorem dX4_cancel_88 : decode cX4_cancel 88 = .ok (.getfield 213, 3) := dk_180 0 213 (dk_at dksX4_cancel_3 18 rfl rfl)
theorem dX4_cancel_91 : decode cX4_cancel 91 = .ok (.iload 4, 2) := dk_21 4 (dk_at dksX4_cancel_3 21 rfl rfl)
theorem dX4_cancel_93 : decode cX4_cancel 93 = .ok (.iadd, 1) := dk_96 (dk_at dksX4_cancel_3 23 rfl rfl)
theorem dX4_cancel_94 : decode cX4_cancel 94 = .ok (.putfield 213, 3) := dk_181 0 213 (dk_at dksX4_cancel_4 0 rfl rfl)
theorem dX4_cancel_97 : decode cX4_cancel 97 = .ok (.aload_n 2, 1) := dk_44 (dk_at dksX4_cancel_4 3 rfl rfl)
theorem dX4_cancel_98 : decode cX4_cancel 98 = .ok (.iconst 3, 1) := dk_6 (dk_at dksX4_cancel_4 4 rfl rfl)
theorem dX4_cancel_99 : decode cX4_cancel 99 = .ok (.putfield 124, 3) := dk_181 0 124 (dk_at dksX4_cancel_4 5 rfl rfl)
theorem dX4_cancel_102 : decode cX4_cancel 102 = .ok (.iload_n 3, 1) := dk_29 (dk_at dksX4_cancel_4 8 rfl rfl)
theorem dX4_cancel_103 : decode cX4_cancel 103 = .ok (.ireturn, 1) := dk_172 (dk_at dksX4_cancel_4 9 rfl rfl)
abbrev cX4_owed : ByteArray := prog_13_method_41_code
def yX4_owed : MethodName := ⟨RX4, "owed", "(LFirstdanceAgencyModel$Wedding;)I"⟩
def dkwX4_owed_2 : List UInt8 := [180, 0, 207, 29, 104, 16, 100, 108, 172]
abbrev dktX4_owed_2 : List UInt8 := dkwX4_owed_2 ++ []
def dkwX4_owed_1 : List UInt8 := [161, 0, 8, 16, 40, 167, 0, 16, 28, 16, 7, 161, 0, 8, 16, 70, 167, 0, 5, 16, 100, 62, 43]
abbrev dktX4_owed_1 : List UInt8 := dkwX4_owed_1 ++ dktX4_owed_2
def dkwX4_owed_0 : List UInt8 := [43, 180, 0, 130, 42, 180, 0, 57, 100, 61, 28, 16, 30, 161, 0, 8, 16, 20, 167, 0, 27, 28, 16, 14]
abbrev dktX4_owed_0 : List UInt8 := dkwX4_owed_0 ++ dktX4_owed_1
theorem dksX4_owed_0 : cX4_owed.data.toList.drop 0 = dktX4_owed_0 := by decide +kernel
theorem dksX4_owed_1 : cX4_owed.data.toList.drop 24 = dktX4_owed_1 := dk_seg dksX4_owed_0 24 rfl rfl
theorem dksX4_owed_2 : cX4_owed.data.toList.drop 47 = dktX4_owed_2 := dk_seg dksX4_owed_1 23 rfl rfl
theorem dX4_owed_0 : decode cX4_owed 0 = .ok (.aload_n 1, 1) := dk_43 (dk_at dksX4_owed_0 0 rfl rfl)
theorem dX4_owed_1 : decode cX4_owed 1 = .ok (.getfield 130, 3) := dk_180 0 130 (dk_at dksX4_owed_0 1 rfl rfl)
theorem dX4_owed_4 : decode cX4_owed 4 = .ok (.aload_n 0, 1) := dk_42 (dk_at dksX4_owed_0 4 rfl rfl)
theorem dX4_owed_5 : decode cX4_owed 5 = .ok (.getfield 57, 3) := dk_180 0 57 (dk_at dksX4_owed_0 5 rfl rfl)
theorem dX4_owed_8 : decode cX4_owed 8 = .ok (.isub, 1) := dk_100 (dk_at dksX4_owed_0 8 rfl rfl)
theorem dX4_owed_9 : decode cX4_owed 9 = .ok (.istore_n 2, 1) := dk_61 (dk_at dksX4_owed_0 9 rfl rfl)
theorem dX4_owed_10 : decode cX4_owed 10 = .ok (.iload_n 2, 1) := dk_28 (dk_at dksX4_owed_0 10 rfl rfl)
theorem dX4_owed_11 : decode cX4_owed 11 = .ok (.bipush 30, 2) := dk_16 30 (dk_at dksX4_owed_0 11 rfl rfl)
theorem dX4_owed_13 : decode cX4_owed 13 = .ok (.if_icmp .lt 8, 3) := dk_161 0 8 (dk_at dksX4_owed_0 13 rfl rfl)
theorem dX4_owed_16 : decode cX4_owed 16 = .ok (.bipush 20, 2) := dk_16 20 (dk_at dksX4_owed_0 16 rfl rfl)
theorem dX4_owed_18 : decode cX4_owed 18 = .ok (.goto 27, 3) := dk_167 0 27 (dk_at dksX4_owed_0 18 rfl rfl)
theorem dX4_owed_21 : decode cX4_owed 21 = .ok (.iload_n 2, 1) := dk_28 (dk_at dksX4_owed_0 21 rfl rfl)
theorem dX4_owed_22 : decode cX4_owed 22 = .ok (.bipush 14, 2) := dk_16 14 (dk_at dksX4_owed_0 22 rfl rfl)
theorem dX4_owed_24 : decode cX4_owed 24 = .ok (.if_icmp .lt 8, 3) := dk_161 0 8 (dk_at dksX4_owed_1 0 rfl rfl)
theorem dX4_owed_27 : decode cX4_owed 27 = .ok (.bipush 40, 2) := dk_16 40 (dk_at dksX4_owed_1 3 rfl rfl)
theorem dX4_owed_29 : decode cX4_owed 29 = .ok (.goto 16, 3) := dk_167 0 16 (dk_at dksX4_owed_1 5 rfl rfl)
theorem dX4_owed_32 : decode cX4_owed 32 = .ok (.iload_n 2, 1) := dk_28 (dk_at dksX4_owed_1 8 rfl rfl)
theorem dX4_owed_33 : decode cX4_owed 33 = .ok (.bipush 7, 2) := dk_16 7 (dk_at dksX4_owed_1 9 rfl rfl)
theorem dX4_owed_35 : decode cX4_owed 35 = .ok (.if_icmp .lt 8, 3) := dk_161 0 8 (dk_at dksX4_owed_1 11 rfl rfl)
theorem dX4_owed_38 : decode cX4_owed 38 = .ok (.bipush 70, 2) := dk_16 70 (dk_at dksX4_owed_1 14 rfl rfl)
theorem dX4_owed_40 : decode cX4_owed 40 = .ok (.goto 5, 3) := dk_167 0 5 (dk_at dksX4_owed_1 16 rfl rfl)
theorem dX4_owed_43 : decode cX4_owed 43 = .ok (.bipush 100, 2) := dk_16 100 (dk_at dksX4_owed_1 19 rfl rfl)
theorem dX4_owed_45 : decode cX4_owed 45 = .ok (.istore_n 3, 1) := dk_62 (dk_at dksX4_owed_1 21 rfl rfl)
theorem dX4_owed_46 : decode cX4_owed 46 = .ok (.aload_n 1, 1) := dk_43 (dk_at dksX4_owed_1 22 rfl rfl)
theorem dX4_owed_47 : decode cX4_owed 47 = .ok (.getfield 207, 3) := dk_180 0 207 (dk_at dksX4_owed_2 0 rfl rfl)
theorem dX4_owed_50 : decode cX4_owed 50 = .ok (.iload_n 3, 1) := dk_29 (dk_at dksX4_owed_2 3 rfl rfl)
theorem dX4_owed_51 : decode cX4_owed 51 = .ok (.imul, 1) := dk_104 (dk_at dksX4_owed_2 4 rfl rfl)
theorem dX4_owed_52 : decode cX4_owed 52 = .ok (.bipush 100, 2) := dk_16 100 (dk_at dksX4_owed_2 5 rfl rfl)
theorem dX4_owed_54 : decode cX4_owed 54 = .ok (.idiv, 1) := dk_108 (dk_at dksX4_owed_2 7 rfl rfl)
theorem dX4_owed_55 : decode cX4_owed 55 = .ok (.ireturn, 1) := dk_172 (dk_at dksX4_owed_2 8 rfl rfl)
abbrev cX4_ill : ByteArray := prog_13_method_44_code
def yX4_ill : MethodName := ⟨RX4, "ill", "(II)I"⟩
def dkwX4_ill_1 : List UInt8 := [153, 0, 12, 42, 27, 28, 182, 0, 249, 167, 0, 8, 42, 5, 182, 0, 60, 172]
abbrev dktX4_ill_1 : List UInt8 := dkwX4_ill_1 ++ []
def dkwX4_ill_0 : List UInt8 := [42, 3, 181, 0, 44, 42, 27, 182, 0, 87, 154, 0, 9, 42, 4, 182, 0, 60, 172, 42, 28, 182, 0, 136]
abbrev dktX4_ill_0 : List UInt8 := dkwX4_ill_0 ++ dktX4_ill_1
theorem dksX4_ill_0 : cX4_ill.data.toList.drop 0 = dktX4_ill_0 := by decide +kernel
theorem dksX4_ill_1 : cX4_ill.data.toList.drop 24 = dktX4_ill_1 := dk_seg dksX4_ill_0 24 rfl rfl
theorem dX4_ill_0 : decode cX4_ill 0 = .ok (.aload_n 0, 1) := dk_42 (dk_at dksX4_ill_0 0 rfl rfl)
theorem dX4_ill_1 : decode cX4_ill 1 = .ok (.iconst 0, 1) := dk_3 (dk_at dksX4_ill_0 1 rfl rfl)
theorem dX4_ill_2 : decode cX4_ill 2 = .ok (.putfield 44, 3) := dk_181 0 44 (dk_at dksX4_ill_0 2 rfl rfl)
theorem dX4_ill_5 : decode cX4_ill 5 = .ok (.aload_n 0, 1) := dk_42 (dk_at dksX4_ill_0 5 rfl rfl)
theorem dX4_ill_6 : decode cX4_ill 6 = .ok (.iload_n 1, 1) := dk_27 (dk_at dksX4_ill_0 6 rfl rfl)
theorem dX4_ill_7 : decode cX4_ill 7 = .ok (.invokevirtual 87, 3) := dk_182 0 87 (dk_at dksX4_ill_0 7 rfl rfl)
theorem dX4_ill_10 : decode cX4_ill 10 = .ok (.ifCond .ne 9, 3) := dk_154 0 9 (dk_at dksX4_ill_0 10 rfl rfl)
theorem dX4_ill_13 : decode cX4_ill 13 = .ok (.aload_n 0, 1) := dk_42 (dk_at dksX4_ill_0 13 rfl rfl)
theorem dX4_ill_14 : decode cX4_ill 14 = .ok (.iconst 1, 1) := dk_4 (dk_at dksX4_ill_0 14 rfl rfl)
theorem dX4_ill_15 : decode cX4_ill 15 = .ok (.invokevirtual 60, 3) := dk_182 0 60 (dk_at dksX4_ill_0 15 rfl rfl)
theorem dX4_ill_18 : decode cX4_ill 18 = .ok (.ireturn, 1) := dk_172 (dk_at dksX4_ill_0 18 rfl rfl)
theorem dX4_ill_19 : decode cX4_ill 19 = .ok (.aload_n 0, 1) := dk_42 (dk_at dksX4_ill_0 19 rfl rfl)
theorem dX4_ill_20 : decode cX4_ill 20 = .ok (.iload_n 2, 1) := dk_28 (dk_at dksX4_ill_0 20 rfl rfl)
theorem dX4_ill_21 : decode cX4_ill 21 = .ok (.invokevirtual 136, 3) := dk_182 0 136 (dk_at dksX4_ill_0 21 rfl rfl)
theorem dX4_ill_24 : decode cX4_ill 24 = .ok (.ifCond .eq 12, 3) := dk_153 0 12 (dk_at dksX4_ill_1 0 rfl rfl)
theorem dX4_ill_27 : decode cX4_ill 27 = .ok (.aload_n 0, 1) := dk_42 (dk_at dksX4_ill_1 3 rfl rfl)
theorem dX4_ill_28 : decode cX4_ill 28 = .ok (.iload_n 1, 1) := dk_27 (dk_at dksX4_ill_1 4 rfl rfl)
theorem dX4_ill_29 : decode cX4_ill 29 = .ok (.iload_n 2, 1) := dk_28 (dk_at dksX4_ill_1 5 rfl rfl)
theorem dX4_ill_30 : decode cX4_ill 30 = .ok (.invokevirtual 249, 3) := dk_182 0 249 (dk_at dksX4_ill_1 6 rfl rfl)
theorem dX4_ill_33 : decode cX4_ill 33 = .ok (.goto 8, 3) := dk_167 0 8 (dk_at dksX4_ill_1 9 rfl rfl)
theorem dX4_ill_36 : decode cX4_ill 36 = .ok (.aload_n 0, 1) := dk_42 (dk_at dksX4_ill_1 12 rfl rfl)
theorem dX4_ill_37 : decode cX4_ill 37 = .ok (.iconst 2, 1) := dk_5 (dk_at dksX4_ill_1 13 rfl rfl)
theorem dX4_ill_38 : decode cX4_ill 38 = .ok (.invokevirtual 60, 3) := dk_182 0 60 (dk_at dksX4_ill_1 14 rfl rfl)
theorem dX4_ill_41 : decode cX4_ill 41 = .ok (.ireturn, 1) := dk_172 (dk_at dksX4_ill_1 17 rfl rfl)
abbrev cX4_illNow : ByteArray := prog_13_method_43_code
def yX4_illNow : MethodName := ⟨RX4, "illNow", "(II)I"⟩
def dkwX4_illNow_6 : List UInt8 := [25, 5, 180, 0, 207, 16, 10, 108, 116, 181, 0, 210, 132, 3, 1, 132, 4, 1, 167, 255, 118, 29, 172]
abbrev dktX4_illNow_6 : List UInt8 := dkwX4_illNow_6 ++ []
def dkwX4_illNow_5 : List UInt8 := [180, 0, 213, 25, 5, 180, 0, 210, 25, 5, 180, 0, 207, 16, 10, 108, 96, 100, 181, 0, 213, 25, 5]
abbrev dktX4_illNow_5 : List UInt8 := dkwX4_illNow_5 ++ dktX4_illNow_6
def dkwX4_illNow_4 : List UInt8 := [21, 6, 2, 159, 0, 13, 25, 5, 21, 6, 181, 0, 160, 167, 0, 49, 25, 5, 6, 181, 0, 124, 42, 89]
abbrev dktX4_illNow_4 : List UInt8 := dkwX4_illNow_4 ++ dktX4_illNow_5
def dkwX4_illNow_3 : List UInt8 := [184, 0, 102, 154, 0, 6, 167, 0, 79, 42, 21, 4, 3, 25, 5, 180, 0, 160, 182, 0, 200, 54, 6]
abbrev dktX4_illNow_3 : List UInt8 := dkwX4_illNow_3 ++ dktX4_illNow_4
def dkwX4_illNow_2 : List UInt8 := [25, 5, 180, 0, 124, 4, 160, 0, 103, 25, 5, 180, 0, 130, 28, 160, 0, 94, 25, 5, 180, 0, 160, 27]
abbrev dktX4_illNow_2 : List UInt8 := dkwX4_illNow_2 ++ dktX4_illNow_3
def dkwX4_illNow_1 : List UInt8 := [42, 180, 0, 19, 182, 0, 48, 162, 0, 132, 42, 180, 0, 19, 21, 4, 182, 0, 90, 192, 0, 122, 58, 5]
abbrev dktX4_illNow_1 : List UInt8 := dkwX4_illNow_1 ++ dktX4_illNow_2
def dkwX4_illNow_0 : List UInt8 := [42, 180, 0, 10, 27, 182, 0, 90, 192, 0, 68, 180, 0, 156, 28, 4, 84, 3, 62, 3, 54, 4, 21, 4]
abbrev dktX4_illNow_0 : List UInt8 := dkwX4_illNow_0 ++ dktX4_illNow_1
theorem dksX4_illNow_0 : cX4_illNow.data.toList.drop 0 = dktX4_illNow_0 := by decide +kernel
theorem dksX4_illNow_1 : cX4_illNow.data.toList.drop 24 = dktX4_illNow_1 := dk_seg dksX4_illNow_0 24 rfl rfl
theorem dksX4_illNow_2 : cX4_illNow.data.toList.drop 48 = dktX4_illNow_2 := dk_seg dksX4_illNow_1 24 rfl rfl
theorem dksX4_illNow_3 : cX4_illNow.data.toList.drop 72 = dktX4_illNow_3 := dk_seg dksX4_illNow_2 24 rfl rfl
theorem dksX4_illNow_4 : cX4_illNow.data.toList.drop 95 = dktX4_illNow_4 := dk_seg dksX4_illNow_3 23 rfl rfl
theorem dksX4_illNow_5 : cX4_illNow.data.toList.drop 119 = dktX4_illNow_5 := dk_seg dksX4_illNow_4 24 rfl rfl
theorem dksX4_illNow_6 : cX4_illNow.data.toList.drop 142 = dktX4_illNow_6 := dk_seg dksX4_illNow_5 23 rfl rfl
theorem dX4_illNow_0 : decode cX4_illNow 0 = .ok (.aload_n 0, 1) := dk_42 (dk_at dksX4_illNow_0 0 rfl rfl)
theorem dX4_illNow_1 : decode cX4_illNow 1 = .ok (.getfield 10, 3) := dk_180 0 10 (dk_at dksX4_illNow_0 1 rfl rfl)
theorem dX4_illNow_4 : decode cX4_illNow 4 = .ok (.iload_n 1, 1) := dk_27 (dk_at dksX4_illNow_0 4 rfl rfl)
theorem dX4_illNow_5 : decode cX4_illNow 5 = .ok (.invokevirtual 90, 3) := dk_182 0 90 (dk_at dksX4_illNow_0 5 rfl rfl)
theorem dX4_illNow_8 : decode cX4_illNow 8 = .ok (.checkcast 68, 3) := dk_192 0 68 (dk_at dksX4_illNow_0 8 rfl rfl)
theorem dX4_illNow_11 : decode cX4_illNow 11 = .ok (.getfield 156, 3) := dk_180 0 156 (dk_at dksX4_illNow_0 11 rfl rfl)
theorem dX4_illNow_14 : decode cX4_illNow 14 = .ok (.iload_n 2, 1) := dk_28 (dk_at dksX4_illNow_0 14 rfl rfl)
theorem dX4_illNow_15 : decode cX4_illNow 15 = .ok (.iconst 1, 1) := dk_4 (dk_at dksX4_illNow_0 15 rfl rfl)
theorem dX4_illNow_16 : decode cX4_illNow 16 = .ok (.bastore, 1) := dk_84 (dk_at dksX4_illNow_0 16 rfl rfl)
theorem dX4_illNow_17 : decode cX4_illNow 17 = .ok (.iconst 0, 1) := dk_3 (dk_at dksX4_illNow_0 17 rfl rfl)
theorem dX4_illNow_18 : decode cX4_illNow 18 = .ok (.istore_n 3, 1) := dk_62 (dk_at dksX4_illNow_0 18 rfl rfl)
theorem dX4_illNow_19 : decode cX4_illNow 19 = .ok (.iconst 0, 1) := dk_3 (dk_at dksX4_illNow_0 19 rfl rfl)
theorem dX4_illNow_20 : decode cX4_illNow 20 = .ok (.istore 4, 2) := dk_54 4 (dk_at dksX4_illNow_0 20 rfl rfl)
theorem dX4_illNow_22 : decode cX4_illNow 22 = .ok (.iload 4, 2) := dk_21 4 (dk_at dksX4_illNow_0 22 rfl rfl)
theorem dX4_illNow_24 : decode cX4_illNow 24 = .ok (.aload_n 0, 1) := dk_42 (dk_at dksX4_illNow_1 0 rfl rfl)
theorem dX4_illNow_25 : decode cX4_illNow 25 = .ok (.getfield 19, 3) := dk_180 0 19 (dk_at dksX4_illNow_1 1 rfl rfl)
theorem dX4_illNow_28 : decode cX4_illNow 28 = .ok (.invokevirtual 48, 3) := dk_182 0 48 (dk_at dksX4_illNow_1 4 rfl rfl)
theorem dX4_illNow_31 : decode cX4_illNow 31 = .ok (.if_icmp .ge 132, 3) := dk_162 0 132 (dk_at dksX4_illNow_1 7 rfl rfl)
theorem dX4_illNow_34 : decode cX4_illNow 34 = .ok (.aload_n 0, 1) := dk_42 (dk_at dksX4_illNow_1 10 rfl rfl)
theorem dX4_illNow_35 : decode cX4_illNow 35 = .ok (.getfield 19, 3) := dk_180 0 19 (dk_at dksX4_illNow_1 11 rfl rfl)
theorem dX4_illNow_38 : decode cX4_illNow 38 = .ok (.iload 4, 2) := dk_21 4 (dk_at dksX4_illNow_1 14 rfl rfl)
theorem dX4_illNow_40 : decode cX4_illNow 40 = .ok (.invokevirtual 90, 3) := dk_182 0 90 (dk_at dksX4_illNow_1 16 rfl rfl)
theorem dX4_illNow_43 : decode cX4_illNow 43 = .ok (.checkcast 122, 3) := dk_192 0 122 (dk_at dksX4_illNow_1 19 rfl rfl)
theorem dX4_illNow_46 : decode cX4_illNow 46 = .ok (.astore 5, 2) := dk_58 5 (dk_at dksX4_illNow_1 22 rfl rfl)
theorem dX4_illNow_48 : decode cX4_illNow 48 = .ok (.aload 5, 2) := dk_25 5 (dk_at dksX4_illNow_2 0 rfl rfl)
theorem dX4_illNow_50 : decode cX4_illNow 50 = .ok (.getfield 124, 3) := dk_180 0 124 (dk_at dksX4_illNow_2 2 rfl rfl)
theorem dX4_illNow_53 : decode cX4_illNow 53 = .ok (.iconst 1, 1) := dk_4 (dk_at dksX4_illNow_2 5 rfl rfl)
theorem dX4_illNow_54 : decode cX4_illNow 54 = .ok (.if_icmp .ne 103, 3) := dk_160 0 103 (dk_at dksX4_illNow_2 6 rfl rfl)
theorem dX4_illNow_57 : decode cX4_illNow 57 = .ok (.aload 5, 2) := dk_25 5 (dk_at dksX4_illNow_2 9 rfl rfl)
theorem dX4_illNow_59 : decode cX4_illNow 59 = .ok (.getfield 130, 3) := dk_180 0 130 (dk_at dksX4_illNow_2 11 rfl rfl)
theorem dX4_illNow_62 : decode cX4_illNow 62 = .ok (.iload_n 2, 1) := dk_28 (dk_at dksX4_illNow_2 14 rfl rfl)
theorem dX4_illNow_63 : decode cX4_illNow 63 = .ok (.if_icmp .ne 94, 3) := dk_160 0 94 (dk_at dksX4_illNow_2 15 rfl rfl)
theorem dX4_illNow_66 : decode cX4_illNow 66 = .ok (.aload 5, 2) := dk_25 5 (dk_at dksX4_illNow_2 18 rfl rfl)
theorem dX4_illNow_68 : decode cX4_illNow 68 = .ok (.getfield 160, 3) := dk_180 0 160 (dk_at dksX4_illNow_2 20 rfl rfl)
theorem dX4_illNow_71 : decode cX4_illNow 71 = .ok (.iload_n 1, 1) := dk_27 (dk_at dksX4_illNow_2 23 rfl rfl)
theorem dX4_illNow_72 : decode cX4_illNow 72 = .ok (.invokestatic 102, 3) := dk_184 0 102 (dk_at dksX4_illNow_3 0 rfl rfl)
theorem dX4_illNow_75 : decode cX4_illNow 75 = .ok (.ifCond .ne 6, 3) := dk_154 0 6 (dk_at dksX4_illNow_3 3 rfl rfl)
theorem dX4_illNow_78 : decode cX4_illNow 78 = .ok (.goto 79, 3) := dk_167 0 79 (dk_at dksX4_illNow_3 6 rfl rfl)
theorem dX4_illNow_81 : decode cX4_illNow 81 = .ok (.aload_n 0, 1) := dk_42 (dk_at dksX4_illNow_3 9 rfl rfl)
theorem dX4_illNow_82 : decode cX4_illNow 82 = .ok (.iload 4, 2) := dk_21 4 (dk_at dksX4_illNow_3 10 rfl rfl)
theorem dX4_illNow_84 : decode cX4_illNow 84 = .ok (.iconst 0, 1) := dk_3 (dk_at dksX4_illNow_3 12 rfl rfl)
theorem dX4_illNow_85 : decode cX4_illNow 85 = .ok (.aload 5, 2) := dk_25 5 (dk_at dksX4_illNow_3 13 rfl rfl)
theorem dX4_illNow_87 : decode cX4_illNow 87 = .ok (.getfield 160, 3) := dk_180 0 160 (dk_at dksX4_illNow_3 15 rfl rfl)
theorem dX4_illNow_90 : decode cX4_illNow 90 = .ok (.invokevirtual 200, 3) := dk_182 0 200 (dk_at dksX4_illNow_3 18 rfl rfl)
theorem dX4_illNow_93 : decode cX4_illNow 93 = .ok (.istore 6, 2) := dk_54 6 (dk_at dksX4_illNow_3 21 rfl rfl)
theorem dX4_illNow_95 : decode cX4_illNow 95 = .ok (.iload 6, 2) := dk_21 6 (dk_at dksX4_illNow_4 0 rfl rfl)
theorem dX4_illNow_97 : decode cX4_illNow 97 = .ok (.iconst (-1), 1) := dk_2 (dk_at dksX4_illNow_4 2 rfl rfl)
theorem dX4_illNow_98 : decode cX4_illNow 98 = .ok (.if_icmp .eq 13, 3) := dk_159 0 13 (dk_at dksX4_illNow_4 3 rfl rfl)
theorem dX4_illNow_101 : decode cX4_illNow 101 = .ok (.aload 5, 2) := dk_25 5 (dk_at dksX4_illNow_4 6 rfl rfl)
theorem dX4_illNow_103 : decode cX4_illNow 103 = .ok (.iload 6, 2) := dk_21 6 (dk_at dksX4_illNow_4 8 rfl rfl)
theorem dX4_illNow_105 : decode cX4_illNow 105 = .ok (.putfield 160, 3) := dk_181 0 160 (dk_at dksX4_illNow_4 10 rfl rfl)
theorem dX4_illNow_108 : decode cX4_illNow 108 = .ok (.goto 49, 3) := dk_167 0 49 (dk_at dksX4_illNow_4 13 rfl rfl)
theorem dX4_illNow_111 : decode cX4_illNow 111 = .ok (.aload 5, 2) := dk_25 5 (dk_at dksX4_illNow_4 16 rfl rfl)
theorem dX4_illNow_113 : decode cX4_illNow 113 = .ok (.iconst 3, 1) := dk_6 (dk_at dksX4_illNow_4 18 rfl rfl)
theorem dX4_illNow_114 : decode cX4_illNow 114 = .ok (.putfield 124, 3) := dk_181 0 124 (dk_at dksX4_illNow_4 19 rfl rfl)
theorem dX4_illNow_117 : decode cX4_illNow 117 = .ok (.aload_n 0, 1) := dk_42 (dk_at dksX4_illNow_4 22 rfl rfl)
theorem dX4_illNow_118 : decode cX4_illNow 118 = .ok (.dup, 1) := dk_89 (dk_at dksX4_illNow_4 23 rfl rfl)
theorem dX4_illNow_119 : decode cX4_illNow 119 = .ok (.getfield 213, 3) := dk_180 0 213 (dk_at dksX4_illNow_5 0 rfl rfl)
theorem dX4_illNow_122 : decode cX4_illNow 122 = .ok (.aload 5, 2) := dk_25 5 (dk_at dksX4_illNow_5 3 rfl rfl)
theorem dX4_illNow_124 : decode cX4_illNow 124 = .ok (.getfield 210, 3) := dk_180 0 210 (dk_at dksX4_illNow_5 5 rfl rfl)
theorem dX4_illNow_127 : decode cX4_illNow 127 = .ok (.aload 5, 2) := dk_25 5 (dk_at dksX4_illNow_5 8 rfl rfl)
theorem dX4_illNow_129 : decode cX4_illNow 129 = .ok (.getfield 207, 3) := dk_180 0 207 (dk_at dksX4_illNow_5 10 rfl rfl)
theorem dX4_illNow_132 : decode cX4_illNow 132 = .ok (.bipush 10, 2) := dk_16 10 (dk_at dksX4_illNow_5 13 rfl rfl)
theorem dX4_illNow_134 : decode cX4_illNow 134 = .ok (.idiv, 1) := dk_108 (dk_at dksX4_illNow_5 15 rfl rfl)
theorem dX4_illNow_135 : decode cX4_illNow 135 = .ok (.iadd, 1) := dk_96 (dk_at dksX4_illNow_5 16 rfl rfl)
theorem dX4_illNow_136 : decode cX4_illNow 136 = .ok (.isub, 1) := dk_100 (dk_at dksX4_illNow_5 17 rfl rfl)
theorem dX4_illNow_137 : decode cX4_illNow 137 = .ok (.putfield 213, 3) := dk_181 0 213 (dk_at dksX4_illNow_5 18 rfl rfl)
theorem dX4_illNow_140 : decode cX4_illNow 140 = .ok (.aload 5, 2) := dk_25 5 (dk_at dksX4_illNow_5 21 rfl rfl)
theorem dX4_illNow_142 : decode cX4_illNow 142 = .ok (.aload 5, 2) := dk_25 5 (dk_at dksX4_illNow_6 0 rfl rfl)
theorem dX4_illNow_144 : decode cX4_illNow 144 = .ok (.getfield 207, 3) := dk_180 0 207 (dk_at dksX4_illNow_6 2 rfl rfl)
theorem dX4_illNow_147 : decode cX4_illNow 147 = .ok (.bipush 10, 2) := dk_16 10 (dk_at dksX4_illNow_6 5 rfl rfl)
theorem dX4_illNow_149 : decode cX4_illNow 149 = .ok (.idiv, 1) := dk_108 (dk_at dksX4_illNow_6 7 rfl rfl)
theorem dX4_illNow_150 : decode cX4_illNow 150 = .ok (.ineg, 1) := dk_116 (dk_at dksX4_illNow_6 8 rfl rfl)
theorem dX4_illNow_151 : decode cX4_illNow 151 = .ok (.putfield 210, 3) := dk_181 0 210 (dk_at dksX4_illNow_6 9 rfl rfl)
theorem dX4_illNow_154 : decode cX4_illNow 154 = .ok (.iinc 3 1, 3) := dk_132 3 1 (dk_at dksX4_illNow_6 12 rfl rfl)
theorem dX4_illNow_157 : decode cX4_illNow 157 = .ok (.iinc 4 1, 3) := dk_132 4 1 (dk_at dksX4_illNow_6 15 rfl rfl)
theorem dX4_illNow_160 : decode cX4_illNow 160 = .ok (.goto (-138), 3) := dk_167 255 118 (dk_at dksX4_illNow_6 18 rfl rfl)
theorem dX4_illNow_163 : decode cX4_illNow 163 = .ok (.iload_n 3, 1) := dk_29 (dk_at dksX4_illNow_6 21 rfl rfl)
theorem dX4_illNow_164 : decode cX4_illNow 164 = .ok (.ireturn, 1) := dk_172 (dk_at dksX4_illNow_6 22 rfl rfl)
abbrev cX4_late : ByteArray := prog_13_method_45_code
def yX4_late : MethodName := ⟨RX4, "late", "(II)I"⟩
def dkwX4_late_2 : List UInt8 := [45, 180, 0, 124, 4, 159, 0, 9, 42, 6, 182, 0, 60, 172, 45, 28, 181, 0, 252, 45, 182, 0, 255, 172]
abbrev dktX4_late_2 : List UInt8 := dkwX4_late_2 ++ []
def dkwX4_late_1 : List UInt8 := [184, 0, 52, 154, 0, 9, 42, 5, 182, 0, 60, 172, 42, 180, 0, 19, 27, 182, 0, 90, 192, 0, 122, 78]
abbrev dktX4_late_1 : List UInt8 := dkwX4_late_1 ++ dktX4_late_2
def dkwX4_late_0 : List UInt8 := [42, 3, 181, 0, 44, 42, 27, 182, 0, 216, 154, 0, 9, 42, 4, 182, 0, 60, 172, 28, 3, 17, 0, 240]
abbrev dktX4_late_0 : List UInt8 := dkwX4_late_0 ++ dktX4_late_1
theorem dksX4_late_0 : cX4_late.data.toList.drop 0 = dktX4_late_0 := by decide +kernel
theorem dksX4_late_1 : cX4_late.data.toList.drop 24 = dktX4_late_1 := dk_seg dksX4_late_0 24 rfl rfl
theorem dksX4_late_2 : cX4_late.data.toList.drop 48 = dktX4_late_2 := dk_seg dksX4_late_1 24 rfl rfl
theorem dX4_late_0 : decode cX4_late 0 = .ok (.aload_n 0, 1) := dk_42 (dk_at dksX4_late_0 0 rfl rfl)
theorem dX4_late_1 : decode cX4_late 1 = .ok (.iconst 0, 1) := dk_3 (dk_at dksX4_late_0 1 rfl rfl)
theorem dX4_late_2 : decode cX4_late 2 = .ok (.putfield 44, 3) := dk_181 0 44 (dk_at dksX4_late_0 2 rfl rfl)
theorem dX4_late_5 : decode cX4_late 5 = .ok (.aload_n 0, 1) := dk_42 (dk_at dksX4_late_0 5 rfl rfl)
theorem dX4_late_6 : decode cX4_late 6 = .ok (.iload_n 1, 1) := dk_27 (dk_at dksX4_late_0 6 rfl rfl)
theorem dX4_late_7 : decode cX4_late 7 = .ok (.invokevirtual 216, 3) := dk_182 0 216 (dk_at dksX4_late_0 7 rfl rfl)
theorem dX4_late_10 : decode cX4_late 10 = .ok (.ifCond .ne 9, 3) := dk_154 0 9 (dk_at dksX4_late_0 10 rfl rfl)
theorem dX4_late_13 : decode cX4_late 13 = .ok (.aload_n 0, 1) := dk_42 (dk_at dksX4_late_0 13 rfl rfl)
theorem dX4_late_14 : decode cX4_late 14 = .ok (.iconst 1, 1) := dk_4 (dk_at dksX4_late_0 14 rfl rfl)
theorem dX4_late_15 : decode cX4_late 15 = .ok (.invokevirtual 60, 3) := dk_182 0 60 (dk_at dksX4_late_0 15 rfl rfl)
theorem dX4_late_18 : decode cX4_late 18 = .ok (.ireturn, 1) := dk_172 (dk_at dksX4_late_0 18 rfl rfl)
theorem dX4_late_19 : decode cX4_late 19 = .ok (.iload_n 2, 1) := dk_28 (dk_at dksX4_late_0 19 rfl rfl)
theorem dX4_late_20 : decode cX4_late 20 = .ok (.iconst 0, 1) := dk_3 (dk_at dksX4_late_0 20 rfl rfl)
theorem dX4_late_21 : decode cX4_late 21 = .ok (.sipush 240, 3) := dk_17 0 240 (dk_at dksX4_late_0 21 rfl rfl)
theorem dX4_late_24 : decode cX4_late 24 = .ok (.invokestatic 52, 3) := dk_184 0 52 (dk_at dksX4_late_1 0 rfl rfl)
theorem dX4_late_27 : decode cX4_late 27 = .ok (.ifCond .ne 9, 3) := dk_154 0 9 (dk_at dksX4_late_1 3 rfl rfl)
theorem dX4_late_30 : decode cX4_late 30 = .ok (.aload_n 0, 1) := dk_42 (dk_at dksX4_late_1 6 rfl rfl)
theorem dX4_late_31 : decode cX4_late 31 = .ok (.iconst 2, 1) := dk_5 (dk_at dksX4_late_1 7 rfl rfl)
theorem dX4_late_32 : decode cX4_late 32 = .ok (.invokevirtual 60, 3) := dk_182 0 60 (dk_at dksX4_late_1 8 rfl rfl)
theorem dX4_late_35 : decode cX4_late 35 = .ok (.ireturn, 1) := dk_172 (dk_at dksX4_late_1 11 rfl rfl)
theorem dX4_late_36 : decode cX4_late 36 = .ok (.aload_n 0, 1) := dk_42 (dk_at dksX4_late_1 12 rfl rfl)
theorem dX4_late_37 : decode cX4_late 37 = .ok (.getfield 19, 3) := dk_180 0 19 (dk_at dksX4_late_1 13 rfl rfl)
theorem dX4_late_40 : decode cX4_late 40 = .ok (.iload_n 1, 1) := dk_27 (dk_at dksX4_late_1 16 rfl rfl)
theorem dX4_late_41 : decode cX4_late 41 = .ok (.invokevirtual 90, 3) := dk_182 0 90 (dk_at dksX4_late_1 17 rfl rfl)
theorem dX4_late_44 : decode cX4_late 44 = .ok (.checkcast 122, 3) := dk_192 0 122 (dk_at dksX4_late_1 20 rfl rfl)
theorem dX4_late_47 : decode cX4_late 47 = .ok (.astore_n 3, 1) := dk_78 (dk_at dksX4_late_1 23 rfl rfl)
theorem dX4_late_48 : decode cX4_late 48 = .ok (.aload_n 3, 1) := dk_45 (dk_at dksX4_late_2 0 rfl rfl)
theorem dX4_late_49 : decode cX4_late 49 = .ok (.getfield 124, 3) := dk_180 0 124 (dk_at dksX4_late_2 1 rfl rfl)
theorem dX4_late_52 : decode cX4_late 52 = .ok (.iconst 1, 1) := dk_4 (dk_at dksX4_late_2 4 rfl rfl)
theorem dX4_late_53 : decode cX4_late 53 = .ok (.if_icmp .eq 9, 3) := dk_159 0 9 (dk_at dksX4_late_2 5 rfl rfl)
theorem dX4_late_56 : decode cX4_late 56 = .ok (.aload_n 0, 1) := dk_42 (dk_at dksX4_late_2 8 rfl rfl)
theorem dX4_late_57 : decode cX4_late 57 = .ok (.iconst 3, 1) := dk_6 (dk_at dksX4_late_2 9 rfl rfl)
theorem dX4_late_58 : decode cX4_late 58 = .ok (.invokevirtual 60, 3) := dk_182 0 60 (dk_at dksX4_late_2 10 rfl rfl)
theorem dX4_late_61 : decode cX4_late 61 = .ok (.ireturn, 1) := dk_172 (dk_at dksX4_late_2 13 rfl rfl)
theorem dX4_late_62 : decode cX4_late 62 = .ok (.aload_n 3, 1) := dk_45 (dk_at dksX4_late_2 14 rfl rfl)
theorem dX4_late_63 : decode cX4_late 63 = .ok (.iload_n 2, 1) := dk_28 (dk_at dksX4_late_2 15 rfl rfl)
theorem dX4_late_64 : decode cX4_late 64 = .ok (.putfield 252, 3) := dk_181 0 252 (dk_at dksX4_late_2 16 rfl rfl)
theorem dX4_late_67 : decode cX4_late 67 = .ok (.aload_n 3, 1) := dk_45 (dk_at dksX4_late_2 19 rfl rfl)
theorem dX4_late_68 : decode cX4_late 68 = .ok (.invokevirtual 255, 3) := dk_182 0 255 (dk_at dksX4_late_2 20 rfl rfl)
theorem dX4_late_71 : decode cX4_late 71 = .ok (.ireturn, 1) := dk_172 (dk_at dksX4_late_2 23 rfl rfl)
abbrev cX4_pass : ByteArray := prog_13_method_50_code
def yX4_pass : MethodName := ⟨RX4, "pass", "(I)I"⟩
def dkwX4_pass_10 : List UInt8 := [132, 2, 1, 167, 255, 64, 42, 180, 0, 57, 172]
abbrev dktX4_pass_10 : List UInt8 := dkwX4_pass_10 ++ []
def dkwX4_pass_9 : List UInt8 := [180, 0, 57, 25, 4, 180, 0, 153, 100, 8, 161, 0, 9, 25, 4, 6, 181, 0, 124, 167, 255, 208]
abbrev dktX4_pass_9 : List UInt8 := dkwX4_pass_9 ++ dktX4_pass_10
def dkwX4_pass_8 : List UInt8 := [153, 0, 45, 45, 185, 0, 236, 1, 0, 192, 0, 122, 58, 4, 25, 4, 180, 0, 124, 154, 0, 23, 42]
abbrev dktX4_pass_8 : List UInt8 := dkwX4_pass_8 ++ dktX4_pass_9
def dkwX4_pass_7 : List UInt8 := [42, 89, 180, 0, 57, 4, 96, 181, 0, 57, 42, 180, 0, 19, 182, 0, 226, 78, 45, 185, 0, 230, 1, 0]
abbrev dktX4_pass_7 : List UInt8 := dkwX4_pass_7 ++ dktX4_pass_8
def dkwX4_pass_6 : List UInt8 := [154, 0, 21, 25, 4, 180, 0, 130, 42, 180, 0, 57, 160, 0, 9, 25, 4, 6, 181, 0, 124, 167, 255, 210]
abbrev dktX4_pass_6 : List UInt8 := dkwX4_pass_6 ++ dktX4_pass_7
def dkwX4_pass_5 : List UInt8 := [185, 0, 230, 1, 0, 153, 0, 43, 45, 185, 0, 236, 1, 0, 192, 0, 122, 58, 4, 25, 4, 180, 0, 124]
abbrev dktX4_pass_5 : List UInt8 := dkwX4_pass_5 ++ dktX4_pass_6
def dkwX4_pass_4 : List UInt8 := [160, 0, 9, 42, 25, 4, 182, 1, 18, 167, 255, 209, 42, 180, 0, 19, 182, 0, 226, 78, 45]
abbrev dktX4_pass_4 : List UInt8 := dkwX4_pass_4 ++ dktX4_pass_5
def dkwX4_pass_3 : List UInt8 := [192, 0, 122, 58, 4, 25, 4, 180, 0, 124, 4, 160, 0, 21, 25, 4, 180, 0, 130, 42, 180, 0, 57]
abbrev dktX4_pass_3 : List UInt8 := dkwX4_pass_3 ++ dktX4_pass_4
def dkwX4_pass_2 : List UInt8 := [42, 180, 0, 19, 182, 0, 226, 78, 45, 185, 0, 230, 1, 0, 153, 0, 44, 45, 185, 0, 236, 1, 0]
abbrev dktX4_pass_2 : List UInt8 := dkwX4_pass_2 ++ dktX4_pass_3
def dkwX4_pass_1 : List UInt8 := [180, 0, 57, 27, 96, 17, 1, 109, 164, 0, 9, 42, 5, 182, 0, 60, 172, 3, 61, 28, 27, 162, 0, 193]
abbrev dktX4_pass_1 : List UInt8 := dkwX4_pass_1 ++ dktX4_pass_2
def dkwX4_pass_0 : List UInt8 := [42, 3, 181, 0, 44, 27, 4, 16, 60, 184, 0, 52, 154, 0, 9, 42, 4, 182, 0, 60, 172, 42]
abbrev dktX4_pass_0 : List UInt8 := dkwX4_pass_0 ++ dktX4_pass_1
theorem dksX4_pass_0 : cX4_pass.data.toList.drop 0 = dktX4_pass_0 := by decide +kernel
theorem dksX4_pass_1 : cX4_pass.data.toList.drop 22 = dktX4_pass_1 := dk_seg dksX4_pass_0 22 rfl rfl
theorem dksX4_pass_2 : cX4_pass.data.toList.drop 46 = dktX4_pass_2 := dk_seg dksX4_pass_1 24 rfl rfl
theorem dksX4_pass_3 : cX4_pass.data.toList.drop 69 = dktX4_pass_3 := dk_seg dksX4_pass_2 23 rfl rfl
theorem dksX4_pass_4 : cX4_pass.data.toList.drop 92 = dktX4_pass_4 := dk_seg dksX4_pass_3 23 rfl rfl
theorem dksX4_pass_5 : cX4_pass.data.toList.drop 113 = dktX4_pass_5 := dk_seg dksX4_pass_4 21 rfl rfl
theorem dksX4_pass_6 : cX4_pass.data.toList.drop 137 = dktX4_pass_6 := dk_seg dksX4_pass_5 24 rfl rfl
theorem dksX4_pass_7 : cX4_pass.data.toList.drop 161 = dktX4_pass_7 := dk_seg dksX4_pass_6 24 rfl rfl
theorem dksX4_pass_8 : cX4_pass.data.toList.drop 185 = dktX4_pass_8 := dk_seg dksX4_pass_7 24 rfl rfl
theorem dksX4_pass_9 : cX4_pass.data.toList.drop 208 = dktX4_pass_9 := dk_seg dksX4_pass_8 23 rfl rfl
theorem dksX4_pass_10 : cX4_pass.data.toList.drop 230 = dktX4_pass_10 := dk_seg dksX4_pass_9 22 rfl rfl
theorem dX4_pass_0 : decode cX4_pass 0 = .ok (.aload_n 0, 1) := dk_42 (dk_at dksX4_pass_0 0 rfl rfl)
theorem dX4_pass_1 : decode cX4_pass 1 = .ok (.iconst 0, 1) := dk_3 (dk_at dksX4_pass_0 1 rfl rfl)
theorem dX4_pass_2 : decode cX4_pass 2 = .ok (.putfield 44, 3) := dk_181 0 44 (dk_at dksX4_pass_0 2 rfl rfl)
theorem dX4_pass_5 : decode cX4_pass 5 = .ok (.iload_n 1, 1) := dk_27 (dk_at dksX4_pass_0 5 rfl rfl)
theorem dX4_pass_6 : decode cX4_pass 6 = .ok (.iconst 1, 1) := dk_4 (dk_at dksX4_pass_0 6 rfl rfl)
theorem dX4_pass_7 : decode cX4_pass 7 = .ok (.bipush 60, 2) := dk_16 60 (dk_at dksX4_pass_0 7 rfl rfl)
theorem dX4_pass_9 : decode cX4_pass 9 = .ok (.invokestatic 52, 3) := dk_184 0 52 (dk_at dksX4_pass_0 9 rfl rfl)
theorem dX4_pass_12 : decode cX4_pass 12 = .ok (.ifCond .ne 9, 3) := dk_154 0 9 (dk_at dksX4_pass_0 12 rfl rfl)
theorem dX4_pass_15 : decode cX4_pass 15 = .ok (.aload_n 0, 1) := dk_42 (dk_at dksX4_pass_0 15 rfl rfl)
theorem dX4_pass_16 : decode cX4_pass 16 = .ok (.iconst 1, 1) := dk_4 (dk_at dksX4_pass_0 16 rfl rfl)
theorem dX4_pass_17 : decode cX4_pass 17 = .ok (.invokevirtual 60, 3) := dk_182 0 60 (dk_at dksX4_pass_0 17 rfl rfl)
theorem dX4_pass_20 : decode cX4_pass 20 = .ok (.ireturn, 1) := dk_172 (dk_at dksX4_pass_0 20 rfl rfl)
theorem dX4_pass_21 : decode cX4_pass 21 = .ok (.aload_n 0, 1) := dk_42 (dk_at dksX4_pass_0 21 rfl rfl)
theorem dX4_pass_22 : decode cX4_pass 22 = .ok (.getfield 57, 3) := dk_180 0 57 (dk_at dksX4_pass_1 0 rfl rfl)
theorem dX4_pass_25 : decode cX4_pass 25 = .ok (.iload_n 1, 1) := dk_27 (dk_at dksX4_pass_1 3 rfl rfl)
theorem dX4_pass_26 : decode cX4_pass 26 = .ok (.iadd, 1) := dk_96 (dk_at dksX4_pass_1 4 rfl rfl)
theorem dX4_pass_27 : decode cX4_pass 27 = .ok (.sipush 365, 3) := dk_17 1 109 (dk_at dksX4_pass_1 5 rfl rfl)
theorem dX4_pass_30 : decode cX4_pass 30 = .ok (.if_icmp .le 9, 3) := dk_164 0 9 (dk_at dksX4_pass_1 8 rfl rfl)
theorem dX4_pass_33 : decode cX4_pass 33 = .ok (.aload_n 0, 1) := dk_42 (dk_at dksX4_pass_1 11 rfl rfl)
theorem dX4_pass_34 : decode cX4_pass 34 = .ok (.iconst 2, 1) := dk_5 (dk_at dksX4_pass_1 12 rfl rfl)
theorem dX4_pass_35 : decode cX4_pass 35 = .ok (.invokevirtual 60, 3) := dk_182 0 60 (dk_at dksX4_pass_1 13 rfl rfl)
theorem dX4_pass_38 : decode cX4_pass 38 = .ok (.ireturn, 1) := dk_172 (dk_at dksX4_pass_1 16 rfl rfl)
theorem dX4_pass_39 : decode cX4_pass 39 = .ok (.iconst 0, 1) := dk_3 (dk_at dksX4_pass_1 17 rfl rfl)
theorem dX4_pass_40 : decode cX4_pass 40 = .ok (.istore_n 2, 1) := dk_61 (dk_at dksX4_pass_1 18 rfl rfl)
theorem dX4_pass_41 : decode cX4_pass 41 = .ok (.iload_n 2, 1) := dk_28 (dk_at dksX4_pass_1 19 rfl rfl)
theorem dX4_pass_42 : decode cX4_pass 42 = .ok (.iload_n 1, 1) := dk_27 (dk_at dksX4_pass_1 20 rfl rfl)
theorem dX4_pass_43 : decode cX4_pass 43 = .ok (.if_icmp .ge 193, 3) := dk_162 0 193 (dk_at dksX4_pass_1 21 rfl rfl)
theorem dX4_pass_46 : decode cX4_pass 46 = .ok (.aload_n 0, 1) := dk_42 (dk_at dksX4_pass_2 0 rfl rfl)
theorem dX4_pass_47 : decode cX4_pass 47 = .ok (.getfield 19, 3) := dk_180 0 19 (dk_at dksX4_pass_2 1 rfl rfl)
theorem dX4_pass_50 : decode cX4_pass 50 = .ok (.invokevirtual 226, 3) := dk_182 0 226 (dk_at dksX4_pass_2 4 rfl rfl)
theorem dX4_pass_53 : decode cX4_pass 53 = .ok (.astore_n 3, 1) := dk_78 (dk_at dksX4_pass_2 7 rfl rfl)
theorem dX4_pass_54 : decode cX4_pass 54 = .ok (.aload_n 3, 1) := dk_45 (dk_at dksX4_pass_2 8 rfl rfl)
theorem dX4_pass_55 : decode cX4_pass 55 = .ok (.invokeinterface 230 1, 5) := by decide +kernel
theorem dX4_pass_60 : decode cX4_pass 60 = .ok (.ifCond .eq 44, 3) := dk_153 0 44 (dk_at dksX4_pass_2 14 rfl rfl)
theorem dX4_pass_63 : decode cX4_pass 63 = .ok (.aload_n 3, 1) := dk_45 (dk_at dksX4_pass_2 17 rfl rfl)
theorem dX4_pass_64 : decode cX4_pass 64 = .ok (.invokeinterface 236 1, 5) := by decide +kernel
theorem dX4_pass_69 : decode cX4_pass 69 = .ok (.checkcast 122, 3) := dk_192 0 122 (dk_at dksX4_pass_3 0 rfl rfl)
theorem dX4_pass_72 : decode cX4_pass 72 = .ok (.astore 4, 2) := dk_58 4 (dk_at dksX4_pass_3 3 rfl rfl)
theorem dX4_pass_74 : decode cX4_pass 74 = .ok (.aload 4, 2) := dk_25 4 (dk_at dksX4_pass_3 5 rfl rfl)
theorem dX4_pass_76 : decode cX4_pass 76 = .ok (.getfield 124, 3) := dk_180 0 124 (dk_at dksX4_pass_3 7 rfl rfl)
theorem dX4_pass_79 : decode cX4_pass 79 = .ok (.iconst 1, 1) := dk_4 (dk_at dksX4_pass_3 10 rfl rfl)
theorem dX4_pass_80 : decode cX4_pass 80 = .ok (.if_icmp .ne 21, 3) := dk_160 0 21 (dk_at dksX4_pass_3 11 rfl rfl)
theorem dX4_pass_83 : decode cX4_pass 83 = .ok (.aload 4, 2) := dk_25 4 (dk_at dksX4_pass_3 14 rfl rfl)
theorem dX4_pass_85 : decode cX4_pass 85 = .ok (.getfield 130, 3) := dk_180 0 130 (dk_at dksX4_pass_3 16 rfl rfl)
theorem dX4_pass_88 : decode cX4_pass 88 = .ok (.aload_n 0, 1) := dk_42 (dk_at dksX4_pass_3 19 rfl rfl)
theorem dX4_pass_89 : decode cX4_pass 89 = .ok (.getfield 57, 3) := dk_180 0 57 (dk_at dksX4_pass_3 20 rfl rfl)
theorem dX4_pass_92 : decode cX4_pass 92 = .ok (.if_icmp .ne 9, 3) := dk_160 0 9 (dk_at dksX4_pass_4 0 rfl rfl)
theorem dX4_pass_95 : decode cX4_pass 95 = .ok (.aload_n 0, 1) := dk_42 (dk_at dksX4_pass_4 3 rfl rfl)
theorem dX4_pass_96 : decode cX4_pass 96 = .ok (.aload 4, 2) := dk_25 4 (dk_at dksX4_pass_4 4 rfl rfl)
theorem dX4_pass_98 : decode cX4_pass 98 = .ok (.invokevirtual 274, 3) := dk_182 1 18 (dk_at dksX4_pass_4 6 rfl rfl)
theorem dX4_pass_101 : decode cX4_pass 101 = .ok (.goto (-47), 3) := dk_167 255 209 (dk_at dksX4_pass_4 9 rfl rfl)
theorem dX4_pass_104 : decode cX4_pass 104 = .ok (.aload_n 0, 1) := dk_42 (dk_at dksX4_pass_4 12 rfl rfl)
theorem dX4_pass_105 : decode cX4_pass 105 = .ok (.getfield 19, 3) := dk_180 0 19 (dk_at dksX4_pass_4 13 rfl rfl)
theorem dX4_pass_108 : decode cX4_pass 108 = .ok (.invokevirtual 226, 3) := dk_182 0 226 (dk_at dksX4_pass_4 16 rfl rfl)
theorem dX4_pass_111 : decode cX4_pass 111 = .ok (.astore_n 3, 1) := dk_78 (dk_at dksX4_pass_4 19 rfl rfl)
theorem dX4_pass_112 : decode cX4_pass 112 = .ok (.aload_n 3, 1) := dk_45 (dk_at dksX4_pass_4 20 rfl rfl)
theorem dX4_pass_113 : decode cX4_pass 113 = .ok (.invokeinterface 230 1, 5) := by decide +kernel
theorem dX4_pass_118 : decode cX4_pass 118 = .ok (.ifCond .eq 43, 3) := dk_153 0 43 (dk_at dksX4_pass_5 5 rfl rfl)
theorem dX4_pass_121 : decode cX4_pass 121 = .ok (.aload_n 3, 1) := dk_45 (dk_at dksX4_pass_5 8 rfl rfl)
theorem dX4_pass_122 : decode cX4_pass 122 = .ok (.invokeinterface 236 1, 5) := by decide +kernel
theorem dX4_pass_127 : decode cX4_pass 127 = .ok (.checkcast 122, 3) := dk_192 0 122 (dk_at dksX4_pass_5 14 rfl rfl)
theorem dX4_pass_130 : decode cX4_pass 130 = .ok (.astore 4, 2) := dk_58 4 (dk_at dksX4_pass_5 17 rfl rfl)
theorem dX4_pass_132 : decode cX4_pass 132 = .ok (.aload 4, 2) := dk_25 4 (dk_at dksX4_pass_5 19 rfl rfl)
theorem dX4_pass_134 : decode cX4_pass 134 = .ok (.getfield 124, 3) := dk_180 0 124 (dk_at dksX4_pass_5 21 rfl rfl)
theorem dX4_pass_137 : decode cX4_pass 137 = .ok (.ifCond .ne 21, 3) := dk_154 0 21 (dk_at dksX4_pass_6 0 rfl rfl)
theorem dX4_pass_140 : decode cX4_pass 140 = .ok (.aload 4, 2) := dk_25 4 (dk_at dksX4_pass_6 3 rfl rfl)
theorem dX4_pass_142 : decode cX4_pass 142 = .ok (.getfield 130, 3) := dk_180 0 130 (dk_at dksX4_pass_6 5 rfl rfl)
theorem dX4_pass_145 : decode cX4_pass 145 = .ok (.aload_n 0, 1) := dk_42 (dk_at dksX4_pass_6 8 rfl rfl)
theorem dX4_pass_146 : decode cX4_pass 146 = .ok (.getfield 57, 3) := dk_180 0 57 (dk_at dksX4_pass_6 9 rfl rfl)
theorem dX4_pass_149 : decode cX4_pass 149 = .ok (.if_icmp .ne 9, 3) := dk_160 0 9 (dk_at dksX4_pass_6 12 rfl rfl)
theorem dX4_pass_152 : decode cX4_pass 152 = .ok (.aload 4, 2) := dk_25 4 (dk_at dksX4_pass_6 15 rfl rfl)
theorem dX4_pass_154 : decode cX4_pass 154 = .ok (.iconst 3, 1) := dk_6 (dk_at dksX4_pass_6 17 rfl rfl)
theorem dX4_pass_155 : decode cX4_pass 155 = .ok (.putfield 124, 3) := dk_181 0 124 (dk_at dksX4_pass_6 18 rfl rfl)
theorem dX4_pass_158 : decode cX4_pass 158 = .ok (.goto (-46), 3) := dk_167 255 210 (dk_at dksX4_pass_6 21 rfl rfl)
theorem dX4_pass_161 : decode cX4_pass 161 = .ok (.aload_n 0, 1) := dk_42 (dk_at dksX4_pass_7 0 rfl rfl)
theorem dX4_pass_162 : decode cX4_pass 162 = .ok (.dup, 1) := dk_89 (dk_at dksX4_pass_7 1 rfl rfl)
theorem dX4_pass_163 : decode cX4_pass 163 = .ok (.getfield 57, 3) := dk_180 0 57 (dk_at dksX4_pass_7 2 rfl rfl)
theorem dX4_pass_166 : decode cX4_pass 166 = .ok (.iconst 1, 1) := dk_4 (dk_at dksX4_pass_7 5 rfl rfl)
theorem dX4_pass_167 : decode cX4_pass 167 = .ok (.iadd, 1) := dk_96 (dk_at dksX4_pass_7 6 rfl rfl)
theorem dX4_pass_168 : decode cX4_pass 168 = .ok (.putfield 57, 3) := dk_181 0 57 (dk_at dksX4_pass_7 7 rfl rfl)
theorem dX4_pass_171 : decode cX4_pass 171 = .ok (.aload_n 0, 1) := dk_42 (dk_at dksX4_pass_7 10 rfl rfl)
theorem dX4_pass_172 : decode cX4_pass 172 = .ok (.getfield 19, 3) := dk_180 0 19 (dk_at dksX4_pass_7 11 rfl rfl)
theorem dX4_pass_175 : decode cX4_pass 175 = .ok (.invokevirtual 226, 3) := dk_182 0 226 (dk_at dksX4_pass_7 14 rfl rfl)
theorem dX4_pass_178 : decode cX4_pass 178 = .ok (.astore_n 3, 1) := dk_78 (dk_at dksX4_pass_7 17 rfl rfl)
theorem dX4_pass_179 : decode cX4_pass 179 = .ok (.aload_n 3, 1) := dk_45 (dk_at dksX4_pass_7 18 rfl rfl)
theorem dX4_pass_180 : decode cX4_pass 180 = .ok (.invokeinterface 230 1, 5) := by decide +kernel
theorem dX4_pass_185 : decode cX4_pass 185 = .ok (.ifCond .eq 45, 3) := dk_153 0 45 (dk_at dksX4_pass_8 0 rfl rfl)
theorem dX4_pass_188 : decode cX4_pass 188 = .ok (.aload_n 3, 1) := dk_45 (dk_at dksX4_pass_8 3 rfl rfl)
theorem dX4_pass_189 : decode cX4_pass 189 = .ok (.invokeinterface 236 1, 5) := by decide +kernel
theorem dX4_pass_194 : decode cX4_pass 194 = .ok (.checkcast 122, 3) := dk_192 0 122 (dk_at dksX4_pass_8 9 rfl rfl)
theorem dX4_pass_197 : decode cX4_pass 197 = .ok (.astore 4, 2) := dk_58 4 (dk_at dksX4_pass_8 12 rfl rfl)
theorem dX4_pass_199 : decode cX4_pass 199 = .ok (.aload 4, 2) := dk_25 4 (dk_at dksX4_pass_8 14 rfl rfl)
theorem dX4_pass_201 : decode cX4_pass 201 = .ok (.getfield 124, 3) := dk_180 0 124 (dk_at dksX4_pass_8 16 rfl rfl)
theorem dX4_pass_204 : decode cX4_pass 204 = .ok (.ifCond .ne 23, 3) := dk_154 0 23 (dk_at dksX4_pass_8 19 rfl rfl)
theorem dX4_pass_207 : decode cX4_pass 207 = .ok (.aload_n 0, 1) := dk_42 (dk_at dksX4_pass_8 22 rfl rfl)
theorem dX4_pass_208 : decode cX4_pass 208 = .ok (.getfield 57, 3) := dk_180 0 57 (dk_at dksX4_pass_9 0 rfl rfl)
theorem dX4_pass_211 : decode cX4_pass 211 = .ok (.aload 4, 2) := dk_25 4 (dk_at dksX4_pass_9 3 rfl rfl)
theorem dX4_pass_213 : decode cX4_pass 213 = .ok (.getfield 153, 3) := dk_180 0 153 (dk_at dksX4_pass_9 5 rfl rfl)
theorem dX4_pass_216 : decode cX4_pass 216 = .ok (.isub, 1) := dk_100 (dk_at dksX4_pass_9 8 rfl rfl)
theorem dX4_pass_217 : decode cX4_pass 217 = .ok (.iconst 5, 1) := dk_8 (dk_at dksX4_pass_9 9 rfl rfl)
theorem dX4_pass_218 : decode cX4_pass 218 = .ok (.if_icmp .lt 9, 3) := dk_161 0 9 (dk_at dksX4_pass_9 10 rfl rfl)
theorem dX4_pass_221 : decode cX4_pass 221 = .ok (.aload 4, 2) := dk_25 4 (dk_at dksX4_pass_9 13 rfl rfl)
theorem dX4_pass_223 : decode cX4_pass 223 = .ok (.iconst 3, 1) := dk_6 (dk_at dksX4_pass_9 15 rfl rfl)
theorem dX4_pass_224 : decode cX4_pass 224 = .ok (.putfield 124, 3) := dk_181 0 124 (dk_at dksX4_pass_9 16 rfl rfl)
theorem dX4_pass_227 : decode cX4_pass 227 = .ok (.goto (-48), 3) := dk_167 255 208 (dk_at dksX4_pass_9 19 rfl rfl)
theorem dX4_pass_230 : decode cX4_pass 230 = .ok (.iinc 2 1, 3) := dk_132 2 1 (dk_at dksX4_pass_10 0 rfl rfl)
theorem dX4_pass_233 : decode cX4_pass 233 = .ok (.goto (-192), 3) := dk_167 255 64 (dk_at dksX4_pass_10 3 rfl rfl)
theorem dX4_pass_236 : decode cX4_pass 236 = .ok (.aload_n 0, 1) := dk_42 (dk_at dksX4_pass_10 6 rfl rfl)
theorem dX4_pass_237 : decode cX4_pass 237 = .ok (.getfield 57, 3) := dk_180 0 57 (dk_at dksX4_pass_10 7 rfl rfl)
theorem dX4_pass_240 : decode cX4_pass 240 = .ok (.ireturn, 1) := dk_172 (dk_at dksX4_pass_10 10 rfl rfl)
abbrev cX4_playNow : ByteArray := prog_13_method_49_code
def yX4_playNow : MethodName := ⟨RX4, "playNow", "(LFirstdanceAgencyModel$Wedding;)V"⟩
def dkwX4_playNow_6 : List UInt8 := [177]
abbrev dktX4_playNow_6 : List UInt8 := dkwX4_playNow_6 ++ []
def dkwX4_playNow_5 : List UInt8 := [54, 5, 42, 180, 0, 32, 21, 5, 92, 46, 4, 96, 79, 132, 4, 1, 167, 255, 230, 43, 5, 181, 0, 124]
abbrev dktX4_playNow_5 : List UInt8 := dkwX4_playNow_5 ++ dktX4_playNow_6
def dkwX4_playNow_4 : List UInt8 := [43, 180, 0, 160, 182, 1, 14, 77, 44, 190, 62, 3, 54, 4, 21, 4, 29, 162, 0, 26, 44, 21, 4, 46]
abbrev dktX4_playNow_4 : List UInt8 := dkwX4_playNow_4 ++ dktX4_playNow_5
def dkwX4_playNow_3 : List UInt8 := [192, 0, 68, 89, 180, 1, 11, 42, 28, 43, 182, 1, 5, 96, 181, 1, 11, 132, 2, 1, 167, 255, 206, 42]
abbrev dktX4_playNow_3 : List UInt8 := dkwX4_playNow_3 ++ dktX4_playNow_4
def dkwX4_playNow_2 : List UInt8 := [162, 0, 45, 43, 180, 0, 160, 28, 184, 0, 102, 153, 0, 28, 42, 180, 0, 10, 28, 182, 0, 90]
abbrev dktX4_playNow_2 : List UInt8 := dkwX4_playNow_2 ++ dktX4_playNow_3
def dkwX4_playNow_1 : List UInt8 := [43, 180, 0, 160, 182, 1, 2, 104, 7, 108, 96, 181, 0, 210, 3, 61, 28, 42, 180, 0, 10, 182, 0, 48]
abbrev dktX4_playNow_1 : List UInt8 := dkwX4_playNow_1 ++ dktX4_playNow_2
def dkwX4_playNow_0 : List UInt8 := [42, 89, 180, 0, 213, 42, 43, 182, 1, 8, 96, 181, 0, 213, 43, 43, 180, 0, 207, 43, 182, 0, 255, 42]
abbrev dktX4_playNow_0 : List UInt8 := dkwX4_playNow_0 ++ dktX4_playNow_1
theorem dksX4_playNow_0 : cX4_playNow.data.toList.drop 0 = dktX4_playNow_0 := by decide +kernel
theorem dksX4_playNow_1 : cX4_playNow.data.toList.drop 24 = dktX4_playNow_1 := dk_seg dksX4_playNow_0 24 rfl rfl
theorem dksX4_playNow_2 : cX4_playNow.data.toList.drop 48 = dktX4_playNow_2 := dk_seg dksX4_playNow_1 24 rfl rfl
theorem dksX4_playNow_3 : cX4_playNow.data.toList.drop 70 = dktX4_playNow_3 := dk_seg dksX4_playNow_2 22 rfl rfl
theorem dksX4_playNow_4 : cX4_playNow.data.toList.drop 94 = dktX4_playNow_4 := dk_seg dksX4_playNow_3 24 rfl rfl
theorem dksX4_playNow_5 : cX4_playNow.data.toList.drop 118 = dktX4_playNow_5 := dk_seg dksX4_playNow_4 24 rfl rfl
theorem dksX4_playNow_6 : cX4_playNow.data.toList.drop 142 = dktX4_playNow_6 := dk_seg dksX4_playNow_5 24 rfl rfl
theorem dX4_playNow_0 : decode cX4_playNow 0 = .ok (.aload_n 0, 1) := dk_42 (dk_at dksX4_playNow_0 0 rfl rfl)
theorem dX4_playNow_1 : decode cX4_playNow 1 = .ok (.dup, 1) := dk_89 (dk_at dksX4_playNow_0 1 rfl rfl)
theorem dX4_playNow_2 : decode cX4_playNow 2 = .ok (.getfield 213, 3) := dk_180 0 213 (dk_at dksX4_playNow_0 2 rfl rfl)
theorem dX4_playNow_5 : decode cX4_playNow 5 = .ok (.aload_n 0, 1) := dk_42 (dk_at dksX4_playNow_0 5 rfl rfl)
theorem dX4_playNow_6 : decode cX4_playNow 6 = .ok (.aload_n 1, 1) := dk_43 (dk_at dksX4_playNow_0 6 rfl rfl)
theorem dX4_playNow_7 : decode cX4_playNow 7 = .ok (.invokevirtual 264, 3) := dk_182 1 8 (dk_at dksX4_playNow_0 7 rfl rfl)
theorem dX4_playNow_10 : decode cX4_playNow 10 = .ok (.iadd, 1) := dk_96 (dk_at dksX4_playNow_0 10 rfl rfl)
theorem dX4_playNow_11 : decode cX4_playNow 11 = .ok (.putfield 213, 3) := dk_181 0 213 (dk_at dksX4_playNow_0 11 rfl rfl)
theorem dX4_playNow_14 : decode cX4_playNow 14 = .ok (.aload_n 1, 1) := dk_43 (dk_at dksX4_playNow_0 14 rfl rfl)
theorem dX4_playNow_15 : decode cX4_playNow 15 = .ok (.aload_n 1, 1) := dk_43 (dk_at dksX4_playNow_0 15 rfl rfl)
theorem dX4_playNow_16 : decode cX4_playNow 16 = .ok (.getfield 207, 3) := dk_180 0 207 (dk_at dksX4_playNow_0 16 rfl rfl)
theorem dX4_playNow_19 : decode cX4_playNow 19 = .ok (.aload_n 1, 1) := dk_43 (dk_at dksX4_playNow_0 19 rfl rfl)
theorem dX4_playNow_20 : decode cX4_playNow 20 = .ok (.invokevirtual 255, 3) := dk_182 0 255 (dk_at dksX4_playNow_0 20 rfl rfl)
theorem dX4_playNow_23 : decode cX4_playNow 23 = .ok (.aload_n 0, 1) := dk_42 (dk_at dksX4_playNow_0 23 rfl rfl)
theorem dX4_playNow_24 : decode cX4_playNow 24 = .ok (.aload_n 1, 1) := dk_43 (dk_at dksX4_playNow_1 0 rfl rfl)
theorem dX4_playNow_25 : decode cX4_playNow 25 = .ok (.getfield 160, 3) := dk_180 0 160 (dk_at dksX4_playNow_1 1 rfl rfl)
theorem dX4_playNow_28 : decode cX4_playNow 28 = .ok (.invokevirtual 258, 3) := dk_182 1 2 (dk_at dksX4_playNow_1 4 rfl rfl)
theorem dX4_playNow_31 : decode cX4_playNow 31 = .ok (.imul, 1) := dk_104 (dk_at dksX4_playNow_1 7 rfl rfl)
theorem dX4_playNow_32 : decode cX4_playNow 32 = .ok (.iconst 4, 1) := dk_7 (dk_at dksX4_playNow_1 8 rfl rfl)
theorem dX4_playNow_33 : decode cX4_playNow 33 = .ok (.idiv, 1) := dk_108 (dk_at dksX4_playNow_1 9 rfl rfl)
theorem dX4_playNow_34 : decode cX4_playNow 34 = .ok (.iadd, 1) := dk_96 (dk_at dksX4_playNow_1 10 rfl rfl)
theorem dX4_playNow_35 : decode cX4_playNow 35 = .ok (.putfield 210, 3) := dk_181 0 210 (dk_at dksX4_playNow_1 11 rfl rfl)
theorem dX4_playNow_38 : decode cX4_playNow 38 = .ok (.iconst 0, 1) := dk_3 (dk_at dksX4_playNow_1 14 rfl rfl)
theorem dX4_playNow_39 : decode cX4_playNow 39 = .ok (.istore_n 2, 1) := dk_61 (dk_at dksX4_playNow_1 15 rfl rfl)
theorem dX4_playNow_40 : decode cX4_playNow 40 = .ok (.iload_n 2, 1) := dk_28 (dk_at dksX4_playNow_1 16 rfl rfl)
theorem dX4_playNow_41 : decode cX4_playNow 41 = .ok (.aload_n 0, 1) := dk_42 (dk_at dksX4_playNow_1 17 rfl rfl)
theorem dX4_playNow_42 : decode cX4_playNow 42 = .ok (.getfield 10, 3) := dk_180 0 10 (dk_at dksX4_playNow_1 18 rfl rfl)
theorem dX4_playNow_45 : decode cX4_playNow 45 = .ok (.invokevirtual 48, 3) := dk_182 0 48 (dk_at dksX4_playNow_1 21 rfl rfl)
theorem dX4_playNow_48 : decode cX4_playNow 48 = .ok (.if_icmp .ge 45, 3) := dk_162 0 45 (dk_at dksX4_playNow_2 0 rfl rfl)
theorem dX4_playNow_51 : decode cX4_playNow 51 = .ok (.aload_n 1, 1) := dk_43 (dk_at dksX4_playNow_2 3 rfl rfl)
theorem dX4_playNow_52 : decode cX4_playNow 52 = .ok (.getfield 160, 3) := dk_180 0 160 (dk_at dksX4_playNow_2 4 rfl rfl)
theorem dX4_playNow_55 : decode cX4_playNow 55 = .ok (.iload_n 2, 1) := dk_28 (dk_at dksX4_playNow_2 7 rfl rfl)
theorem dX4_playNow_56 : decode cX4_playNow 56 = .ok (.invokestatic 102, 3) := dk_184 0 102 (dk_at dksX4_playNow_2 8 rfl rfl)
theorem dX4_playNow_59 : decode cX4_playNow 59 = .ok (.ifCond .eq 28, 3) := dk_153 0 28 (dk_at dksX4_playNow_2 11 rfl rfl)
theorem dX4_playNow_62 : decode cX4_playNow 62 = .ok (.aload_n 0, 1) := dk_42 (dk_at dksX4_playNow_2 14 rfl rfl)
theorem dX4_playNow_63 : decode cX4_playNow 63 = .ok (.getfield 10, 3) := dk_180 0 10 (dk_at dksX4_playNow_2 15 rfl rfl)
theorem dX4_playNow_66 : decode cX4_playNow 66 = .ok (.iload_n 2, 1) := dk_28 (dk_at dksX4_playNow_2 18 rfl rfl)
theorem dX4_playNow_67 : decode cX4_playNow 67 = .ok (.invokevirtual 90, 3) := dk_182 0 90 (dk_at dksX4_playNow_2 19 rfl rfl)
theorem dX4_playNow_70 : decode cX4_playNow 70 = .ok (.checkcast 68, 3) := dk_192 0 68 (dk_at dksX4_playNow_3 0 rfl rfl)
theorem dX4_playNow_73 : decode cX4_playNow 73 = .ok (.dup, 1) := dk_89 (dk_at dksX4_playNow_3 3 rfl rfl)
theorem dX4_playNow_74 : decode cX4_playNow 74 = .ok (.getfield 267, 3) := dk_180 1 11 (dk_at dksX4_playNow_3 4 rfl rfl)
theorem dX4_playNow_77 : decode cX4_playNow 77 = .ok (.aload_n 0, 1) := dk_42 (dk_at dksX4_playNow_3 7 rfl rfl)
theorem dX4_playNow_78 : decode cX4_playNow 78 = .ok (.iload_n 2, 1) := dk_28 (dk_at dksX4_playNow_3 8 rfl rfl)
theorem dX4_playNow_79 : decode cX4_playNow 79 = .ok (.aload_n 1, 1) := dk_43 (dk_at dksX4_playNow_3 9 rfl rfl)
theorem dX4_playNow_80 : decode cX4_playNow 80 = .ok (.invokevirtual 261, 3) := dk_182 1 5 (dk_at dksX4_playNow_3 10 rfl rfl)
theorem dX4_playNow_83 : decode cX4_playNow 83 = .ok (.iadd, 1) := dk_96 (dk_at dksX4_playNow_3 13 rfl rfl)
theorem dX4_playNow_84 : decode cX4_playNow 84 = .ok (.putfield 267, 3) := dk_181 1 11 (dk_at dksX4_playNow_3 14 rfl rfl)
theorem dX4_playNow_87 : decode cX4_playNow 87 = .ok (.iinc 2 1, 3) := dk_132 2 1 (dk_at dksX4_playNow_3 17 rfl rfl)
theorem dX4_playNow_90 : decode cX4_playNow 90 = .ok (.goto (-50), 3) := dk_167 255 206 (dk_at dksX4_playNow_3 20 rfl rfl)
theorem dX4_playNow_93 : decode cX4_playNow 93 = .ok (.aload_n 0, 1) := dk_42 (dk_at dksX4_playNow_3 23 rfl rfl)
theorem dX4_playNow_94 : decode cX4_playNow 94 = .ok (.aload_n 1, 1) := dk_43 (dk_at dksX4_playNow_4 0 rfl rfl)
theorem dX4_playNow_95 : decode cX4_playNow 95 = .ok (.getfield 160, 3) := dk_180 0 160 (dk_at dksX4_playNow_4 1 rfl rfl)
theorem dX4_playNow_98 : decode cX4_playNow 98 = .ok (.invokevirtual 270, 3) := dk_182 1 14 (dk_at dksX4_playNow_4 4 rfl rfl)
theorem dX4_playNow_101 : decode cX4_playNow 101 = .ok (.astore_n 2, 1) := dk_77 (dk_at dksX4_playNow_4 7 rfl rfl)
theorem dX4_playNow_102 : decode cX4_playNow 102 = .ok (.aload_n 2, 1) := dk_44 (dk_at dksX4_playNow_4 8 rfl rfl)
theorem dX4_playNow_103 : decode cX4_playNow 103 = .ok (.arraylength, 1) := dk_190 (dk_at dksX4_playNow_4 9 rfl rfl)
theorem dX4_playNow_104 : decode cX4_playNow 104 = .ok (.istore_n 3, 1) := dk_62 (dk_at dksX4_playNow_4 10 rfl rfl)
theorem dX4_playNow_105 : decode cX4_playNow 105 = .ok (.iconst 0, 1) := dk_3 (dk_at dksX4_playNow_4 11 rfl rfl)
theorem dX4_playNow_106 : decode cX4_playNow 106 = .ok (.istore 4, 2) := dk_54 4 (dk_at dksX4_playNow_4 12 rfl rfl)
theorem dX4_playNow_108 : decode cX4_playNow 108 = .ok (.iload 4, 2) := dk_21 4 (dk_at dksX4_playNow_4 14 rfl rfl)
theorem dX4_playNow_110 : decode cX4_playNow 110 = .ok (.iload_n 3, 1) := dk_29 (dk_at dksX4_playNow_4 16 rfl rfl)
theorem dX4_playNow_111 : decode cX4_playNow 111 = .ok (.if_icmp .ge 26, 3) := dk_162 0 26 (dk_at dksX4_playNow_4 17 rfl rfl)
theorem dX4_playNow_114 : decode cX4_playNow 114 = .ok (.aload_n 2, 1) := dk_44 (dk_at dksX4_playNow_4 20 rfl rfl)
theorem dX4_playNow_115 : decode cX4_playNow 115 = .ok (.iload 4, 2) := dk_21 4 (dk_at dksX4_playNow_4 21 rfl rfl)
theorem dX4_playNow_117 : decode cX4_playNow 117 = .ok (.iaload, 1) := dk_46 (dk_at dksX4_playNow_4 23 rfl rfl)
theorem dX4_playNow_118 : decode cX4_playNow 118 = .ok (.istore 5, 2) := dk_54 5 (dk_at dksX4_playNow_5 0 rfl rfl)
theorem dX4_playNow_120 : decode cX4_playNow 120 = .ok (.aload_n 0, 1) := dk_42 (dk_at dksX4_playNow_5 2 rfl rfl)
theorem dX4_playNow_121 : decode cX4_playNow 121 = .ok (.getfield 32, 3) := dk_180 0 32 (dk_at dksX4_playNow_5 3 rfl rfl)
theorem dX4_playNow_124 : decode cX4_playNow 124 = .ok (.iload 5, 2) := dk_21 5 (dk_at dksX4_playNow_5 6 rfl rfl)
theorem dX4_playNow_126 : decode cX4_playNow 126 = .ok (.dup2, 1) := dk_92 (dk_at dksX4_playNow_5 8 rfl rfl)
theorem dX4_playNow_127 : decode cX4_playNow 127 = .ok (.iaload, 1) := dk_46 (dk_at dksX4_playNow_5 9 rfl rfl)
theorem dX4_playNow_128 : decode cX4_playNow 128 = .ok (.iconst 1, 1) := dk_4 (dk_at dksX4_playNow_5 10 rfl rfl)
theorem dX4_playNow_129 : decode cX4_playNow 129 = .ok (.iadd, 1) := dk_96 (dk_at dksX4_playNow_5 11 rfl rfl)
theorem dX4_playNow_130 : decode cX4_playNow 130 = .ok (.iastore, 1) := dk_79 (dk_at dksX4_playNow_5 12 rfl rfl)
theorem dX4_playNow_131 : decode cX4_playNow 131 = .ok (.iinc 4 1, 3) := dk_132 4 1 (dk_at dksX4_playNow_5 13 rfl rfl)
theorem dX4_playNow_134 : decode cX4_playNow 134 = .ok (.goto (-26), 3) := dk_167 255 230 (dk_at dksX4_playNow_5 16 rfl rfl)
theorem dX4_playNow_137 : decode cX4_playNow 137 = .ok (.aload_n 1, 1) := dk_43 (dk_at dksX4_playNow_5 19 rfl rfl)
theorem dX4_playNow_138 : decode cX4_playNow 138 = .ok (.iconst 2, 1) := dk_5 (dk_at dksX4_playNow_5 20 rfl rfl)
theorem dX4_playNow_139 : decode cX4_playNow 139 = .ok (.putfield 124, 3) := dk_181 0 124 (dk_at dksX4_playNow_5 21 rfl rfl)
theorem dX4_playNow_142 : decode cX4_playNow 142 = .ok (.return_, 1) := dk_177 (dk_at dksX4_playNow_6 0 rfl rfl)
abbrev cX4_gain : ByteArray := prog_13_method_48_code
def yX4_gain : MethodName := ⟨RX4, "gain", "(LFirstdanceAgencyModel$Wedding;)I"⟩
def dkwX4_gain_2 : List UInt8 := [153, 0, 12, 42, 29, 43, 182, 1, 5, 167, 0, 4, 3, 100, 61, 132, 3, 1, 167, 255, 218, 28, 172]
abbrev dktX4_gain_2 : List UInt8 := dkwX4_gain_2 ++ []
def dkwX4_gain_1 : List UInt8 := [96, 61, 3, 62, 29, 42, 180, 0, 10, 182, 0, 48, 162, 0, 33, 28, 43, 180, 0, 160, 29, 184, 0, 102]
abbrev dktX4_gain_1 : List UInt8 := dkwX4_gain_1 ++ dktX4_gain_2
def dkwX4_gain_0 : List UInt8 := [43, 180, 0, 207, 43, 180, 0, 210, 100, 43, 182, 0, 255, 42, 43, 180, 0, 160, 182, 1, 2, 104, 7, 108]
abbrev dktX4_gain_0 : List UInt8 := dkwX4_gain_0 ++ dktX4_gain_1
theorem dksX4_gain_0 : cX4_gain.data.toList.drop 0 = dktX4_gain_0 := by decide +kernel
theorem dksX4_gain_1 : cX4_gain.data.toList.drop 24 = dktX4_gain_1 := dk_seg dksX4_gain_0 24 rfl rfl
theorem dksX4_gain_2 : cX4_gain.data.toList.drop 48 = dktX4_gain_2 := dk_seg dksX4_gain_1 24 rfl rfl
theorem dX4_gain_0 : decode cX4_gain 0 = .ok (.aload_n 1, 1) := dk_43 (dk_at dksX4_gain_0 0 rfl rfl)
theorem dX4_gain_1 : decode cX4_gain 1 = .ok (.getfield 207, 3) := dk_180 0 207 (dk_at dksX4_gain_0 1 rfl rfl)
theorem dX4_gain_4 : decode cX4_gain 4 = .ok (.aload_n 1, 1) := dk_43 (dk_at dksX4_gain_0 4 rfl rfl)
theorem dX4_gain_5 : decode cX4_gain 5 = .ok (.getfield 210, 3) := dk_180 0 210 (dk_at dksX4_gain_0 5 rfl rfl)
theorem dX4_gain_8 : decode cX4_gain 8 = .ok (.isub, 1) := dk_100 (dk_at dksX4_gain_0 8 rfl rfl)
theorem dX4_gain_9 : decode cX4_gain 9 = .ok (.aload_n 1, 1) := dk_43 (dk_at dksX4_gain_0 9 rfl rfl)
theorem dX4_gain_10 : decode cX4_gain 10 = .ok (.invokevirtual 255, 3) := dk_182 0 255 (dk_at dksX4_gain_0 10 rfl rfl)
theorem dX4_gain_13 : decode cX4_gain 13 = .ok (.aload_n 0, 1) := dk_42 (dk_at dksX4_gain_0 13 rfl rfl)
theorem dX4_gain_14 : decode cX4_gain 14 = .ok (.aload_n 1, 1) := dk_43 (dk_at dksX4_gain_0 14 rfl rfl)
theorem dX4_gain_15 : decode cX4_gain 15 = .ok (.getfield 160, 3) := dk_180 0 160 (dk_at dksX4_gain_0 15 rfl rfl)
theorem dX4_gain_18 : decode cX4_gain 18 = .ok (.invokevirtual 258, 3) := dk_182 1 2 (dk_at dksX4_gain_0 18 rfl rfl)
theorem dX4_gain_21 : decode cX4_gain 21 = .ok (.imul, 1) := dk_104 (dk_at dksX4_gain_0 21 rfl rfl)
theorem dX4_gain_22 : decode cX4_gain 22 = .ok (.iconst 4, 1) := dk_7 (dk_at dksX4_gain_0 22 rfl rfl)
theorem dX4_gain_23 : decode cX4_gain 23 = .ok (.idiv, 1) := dk_108 (dk_at dksX4_gain_0 23 rfl rfl)
theorem dX4_gain_24 : decode cX4_gain 24 = .ok (.iadd, 1) := dk_96 (dk_at dksX4_gain_1 0 rfl rfl)
theorem dX4_gain_25 : decode cX4_gain 25 = .ok (.istore_n 2, 1) := dk_61 (dk_at dksX4_gain_1 1 rfl rfl)
theorem dX4_gain_26 : decode cX4_gain 26 = .ok (.iconst 0, 1) := dk_3 (dk_at dksX4_gain_1 2 rfl rfl)
theorem dX4_gain_27 : decode cX4_gain 27 = .ok (.istore_n 3, 1) := dk_62 (dk_at dksX4_gain_1 3 rfl rfl)
theorem dX4_gain_28 : decode cX4_gain 28 = .ok (.iload_n 3, 1) := dk_29 (dk_at dksX4_gain_1 4 rfl rfl)
theorem dX4_gain_29 : decode cX4_gain 29 = .ok (.aload_n 0, 1) := dk_42 (dk_at dksX4_gain_1 5 rfl rfl)
theorem dX4_gain_30 : decode cX4_gain 30 = .ok (.getfield 10, 3) := dk_180 0 10 (dk_at dksX4_gain_1 6 rfl rfl)
theorem dX4_gain_33 : decode cX4_gain 33 = .ok (.invokevirtual 48, 3) := dk_182 0 48 (dk_at dksX4_gain_1 9 rfl rfl)
theorem dX4_gain_36 : decode cX4_gain 36 = .ok (.if_icmp .ge 33, 3) := dk_162 0 33 (dk_at dksX4_gain_1 12 rfl rfl)
theorem dX4_gain_39 : decode cX4_gain 39 = .ok (.iload_n 2, 1) := dk_28 (dk_at dksX4_gain_1 15 rfl rfl)
theorem dX4_gain_40 : decode cX4_gain 40 = .ok (.aload_n 1, 1) := dk_43 (dk_at dksX4_gain_1 16 rfl rfl)
theorem dX4_gain_41 : decode cX4_gain 41 = .ok (.getfield 160, 3) := dk_180 0 160 (dk_at dksX4_gain_1 17 rfl rfl)
theorem dX4_gain_44 : decode cX4_gain 44 = .ok (.iload_n 3, 1) := dk_29 (dk_at dksX4_gain_1 20 rfl rfl)
theorem dX4_gain_45 : decode cX4_gain 45 = .ok (.invokestatic 102, 3) := dk_184 0 102 (dk_at dksX4_gain_1 21 rfl rfl)
theorem dX4_gain_48 : decode cX4_gain 48 = .ok (.ifCond .eq 12, 3) := dk_153 0 12 (dk_at dksX4_gain_2 0 rfl rfl)
theorem dX4_gain_51 : decode cX4_gain 51 = .ok (.aload_n 0, 1) := dk_42 (dk_at dksX4_gain_2 3 rfl rfl)
theorem dX4_gain_52 : decode cX4_gain 52 = .ok (.iload_n 3, 1) := dk_29 (dk_at dksX4_gain_2 4 rfl rfl)
theorem dX4_gain_53 : decode cX4_gain 53 = .ok (.aload_n 1, 1) := dk_43 (dk_at dksX4_gain_2 5 rfl rfl)
theorem dX4_gain_54 : decode cX4_gain 54 = .ok (.invokevirtual 261, 3) := dk_182 1 5 (dk_at dksX4_gain_2 6 rfl rfl)
theorem dX4_gain_57 : decode cX4_gain 57 = .ok (.goto 4, 3) := dk_167 0 4 (dk_at dksX4_gain_2 9 rfl rfl)
theorem dX4_gain_60 : decode cX4_gain 60 = .ok (.iconst 0, 1) := dk_3 (dk_at dksX4_gain_2 12 rfl rfl)
theorem dX4_gain_61 : decode cX4_gain 61 = .ok (.isub, 1) := dk_100 (dk_at dksX4_gain_2 13 rfl rfl)
theorem dX4_gain_62 : decode cX4_gain 62 = .ok (.istore_n 2, 1) := dk_61 (dk_at dksX4_gain_2 14 rfl rfl)
theorem dX4_gain_63 : decode cX4_gain 63 = .ok (.iinc 3 1, 3) := dk_132 3 1 (dk_at dksX4_gain_2 15 rfl rfl)
theorem dX4_gain_66 : decode cX4_gain 66 = .ok (.goto (-38), 3) := dk_167 255 218 (dk_at dksX4_gain_2 18 rfl rfl)
theorem dX4_gain_69 : decode cX4_gain 69 = .ok (.iload_n 2, 1) := dk_28 (dk_at dksX4_gain_2 21 rfl rfl)
theorem dX4_gain_70 : decode cX4_gain 70 = .ok (.ireturn, 1) := dk_172 (dk_at dksX4_gain_2 22 rfl rfl)
abbrev cX4_fees : ByteArray := prog_13_method_46_code
def yX4_fees : MethodName := ⟨RX4, "fees", "(I)I"⟩
def dkwX4_fees_2 : List UInt8 := [167, 255, 213, 28, 172]
abbrev dktX4_fees_2 : List UInt8 := dkwX4_fees_2 ++ []
def dkwX4_fees_1 : List UInt8 := [42, 180, 0, 10, 29, 182, 0, 90, 192, 0, 68, 180, 0, 80, 167, 0, 4, 3, 96, 61, 132, 3, 1]
abbrev dktX4_fees_1 : List UInt8 := dkwX4_fees_1 ++ dktX4_fees_2
def dkwX4_fees_0 : List UInt8 := [3, 61, 3, 62, 29, 42, 180, 0, 10, 182, 0, 48, 162, 0, 38, 28, 27, 29, 184, 0, 102, 153, 0, 20]
abbrev dktX4_fees_0 : List UInt8 := dkwX4_fees_0 ++ dktX4_fees_1
theorem dksX4_fees_0 : cX4_fees.data.toList.drop 0 = dktX4_fees_0 := by decide +kernel
theorem dksX4_fees_1 : cX4_fees.data.toList.drop 24 = dktX4_fees_1 := dk_seg dksX4_fees_0 24 rfl rfl
theorem dksX4_fees_2 : cX4_fees.data.toList.drop 47 = dktX4_fees_2 := dk_seg dksX4_fees_1 23 rfl rfl
theorem dX4_fees_0 : decode cX4_fees 0 = .ok (.iconst 0, 1) := dk_3 (dk_at dksX4_fees_0 0 rfl rfl)
theorem dX4_fees_1 : decode cX4_fees 1 = .ok (.istore_n 2, 1) := dk_61 (dk_at dksX4_fees_0 1 rfl rfl)
theorem dX4_fees_2 : decode cX4_fees 2 = .ok (.iconst 0, 1) := dk_3 (dk_at dksX4_fees_0 2 rfl rfl)
theorem dX4_fees_3 : decode cX4_fees 3 = .ok (.istore_n 3, 1) := dk_62 (dk_at dksX4_fees_0 3 rfl rfl)
theorem dX4_fees_4 : decode cX4_fees 4 = .ok (.iload_n 3, 1) := dk_29 (dk_at dksX4_fees_0 4 rfl rfl)
theorem dX4_fees_5 : decode cX4_fees 5 = .ok (.aload_n 0, 1) := dk_42 (dk_at dksX4_fees_0 5 rfl rfl)
theorem dX4_fees_6 : decode cX4_fees 6 = .ok (.getfield 10, 3) := dk_180 0 10 (dk_at dksX4_fees_0 6 rfl rfl)
theorem dX4_fees_9 : decode cX4_fees 9 = .ok (.invokevirtual 48, 3) := dk_182 0 48 (dk_at dksX4_fees_0 9 rfl rfl)
theorem dX4_fees_12 : decode cX4_fees 12 = .ok (.if_icmp .ge 38, 3) := dk_162 0 38 (dk_at dksX4_fees_0 12 rfl rfl)
theorem dX4_fees_15 : decode cX4_fees 15 = .ok (.iload_n 2, 1) := dk_28 (dk_at dksX4_fees_0 15 rfl rfl)
theorem dX4_fees_16 : decode cX4_fees 16 = .ok (.iload_n 1, 1) := dk_27 (dk_at dksX4_fees_0 16 rfl rfl)
theorem dX4_fees_17 : decode cX4_fees 17 = .ok (.iload_n 3, 1) := dk_29 (dk_at dksX4_fees_0 17 rfl rfl)
theorem dX4_fees_18 : decode cX4_fees 18 = .ok (.invokestatic 102, 3) := dk_184 0 102 (dk_at dksX4_fees_0 18 rfl rfl)
theorem dX4_fees_21 : decode cX4_fees 21 = .ok (.ifCond .eq 20, 3) := dk_153 0 20 (dk_at dksX4_fees_0 21 rfl rfl)
theorem dX4_fees_24 : decode cX4_fees 24 = .ok (.aload_n 0, 1) := dk_42 (dk_at dksX4_fees_1 0 rfl rfl)
theorem dX4_fees_25 : decode cX4_fees 25 = .ok (.getfield 10, 3) := dk_180 0 10 (dk_at dksX4_fees_1 1 rfl rfl)
theorem dX4_fees_28 : decode cX4_fees 28 = .ok (.iload_n 3, 1) := dk_29 (dk_at dksX4_fees_1 4 rfl rfl)
theorem dX4_fees_29 : decode cX4_fees 29 = .ok (.invokevirtual 90, 3) := dk_182 0 90 (dk_at dksX4_fees_1 5 rfl rfl)
theorem dX4_fees_32 : decode cX4_fees 32 = .ok (.checkcast 68, 3) := dk_192 0 68 (dk_at dksX4_fees_1 8 rfl rfl)
theorem dX4_fees_35 : decode cX4_fees 35 = .ok (.getfield 80, 3) := dk_180 0 80 (dk_at dksX4_fees_1 11 rfl rfl)
theorem dX4_fees_38 : decode cX4_fees 38 = .ok (.goto 4, 3) := dk_167 0 4 (dk_at dksX4_fees_1 14 rfl rfl)
theorem dX4_fees_41 : decode cX4_fees 41 = .ok (.iconst 0, 1) := dk_3 (dk_at dksX4_fees_1 17 rfl rfl)
theorem dX4_fees_42 : decode cX4_fees 42 = .ok (.iadd, 1) := dk_96 (dk_at dksX4_fees_1 18 rfl rfl)
theorem dX4_fees_43 : decode cX4_fees 43 = .ok (.istore_n 2, 1) := dk_61 (dk_at dksX4_fees_1 19 rfl rfl)
theorem dX4_fees_44 : decode cX4_fees 44 = .ok (.iinc 3 1, 3) := dk_132 3 1 (dk_at dksX4_fees_1 20 rfl rfl)
theorem dX4_fees_47 : decode cX4_fees 47 = .ok (.goto (-43), 3) := dk_167 255 213 (dk_at dksX4_fees_2 0 rfl rfl)
theorem dX4_fees_50 : decode cX4_fees 50 = .ok (.iload_n 2, 1) := dk_28 (dk_at dksX4_fees_2 3 rfl rfl)
theorem dX4_fees_51 : decode cX4_fees 51 = .ok (.ireturn, 1) := dk_172 (dk_at dksX4_fees_2 4 rfl rfl)
abbrev cX4_earnedAt : ByteArray := prog_13_method_47_code
def yX4_earnedAt : MethodName := ⟨RX4, "earnedAt", "(ILFirstdanceAgencyModel$Wedding;)I"⟩
def dkwX4_earnedAt_1 : List UInt8 := [104, 7, 108, 96, 172]
abbrev dktX4_earnedAt_1 : List UInt8 := dkwX4_earnedAt_1 ++ []
def dkwX4_earnedAt_0 : List UInt8 := [42, 27, 44, 182, 0, 173, 44, 182, 0, 255, 42, 180, 0, 10, 27, 182, 0, 90, 192, 0, 68, 180, 0, 80]
abbrev dktX4_earnedAt_0 : List UInt8 := dkwX4_earnedAt_0 ++ dktX4_earnedAt_1
theorem dksX4_earnedAt_0 : cX4_earnedAt.data.toList.drop 0 = dktX4_earnedAt_0 := by decide +kernel
theorem dksX4_earnedAt_1 : cX4_earnedAt.data.toList.drop 24 = dktX4_earnedAt_1 := dk_seg dksX4_earnedAt_0 24 rfl rfl
theorem dX4_earnedAt_0 : decode cX4_earnedAt 0 = .ok (.aload_n 0, 1) := dk_42 (dk_at dksX4_earnedAt_0 0 rfl rfl)
theorem dX4_earnedAt_1 : decode cX4_earnedAt 1 = .ok (.iload_n 1, 1) := dk_27 (dk_at dksX4_earnedAt_0 1 rfl rfl)
theorem dX4_earnedAt_2 : decode cX4_earnedAt 2 = .ok (.aload_n 2, 1) := dk_44 (dk_at dksX4_earnedAt_0 2 rfl rfl)
theorem dX4_earnedAt_3 : decode cX4_earnedAt 3 = .ok (.invokevirtual 173, 3) := dk_182 0 173 (dk_at dksX4_earnedAt_0 3 rfl rfl)
theorem dX4_earnedAt_6 : decode cX4_earnedAt 6 = .ok (.aload_n 2, 1) := dk_44 (dk_at dksX4_earnedAt_0 6 rfl rfl)
theorem dX4_earnedAt_7 : decode cX4_earnedAt 7 = .ok (.invokevirtual 255, 3) := dk_182 0 255 (dk_at dksX4_earnedAt_0 7 rfl rfl)
theorem dX4_earnedAt_10 : decode cX4_earnedAt 10 = .ok (.aload_n 0, 1) := dk_42 (dk_at dksX4_earnedAt_0 10 rfl rfl)
theorem dX4_earnedAt_11 : decode cX4_earnedAt 11 = .ok (.getfield 10, 3) := dk_180 0 10 (dk_at dksX4_earnedAt_0 11 rfl rfl)
theorem dX4_earnedAt_14 : decode cX4_earnedAt 14 = .ok (.iload_n 1, 1) := dk_27 (dk_at dksX4_earnedAt_0 14 rfl rfl)
theorem dX4_earnedAt_15 : decode cX4_earnedAt 15 = .ok (.invokevirtual 90, 3) := dk_182 0 90 (dk_at dksX4_earnedAt_0 15 rfl rfl)
theorem dX4_earnedAt_18 : decode cX4_earnedAt 18 = .ok (.checkcast 68, 3) := dk_192 0 68 (dk_at dksX4_earnedAt_0 18 rfl rfl)
theorem dX4_earnedAt_21 : decode cX4_earnedAt 21 = .ok (.getfield 80, 3) := dk_180 0 80 (dk_at dksX4_earnedAt_0 21 rfl rfl)
theorem dX4_earnedAt_24 : decode cX4_earnedAt 24 = .ok (.imul, 1) := dk_104 (dk_at dksX4_earnedAt_1 0 rfl rfl)
theorem dX4_earnedAt_25 : decode cX4_earnedAt 25 = .ok (.iconst 4, 1) := dk_7 (dk_at dksX4_earnedAt_1 1 rfl rfl)
theorem dX4_earnedAt_26 : decode cX4_earnedAt 26 = .ok (.idiv, 1) := dk_108 (dk_at dksX4_earnedAt_1 2 rfl rfl)
theorem dX4_earnedAt_27 : decode cX4_earnedAt 27 = .ok (.iadd, 1) := dk_96 (dk_at dksX4_earnedAt_1 3 rfl rfl)
theorem dX4_earnedAt_28 : decode cX4_earnedAt 28 = .ok (.ireturn, 1) := dk_172 (dk_at dksX4_earnedAt_1 4 rfl rfl)
abbrev cX4_bestSet : ByteArray := prog_13_method_52_code
def yX4_bestSet : MethodName := ⟨RX4, "bestSet", "(I)[I"⟩
def dkwX4_bestSet_13 : List UInt8 := [184, 1, 31, 25, 8, 176]
abbrev dktX4_bestSet_13 : List UInt8 := dkwX4_bestSet_13 ++ []
def dkwX4_bestSet_12 : List UInt8 := [54, 4, 21, 8, 54, 7, 167, 255, 190, 21, 6, 188, 10, 58, 8, 25, 5, 3, 25, 8, 3, 21, 6]
abbrev dktX4_bestSet_12 : List UInt8 := dkwX4_bestSet_12 ++ dktX4_bestSet_13
def dkwX4_bestSet_11 : List UInt8 := [167, 255, 227, 25, 5, 21, 6, 21, 8, 79, 132, 6, 1, 21, 4, 42, 180, 0, 29, 21, 8, 46, 100]
abbrev dktX4_bestSet_11 : List UInt8 := dkwX4_bestSet_11 ++ dktX4_bestSet_12
def dkwX4_bestSet_10 : List UInt8 := [160, 0, 20, 21, 7, 2, 159, 0, 20, 42, 21, 7, 21, 8, 182, 1, 28, 154, 0, 9, 132, 8, 1]
abbrev dktX4_bestSet_10 : List UInt8 := dkwX4_bestSet_10 ++ dktX4_bestSet_11
def dkwX4_bestSet_9 : List UInt8 := [188, 10, 58, 5, 3, 54, 6, 2, 54, 7, 21, 4, 158, 0, 67, 3, 54, 8, 44, 21, 8, 46, 21, 4]
abbrev dktX4_bestSet_9 : List UInt8 := dkwX4_bestSet_9 ++ dktX4_bestSet_10
def dkwX4_bestSet_8 : List UInt8 := [16, 16, 162, 0, 20, 21, 4, 44, 21, 5, 46, 184, 0, 244, 54, 4, 132, 5, 1, 167, 255, 235, 16, 16]
abbrev dktX4_bestSet_8 : List UInt8 := dkwX4_bestSet_8 ++ dktX4_bestSet_9
def dkwX4_bestSet_7 : List UInt8 := [180, 0, 29, 21, 5, 46, 21, 6, 96, 79, 132, 4, 1, 167, 255, 92, 3, 54, 4, 3, 54, 5, 21, 5]
abbrev dktX4_bestSet_7 : List UInt8 := dkwX4_bestSet_7 ++ dktX4_bestSet_8
def dkwX4_bestSet_6 : List UInt8 := [182, 1, 28, 153, 0, 9, 44, 21, 7, 46, 54, 6, 132, 7, 1, 167, 255, 220, 44, 21, 5, 42]
abbrev dktX4_bestSet_6 : List UInt8 := dkwX4_bestSet_6 ++ dktX4_bestSet_7
def dkwX4_bestSet_5 : List UInt8 := [3, 54, 7, 21, 7, 16, 16, 162, 0, 35, 44, 21, 7, 46, 21, 6, 164, 0, 20, 42, 21, 5, 21, 7]
abbrev dktX4_bestSet_5 : List UInt8 := dkwX4_bestSet_5 ++ dktX4_bestSet_6
def dkwX4_bestSet_4 : List UInt8 := [167, 255, 188, 45, 21, 5, 4, 84, 42, 27, 21, 5, 182, 0, 170, 154, 0, 6, 167, 0, 62, 3, 54, 6]
abbrev dktX4_bestSet_4 : List UInt8 := dkwX4_bestSet_4 ++ dktX4_bestSet_5
def dkwX4_bestSet_3 : List UInt8 := [180, 0, 26, 21, 5, 46, 160, 0, 14, 21, 6, 21, 5, 164, 0, 7, 21, 6, 54, 5, 132, 6, 1]
abbrev dktX4_bestSet_3 : List UInt8 := dkwX4_bestSet_3 ++ dktX4_bestSet_4
def dkwX4_bestSet_2 : List UInt8 := [180, 0, 26, 21, 6, 46, 42, 180, 0, 26, 21, 5, 46, 163, 0, 27, 42, 180, 0, 26, 21, 6, 46, 42]
abbrev dktX4_bestSet_2 : List UInt8 := dkwX4_bestSet_2 ++ dktX4_bestSet_3
def dkwX4_bestSet_1 : List UInt8 := [54, 6, 21, 6, 16, 16, 162, 0, 67, 45, 21, 6, 51, 154, 0, 54, 21, 5, 2, 159, 0, 44, 42]
abbrev dktX4_bestSet_1 : List UInt8 := dkwX4_bestSet_1 ++ dktX4_bestSet_2
def dkwX4_bestSet_0 : List UInt8 := [16, 16, 188, 10, 77, 16, 16, 188, 4, 78, 3, 54, 4, 21, 4, 16, 16, 162, 0, 163, 2, 54, 5, 3]
abbrev dktX4_bestSet_0 : List UInt8 := dkwX4_bestSet_0 ++ dktX4_bestSet_1
theorem dksX4_bestSet_0 : cX4_bestSet.data.toList.drop 0 = dktX4_bestSet_0 := by decide +kernel
theorem dksX4_bestSet_1 : cX4_bestSet.data.toList.drop 24 = dktX4_bestSet_1 := dk_seg dksX4_bestSet_0 24 rfl rfl
theorem dksX4_bestSet_2 : cX4_bestSet.data.toList.drop 47 = dktX4_bestSet_2 := dk_seg dksX4_bestSet_1 23 rfl rfl
theorem dksX4_bestSet_3 : cX4_bestSet.data.toList.drop 71 = dktX4_bestSet_3 := dk_seg dksX4_bestSet_2 24 rfl rfl
theorem dksX4_bestSet_4 : cX4_bestSet.data.toList.drop 94 = dktX4_bestSet_4 := dk_seg dksX4_bestSet_3 23 rfl rfl
theorem dksX4_bestSet_5 : cX4_bestSet.data.toList.drop 118 = dktX4_bestSet_5 := dk_seg dksX4_bestSet_4 24 rfl rfl
theorem dksX4_bestSet_6 : cX4_bestSet.data.toList.drop 142 = dktX4_bestSet_6 := dk_seg dksX4_bestSet_5 24 rfl rfl
theorem dksX4_bestSet_7 : cX4_bestSet.data.toList.drop 164 = dktX4_bestSet_7 := dk_seg dksX4_bestSet_6 22 rfl rfl
theorem dksX4_bestSet_8 : cX4_bestSet.data.toList.drop 188 = dktX4_bestSet_8 := dk_seg dksX4_bestSet_7 24 rfl rfl
theorem dksX4_bestSet_9 : cX4_bestSet.data.toList.drop 212 = dktX4_bestSet_9 := dk_seg dksX4_bestSet_8 24 rfl rfl
theorem dksX4_bestSet_10 : cX4_bestSet.data.toList.drop 236 = dktX4_bestSet_10 := dk_seg dksX4_bestSet_9 24 rfl rfl
theorem dksX4_bestSet_11 : cX4_bestSet.data.toList.drop 259 = dktX4_bestSet_11 := dk_seg dksX4_bestSet_10 23 rfl rfl
theorem dksX4_bestSet_12 : cX4_bestSet.data.toList.drop 282 = dktX4_bestSet_12 := dk_seg dksX4_bestSet_11 23 rfl rfl
theorem dksX4_bestSet_13 : cX4_bestSet.data.toList.drop 305 = dktX4_bestSet_13 := dk_seg dksX4_bestSet_12 23 rfl rfl
theorem dX4_bestSet_0 : decode cX4_bestSet 0 = .ok (.bipush 16, 2) := dk_16 16 (dk_at dksX4_bestSet_0 0 rfl rfl)
theorem dX4_bestSet_2 : decode cX4_bestSet 2 = .ok (.newarray .int, 2) := dk_188_10 (dk_at dksX4_bestSet_0 2 rfl rfl)
theorem dX4_bestSet_4 : decode cX4_bestSet 4 = .ok (.astore_n 2, 1) := dk_77 (dk_at dksX4_bestSet_0 4 rfl rfl)
theorem dX4_bestSet_5 : decode cX4_bestSet 5 = .ok (.bipush 16, 2) := dk_16 16 (dk_at dksX4_bestSet_0 5 rfl rfl)
theorem dX4_bestSet_7 : decode cX4_bestSet 7 = .ok (.newarray .boolean, 2) := dk_188_4 (dk_at dksX4_bestSet_0 7 rfl rfl)
theorem dX4_bestSet_9 : decode cX4_bestSet 9 = .ok (.astore_n 3, 1) := dk_78 (dk_at dksX4_bestSet_0 9 rfl rfl)
theorem dX4_bestSet_10 : decode cX4_bestSet 10 = .ok (.iconst 0, 1) := dk_3 (dk_at dksX4_bestSet_0 10 rfl rfl)
theorem dX4_bestSet_11 : decode cX4_bestSet 11 = .ok (.istore 4, 2) := dk_54 4 (dk_at dksX4_bestSet_0 11 rfl rfl)
theorem dX4_bestSet_13 : decode cX4_bestSet 13 = .ok (.iload 4, 2) := dk_21 4 (dk_at dksX4_bestSet_0 13 rfl rfl)
theorem dX4_bestSet_15 : decode cX4_bestSet 15 = .ok (.bipush 16, 2) := dk_16 16 (dk_at dksX4_bestSet_0 15 rfl rfl)
theorem dX4_bestSet_17 : decode cX4_bestSet 17 = .ok (.if_icmp .ge 163, 3) := dk_162 0 163 (dk_at dksX4_bestSet_0 17 rfl rfl)
theorem dX4_bestSet_20 : decode cX4_bestSet 20 = .ok (.iconst (-1), 1) := dk_2 (dk_at dksX4_bestSet_0 20 rfl rfl)
theorem dX4_bestSet_21 : decode cX4_bestSet 21 = .ok (.istore 5, 2) := dk_54 5 (dk_at dksX4_bestSet_0 21 rfl rfl)
theorem dX4_bestSet_23 : decode cX4_bestSet 23 = .ok (.iconst 0, 1) := dk_3 (dk_at dksX4_bestSet_0 23 rfl rfl)
theorem dX4_bestSet_24 : decode cX4_bestSet 24 = .ok (.istore 6, 2) := dk_54 6 (dk_at dksX4_bestSet_1 0 rfl rfl)
theorem dX4_bestSet_26 : decode cX4_bestSet 26 = .ok (.iload 6, 2) := dk_21 6 (dk_at dksX4_bestSet_1 2 rfl rfl)
theorem dX4_bestSet_28 : decode cX4_bestSet 28 = .ok (.bipush 16, 2) := dk_16 16 (dk_at dksX4_bestSet_1 4 rfl rfl)
theorem dX4_bestSet_30 : decode cX4_bestSet 30 = .ok (.if_icmp .ge 67, 3) := dk_162 0 67 (dk_at dksX4_bestSet_1 6 rfl rfl)
theorem dX4_bestSet_33 : decode cX4_bestSet 33 = .ok (.aload_n 3, 1) := dk_45 (dk_at dksX4_bestSet_1 9 rfl rfl)
theorem dX4_bestSet_34 : decode cX4_bestSet 34 = .ok (.iload 6, 2) := dk_21 6 (dk_at dksX4_bestSet_1 10 rfl rfl)
theorem dX4_bestSet_36 : decode cX4_bestSet 36 = .ok (.baload, 1) := dk_51 (dk_at dksX4_bestSet_1 12 rfl rfl)
theorem dX4_bestSet_37 : decode cX4_bestSet 37 = .ok (.ifCond .ne 54, 3) := dk_154 0 54 (dk_at dksX4_bestSet_1 13 rfl rfl)
theorem dX4_bestSet_40 : decode cX4_bestSet 40 = .ok (.iload 5, 2) := dk_21 5 (dk_at dksX4_bestSet_1 16 rfl rfl)
theorem dX4_bestSet_42 : decode cX4_bestSet 42 = .ok (.iconst (-1), 1) := dk_2 (dk_at dksX4_bestSet_1 18 rfl rfl)
theorem dX4_bestSet_43 : decode cX4_bestSet 43 = .ok (.if_icmp .eq 44, 3) := dk_159 0 44 (dk_at dksX4_bestSet_1 19 rfl rfl)
theorem dX4_bestSet_46 : decode cX4_bestSet 46 = .ok (.aload_n 0, 1) := dk_42 (dk_at dksX4_bestSet_1 22 rfl rfl)
theorem dX4_bestSet_47 : decode cX4_bestSet 47 = .ok (.getfield 26, 3) := dk_180 0 26 (dk_at dksX4_bestSet_2 0 rfl rfl)
theorem dX4_bestSet_50 : decode cX4_bestSet 50 = .ok (.iload 6, 2) := dk_21 6 (dk_at dksX4_bestSet_2 3 rfl rfl)
theorem dX4_bestSet_52 : decode cX4_bestSet 52 = .ok (.iaload, 1) := dk_46 (dk_at dksX4_bestSet_2 5 rfl rfl)
theorem dX4_bestSet_53 : decode cX4_bestSet 53 = .ok (.aload_n 0, 1) := dk_42 (dk_at dksX4_bestSet_2 6 rfl rfl)
theorem dX4_bestSet_54 : decode cX4_bestSet 54 = .ok (.getfield 26, 3) := dk_180 0 26 (dk_at dksX4_bestSet_2 7 rfl rfl)
theorem dX4_bestSet_57 : decode cX4_bestSet 57 = .ok (.iload 5, 2) := dk_21 5 (dk_at dksX4_bestSet_2 10 rfl rfl)
theorem dX4_bestSet_59 : decode cX4_bestSet 59 = .ok (.iaload, 1) := dk_46 (dk_at dksX4_bestSet_2 12 rfl rfl)
theorem dX4_bestSet_60 : decode cX4_bestSet 60 = .ok (.if_icmp .gt 27, 3) := dk_163 0 27 (dk_at dksX4_bestSet_2 13 rfl rfl)
theorem dX4_bestSet_63 : decode cX4_bestSet 63 = .ok (.aload_n 0, 1) := dk_42 (dk_at dksX4_bestSet_2 16 rfl rfl)
theorem dX4_bestSet_64 : decode cX4_bestSet 64 = .ok (.getfield 26, 3) := dk_180 0 26 (dk_at dksX4_bestSet_2 17 rfl rfl)
theorem dX4_bestSet_67 : decode cX4_bestSet 67 = .ok (.iload 6, 2) := dk_21 6 (dk_at dksX4_bestSet_2 20 rfl rfl)
theorem dX4_bestSet_69 : decode cX4_bestSet 69 = .ok (.iaload, 1) := dk_46 (dk_at dksX4_bestSet_2 22 rfl rfl)
theorem dX4_bestSet_70 : decode cX4_bestSet 70 = .ok (.aload_n 0, 1) := dk_42 (dk_at dksX4_bestSet_2 23 rfl rfl)
theorem dX4_bestSet_71 : decode cX4_bestSet 71 = .ok (.getfield 26, 3) := dk_180 0 26 (dk_at dksX4_bestSet_3 0 rfl rfl)
theorem dX4_bestSet_74 : decode cX4_bestSet 74 = .ok (.iload 5, 2) := dk_21 5 (dk_at dksX4_bestSet_3 3 rfl rfl)
theorem dX4_bestSet_76 : decode cX4_bestSet 76 = .ok (.iaload, 1) := dk_46 (dk_at dksX4_bestSet_3 5 rfl rfl)
theorem dX4_bestSet_77 : decode cX4_bestSet 77 = .ok (.if_icmp .ne 14, 3) := dk_160 0 14 (dk_at dksX4_bestSet_3 6 rfl rfl)
theorem dX4_bestSet_80 : decode cX4_bestSet 80 = .ok (.iload 6, 2) := dk_21 6 (dk_at dksX4_bestSet_3 9 rfl rfl)
theorem dX4_bestSet_82 : decode cX4_bestSet 82 = .ok (.iload 5, 2) := dk_21 5 (dk_at dksX4_bestSet_3 11 rfl rfl)
theorem dX4_bestSet_84 : decode cX4_bestSet 84 = .ok (.if_icmp .le 7, 3) := dk_164 0 7 (dk_at dksX4_bestSet_3 13 rfl rfl)
theorem dX4_bestSet_87 : decode cX4_bestSet 87 = .ok (.iload 6, 2) := dk_21 6 (dk_at dksX4_bestSet_3 16 rfl rfl)
theorem dX4_bestSet_89 : decode cX4_bestSet 89 = .ok (.istore 5, 2) := dk_54 5 (dk_at dksX4_bestSet_3 18 rfl rfl)
theorem dX4_bestSet_91 : decode cX4_bestSet 91 = .ok (.iinc 6 1, 3) := dk_132 6 1 (dk_at dksX4_bestSet_3 20 rfl rfl)
theorem dX4_bestSet_94 : decode cX4_bestSet 94 = .ok (.goto (-68), 3) := dk_167 255 188 (dk_at dksX4_bestSet_4 0 rfl rfl)
theorem dX4_bestSet_97 : decode cX4_bestSet 97 = .ok (.aload_n 3, 1) := dk_45 (dk_at dksX4_bestSet_4 3 rfl rfl)
theorem dX4_bestSet_98 : decode cX4_bestSet 98 = .ok (.iload 5, 2) := dk_21 5 (dk_at dksX4_bestSet_4 4 rfl rfl)
theorem dX4_bestSet_100 : decode cX4_bestSet 100 = .ok (.iconst 1, 1) := dk_4 (dk_at dksX4_bestSet_4 6 rfl rfl)
theorem dX4_bestSet_101 : decode cX4_bestSet 101 = .ok (.bastore, 1) := dk_84 (dk_at dksX4_bestSet_4 7 rfl rfl)
theorem dX4_bestSet_102 : decode cX4_bestSet 102 = .ok (.aload_n 0, 1) := dk_42 (dk_at dksX4_bestSet_4 8 rfl rfl)
theorem dX4_bestSet_103 : decode cX4_bestSet 103 = .ok (.iload_n 1, 1) := dk_27 (dk_at dksX4_bestSet_4 9 rfl rfl)
theorem dX4_bestSet_104 : decode cX4_bestSet 104 = .ok (.iload 5, 2) := dk_21 5 (dk_at dksX4_bestSet_4 10 rfl rfl)
theorem dX4_bestSet_106 : decode cX4_bestSet 106 = .ok (.invokevirtual 170, 3) := dk_182 0 170 (dk_at dksX4_bestSet_4 12 rfl rfl)
theorem dX4_bestSet_109 : decode cX4_bestSet 109 = .ok (.ifCond .ne 6, 3) := dk_154 0 6 (dk_at dksX4_bestSet_4 15 rfl rfl)
theorem dX4_bestSet_112 : decode cX4_bestSet 112 = .ok (.goto 62, 3) := dk_167 0 62 (dk_at dksX4_bestSet_4 18 rfl rfl)
theorem dX4_bestSet_115 : decode cX4_bestSet 115 = .ok (.iconst 0, 1) := dk_3 (dk_at dksX4_bestSet_4 21 rfl rfl)
theorem dX4_bestSet_116 : decode cX4_bestSet 116 = .ok (.istore 6, 2) := dk_54 6 (dk_at dksX4_bestSet_4 22 rfl rfl)
theorem dX4_bestSet_118 : decode cX4_bestSet 118 = .ok (.iconst 0, 1) := dk_3 (dk_at dksX4_bestSet_5 0 rfl rfl)
theorem dX4_bestSet_119 : decode cX4_bestSet 119 = .ok (.istore 7, 2) := dk_54 7 (dk_at dksX4_bestSet_5 1 rfl rfl)
theorem dX4_bestSet_121 : decode cX4_bestSet 121 = .ok (.iload 7, 2) := dk_21 7 (dk_at dksX4_bestSet_5 3 rfl rfl)
theorem dX4_bestSet_123 : decode cX4_bestSet 123 = .ok (.bipush 16, 2) := dk_16 16 (dk_at dksX4_bestSet_5 5 rfl rfl)
theorem dX4_bestSet_125 : decode cX4_bestSet 125 = .ok (.if_icmp .ge 35, 3) := dk_162 0 35 (dk_at dksX4_bestSet_5 7 rfl rfl)
theorem dX4_bestSet_128 : decode cX4_bestSet 128 = .ok (.aload_n 2, 1) := dk_44 (dk_at dksX4_bestSet_5 10 rfl rfl)
theorem dX4_bestSet_129 : decode cX4_bestSet 129 = .ok (.iload 7, 2) := dk_21 7 (dk_at dksX4_bestSet_5 11 rfl rfl)
theorem dX4_bestSet_131 : decode cX4_bestSet 131 = .ok (.iaload, 1) := dk_46 (dk_at dksX4_bestSet_5 13 rfl rfl)
theorem dX4_bestSet_132 : decode cX4_bestSet 132 = .ok (.iload 6, 2) := dk_21 6 (dk_at dksX4_bestSet_5 14 rfl rfl)
theorem dX4_bestSet_134 : decode cX4_bestSet 134 = .ok (.if_icmp .le 20, 3) := dk_164 0 20 (dk_at dksX4_bestSet_5 16 rfl rfl)
theorem dX4_bestSet_137 : decode cX4_bestSet 137 = .ok (.aload_n 0, 1) := dk_42 (dk_at dksX4_bestSet_5 19 rfl rfl)
theorem dX4_bestSet_138 : decode cX4_bestSet 138 = .ok (.iload 5, 2) := dk_21 5 (dk_at dksX4_bestSet_5 20 rfl rfl)
theorem dX4_bestSet_140 : decode cX4_bestSet 140 = .ok (.iload 7, 2) := dk_21 7 (dk_at dksX4_bestSet_5 22 rfl rfl)
theorem dX4_bestSet_142 : decode cX4_bestSet 142 = .ok (.invokevirtual 284, 3) := dk_182 1 28 (dk_at dksX4_bestSet_6 0 rfl rfl)
theorem dX4_bestSet_145 : decode cX4_bestSet 145 = .ok (.ifCond .eq 9, 3) := dk_153 0 9 (dk_at dksX4_bestSet_6 3 rfl rfl)
theorem dX4_bestSet_148 : decode cX4_bestSet 148 = .ok (.aload_n 2, 1) := dk_44 (dk_at dksX4_bestSet_6 6 rfl rfl)
theorem dX4_bestSet_149 : decode cX4_bestSet 149 = .ok (.iload 7, 2) := dk_21 7 (dk_at dksX4_bestSet_6 7 rfl rfl)
theorem dX4_bestSet_151 : decode cX4_bestSet 151 = .ok (.iaload, 1) := dk_46 (dk_at dksX4_bestSet_6 9 rfl rfl)
theorem dX4_bestSet_152 : decode cX4_bestSet 152 = .ok (.istore 6, 2) := dk_54 6 (dk_at dksX4_bestSet_6 10 rfl rfl)
theorem dX4_bestSet_154 : decode cX4_bestSet 154 = .ok (.iinc 7 1, 3) := dk_132 7 1 (dk_at dksX4_bestSet_6 12 rfl rfl)
theorem dX4_bestSet_157 : decode cX4_bestSet 157 = .ok (.goto (-36), 3) := dk_167 255 220 (dk_at dksX4_bestSet_6 15 rfl rfl)
theorem dX4_bestSet_160 : decode cX4_bestSet 160 = .ok (.aload_n 2, 1) := dk_44 (dk_at dksX4_bestSet_6 18 rfl rfl)
theorem dX4_bestSet_161 : decode cX4_bestSet 161 = .ok (.iload 5, 2) := dk_21 5 (dk_at dksX4_bestSet_6 19 rfl rfl)
theorem dX4_bestSet_163 : decode cX4_bestSet 163 = .ok (.aload_n 0, 1) := dk_42 (dk_at dksX4_bestSet_6 21 rfl rfl)
theorem dX4_bestSet_164 : decode cX4_bestSet 164 = .ok (.getfield 29, 3) := dk_180 0 29 (dk_at dksX4_bestSet_7 0 rfl rfl)
theorem dX4_bestSet_167 : decode cX4_bestSet 167 = .ok (.iload 5, 2) := dk_21 5 (dk_at dksX4_bestSet_7 3 rfl rfl)
theorem dX4_bestSet_169 : decode cX4_bestSet 169 = .ok (.iaload, 1) := dk_46 (dk_at dksX4_bestSet_7 5 rfl rfl)
theorem dX4_bestSet_170 : decode cX4_bestSet 170 = .ok (.iload 6, 2) := dk_21 6 (dk_at dksX4_bestSet_7 6 rfl rfl)
theorem dX4_bestSet_172 : decode cX4_bestSet 172 = .ok (.iadd, 1) := dk_96 (dk_at dksX4_bestSet_7 8 rfl rfl)
theorem dX4_bestSet_173 : decode cX4_bestSet 173 = .ok (.iastore, 1) := dk_79 (dk_at dksX4_bestSet_7 9 rfl rfl)
theorem dX4_bestSet_174 : decode cX4_bestSet 174 = .ok (.iinc 4 1, 3) := dk_132 4 1 (dk_at dksX4_bestSet_7 10 rfl rfl)
theorem dX4_bestSet_177 : decode cX4_bestSet 177 = .ok (.goto (-164), 3) := dk_167 255 92 (dk_at dksX4_bestSet_7 13 rfl rfl)
theorem dX4_bestSet_180 : decode cX4_bestSet 180 = .ok (.iconst 0, 1) := dk_3 (dk_at dksX4_bestSet_7 16 rfl rfl)
theorem dX4_bestSet_181 : decode cX4_bestSet 181 = .ok (.istore 4, 2) := dk_54 4 (dk_at dksX4_bestSet_7 17 rfl rfl)
theorem dX4_bestSet_183 : decode cX4_bestSet 183 = .ok (.iconst 0, 1) := dk_3 (dk_at dksX4_bestSet_7 19 rfl rfl)
theorem dX4_bestSet_184 : decode cX4_bestSet 184 = .ok (.istore 5, 2) := dk_54 5 (dk_at dksX4_bestSet_7 20 rfl rfl)
theorem dX4_bestSet_186 : decode cX4_bestSet 186 = .ok (.iload 5, 2) := dk_21 5 (dk_at dksX4_bestSet_7 22 rfl rfl)
theorem dX4_bestSet_188 : decode cX4_bestSet 188 = .ok (.bipush 16, 2) := dk_16 16 (dk_at dksX4_bestSet_8 0 rfl rfl)
theorem dX4_bestSet_190 : decode cX4_bestSet 190 = .ok (.if_icmp .ge 20, 3) := dk_162 0 20 (dk_at dksX4_bestSet_8 2 rfl rfl)
theorem dX4_bestSet_193 : decode cX4_bestSet 193 = .ok (.iload 4, 2) := dk_21 4 (dk_at dksX4_bestSet_8 5 rfl rfl)
theorem dX4_bestSet_195 : decode cX4_bestSet 195 = .ok (.aload_n 2, 1) := dk_44 (dk_at dksX4_bestSet_8 7 rfl rfl)
theorem dX4_bestSet_196 : decode cX4_bestSet 196 = .ok (.iload 5, 2) := dk_21 5 (dk_at dksX4_bestSet_8 8 rfl rfl)
theorem dX4_bestSet_198 : decode cX4_bestSet 198 = .ok (.iaload, 1) := dk_46 (dk_at dksX4_bestSet_8 10 rfl rfl)
theorem dX4_bestSet_199 : decode cX4_bestSet 199 = .ok (.invokestatic 244, 3) := dk_184 0 244 (dk_at dksX4_bestSet_8 11 rfl rfl)
theorem dX4_bestSet_202 : decode cX4_bestSet 202 = .ok (.istore 4, 2) := dk_54 4 (dk_at dksX4_bestSet_8 14 rfl rfl)
theorem dX4_bestSet_204 : decode cX4_bestSet 204 = .ok (.iinc 5 1, 3) := dk_132 5 1 (dk_at dksX4_bestSet_8 16 rfl rfl)
theorem dX4_bestSet_207 : decode cX4_bestSet 207 = .ok (.goto (-21), 3) := dk_167 255 235 (dk_at dksX4_bestSet_8 19 rfl rfl)
theorem dX4_bestSet_210 : decode cX4_bestSet 210 = .ok (.bipush 16, 2) := dk_16 16 (dk_at dksX4_bestSet_8 22 rfl rfl)
theorem dX4_bestSet_212 : decode cX4_bestSet 212 = .ok (.newarray .int, 2) := dk_188_10 (dk_at dksX4_bestSet_9 0 rfl rfl)
theorem dX4_bestSet_214 : decode cX4_bestSet 214 = .ok (.astore 5, 2) := dk_58 5 (dk_at dksX4_bestSet_9 2 rfl rfl)
theorem dX4_bestSet_216 : decode cX4_bestSet 216 = .ok (.iconst 0, 1) := dk_3 (dk_at dksX4_bestSet_9 4 rfl rfl)
theorem dX4_bestSet_217 : decode cX4_bestSet 217 = .ok (.istore 6, 2) := dk_54 6 (dk_at dksX4_bestSet_9 5 rfl rfl)
theorem dX4_bestSet_219 : decode cX4_bestSet 219 = .ok (.iconst (-1), 1) := dk_2 (dk_at dksX4_bestSet_9 7 rfl rfl)
theorem dX4_bestSet_220 : decode cX4_bestSet 220 = .ok (.istore 7, 2) := dk_54 7 (dk_at dksX4_bestSet_9 8 rfl rfl)
theorem dX4_bestSet_222 : decode cX4_bestSet 222 = .ok (.iload 4, 2) := dk_21 4 (dk_at dksX4_bestSet_9 10 rfl rfl)
theorem dX4_bestSet_224 : decode cX4_bestSet 224 = .ok (.ifCond .le 67, 3) := dk_158 0 67 (dk_at dksX4_bestSet_9 12 rfl rfl)
theorem dX4_bestSet_227 : decode cX4_bestSet 227 = .ok (.iconst 0, 1) := dk_3 (dk_at dksX4_bestSet_9 15 rfl rfl)
theorem dX4_bestSet_228 : decode cX4_bestSet 228 = .ok (.istore 8, 2) := dk_54 8 (dk_at dksX4_bestSet_9 16 rfl rfl)
theorem dX4_bestSet_230 : decode cX4_bestSet 230 = .ok (.aload_n 2, 1) := dk_44 (dk_at dksX4_bestSet_9 18 rfl rfl)
theorem dX4_bestSet_231 : decode cX4_bestSet 231 = .ok (.iload 8, 2) := dk_21 8 (dk_at dksX4_bestSet_9 19 rfl rfl)
theorem dX4_bestSet_233 : decode cX4_bestSet 233 = .ok (.iaload, 1) := dk_46 (dk_at dksX4_bestSet_9 21 rfl rfl)
theorem dX4_bestSet_234 : decode cX4_bestSet 234 = .ok (.iload 4, 2) := dk_21 4 (dk_at dksX4_bestSet_9 22 rfl rfl)
theorem dX4_bestSet_236 : decode cX4_bestSet 236 = .ok (.if_icmp .ne 20, 3) := dk_160 0 20 (dk_at dksX4_bestSet_10 0 rfl rfl)
theorem dX4_bestSet_239 : decode cX4_bestSet 239 = .ok (.iload 7, 2) := dk_21 7 (dk_at dksX4_bestSet_10 3 rfl rfl)
theorem dX4_bestSet_241 : decode cX4_bestSet 241 = .ok (.iconst (-1), 1) := dk_2 (dk_at dksX4_bestSet_10 5 rfl rfl)
theorem dX4_bestSet_242 : decode cX4_bestSet 242 = .ok (.if_icmp .eq 20, 3) := dk_159 0 20 (dk_at dksX4_bestSet_10 6 rfl rfl)
theorem dX4_bestSet_245 : decode cX4_bestSet 245 = .ok (.aload_n 0, 1) := dk_42 (dk_at dksX4_bestSet_10 9 rfl rfl)
theorem dX4_bestSet_246 : decode cX4_bestSet 246 = .ok (.iload 7, 2) := dk_21 7 (dk_at dksX4_bestSet_10 10 rfl rfl)
theorem dX4_bestSet_248 : decode cX4_bestSet 248 = .ok (.iload 8, 2) := dk_21 8 (dk_at dksX4_bestSet_10 12 rfl rfl)
theorem dX4_bestSet_250 : decode cX4_bestSet 250 = .ok (.invokevirtual 284, 3) := dk_182 1 28 (dk_at dksX4_bestSet_10 14 rfl rfl)
theorem dX4_bestSet_253 : decode cX4_bestSet 253 = .ok (.ifCond .ne 9, 3) := dk_154 0 9 (dk_at dksX4_bestSet_10 17 rfl rfl)
theorem dX4_bestSet_256 : decode cX4_bestSet 256 = .ok (.iinc 8 1, 3) := dk_132 8 1 (dk_at dksX4_bestSet_10 20 rfl rfl)
theorem dX4_bestSet_259 : decode cX4_bestSet 259 = .ok (.goto (-29), 3) := dk_167 255 227 (dk_at dksX4_bestSet_11 0 rfl rfl)
theorem dX4_bestSet_262 : decode cX4_bestSet 262 = .ok (.aload 5, 2) := dk_25 5 (dk_at dksX4_bestSet_11 3 rfl rfl)
theorem dX4_bestSet_264 : decode cX4_bestSet 264 = .ok (.iload 6, 2) := dk_21 6 (dk_at dksX4_bestSet_11 5 rfl rfl)
theorem dX4_bestSet_266 : decode cX4_bestSet 266 = .ok (.iload 8, 2) := dk_21 8 (dk_at dksX4_bestSet_11 7 rfl rfl)
theorem dX4_bestSet_268 : decode cX4_bestSet 268 = .ok (.iastore, 1) := dk_79 (dk_at dksX4_bestSet_11 9 rfl rfl)
theorem dX4_bestSet_269 : decode cX4_bestSet 269 = .ok (.iinc 6 1, 3) := dk_132 6 1 (dk_at dksX4_bestSet_11 10 rfl rfl)
theorem dX4_bestSet_272 : decode cX4_bestSet 272 = .ok (.iload 4, 2) := dk_21 4 (dk_at dksX4_bestSet_11 13 rfl rfl)
theorem dX4_bestSet_274 : decode cX4_bestSet 274 = .ok (.aload_n 0, 1) := dk_42 (dk_at dksX4_bestSet_11 15 rfl rfl)
theorem dX4_bestSet_275 : decode cX4_bestSet 275 = .ok (.getfield 29, 3) := dk_180 0 29 (dk_at dksX4_bestSet_11 16 rfl rfl)
theorem dX4_bestSet_278 : decode cX4_bestSet 278 = .ok (.iload 8, 2) := dk_21 8 (dk_at dksX4_bestSet_11 19 rfl rfl)
theorem dX4_bestSet_280 : decode cX4_bestSet 280 = .ok (.iaload, 1) := dk_46 (dk_at dksX4_bestSet_11 21 rfl rfl)
theorem dX4_bestSet_281 : decode cX4_bestSet 281 = .ok (.isub, 1) := dk_100 (dk_at dksX4_bestSet_11 22 rfl rfl)
theorem dX4_bestSet_282 : decode cX4_bestSet 282 = .ok (.istore 4, 2) := dk_54 4 (dk_at dksX4_bestSet_12 0 rfl rfl)
theorem dX4_bestSet_284 : decode cX4_bestSet 284 = .ok (.iload 8, 2) := dk_21 8 (dk_at dksX4_bestSet_12 2 rfl rfl)
theorem dX4_bestSet_286 : decode cX4_bestSet 286 = .ok (.istore 7, 2) := dk_54 7 (dk_at dksX4_bestSet_12 4 rfl rfl)
theorem dX4_bestSet_288 : decode cX4_bestSet 288 = .ok (.goto (-66), 3) := dk_167 255 190 (dk_at dksX4_bestSet_12 6 rfl rfl)
theorem dX4_bestSet_291 : decode cX4_bestSet 291 = .ok (.iload 6, 2) := dk_21 6 (dk_at dksX4_bestSet_12 9 rfl rfl)
theorem dX4_bestSet_293 : decode cX4_bestSet 293 = .ok (.newarray .int, 2) := dk_188_10 (dk_at dksX4_bestSet_12 11 rfl rfl)
theorem dX4_bestSet_295 : decode cX4_bestSet 295 = .ok (.astore 8, 2) := dk_58 8 (dk_at dksX4_bestSet_12 13 rfl rfl)
theorem dX4_bestSet_297 : decode cX4_bestSet 297 = .ok (.aload 5, 2) := dk_25 5 (dk_at dksX4_bestSet_12 15 rfl rfl)
theorem dX4_bestSet_299 : decode cX4_bestSet 299 = .ok (.iconst 0, 1) := dk_3 (dk_at dksX4_bestSet_12 17 rfl rfl)
theorem dX4_bestSet_300 : decode cX4_bestSet 300 = .ok (.aload 8, 2) := dk_25 8 (dk_at dksX4_bestSet_12 18 rfl rfl)
theorem dX4_bestSet_302 : decode cX4_bestSet 302 = .ok (.iconst 0, 1) := dk_3 (dk_at dksX4_bestSet_12 20 rfl rfl)
theorem dX4_bestSet_303 : decode cX4_bestSet 303 = .ok (.iload 6, 2) := dk_21 6 (dk_at dksX4_bestSet_12 21 rfl rfl)
theorem dX4_bestSet_305 : decode cX4_bestSet 305 = .ok (.invokestatic 287, 3) := dk_184 1 31 (dk_at dksX4_bestSet_13 0 rfl rfl)
theorem dX4_bestSet_308 : decode cX4_bestSet 308 = .ok (.aload 8, 2) := dk_25 8 (dk_at dksX4_bestSet_13 3 rfl rfl)
theorem dX4_bestSet_310 : decode cX4_bestSet 310 = .ok (.areturn, 1) := dk_176 (dk_at dksX4_bestSet_13 5 rfl rfl)
abbrev cX4_isBehind : ByteArray := prog_13_method_51_code
def yX4_isBehind : MethodName := ⟨RX4, "isBehind", "(II)Z"⟩
def dkwX4_isBehind_3 : List UInt8 := [184, 1, 25, 5, 163, 0, 7, 4, 167, 0, 4, 3, 172]
abbrev dktX4_isBehind_3 : List UInt8 := dkwX4_isBehind_3 ++ []
def dkwX4_isBehind_2 : List UInt8 := [46, 42, 180, 0, 22, 28, 46, 100, 184, 1, 22, 54, 4, 29, 153, 0, 21, 21, 4, 16, 12, 21, 4, 100]
abbrev dktX4_isBehind_2 : List UInt8 := dkwX4_isBehind_2 ++ dktX4_isBehind_3
def dkwX4_isBehind_1 : List UInt8 := [180, 0, 26, 27, 46, 160, 0, 12, 28, 27, 164, 0, 7, 4, 167, 0, 4, 3, 62, 42, 180, 0, 22, 27]
abbrev dktX4_isBehind_1 : List UInt8 := dkwX4_isBehind_1 ++ dktX4_isBehind_2
def dkwX4_isBehind_0 : List UInt8 := [42, 180, 0, 26, 28, 46, 42, 180, 0, 26, 27, 46, 163, 0, 23, 42, 180, 0, 26, 28, 46, 42]
abbrev dktX4_isBehind_0 : List UInt8 := dkwX4_isBehind_0 ++ dktX4_isBehind_1
theorem dksX4_isBehind_0 : cX4_isBehind.data.toList.drop 0 = dktX4_isBehind_0 := by decide +kernel
theorem dksX4_isBehind_1 : cX4_isBehind.data.toList.drop 22 = dktX4_isBehind_1 := dk_seg dksX4_isBehind_0 22 rfl rfl
theorem dksX4_isBehind_2 : cX4_isBehind.data.toList.drop 46 = dktX4_isBehind_2 := dk_seg dksX4_isBehind_1 24 rfl rfl
theorem dksX4_isBehind_3 : cX4_isBehind.data.toList.drop 70 = dktX4_isBehind_3 := dk_seg dksX4_isBehind_2 24 rfl rfl
theorem dX4_isBehind_0 : decode cX4_isBehind 0 = .ok (.aload_n 0, 1) := dk_42 (dk_at dksX4_isBehind_0 0 rfl rfl)
theorem dX4_isBehind_1 : decode cX4_isBehind 1 = .ok (.getfield 26, 3) := dk_180 0 26 (dk_at dksX4_isBehind_0 1 rfl rfl)
theorem dX4_isBehind_4 : decode cX4_isBehind 4 = .ok (.iload_n 2, 1) := dk_28 (dk_at dksX4_isBehind_0 4 rfl rfl)
theorem dX4_isBehind_5 : decode cX4_isBehind 5 = .ok (.iaload, 1) := dk_46 (dk_at dksX4_isBehind_0 5 rfl rfl)
theorem dX4_isBehind_6 : decode cX4_isBehind 6 = .ok (.aload_n 0, 1) := dk_42 (dk_at dksX4_isBehind_0 6 rfl rfl)
theorem dX4_isBehind_7 : decode cX4_isBehind 7 = .ok (.getfield 26, 3) := dk_180 0 26 (dk_at dksX4_isBehind_0 7 rfl rfl)
theorem dX4_isBehind_10 : decode cX4_isBehind 10 = .ok (.iload_n 1, 1) := dk_27 (dk_at dksX4_isBehind_0 10 rfl rfl)
theorem dX4_isBehind_11 : decode cX4_isBehind 11 = .ok (.iaload, 1) := dk_46 (dk_at dksX4_isBehind_0 11 rfl rfl)
theorem dX4_isBehind_12 : decode cX4_isBehind 12 = .ok (.if_icmp .gt 23, 3) := dk_163 0 23 (dk_at dksX4_isBehind_0 12 rfl rfl)
theorem dX4_isBehind_15 : decode cX4_isBehind 15 = .ok (.aload_n 0, 1) := dk_42 (dk_at dksX4_isBehind_0 15 rfl rfl)
theorem dX4_isBehind_16 : decode cX4_isBehind 16 = .ok (.getfield 26, 3) := dk_180 0 26 (dk_at dksX4_isBehind_0 16 rfl rfl)
theorem dX4_isBehind_19 : decode cX4_isBehind 19 = .ok (.iload_n 2, 1) := dk_28 (dk_at dksX4_isBehind_0 19 rfl rfl)
theorem dX4_isBehind_20 : decode cX4_isBehind 20 = .ok (.iaload, 1) := dk_46 (dk_at dksX4_isBehind_0 20 rfl rfl)
theorem dX4_isBehind_21 : decode cX4_isBehind 21 = .ok (.aload_n 0, 1) := dk_42 (dk_at dksX4_isBehind_0 21 rfl rfl)
theorem dX4_isBehind_22 : decode cX4_isBehind 22 = .ok (.getfield 26, 3) := dk_180 0 26 (dk_at dksX4_isBehind_1 0 rfl rfl)
theorem dX4_isBehind_25 : decode cX4_isBehind 25 = .ok (.iload_n 1, 1) := dk_27 (dk_at dksX4_isBehind_1 3 rfl rfl)
theorem dX4_isBehind_26 : decode cX4_isBehind 26 = .ok (.iaload, 1) := dk_46 (dk_at dksX4_isBehind_1 4 rfl rfl)
theorem dX4_isBehind_27 : decode cX4_isBehind 27 = .ok (.if_icmp .ne 12, 3) := dk_160 0 12 (dk_at dksX4_isBehind_1 5 rfl rfl)
theorem dX4_isBehind_30 : decode cX4_isBehind 30 = .ok (.iload_n 2, 1) := dk_28 (dk_at dksX4_isBehind_1 8 rfl rfl)
theorem dX4_isBehind_31 : decode cX4_isBehind 31 = .ok (.iload_n 1, 1) := dk_27 (dk_at dksX4_isBehind_1 9 rfl rfl)
theorem dX4_isBehind_32 : decode cX4_isBehind 32 = .ok (.if_icmp .le 7, 3) := dk_164 0 7 (dk_at dksX4_isBehind_1 10 rfl rfl)
theorem dX4_isBehind_35 : decode cX4_isBehind 35 = .ok (.iconst 1, 1) := dk_4 (dk_at dksX4_isBehind_1 13 rfl rfl)
theorem dX4_isBehind_36 : decode cX4_isBehind 36 = .ok (.goto 4, 3) := dk_167 0 4 (dk_at dksX4_isBehind_1 14 rfl rfl)
theorem dX4_isBehind_39 : decode cX4_isBehind 39 = .ok (.iconst 0, 1) := dk_3 (dk_at dksX4_isBehind_1 17 rfl rfl)
theorem dX4_isBehind_40 : decode cX4_isBehind 40 = .ok (.istore_n 3, 1) := dk_62 (dk_at dksX4_isBehind_1 18 rfl rfl)
theorem dX4_isBehind_41 : decode cX4_isBehind 41 = .ok (.aload_n 0, 1) := dk_42 (dk_at dksX4_isBehind_1 19 rfl rfl)
theorem dX4_isBehind_42 : decode cX4_isBehind 42 = .ok (.getfield 22, 3) := dk_180 0 22 (dk_at dksX4_isBehind_1 20 rfl rfl)
theorem dX4_isBehind_45 : decode cX4_isBehind 45 = .ok (.iload_n 1, 1) := dk_27 (dk_at dksX4_isBehind_1 23 rfl rfl)
theorem dX4_isBehind_46 : decode cX4_isBehind 46 = .ok (.iaload, 1) := dk_46 (dk_at dksX4_isBehind_2 0 rfl rfl)
theorem dX4_isBehind_47 : decode cX4_isBehind 47 = .ok (.aload_n 0, 1) := dk_42 (dk_at dksX4_isBehind_2 1 rfl rfl)
theorem dX4_isBehind_48 : decode cX4_isBehind 48 = .ok (.getfield 22, 3) := dk_180 0 22 (dk_at dksX4_isBehind_2 2 rfl rfl)
theorem dX4_isBehind_51 : decode cX4_isBehind 51 = .ok (.iload_n 2, 1) := dk_28 (dk_at dksX4_isBehind_2 5 rfl rfl)
theorem dX4_isBehind_52 : decode cX4_isBehind 52 = .ok (.iaload, 1) := dk_46 (dk_at dksX4_isBehind_2 6 rfl rfl)
theorem dX4_isBehind_53 : decode cX4_isBehind 53 = .ok (.isub, 1) := dk_100 (dk_at dksX4_isBehind_2 7 rfl rfl)
theorem dX4_isBehind_54 : decode cX4_isBehind 54 = .ok (.invokestatic 278, 3) := dk_184 1 22 (dk_at dksX4_isBehind_2 8 rfl rfl)
theorem dX4_isBehind_57 : decode cX4_isBehind 57 = .ok (.istore 4, 2) := dk_54 4 (dk_at dksX4_isBehind_2 11 rfl rfl)
theorem dX4_isBehind_59 : decode cX4_isBehind 59 = .ok (.iload_n 3, 1) := dk_29 (dk_at dksX4_isBehind_2 13 rfl rfl)
theorem dX4_isBehind_60 : decode cX4_isBehind 60 = .ok (.ifCond .eq 21, 3) := dk_153 0 21 (dk_at dksX4_isBehind_2 14 rfl rfl)
theorem dX4_isBehind_63 : decode cX4_isBehind 63 = .ok (.iload 4, 2) := dk_21 4 (dk_at dksX4_isBehind_2 17 rfl rfl)
theorem dX4_isBehind_65 : decode cX4_isBehind 65 = .ok (.bipush 12, 2) := dk_16 12 (dk_at dksX4_isBehind_2 19 rfl rfl)
theorem dX4_isBehind_67 : decode cX4_isBehind 67 = .ok (.iload 4, 2) := dk_21 4 (dk_at dksX4_isBehind_2 21 rfl rfl)
theorem dX4_isBehind_69 : decode cX4_isBehind 69 = .ok (.isub, 1) := dk_100 (dk_at dksX4_isBehind_2 23 rfl rfl)
theorem dX4_isBehind_70 : decode cX4_isBehind 70 = .ok (.invokestatic 281, 3) := dk_184 1 25 (dk_at dksX4_isBehind_3 0 rfl rfl)
theorem dX4_isBehind_73 : decode cX4_isBehind 73 = .ok (.iconst 2, 1) := dk_5 (dk_at dksX4_isBehind_3 3 rfl rfl)
theorem dX4_isBehind_74 : decode cX4_isBehind 74 = .ok (.if_icmp .gt 7, 3) := dk_163 0 7 (dk_at dksX4_isBehind_3 4 rfl rfl)
theorem dX4_isBehind_77 : decode cX4_isBehind 77 = .ok (.iconst 1, 1) := dk_4 (dk_at dksX4_isBehind_3 7 rfl rfl)
theorem dX4_isBehind_78 : decode cX4_isBehind 78 = .ok (.goto 4, 3) := dk_167 0 4 (dk_at dksX4_isBehind_3 8 rfl rfl)
theorem dX4_isBehind_81 : decode cX4_isBehind 81 = .ok (.iconst 0, 1) := dk_3 (dk_at dksX4_isBehind_3 11 rfl rfl)
theorem dX4_isBehind_82 : decode cX4_isBehind 82 = .ok (.ireturn, 1) := dk_172 (dk_at dksX4_isBehind_3 12 rfl rfl)
abbrev cX4_ofPlayer : ByteArray := prog_13_method_57_code
def yX4_ofPlayer : MethodName := ⟨RX4, "ofPlayer", "(II)I"⟩
def dkwX4_ofPlayer_1 : List UInt8 := [184, 0, 52, 153, 0, 12, 42, 27, 28, 182, 1, 40, 167, 0, 8, 42, 5, 182, 0, 60, 172]
abbrev dktX4_ofPlayer_1 : List UInt8 := dkwX4_ofPlayer_1 ++ []
def dkwX4_ofPlayer_0 : List UInt8 := [42, 3, 181, 0, 44, 42, 27, 182, 0, 87, 154, 0, 9, 42, 4, 182, 0, 60, 172, 28, 3, 16, 8]
abbrev dktX4_ofPlayer_0 : List UInt8 := dkwX4_ofPlayer_0 ++ dktX4_ofPlayer_1
theorem dksX4_ofPlayer_0 : cX4_ofPlayer.data.toList.drop 0 = dktX4_ofPlayer_0 := by decide +kernel
theorem dksX4_ofPlayer_1 : cX4_ofPlayer.data.toList.drop 23 = dktX4_ofPlayer_1 := dk_seg dksX4_ofPlayer_0 23 rfl rfl
theorem dX4_ofPlayer_0 : decode cX4_ofPlayer 0 = .ok (.aload_n 0, 1) := dk_42 (dk_at dksX4_ofPlayer_0 0 rfl rfl)
theorem dX4_ofPlayer_1 : decode cX4_ofPlayer 1 = .ok (.iconst 0, 1) := dk_3 (dk_at dksX4_ofPlayer_0 1 rfl rfl)
theorem dX4_ofPlayer_2 : decode cX4_ofPlayer 2 = .ok (.putfield 44, 3) := dk_181 0 44 (dk_at dksX4_ofPlayer_0 2 rfl rfl)
theorem dX4_ofPlayer_5 : decode cX4_ofPlayer 5 = .ok (.aload_n 0, 1) := dk_42 (dk_at dksX4_ofPlayer_0 5 rfl rfl)
theorem dX4_ofPlayer_6 : decode cX4_ofPlayer 6 = .ok (.iload_n 1, 1) := dk_27 (dk_at dksX4_ofPlayer_0 6 rfl rfl)
theorem dX4_ofPlayer_7 : decode cX4_ofPlayer 7 = .ok (.invokevirtual 87, 3) := dk_182 0 87 (dk_at dksX4_ofPlayer_0 7 rfl rfl)
theorem dX4_ofPlayer_10 : decode cX4_ofPlayer 10 = .ok (.ifCond .ne 9, 3) := dk_154 0 9 (dk_at dksX4_ofPlayer_0 10 rfl rfl)
theorem dX4_ofPlayer_13 : decode cX4_ofPlayer 13 = .ok (.aload_n 0, 1) := dk_42 (dk_at dksX4_ofPlayer_0 13 rfl rfl)
theorem dX4_ofPlayer_14 : decode cX4_ofPlayer 14 = .ok (.iconst 1, 1) := dk_4 (dk_at dksX4_ofPlayer_0 14 rfl rfl)
theorem dX4_ofPlayer_15 : decode cX4_ofPlayer 15 = .ok (.invokevirtual 60, 3) := dk_182 0 60 (dk_at dksX4_ofPlayer_0 15 rfl rfl)
theorem dX4_ofPlayer_18 : decode cX4_ofPlayer 18 = .ok (.ireturn, 1) := dk_172 (dk_at dksX4_ofPlayer_0 18 rfl rfl)
theorem dX4_ofPlayer_19 : decode cX4_ofPlayer 19 = .ok (.iload_n 2, 1) := dk_28 (dk_at dksX4_ofPlayer_0 19 rfl rfl)
theorem dX4_ofPlayer_20 : decode cX4_ofPlayer 20 = .ok (.iconst 0, 1) := dk_3 (dk_at dksX4_ofPlayer_0 20 rfl rfl)
theorem dX4_ofPlayer_21 : decode cX4_ofPlayer 21 = .ok (.bipush 8, 2) := dk_16 8 (dk_at dksX4_ofPlayer_0 21 rfl rfl)
theorem dX4_ofPlayer_23 : decode cX4_ofPlayer 23 = .ok (.invokestatic 52, 3) := dk_184 0 52 (dk_at dksX4_ofPlayer_1 0 rfl rfl)
theorem dX4_ofPlayer_26 : decode cX4_ofPlayer 26 = .ok (.ifCond .eq 12, 3) := dk_153 0 12 (dk_at dksX4_ofPlayer_1 3 rfl rfl)
theorem dX4_ofPlayer_29 : decode cX4_ofPlayer 29 = .ok (.aload_n 0, 1) := dk_42 (dk_at dksX4_ofPlayer_1 6 rfl rfl)
theorem dX4_ofPlayer_30 : decode cX4_ofPlayer 30 = .ok (.iload_n 1, 1) := dk_27 (dk_at dksX4_ofPlayer_1 7 rfl rfl)
theorem dX4_ofPlayer_31 : decode cX4_ofPlayer 31 = .ok (.iload_n 2, 1) := dk_28 (dk_at dksX4_ofPlayer_1 8 rfl rfl)
theorem dX4_ofPlayer_32 : decode cX4_ofPlayer 32 = .ok (.invokevirtual 296, 3) := dk_182 1 40 (dk_at dksX4_ofPlayer_1 9 rfl rfl)
theorem dX4_ofPlayer_35 : decode cX4_ofPlayer 35 = .ok (.goto 8, 3) := dk_167 0 8 (dk_at dksX4_ofPlayer_1 12 rfl rfl)
theorem dX4_ofPlayer_38 : decode cX4_ofPlayer 38 = .ok (.aload_n 0, 1) := dk_42 (dk_at dksX4_ofPlayer_1 15 rfl rfl)
theorem dX4_ofPlayer_39 : decode cX4_ofPlayer 39 = .ok (.iconst 2, 1) := dk_5 (dk_at dksX4_ofPlayer_1 16 rfl rfl)
theorem dX4_ofPlayer_40 : decode cX4_ofPlayer 40 = .ok (.invokevirtual 60, 3) := dk_182 0 60 (dk_at dksX4_ofPlayer_1 17 rfl rfl)
theorem dX4_ofPlayer_43 : decode cX4_ofPlayer 43 = .ok (.ireturn, 1) := dk_172 (dk_at dksX4_ofPlayer_1 20 rfl rfl)
abbrev cX4_ofPlayerNow : ByteArray := prog_13_method_56_code
def yX4_ofPlayerNow : MethodName := ⟨RX4, "ofPlayerNow", "(II)I"⟩
def dkwX4_ofPlayerNow_3 : List UInt8 := [172, 45, 180, 1, 11, 172, 42, 27, 182, 1, 37, 28, 16, 6, 100, 46, 172]
abbrev dktX4_ofPlayerNow_3 : List UInt8 := dkwX4_ofPlayerNow_3 ++ []
def dkwX4_ofPlayerNow_2 : List UInt8 := [45, 180, 0, 71, 172, 45, 180, 0, 74, 172, 45, 180, 0, 77, 172, 45, 180, 0, 80, 172, 45, 180, 0, 99]
abbrev dktX4_ofPlayerNow_2 : List UInt8 := dkwX4_ofPlayerNow_2 ++ dktX4_ofPlayerNow_3
def dkwX4_ofPlayerNow_1 : List UInt8 := [170, 0, 0, 0, 0, 0, 69, 0, 0, 0, 0, 0, 0, 0, 5, 0, 0, 0, 39, 0, 0, 0, 44, 0, 0, 0, 49, 0, 0, 0, 54, 0, 0, 0, 59, 0, 0, 0, 64]
abbrev dktX4_ofPlayerNow_1 : List UInt8 := dkwX4_ofPlayerNow_1 ++ dktX4_ofPlayerNow_2
def dkwX4_ofPlayerNow_0 : List UInt8 := [42, 180, 0, 10, 27, 182, 0, 90, 192, 0, 68, 78, 28]
abbrev dktX4_ofPlayerNow_0 : List UInt8 := dkwX4_ofPlayerNow_0 ++ dktX4_ofPlayerNow_1
theorem dksX4_ofPlayerNow_0 : cX4_ofPlayerNow.data.toList.drop 0 = dktX4_ofPlayerNow_0 := by decide +kernel
theorem dksX4_ofPlayerNow_1 : cX4_ofPlayerNow.data.toList.drop 13 = dktX4_ofPlayerNow_1 := dk_seg dksX4_ofPlayerNow_0 13 rfl rfl
theorem dksX4_ofPlayerNow_2 : cX4_ofPlayerNow.data.toList.drop 52 = dktX4_ofPlayerNow_2 := dk_seg dksX4_ofPlayerNow_1 39 rfl rfl
theorem dksX4_ofPlayerNow_3 : cX4_ofPlayerNow.data.toList.drop 76 = dktX4_ofPlayerNow_3 := dk_seg dksX4_ofPlayerNow_2 24 rfl rfl
theorem dX4_ofPlayerNow_0 : decode cX4_ofPlayerNow 0 = .ok (.aload_n 0, 1) := dk_42 (dk_at dksX4_ofPlayerNow_0 0 rfl rfl)
theorem dX4_ofPlayerNow_1 : decode cX4_ofPlayerNow 1 = .ok (.getfield 10, 3) := dk_180 0 10 (dk_at dksX4_ofPlayerNow_0 1 rfl rfl)
theorem dX4_ofPlayerNow_4 : decode cX4_ofPlayerNow 4 = .ok (.iload_n 1, 1) := dk_27 (dk_at dksX4_ofPlayerNow_0 4 rfl rfl)
theorem dX4_ofPlayerNow_5 : decode cX4_ofPlayerNow 5 = .ok (.invokevirtual 90, 3) := dk_182 0 90 (dk_at dksX4_ofPlayerNow_0 5 rfl rfl)
theorem dX4_ofPlayerNow_8 : decode cX4_ofPlayerNow 8 = .ok (.checkcast 68, 3) := dk_192 0 68 (dk_at dksX4_ofPlayerNow_0 8 rfl rfl)
theorem dX4_ofPlayerNow_11 : decode cX4_ofPlayerNow 11 = .ok (.astore_n 3, 1) := dk_78 (dk_at dksX4_ofPlayerNow_0 11 rfl rfl)
theorem dX4_ofPlayerNow_12 : decode cX4_ofPlayerNow 12 = .ok (.iload_n 2, 1) := dk_28 (dk_at dksX4_ofPlayerNow_0 12 rfl rfl)
theorem dX4_ofPlayerNow_13 : decode cX4_ofPlayerNow 13 = .ok (.tableswitch 69 0 5 #[39, 44, 49, 54, 59, 64], 39) := by decide +kernel
theorem dX4_ofPlayerNow_52 : decode cX4_ofPlayerNow 52 = .ok (.aload_n 3, 1) := dk_45 (dk_at dksX4_ofPlayerNow_2 0 rfl rfl)
theorem dX4_ofPlayerNow_53 : decode cX4_ofPlayerNow 53 = .ok (.getfield 71, 3) := dk_180 0 71 (dk_at dksX4_ofPlayerNow_2 1 rfl rfl)
theorem dX4_ofPlayerNow_56 : decode cX4_ofPlayerNow 56 = .ok (.ireturn, 1) := dk_172 (dk_at dksX4_ofPlayerNow_2 4 rfl rfl)
theorem dX4_ofPlayerNow_57 : decode cX4_ofPlayerNow 57 = .ok (.aload_n 3, 1) := dk_45 (dk_at dksX4_ofPlayerNow_2 5 rfl rfl)
theorem dX4_ofPlayerNow_58 : decode cX4_ofPlayerNow 58 = .ok (.getfield 74, 3) := dk_180 0 74 (dk_at dksX4_ofPlayerNow_2 6 rfl rfl)
theorem dX4_ofPlayerNow_61 : decode cX4_ofPlayerNow 61 = .ok (.ireturn, 1) := dk_172 (dk_at dksX4_ofPlayerNow_2 9 rfl rfl)
theorem dX4_ofPlayerNow_62 : decode cX4_ofPlayerNow 62 = .ok (.aload_n 3, 1) := dk_45 (dk_at dksX4_ofPlayerNow_2 10 rfl rfl)
theorem dX4_ofPlayerNow_63 : decode cX4_ofPlayerNow 63 = .ok (.getfield 77, 3) := dk_180 0 77 (dk_at dksX4_ofPlayerNow_2 11 rfl rfl)
theorem dX4_ofPlayerNow_66 : decode cX4_ofPlayerNow 66 = .ok (.ireturn, 1) := dk_172 (dk_at dksX4_ofPlayerNow_2 14 rfl rfl)
theorem dX4_ofPlayerNow_67 : decode cX4_ofPlayerNow 67 = .ok (.aload_n 3, 1) := dk_45 (dk_at dksX4_ofPlayerNow_2 15 rfl rfl)
theorem dX4_ofPlayerNow_68 : decode cX4_ofPlayerNow 68 = .ok (.getfield 80, 3) := dk_180 0 80 (dk_at dksX4_ofPlayerNow_2 16 rfl rfl)
theorem dX4_ofPlayerNow_71 : decode cX4_ofPlayerNow 71 = .ok (.ireturn, 1) := dk_172 (dk_at dksX4_ofPlayerNow_2 19 rfl rfl)
theorem dX4_ofPlayerNow_72 : decode cX4_ofPlayerNow 72 = .ok (.aload_n 3, 1) := dk_45 (dk_at dksX4_ofPlayerNow_2 20 rfl rfl)
theorem dX4_ofPlayerNow_73 : decode cX4_ofPlayerNow 73 = .ok (.getfield 99, 3) := dk_180 0 99 (dk_at dksX4_ofPlayerNow_2 21 rfl rfl)
theorem dX4_ofPlayerNow_76 : decode cX4_ofPlayerNow 76 = .ok (.ireturn, 1) := dk_172 (dk_at dksX4_ofPlayerNow_3 0 rfl rfl)
theorem dX4_ofPlayerNow_77 : decode cX4_ofPlayerNow 77 = .ok (.aload_n 3, 1) := dk_45 (dk_at dksX4_ofPlayerNow_3 1 rfl rfl)
theorem dX4_ofPlayerNow_78 : decode cX4_ofPlayerNow 78 = .ok (.getfield 267, 3) := dk_180 1 11 (dk_at dksX4_ofPlayerNow_3 2 rfl rfl)
theorem dX4_ofPlayerNow_81 : decode cX4_ofPlayerNow 81 = .ok (.ireturn, 1) := dk_172 (dk_at dksX4_ofPlayerNow_3 5 rfl rfl)
theorem dX4_ofPlayerNow_82 : decode cX4_ofPlayerNow 82 = .ok (.aload_n 0, 1) := dk_42 (dk_at dksX4_ofPlayerNow_3 6 rfl rfl)
theorem dX4_ofPlayerNow_83 : decode cX4_ofPlayerNow 83 = .ok (.iload_n 1, 1) := dk_27 (dk_at dksX4_ofPlayerNow_3 7 rfl rfl)
theorem dX4_ofPlayerNow_84 : decode cX4_ofPlayerNow 84 = .ok (.invokevirtual 293, 3) := dk_182 1 37 (dk_at dksX4_ofPlayerNow_3 8 rfl rfl)
theorem dX4_ofPlayerNow_87 : decode cX4_ofPlayerNow 87 = .ok (.iload_n 2, 1) := dk_28 (dk_at dksX4_ofPlayerNow_3 11 rfl rfl)
theorem dX4_ofPlayerNow_88 : decode cX4_ofPlayerNow 88 = .ok (.bipush 6, 2) := dk_16 6 (dk_at dksX4_ofPlayerNow_3 12 rfl rfl)
theorem dX4_ofPlayerNow_90 : decode cX4_ofPlayerNow 90 = .ok (.isub, 1) := dk_100 (dk_at dksX4_ofPlayerNow_3 14 rfl rfl)
theorem dX4_ofPlayerNow_91 : decode cX4_ofPlayerNow 91 = .ok (.iaload, 1) := dk_46 (dk_at dksX4_ofPlayerNow_3 15 rfl rfl)
theorem dX4_ofPlayerNow_92 : decode cX4_ofPlayerNow 92 = .ok (.ireturn, 1) := dk_172 (dk_at dksX4_ofPlayerNow_3 16 rfl rfl)
abbrev cX4_weddingsOf : ByteArray := prog_13_method_55_code
def yX4_weddingsOf : MethodName := ⟨RX4, "weddingsOf", "(I)[I"⟩
def dkwX4_weddingsOf_5 : List UInt8 := [44, 176]
abbrev dktX4_weddingsOf_5 : List UInt8 := dkwX4_weddingsOf_5 ++ []
def dkwX4_weddingsOf_4 : List UInt8 := [180, 0, 124, 5, 160, 0, 11, 25, 4, 180, 0, 149, 167, 0, 4, 3, 96, 79, 132, 3, 1, 167, 255, 150]
abbrev dktX4_weddingsOf_4 : List UInt8 := dkwX4_weddingsOf_4 ++ dktX4_weddingsOf_5
def dkwX4_weddingsOf_3 : List UInt8 := [25, 4, 180, 0, 124, 5, 160, 0, 7, 4, 167, 0, 4, 3, 96, 79, 44, 5, 92, 46, 25, 4]
abbrev dktX4_weddingsOf_3 : List UInt8 := dkwX4_weddingsOf_3 ++ dktX4_weddingsOf_4
def dkwX4_weddingsOf_2 : List UInt8 := [3, 92, 46, 25, 4, 180, 0, 124, 4, 160, 0, 7, 4, 167, 0, 4, 3, 96, 79, 44, 4, 92, 46]
abbrev dktX4_weddingsOf_2 : List UInt8 := dkwX4_weddingsOf_2 ++ dktX4_weddingsOf_3
def dkwX4_weddingsOf_1 : List UInt8 := [182, 0, 90, 192, 0, 122, 58, 4, 25, 4, 180, 0, 160, 27, 184, 0, 102, 154, 0, 6, 167, 0, 67, 44]
abbrev dktX4_weddingsOf_1 : List UInt8 := dkwX4_weddingsOf_1 ++ dktX4_weddingsOf_2
def dkwX4_weddingsOf_0 : List UInt8 := [6, 188, 10, 77, 3, 62, 29, 42, 180, 0, 19, 182, 0, 48, 162, 0, 101, 42, 180, 0, 19, 29]
abbrev dktX4_weddingsOf_0 : List UInt8 := dkwX4_weddingsOf_0 ++ dktX4_weddingsOf_1
theorem dksX4_weddingsOf_0 : cX4_weddingsOf.data.toList.drop 0 = dktX4_weddingsOf_0 := by decide +kernel
theorem dksX4_weddingsOf_1 : cX4_weddingsOf.data.toList.drop 22 = dktX4_weddingsOf_1 := dk_seg dksX4_weddingsOf_0 22 rfl rfl
theorem dksX4_weddingsOf_2 : cX4_weddingsOf.data.toList.drop 46 = dktX4_weddingsOf_2 := dk_seg dksX4_weddingsOf_1 24 rfl rfl
theorem dksX4_weddingsOf_3 : cX4_weddingsOf.data.toList.drop 69 = dktX4_weddingsOf_3 := dk_seg dksX4_weddingsOf_2 23 rfl rfl
theorem dksX4_weddingsOf_4 : cX4_weddingsOf.data.toList.drop 91 = dktX4_weddingsOf_4 := dk_seg dksX4_weddingsOf_3 22 rfl rfl
theorem dksX4_weddingsOf_5 : cX4_weddingsOf.data.toList.drop 115 = dktX4_weddingsOf_5 := dk_seg dksX4_weddingsOf_4 24 rfl rfl
theorem dX4_weddingsOf_0 : decode cX4_weddingsOf 0 = .ok (.iconst 3, 1) := dk_6 (dk_at dksX4_weddingsOf_0 0 rfl rfl)
theorem dX4_weddingsOf_1 : decode cX4_weddingsOf 1 = .ok (.newarray .int, 2) := dk_188_10 (dk_at dksX4_weddingsOf_0 1 rfl rfl)
theorem dX4_weddingsOf_3 : decode cX4_weddingsOf 3 = .ok (.astore_n 2, 1) := dk_77 (dk_at dksX4_weddingsOf_0 3 rfl rfl)
theorem dX4_weddingsOf_4 : decode cX4_weddingsOf 4 = .ok (.iconst 0, 1) := dk_3 (dk_at dksX4_weddingsOf_0 4 rfl rfl)
theorem dX4_weddingsOf_5 : decode cX4_weddingsOf 5 = .ok (.istore_n 3, 1) := dk_62 (dk_at dksX4_weddingsOf_0 5 rfl rfl)
theorem dX4_weddingsOf_6 : decode cX4_weddingsOf 6 = .ok (.iload_n 3, 1) := dk_29 (dk_at dksX4_weddingsOf_0 6 rfl rfl)
theorem dX4_weddingsOf_7 : decode cX4_weddingsOf 7 = .ok (.aload_n 0, 1) := dk_42 (dk_at dksX4_weddingsOf_0 7 rfl rfl)
theorem dX4_weddingsOf_8 : decode cX4_weddingsOf 8 = .ok (.getfield 19, 3) := dk_180 0 19 (dk_at dksX4_weddingsOf_0 8 rfl rfl)
theorem dX4_weddingsOf_11 : decode cX4_weddingsOf 11 = .ok (.invokevirtual 48, 3) := dk_182 0 48 (dk_at dksX4_weddingsOf_0 11 rfl rfl)
theorem dX4_weddingsOf_14 : decode cX4_weddingsOf 14 = .ok (.if_icmp .ge 101, 3) := dk_162 0 101 (dk_at dksX4_weddingsOf_0 14 rfl rfl)
theorem dX4_weddingsOf_17 : decode cX4_weddingsOf 17 = .ok (.aload_n 0, 1) := dk_42 (dk_at dksX4_weddingsOf_0 17 rfl rfl)
theorem dX4_weddingsOf_18 : decode cX4_weddingsOf 18 = .ok (.getfield 19, 3) := dk_180 0 19 (dk_at dksX4_weddingsOf_0 18 rfl rfl)
theorem dX4_weddingsOf_21 : decode cX4_weddingsOf 21 = .ok (.iload_n 3, 1) := dk_29 (dk_at dksX4_weddingsOf_0 21 rfl rfl)
theorem dX4_weddingsOf_22 : decode cX4_weddingsOf 22 = .ok (.invokevirtual 90, 3) := dk_182 0 90 (dk_at dksX4_weddingsOf_1 0 rfl rfl)
theorem dX4_weddingsOf_25 : decode cX4_weddingsOf 25 = .ok (.checkcast 122, 3) := dk_192 0 122 (dk_at dksX4_weddingsOf_1 3 rfl rfl)
theorem dX4_weddingsOf_28 : decode cX4_weddingsOf 28 = .ok (.astore 4, 2) := dk_58 4 (dk_at dksX4_weddingsOf_1 6 rfl rfl)
theorem dX4_weddingsOf_30 : decode cX4_weddingsOf 30 = .ok (.aload 4, 2) := dk_25 4 (dk_at dksX4_weddingsOf_1 8 rfl rfl)
theorem dX4_weddingsOf_32 : decode cX4_weddingsOf 32 = .ok (.getfield 160, 3) := dk_180 0 160 (dk_at dksX4_weddingsOf_1 10 rfl rfl)
theorem dX4_weddingsOf_35 : decode cX4_weddingsOf 35 = .ok (.iload_n 1, 1) := dk_27 (dk_at dksX4_weddingsOf_1 13 rfl rfl)
theorem dX4_weddingsOf_36 : decode cX4_weddingsOf 36 = .ok (.invokestatic 102, 3) := dk_184 0 102 (dk_at dksX4_weddingsOf_1 14 rfl rfl)
theorem dX4_weddingsOf_39 : decode cX4_weddingsOf 39 = .ok (.ifCond .ne 6, 3) := dk_154 0 6 (dk_at dksX4_weddingsOf_1 17 rfl rfl)
theorem dX4_weddingsOf_42 : decode cX4_weddingsOf 42 = .ok (.goto 67, 3) := dk_167 0 67 (dk_at dksX4_weddingsOf_1 20 rfl rfl)
theorem dX4_weddingsOf_45 : decode cX4_weddingsOf 45 = .ok (.aload_n 2, 1) := dk_44 (dk_at dksX4_weddingsOf_1 23 rfl rfl)
theorem dX4_weddingsOf_46 : decode cX4_weddingsOf 46 = .ok (.iconst 0, 1) := dk_3 (dk_at dksX4_weddingsOf_2 0 rfl rfl)
theorem dX4_weddingsOf_47 : decode cX4_weddingsOf 47 = .ok (.dup2, 1) := dk_92 (dk_at dksX4_weddingsOf_2 1 rfl rfl)
theorem dX4_weddingsOf_48 : decode cX4_weddingsOf 48 = .ok (.iaload, 1) := dk_46 (dk_at dksX4_weddingsOf_2 2 rfl rfl)
theorem dX4_weddingsOf_49 : decode cX4_weddingsOf 49 = .ok (.aload 4, 2) := dk_25 4 (dk_at dksX4_weddingsOf_2 3 rfl rfl)
theorem dX4_weddingsOf_51 : decode cX4_weddingsOf 51 = .ok (.getfield 124, 3) := dk_180 0 124 (dk_at dksX4_weddingsOf_2 5 rfl rfl)
theorem dX4_weddingsOf_54 : decode cX4_weddingsOf 54 = .ok (.iconst 1, 1) := dk_4 (dk_at dksX4_weddingsOf_2 8 rfl rfl)
theorem dX4_weddingsOf_55 : decode cX4_weddingsOf 55 = .ok (.if_icmp .ne 7, 3) := dk_160 0 7 (dk_at dksX4_weddingsOf_2 9 rfl rfl)
theorem dX4_weddingsOf_58 : decode cX4_weddingsOf 58 = .ok (.iconst 1, 1) := dk_4 (dk_at dksX4_weddingsOf_2 12 rfl rfl)
theorem dX4_weddingsOf_59 : decode cX4_weddingsOf 59 = .ok (.goto 4, 3) := dk_167 0 4 (dk_at dksX4_weddingsOf_2 13 rfl rfl)
theorem dX4_weddingsOf_62 : decode cX4_weddingsOf 62 = .ok (.iconst 0, 1) := dk_3 (dk_at dksX4_weddingsOf_2 16 rfl rfl)
theorem dX4_weddingsOf_63 : decode cX4_weddingsOf 63 = .ok (.iadd, 1) := dk_96 (dk_at dksX4_weddingsOf_2 17 rfl rfl)
theorem dX4_weddingsOf_64 : decode cX4_weddingsOf 64 = .ok (.iastore, 1) := dk_79 (dk_at dksX4_weddingsOf_2 18 rfl rfl)
theorem dX4_weddingsOf_65 : decode cX4_weddingsOf 65 = .ok (.aload_n 2, 1) := dk_44 (dk_at dksX4_weddingsOf_2 19 rfl rfl)
theorem dX4_weddingsOf_66 : decode cX4_weddingsOf 66 = .ok (.iconst 1, 1) := dk_4 (dk_at dksX4_weddingsOf_2 20 rfl rfl)
theorem dX4_weddingsOf_67 : decode cX4_weddingsOf 67 = .ok (.dup2, 1) := dk_92 (dk_at dksX4_weddingsOf_2 21 rfl rfl)
theorem dX4_weddingsOf_68 : decode cX4_weddingsOf 68 = .ok (.iaload, 1) := dk_46 (dk_at dksX4_weddingsOf_2 22 rfl rfl)
theorem dX4_weddingsOf_69 : decode cX4_weddingsOf 69 = .ok (.aload 4, 2) := dk_25 4 (dk_at dksX4_weddingsOf_3 0 rfl rfl)
theorem dX4_weddingsOf_71 : decode cX4_weddingsOf 71 = .ok (.getfield 124, 3) := dk_180 0 124 (dk_at dksX4_weddingsOf_3 2 rfl rfl)
theorem dX4_weddingsOf_74 : decode cX4_weddingsOf 74 = .ok (.iconst 2, 1) := dk_5 (dk_at dksX4_weddingsOf_3 5 rfl rfl)
theorem dX4_weddingsOf_75 : decode cX4_weddingsOf 75 = .ok (.if_icmp .ne 7, 3) := dk_160 0 7 (dk_at dksX4_weddingsOf_3 6 rfl rfl)
theorem dX4_weddingsOf_78 : decode cX4_weddingsOf 78 = .ok (.iconst 1, 1) := dk_4 (dk_at dksX4_weddingsOf_3 9 rfl rfl)
theorem dX4_weddingsOf_79 : decode cX4_weddingsOf 79 = .ok (.goto 4, 3) := dk_167 0 4 (dk_at dksX4_weddingsOf_3 10 rfl rfl)
theorem dX4_weddingsOf_82 : decode cX4_weddingsOf 82 = .ok (.iconst 0, 1) := dk_3 (dk_at dksX4_weddingsOf_3 13 rfl rfl)
theorem dX4_weddingsOf_83 : decode cX4_weddingsOf 83 = .ok (.iadd, 1) := dk_96 (dk_at dksX4_weddingsOf_3 14 rfl rfl)
theorem dX4_weddingsOf_84 : decode cX4_weddingsOf 84 = .ok (.iastore, 1) := dk_79 (dk_at dksX4_weddingsOf_3 15 rfl rfl)
theorem dX4_weddingsOf_85 : decode cX4_weddingsOf 85 = .ok (.aload_n 2, 1) := dk_44 (dk_at dksX4_weddingsOf_3 16 rfl rfl)
theorem dX4_weddingsOf_86 : decode cX4_weddingsOf 86 = .ok (.iconst 2, 1) := dk_5 (dk_at dksX4_weddingsOf_3 17 rfl rfl)
theorem dX4_weddingsOf_87 : decode cX4_weddingsOf 87 = .ok (.dup2, 1) := dk_92 (dk_at dksX4_weddingsOf_3 18 rfl rfl)
theorem dX4_weddingsOf_88 : decode cX4_weddingsOf 88 = .ok (.iaload, 1) := dk_46 (dk_at dksX4_weddingsOf_3 19 rfl rfl)
theorem dX4_weddingsOf_89 : decode cX4_weddingsOf 89 = .ok (.aload 4, 2) := dk_25 4 (dk_at dksX4_weddingsOf_3 20 rfl rfl)
theorem dX4_weddingsOf_91 : decode cX4_weddingsOf 91 = .ok (.getfield 124, 3) := dk_180 0 124 (dk_at dksX4_weddingsOf_4 0 rfl rfl)
theorem dX4_weddingsOf_94 : decode cX4_weddingsOf 94 = .ok (.iconst 2, 1) := dk_5 (dk_at dksX4_weddingsOf_4 3 rfl rfl)
theorem dX4_weddingsOf_95 : decode cX4_weddingsOf 95 = .ok (.if_icmp .ne 11, 3) := dk_160 0 11 (dk_at dksX4_weddingsOf_4 4 rfl rfl)
theorem dX4_weddingsOf_98 : decode cX4_weddingsOf 98 = .ok (.aload 4, 2) := dk_25 4 (dk_at dksX4_weddingsOf_4 7 rfl rfl)
theorem dX4_weddingsOf_100 : decode cX4_weddingsOf 100 = .ok (.getfield 149, 3) := dk_180 0 149 (dk_at dksX4_weddingsOf_4 9 rfl rfl)
theorem dX4_weddingsOf_103 : decode cX4_weddingsOf 103 = .ok (.goto 4, 3) := dk_167 0 4 (dk_at dksX4_weddingsOf_4 12 rfl rfl)
theorem dX4_weddingsOf_106 : decode cX4_weddingsOf 106 = .ok (.iconst 0, 1) := dk_3 (dk_at dksX4_weddingsOf_4 15 rfl rfl)
theorem dX4_weddingsOf_107 : decode cX4_weddingsOf 107 = .ok (.iadd, 1) := dk_96 (dk_at dksX4_weddingsOf_4 16 rfl rfl)
theorem dX4_weddingsOf_108 : decode cX4_weddingsOf 108 = .ok (.iastore, 1) := dk_79 (dk_at dksX4_weddingsOf_4 17 rfl rfl)
theorem dX4_weddingsOf_109 : decode cX4_weddingsOf 109 = .ok (.iinc 3 1, 3) := dk_132 3 1 (dk_at dksX4_weddingsOf_4 18 rfl rfl)
theorem dX4_weddingsOf_112 : decode cX4_weddingsOf 112 = .ok (.goto (-106), 3) := dk_167 255 150 (dk_at dksX4_weddingsOf_4 21 rfl rfl)
theorem dX4_weddingsOf_115 : decode cX4_weddingsOf 115 = .ok (.aload_n 2, 1) := dk_44 (dk_at dksX4_weddingsOf_5 0 rfl rfl)
theorem dX4_weddingsOf_116 : decode cX4_weddingsOf 116 = .ok (.areturn, 1) := dk_176 (dk_at dksX4_weddingsOf_5 1 rfl rfl)
abbrev cX4_ofSong : ByteArray := prog_13_method_59_code
def yX4_ofSong : MethodName := ⟨RX4, "ofSong", "(II)I"⟩
def dkwX4_ofSong_1 : List UInt8 := [184, 0, 52, 153, 0, 12, 42, 27, 28, 182, 1, 46, 167, 0, 8, 42, 5, 182, 0, 60, 172]
abbrev dktX4_ofSong_1 : List UInt8 := dkwX4_ofSong_1 ++ []
def dkwX4_ofSong_0 : List UInt8 := [42, 3, 181, 0, 44, 27, 3, 16, 15, 184, 0, 52, 154, 0, 9, 42, 4, 182, 0, 60, 172, 28, 3, 8]
abbrev dktX4_ofSong_0 : List UInt8 := dkwX4_ofSong_0 ++ dktX4_ofSong_1
theorem dksX4_ofSong_0 : cX4_ofSong.data.toList.drop 0 = dktX4_ofSong_0 := by decide +kernel
theorem dksX4_ofSong_1 : cX4_ofSong.data.toList.drop 24 = dktX4_ofSong_1 := dk_seg dksX4_ofSong_0 24 rfl rfl
theorem dX4_ofSong_0 : decode cX4_ofSong 0 = .ok (.aload_n 0, 1) := dk_42 (dk_at dksX4_ofSong_0 0 rfl rfl)
theorem dX4_ofSong_1 : decode cX4_ofSong 1 = .ok (.iconst 0, 1) := dk_3 (dk_at dksX4_ofSong_0 1 rfl rfl)
theorem dX4_ofSong_2 : decode cX4_ofSong 2 = .ok (.putfield 44, 3) := dk_181 0 44 (dk_at dksX4_ofSong_0 2 rfl rfl)
theorem dX4_ofSong_5 : decode cX4_ofSong 5 = .ok (.iload_n 1, 1) := dk_27 (dk_at dksX4_ofSong_0 5 rfl rfl)
theorem dX4_ofSong_6 : decode cX4_ofSong 6 = .ok (.iconst 0, 1) := dk_3 (dk_at dksX4_ofSong_0 6 rfl rfl)
theorem dX4_ofSong_7 : decode cX4_ofSong 7 = .ok (.bipush 15, 2) := dk_16 15 (dk_at dksX4_ofSong_0 7 rfl rfl)
theorem dX4_ofSong_9 : decode cX4_ofSong 9 = .ok (.invokestatic 52, 3) := dk_184 0 52 (dk_at dksX4_ofSong_0 9 rfl rfl)
theorem dX4_ofSong_12 : decode cX4_ofSong 12 = .ok (.ifCond .ne 9, 3) := dk_154 0 9 (dk_at dksX4_ofSong_0 12 rfl rfl)
theorem dX4_ofSong_15 : decode cX4_ofSong 15 = .ok (.aload_n 0, 1) := dk_42 (dk_at dksX4_ofSong_0 15 rfl rfl)
theorem dX4_ofSong_16 : decode cX4_ofSong 16 = .ok (.iconst 1, 1) := dk_4 (dk_at dksX4_ofSong_0 16 rfl rfl)
theorem dX4_ofSong_17 : decode cX4_ofSong 17 = .ok (.invokevirtual 60, 3) := dk_182 0 60 (dk_at dksX4_ofSong_0 17 rfl rfl)
theorem dX4_ofSong_20 : decode cX4_ofSong 20 = .ok (.ireturn, 1) := dk_172 (dk_at dksX4_ofSong_0 20 rfl rfl)
theorem dX4_ofSong_21 : decode cX4_ofSong 21 = .ok (.iload_n 2, 1) := dk_28 (dk_at dksX4_ofSong_0 21 rfl rfl)
theorem dX4_ofSong_22 : decode cX4_ofSong 22 = .ok (.iconst 0, 1) := dk_3 (dk_at dksX4_ofSong_0 22 rfl rfl)
theorem dX4_ofSong_23 : decode cX4_ofSong 23 = .ok (.iconst 5, 1) := dk_8 (dk_at dksX4_ofSong_0 23 rfl rfl)
theorem dX4_ofSong_24 : decode cX4_ofSong 24 = .ok (.invokestatic 52, 3) := dk_184 0 52 (dk_at dksX4_ofSong_1 0 rfl rfl)
theorem dX4_ofSong_27 : decode cX4_ofSong 27 = .ok (.ifCond .eq 12, 3) := dk_153 0 12 (dk_at dksX4_ofSong_1 3 rfl rfl)
theorem dX4_ofSong_30 : decode cX4_ofSong 30 = .ok (.aload_n 0, 1) := dk_42 (dk_at dksX4_ofSong_1 6 rfl rfl)
theorem dX4_ofSong_31 : decode cX4_ofSong 31 = .ok (.iload_n 1, 1) := dk_27 (dk_at dksX4_ofSong_1 7 rfl rfl)
theorem dX4_ofSong_32 : decode cX4_ofSong 32 = .ok (.iload_n 2, 1) := dk_28 (dk_at dksX4_ofSong_1 8 rfl rfl)
theorem dX4_ofSong_33 : decode cX4_ofSong 33 = .ok (.invokevirtual 302, 3) := dk_182 1 46 (dk_at dksX4_ofSong_1 9 rfl rfl)
theorem dX4_ofSong_36 : decode cX4_ofSong 36 = .ok (.goto 8, 3) := dk_167 0 8 (dk_at dksX4_ofSong_1 12 rfl rfl)
theorem dX4_ofSong_39 : decode cX4_ofSong 39 = .ok (.aload_n 0, 1) := dk_42 (dk_at dksX4_ofSong_1 15 rfl rfl)
theorem dX4_ofSong_40 : decode cX4_ofSong 40 = .ok (.iconst 2, 1) := dk_5 (dk_at dksX4_ofSong_1 16 rfl rfl)
theorem dX4_ofSong_41 : decode cX4_ofSong 41 = .ok (.invokevirtual 60, 3) := dk_182 0 60 (dk_at dksX4_ofSong_1 17 rfl rfl)
theorem dX4_ofSong_44 : decode cX4_ofSong 44 = .ok (.ireturn, 1) := dk_172 (dk_at dksX4_ofSong_1 20 rfl rfl)
abbrev cX4_ofSongNow : ByteArray := prog_13_method_58_code
def yX4_ofSongNow : MethodName := ⟨RX4, "ofSongNow", "(II)I"⟩
def dkwX4_ofSongNow_5 : List UInt8 := [180, 0, 32, 27, 46, 172, 42, 27, 182, 1, 43, 172, 29, 172]
abbrev dktX4_ofSongNow_5 : List UInt8 := dkwX4_ofSongNow_5 ++ []
def dkwX4_ofSongNow_4 : List UInt8 := [42, 180, 0, 22, 27, 46, 172, 42, 180, 0, 26, 27, 46, 172, 42, 180, 0, 29, 27, 46, 172, 42]
abbrev dktX4_ofSongNow_4 : List UInt8 := dkwX4_ofSongNow_4 ++ dktX4_ofSongNow_5
def dkwX4_ofSongNow_3 : List UInt8 := [170, 0, 0, 0, 0, 68, 0, 0, 0, 0, 0, 0, 0, 4, 0, 0, 0, 34, 0, 0, 0, 41, 0, 0, 0, 48, 0, 0, 0, 55, 0, 0, 0, 62]
abbrev dktX4_ofSongNow_3 : List UInt8 := dkwX4_ofSongNow_3 ++ dktX4_ofSongNow_4
def dkwX4_ofSongNow_2 : List UInt8 := [132, 4, 1, 167, 255, 211, 28]
abbrev dktX4_ofSongNow_2 : List UInt8 := dkwX4_ofSongNow_2 ++ dktX4_ofSongNow_3
def dkwX4_ofSongNow_1 : List UInt8 := [182, 0, 90, 192, 0, 68, 180, 0, 74, 27, 184, 0, 102, 153, 0, 7, 4, 167, 0, 4, 3, 96, 62]
abbrev dktX4_ofSongNow_1 : List UInt8 := dkwX4_ofSongNow_1 ++ dktX4_ofSongNow_2
def dkwX4_ofSongNow_0 : List UInt8 := [3, 62, 3, 54, 4, 21, 4, 42, 180, 0, 10, 182, 0, 48, 162, 0, 39, 29, 42, 180, 0, 10, 21, 4]
abbrev dktX4_ofSongNow_0 : List UInt8 := dkwX4_ofSongNow_0 ++ dktX4_ofSongNow_1
theorem dksX4_ofSongNow_0 : cX4_ofSongNow.data.toList.drop 0 = dktX4_ofSongNow_0 := by decide +kernel
theorem dksX4_ofSongNow_1 : cX4_ofSongNow.data.toList.drop 24 = dktX4_ofSongNow_1 := dk_seg dksX4_ofSongNow_0 24 rfl rfl
theorem dksX4_ofSongNow_2 : cX4_ofSongNow.data.toList.drop 47 = dktX4_ofSongNow_2 := dk_seg dksX4_ofSongNow_1 23 rfl rfl
theorem dksX4_ofSongNow_3 : cX4_ofSongNow.data.toList.drop 54 = dktX4_ofSongNow_3 := dk_seg dksX4_ofSongNow_2 7 rfl rfl
theorem dksX4_ofSongNow_4 : cX4_ofSongNow.data.toList.drop 88 = dktX4_ofSongNow_4 := dk_seg dksX4_ofSongNow_3 34 rfl rfl
theorem dksX4_ofSongNow_5 : cX4_ofSongNow.data.toList.drop 110 = dktX4_ofSongNow_5 := dk_seg dksX4_ofSongNow_4 22 rfl rfl
theorem dX4_ofSongNow_0 : decode cX4_ofSongNow 0 = .ok (.iconst 0, 1) := dk_3 (dk_at dksX4_ofSongNow_0 0 rfl rfl)
theorem dX4_ofSongNow_1 : decode cX4_ofSongNow 1 = .ok (.istore_n 3, 1) := dk_62 (dk_at dksX4_ofSongNow_0 1 rfl rfl)
theorem dX4_ofSongNow_2 : decode cX4_ofSongNow 2 = .ok (.iconst 0, 1) := dk_3 (dk_at dksX4_ofSongNow_0 2 rfl rfl)
theorem dX4_ofSongNow_3 : decode cX4_ofSongNow 3 = .ok (.istore 4, 2) := dk_54 4 (dk_at dksX4_ofSongNow_0 3 rfl rfl)
theorem dX4_ofSongNow_5 : decode cX4_ofSongNow 5 = .ok (.iload 4, 2) := dk_21 4 (dk_at dksX4_ofSongNow_0 5 rfl rfl)
theorem dX4_ofSongNow_7 : decode cX4_ofSongNow 7 = .ok (.aload_n 0, 1) := dk_42 (dk_at dksX4_ofSongNow_0 7 rfl rfl)
theorem dX4_ofSongNow_8 : decode cX4_ofSongNow 8 = .ok (.getfield 10, 3) := dk_180 0 10 (dk_at dksX4_ofSongNow_0 8 rfl rfl)
theorem dX4_ofSongNow_11 : decode cX4_ofSongNow 11 = .ok (.invokevirtual 48, 3) := dk_182 0 48 (dk_at dksX4_ofSongNow_0 11 rfl rfl)
theorem dX4_ofSongNow_14 : decode cX4_ofSongNow 14 = .ok (.if_icmp .ge 39, 3) := dk_162 0 39 (dk_at dksX4_ofSongNow_0 14 rfl rfl)
theorem dX4_ofSongNow_17 : decode cX4_ofSongNow 17 = .ok (.iload_n 3, 1) := dk_29 (dk_at dksX4_ofSongNow_0 17 rfl rfl)
theorem dX4_ofSongNow_18 : decode cX4_ofSongNow 18 = .ok (.aload_n 0, 1) := dk_42 (dk_at dksX4_ofSongNow_0 18 rfl rfl)
theorem dX4_ofSongNow_19 : decode cX4_ofSongNow 19 = .ok (.getfield 10, 3) := dk_180 0 10 (dk_at dksX4_ofSongNow_0 19 rfl rfl)
theorem dX4_ofSongNow_22 : decode cX4_ofSongNow 22 = .ok (.iload 4, 2) := dk_21 4 (dk_at dksX4_ofSongNow_0 22 rfl rfl)
theorem dX4_ofSongNow_24 : decode cX4_ofSongNow 24 = .ok (.invokevirtual 90, 3) := dk_182 0 90 (dk_at dksX4_ofSongNow_1 0 rfl rfl)
theorem dX4_ofSongNow_27 : decode cX4_ofSongNow 27 = .ok (.checkcast 68, 3) := dk_192 0 68 (dk_at dksX4_ofSongNow_1 3 rfl rfl)
theorem dX4_ofSongNow_30 : decode cX4_ofSongNow 30 = .ok (.getfield 74, 3) := dk_180 0 74 (dk_at dksX4_ofSongNow_1 6 rfl rfl)
theorem dX4_ofSongNow_33 : decode cX4_ofSongNow 33 = .ok (.iload_n 1, 1) := dk_27 (dk_at dksX4_ofSongNow_1 9 rfl rfl)
theorem dX4_ofSongNow_34 : decode cX4_ofSongNow 34 = .ok (.invokestatic 102, 3) := dk_184 0 102 (dk_at dksX4_ofSongNow_1 10 rfl rfl)
theorem dX4_ofSongNow_37 : decode cX4_ofSongNow 37 = .ok (.ifCond .eq 7, 3) := dk_153 0 7 (dk_at dksX4_ofSongNow_1 13 rfl rfl)
theorem dX4_ofSongNow_40 : decode cX4_ofSongNow 40 = .ok (.iconst 1, 1) := dk_4 (dk_at dksX4_ofSongNow_1 16 rfl rfl)
theorem dX4_ofSongNow_41 : decode cX4_ofSongNow 41 = .ok (.goto 4, 3) := dk_167 0 4 (dk_at dksX4_ofSongNow_1 17 rfl rfl)
theorem dX4_ofSongNow_44 : decode cX4_ofSongNow 44 = .ok (.iconst 0, 1) := dk_3 (dk_at dksX4_ofSongNow_1 20 rfl rfl)
theorem dX4_ofSongNow_45 : decode cX4_ofSongNow 45 = .ok (.iadd, 1) := dk_96 (dk_at dksX4_ofSongNow_1 21 rfl rfl)
theorem dX4_ofSongNow_46 : decode cX4_ofSongNow 46 = .ok (.istore_n 3, 1) := dk_62 (dk_at dksX4_ofSongNow_1 22 rfl rfl)
theorem dX4_ofSongNow_47 : decode cX4_ofSongNow 47 = .ok (.iinc 4 1, 3) := dk_132 4 1 (dk_at dksX4_ofSongNow_2 0 rfl rfl)
theorem dX4_ofSongNow_50 : decode cX4_ofSongNow 50 = .ok (.goto (-45), 3) := dk_167 255 211 (dk_at dksX4_ofSongNow_2 3 rfl rfl)
theorem dX4_ofSongNow_53 : decode cX4_ofSongNow 53 = .ok (.iload_n 2, 1) := dk_28 (dk_at dksX4_ofSongNow_2 6 rfl rfl)
theorem dX4_ofSongNow_54 : decode cX4_ofSongNow 54 = .ok (.tableswitch 68 0 4 #[34, 41, 48, 55, 62], 34) := by decide +kernel
theorem dX4_ofSongNow_88 : decode cX4_ofSongNow 88 = .ok (.aload_n 0, 1) := dk_42 (dk_at dksX4_ofSongNow_4 0 rfl rfl)
theorem dX4_ofSongNow_89 : decode cX4_ofSongNow 89 = .ok (.getfield 22, 3) := dk_180 0 22 (dk_at dksX4_ofSongNow_4 1 rfl rfl)
theorem dX4_ofSongNow_92 : decode cX4_ofSongNow 92 = .ok (.iload_n 1, 1) := dk_27 (dk_at dksX4_ofSongNow_4 4 rfl rfl)
theorem dX4_ofSongNow_93 : decode cX4_ofSongNow 93 = .ok (.iaload, 1) := dk_46 (dk_at dksX4_ofSongNow_4 5 rfl rfl)
theorem dX4_ofSongNow_94 : decode cX4_ofSongNow 94 = .ok (.ireturn, 1) := dk_172 (dk_at dksX4_ofSongNow_4 6 rfl rfl)
theorem dX4_ofSongNow_95 : decode cX4_ofSongNow 95 = .ok (.aload_n 0, 1) := dk_42 (dk_at dksX4_ofSongNow_4 7 rfl rfl)
theorem dX4_ofSongNow_96 : decode cX4_ofSongNow 96 = .ok (.getfield 26, 3) := dk_180 0 26 (dk_at dksX4_ofSongNow_4 8 rfl rfl)
theorem dX4_ofSongNow_99 : decode cX4_ofSongNow 99 = .ok (.iload_n 1, 1) := dk_27 (dk_at dksX4_ofSongNow_4 11 rfl rfl)
theorem dX4_ofSongNow_100 : decode cX4_ofSongNow 100 = .ok (.iaload, 1) := dk_46 (dk_at dksX4_ofSongNow_4 12 rfl rfl)
theorem dX4_ofSongNow_101 : decode cX4_ofSongNow 101 = .ok (.ireturn, 1) := dk_172 (dk_at dksX4_ofSongNow_4 13 rfl rfl)
theorem dX4_ofSongNow_102 : decode cX4_ofSongNow 102 = .ok (.aload_n 0, 1) := dk_42 (dk_at dksX4_ofSongNow_4 14 rfl rfl)
theorem dX4_ofSongNow_103 : decode cX4_ofSongNow 103 = .ok (.getfield 29, 3) := dk_180 0 29 (dk_at dksX4_ofSongNow_4 15 rfl rfl)
theorem dX4_ofSongNow_106 : decode cX4_ofSongNow 106 = .ok (.iload_n 1, 1) := dk_27 (dk_at dksX4_ofSongNow_4 18 rfl rfl)
theorem dX4_ofSongNow_107 : decode cX4_ofSongNow 107 = .ok (.iaload, 1) := dk_46 (dk_at dksX4_ofSongNow_4 19 rfl rfl)
theorem dX4_ofSongNow_108 : decode cX4_ofSongNow 108 = .ok (.ireturn, 1) := dk_172 (dk_at dksX4_ofSongNow_4 20 rfl rfl)
theorem dX4_ofSongNow_109 : decode cX4_ofSongNow 109 = .ok (.aload_n 0, 1) := dk_42 (dk_at dksX4_ofSongNow_4 21 rfl rfl)
theorem dX4_ofSongNow_110 : decode cX4_ofSongNow 110 = .ok (.getfield 32, 3) := dk_180 0 32 (dk_at dksX4_ofSongNow_5 0 rfl rfl)
theorem dX4_ofSongNow_113 : decode cX4_ofSongNow 113 = .ok (.iload_n 1, 1) := dk_27 (dk_at dksX4_ofSongNow_5 3 rfl rfl)
theorem dX4_ofSongNow_114 : decode cX4_ofSongNow 114 = .ok (.iaload, 1) := dk_46 (dk_at dksX4_ofSongNow_5 4 rfl rfl)
theorem dX4_ofSongNow_115 : decode cX4_ofSongNow 115 = .ok (.ireturn, 1) := dk_172 (dk_at dksX4_ofSongNow_5 5 rfl rfl)
theorem dX4_ofSongNow_116 : decode cX4_ofSongNow 116 = .ok (.aload_n 0, 1) := dk_42 (dk_at dksX4_ofSongNow_5 6 rfl rfl)
theorem dX4_ofSongNow_117 : decode cX4_ofSongNow 117 = .ok (.iload_n 1, 1) := dk_27 (dk_at dksX4_ofSongNow_5 7 rfl rfl)
theorem dX4_ofSongNow_118 : decode cX4_ofSongNow 118 = .ok (.invokevirtual 299, 3) := dk_182 1 43 (dk_at dksX4_ofSongNow_5 8 rfl rfl)
theorem dX4_ofSongNow_121 : decode cX4_ofSongNow 121 = .ok (.ireturn, 1) := dk_172 (dk_at dksX4_ofSongNow_5 11 rfl rfl)
theorem dX4_ofSongNow_122 : decode cX4_ofSongNow 122 = .ok (.iload_n 3, 1) := dk_29 (dk_at dksX4_ofSongNow_5 12 rfl rfl)
theorem dX4_ofSongNow_123 : decode cX4_ofSongNow 123 = .ok (.ireturn, 1) := dk_172 (dk_at dksX4_ofSongNow_5 13 rfl rfl)
abbrev cX4_share : ByteArray := prog_13_method_54_code
def yX4_share : MethodName := ⟨RX4, "share", "(I)I"⟩
def dkwX4_share_2 : List UInt8 := [46, 104, 42, 180, 0, 32, 27, 46, 104, 28, 108, 172]
abbrev dktX4_share_2 : List UInt8 := dkwX4_share_2 ++ []
def dkwX4_share_1 : List UInt8 := [96, 61, 132, 3, 1, 167, 255, 231, 28, 154, 0, 7, 3, 167, 0, 22, 17, 3, 232, 42, 180, 0, 29, 27]
abbrev dktX4_share_1 : List UInt8 := dkwX4_share_1 ++ dktX4_share_2
def dkwX4_share_0 : List UInt8 := [3, 61, 3, 62, 29, 16, 16, 162, 0, 25, 28, 42, 180, 0, 29, 29, 46, 42, 180, 0, 32, 29, 46, 104]
abbrev dktX4_share_0 : List UInt8 := dkwX4_share_0 ++ dktX4_share_1
theorem dksX4_share_0 : cX4_share.data.toList.drop 0 = dktX4_share_0 := by decide +kernel
theorem dksX4_share_1 : cX4_share.data.toList.drop 24 = dktX4_share_1 := dk_seg dksX4_share_0 24 rfl rfl
theorem dksX4_share_2 : cX4_share.data.toList.drop 48 = dktX4_share_2 := dk_seg dksX4_share_1 24 rfl rfl
theorem dX4_share_0 : decode cX4_share 0 = .ok (.iconst 0, 1) := dk_3 (dk_at dksX4_share_0 0 rfl rfl)
theorem dX4_share_1 : decode cX4_share 1 = .ok (.istore_n 2, 1) := dk_61 (dk_at dksX4_share_0 1 rfl rfl)
theorem dX4_share_2 : decode cX4_share 2 = .ok (.iconst 0, 1) := dk_3 (dk_at dksX4_share_0 2 rfl rfl)
theorem dX4_share_3 : decode cX4_share 3 = .ok (.istore_n 3, 1) := dk_62 (dk_at dksX4_share_0 3 rfl rfl)
theorem dX4_share_4 : decode cX4_share 4 = .ok (.iload_n 3, 1) := dk_29 (dk_at dksX4_share_0 4 rfl rfl)
theorem dX4_share_5 : decode cX4_share 5 = .ok (.bipush 16, 2) := dk_16 16 (dk_at dksX4_share_0 5 rfl rfl)
theorem dX4_share_7 : decode cX4_share 7 = .ok (.if_icmp .ge 25, 3) := dk_162 0 25 (dk_at dksX4_share_0 7 rfl rfl)
theorem dX4_share_10 : decode cX4_share 10 = .ok (.iload_n 2, 1) := dk_28 (dk_at dksX4_share_0 10 rfl rfl)
theorem dX4_share_11 : decode cX4_share 11 = .ok (.aload_n 0, 1) := dk_42 (dk_at dksX4_share_0 11 rfl rfl)
theorem dX4_share_12 : decode cX4_share 12 = .ok (.getfield 29, 3) := dk_180 0 29 (dk_at dksX4_share_0 12 rfl rfl)
theorem dX4_share_15 : decode cX4_share 15 = .ok (.iload_n 3, 1) := dk_29 (dk_at dksX4_share_0 15 rfl rfl)
theorem dX4_share_16 : decode cX4_share 16 = .ok (.iaload, 1) := dk_46 (dk_at dksX4_share_0 16 rfl rfl)
theorem dX4_share_17 : decode cX4_share 17 = .ok (.aload_n 0, 1) := dk_42 (dk_at dksX4_share_0 17 rfl rfl)
theorem dX4_share_18 : decode cX4_share 18 = .ok (.getfield 32, 3) := dk_180 0 32 (dk_at dksX4_share_0 18 rfl rfl)
theorem dX4_share_21 : decode cX4_share 21 = .ok (.iload_n 3, 1) := dk_29 (dk_at dksX4_share_0 21 rfl rfl)
theorem dX4_share_22 : decode cX4_share 22 = .ok (.iaload, 1) := dk_46 (dk_at dksX4_share_0 22 rfl rfl)
theorem dX4_share_23 : decode cX4_share 23 = .ok (.imul, 1) := dk_104 (dk_at dksX4_share_0 23 rfl rfl)
theorem dX4_share_24 : decode cX4_share 24 = .ok (.iadd, 1) := dk_96 (dk_at dksX4_share_1 0 rfl rfl)
theorem dX4_share_25 : decode cX4_share 25 = .ok (.istore_n 2, 1) := dk_61 (dk_at dksX4_share_1 1 rfl rfl)
theorem dX4_share_26 : decode cX4_share 26 = .ok (.iinc 3 1, 3) := dk_132 3 1 (dk_at dksX4_share_1 2 rfl rfl)
theorem dX4_share_29 : decode cX4_share 29 = .ok (.goto (-25), 3) := dk_167 255 231 (dk_at dksX4_share_1 5 rfl rfl)
theorem dX4_share_32 : decode cX4_share 32 = .ok (.iload_n 2, 1) := dk_28 (dk_at dksX4_share_1 8 rfl rfl)
theorem dX4_share_33 : decode cX4_share 33 = .ok (.ifCond .ne 7, 3) := dk_154 0 7 (dk_at dksX4_share_1 9 rfl rfl)
theorem dX4_share_36 : decode cX4_share 36 = .ok (.iconst 0, 1) := dk_3 (dk_at dksX4_share_1 12 rfl rfl)
theorem dX4_share_37 : decode cX4_share 37 = .ok (.goto 22, 3) := dk_167 0 22 (dk_at dksX4_share_1 13 rfl rfl)
theorem dX4_share_40 : decode cX4_share 40 = .ok (.sipush 1000, 3) := dk_17 3 232 (dk_at dksX4_share_1 16 rfl rfl)
theorem dX4_share_43 : decode cX4_share 43 = .ok (.aload_n 0, 1) := dk_42 (dk_at dksX4_share_1 19 rfl rfl)
theorem dX4_share_44 : decode cX4_share 44 = .ok (.getfield 29, 3) := dk_180 0 29 (dk_at dksX4_share_1 20 rfl rfl)
theorem dX4_share_47 : decode cX4_share 47 = .ok (.iload_n 1, 1) := dk_27 (dk_at dksX4_share_1 23 rfl rfl)
theorem dX4_share_48 : decode cX4_share 48 = .ok (.iaload, 1) := dk_46 (dk_at dksX4_share_2 0 rfl rfl)
theorem dX4_share_49 : decode cX4_share 49 = .ok (.imul, 1) := dk_104 (dk_at dksX4_share_2 1 rfl rfl)
theorem dX4_share_50 : decode cX4_share 50 = .ok (.aload_n 0, 1) := dk_42 (dk_at dksX4_share_2 2 rfl rfl)
theorem dX4_share_51 : decode cX4_share 51 = .ok (.getfield 32, 3) := dk_180 0 32 (dk_at dksX4_share_2 3 rfl rfl)
theorem dX4_share_54 : decode cX4_share 54 = .ok (.iload_n 1, 1) := dk_27 (dk_at dksX4_share_2 6 rfl rfl)
theorem dX4_share_55 : decode cX4_share 55 = .ok (.iaload, 1) := dk_46 (dk_at dksX4_share_2 7 rfl rfl)
theorem dX4_share_56 : decode cX4_share 56 = .ok (.imul, 1) := dk_104 (dk_at dksX4_share_2 8 rfl rfl)
theorem dX4_share_57 : decode cX4_share 57 = .ok (.iload_n 2, 1) := dk_28 (dk_at dksX4_share_2 9 rfl rfl)
theorem dX4_share_58 : decode cX4_share 58 = .ok (.idiv, 1) := dk_108 (dk_at dksX4_share_2 10 rfl rfl)
theorem dX4_share_59 : decode cX4_share 59 = .ok (.ireturn, 1) := dk_172 (dk_at dksX4_share_2 11 rfl rfl)
abbrev cX4_ofBand : ByteArray := prog_13_method_61_code
def yX4_ofBand : MethodName := ⟨RX4, "ofBand", "(II)I"⟩
def dkwX4_ofBand_1 : List UInt8 := [184, 0, 52, 153, 0, 12, 42, 27, 28, 182, 1, 49, 167, 0, 8, 42, 5, 182, 0, 60, 172]
abbrev dktX4_ofBand_1 : List UInt8 := dkwX4_ofBand_1 ++ []
def dkwX4_ofBand_0 : List UInt8 := [42, 3, 181, 0, 44, 42, 27, 182, 0, 133, 154, 0, 9, 42, 4, 182, 0, 60, 172, 28, 3, 16, 8]
abbrev dktX4_ofBand_0 : List UInt8 := dkwX4_ofBand_0 ++ dktX4_ofBand_1
theorem dksX4_ofBand_0 : cX4_ofBand.data.toList.drop 0 = dktX4_ofBand_0 := by decide +kernel
theorem dksX4_ofBand_1 : cX4_ofBand.data.toList.drop 23 = dktX4_ofBand_1 := dk_seg dksX4_ofBand_0 23 rfl rfl
theorem dX4_ofBand_0 : decode cX4_ofBand 0 = .ok (.aload_n 0, 1) := dk_42 (dk_at dksX4_ofBand_0 0 rfl rfl)
theorem dX4_ofBand_1 : decode cX4_ofBand 1 = .ok (.iconst 0, 1) := dk_3 (dk_at dksX4_ofBand_0 1 rfl rfl)
theorem dX4_ofBand_2 : decode cX4_ofBand 2 = .ok (.putfield 44, 3) := dk_181 0 44 (dk_at dksX4_ofBand_0 2 rfl rfl)
theorem dX4_ofBand_5 : decode cX4_ofBand 5 = .ok (.aload_n 0, 1) := dk_42 (dk_at dksX4_ofBand_0 5 rfl rfl)
theorem dX4_ofBand_6 : decode cX4_ofBand 6 = .ok (.iload_n 1, 1) := dk_27 (dk_at dksX4_ofBand_0 6 rfl rfl)
theorem dX4_ofBand_7 : decode cX4_ofBand 7 = .ok (.invokevirtual 133, 3) := dk_182 0 133 (dk_at dksX4_ofBand_0 7 rfl rfl)
theorem dX4_ofBand_10 : decode cX4_ofBand 10 = .ok (.ifCond .ne 9, 3) := dk_154 0 9 (dk_at dksX4_ofBand_0 10 rfl rfl)
theorem dX4_ofBand_13 : decode cX4_ofBand 13 = .ok (.aload_n 0, 1) := dk_42 (dk_at dksX4_ofBand_0 13 rfl rfl)
theorem dX4_ofBand_14 : decode cX4_ofBand 14 = .ok (.iconst 1, 1) := dk_4 (dk_at dksX4_ofBand_0 14 rfl rfl)
theorem dX4_ofBand_15 : decode cX4_ofBand 15 = .ok (.invokevirtual 60, 3) := dk_182 0 60 (dk_at dksX4_ofBand_0 15 rfl rfl)
theorem dX4_ofBand_18 : decode cX4_ofBand 18 = .ok (.ireturn, 1) := dk_172 (dk_at dksX4_ofBand_0 18 rfl rfl)
theorem dX4_ofBand_19 : decode cX4_ofBand 19 = .ok (.iload_n 2, 1) := dk_28 (dk_at dksX4_ofBand_0 19 rfl rfl)
theorem dX4_ofBand_20 : decode cX4_ofBand 20 = .ok (.iconst 0, 1) := dk_3 (dk_at dksX4_ofBand_0 20 rfl rfl)
theorem dX4_ofBand_21 : decode cX4_ofBand 21 = .ok (.bipush 8, 2) := dk_16 8 (dk_at dksX4_ofBand_0 21 rfl rfl)
theorem dX4_ofBand_23 : decode cX4_ofBand 23 = .ok (.invokestatic 52, 3) := dk_184 0 52 (dk_at dksX4_ofBand_1 0 rfl rfl)
theorem dX4_ofBand_26 : decode cX4_ofBand 26 = .ok (.ifCond .eq 12, 3) := dk_153 0 12 (dk_at dksX4_ofBand_1 3 rfl rfl)
theorem dX4_ofBand_29 : decode cX4_ofBand 29 = .ok (.aload_n 0, 1) := dk_42 (dk_at dksX4_ofBand_1 6 rfl rfl)
theorem dX4_ofBand_30 : decode cX4_ofBand 30 = .ok (.iload_n 1, 1) := dk_27 (dk_at dksX4_ofBand_1 7 rfl rfl)
theorem dX4_ofBand_31 : decode cX4_ofBand 31 = .ok (.iload_n 2, 1) := dk_28 (dk_at dksX4_ofBand_1 8 rfl rfl)
theorem dX4_ofBand_32 : decode cX4_ofBand 32 = .ok (.invokevirtual 305, 3) := dk_182 1 49 (dk_at dksX4_ofBand_1 9 rfl rfl)
theorem dX4_ofBand_35 : decode cX4_ofBand 35 = .ok (.goto 8, 3) := dk_167 0 8 (dk_at dksX4_ofBand_1 12 rfl rfl)
theorem dX4_ofBand_38 : decode cX4_ofBand 38 = .ok (.aload_n 0, 1) := dk_42 (dk_at dksX4_ofBand_1 15 rfl rfl)
theorem dX4_ofBand_39 : decode cX4_ofBand 39 = .ok (.iconst 2, 1) := dk_5 (dk_at dksX4_ofBand_1 16 rfl rfl)
theorem dX4_ofBand_40 : decode cX4_ofBand 40 = .ok (.invokevirtual 60, 3) := dk_182 0 60 (dk_at dksX4_ofBand_1 17 rfl rfl)
theorem dX4_ofBand_43 : decode cX4_ofBand 43 = .ok (.ireturn, 1) := dk_172 (dk_at dksX4_ofBand_1 20 rfl rfl)
abbrev cX4_ofBandNow : ByteArray := prog_13_method_60_code
def yX4_ofBandNow : MethodName := ⟨RX4, "ofBandNow", "(II)I"⟩
def dkwX4_ofBandNow_5 : List UInt8 := [62, 132, 4, 1, 167, 255, 189, 29, 172]
abbrev dktX4_ofBandNow_5 : List UInt8 := dkwX4_ofBandNow_5 ++ []
def dkwX4_ofBandNow_4 : List UInt8 := [180, 0, 19, 21, 4, 182, 0, 90, 192, 0, 122, 180, 0, 124, 5, 160, 0, 7, 4, 167, 0, 4, 3, 96]
abbrev dktX4_ofBandNow_4 : List UInt8 := dkwX4_ofBandNow_4 ++ dktX4_ofBandNow_5
def dkwX4_ofBandNow_3 : List UInt8 := [21, 4, 182, 0, 90, 192, 0, 122, 180, 0, 127, 27, 160, 0, 32, 28, 16, 7, 159, 0, 22, 42]
abbrev dktX4_ofBandNow_3 : List UInt8 := dkwX4_ofBandNow_3 ++ dktX4_ofBandNow_4
def dkwX4_ofBandNow_2 : List UInt8 := [172, 3, 62, 3, 54, 4, 21, 4, 42, 180, 0, 19, 182, 0, 48, 162, 0, 61, 29, 42, 180, 0, 19]
abbrev dktX4_ofBandNow_2 : List UInt8 := dkwX4_ofBandNow_2 ++ dktX4_ofBandNow_3
def dkwX4_ofBandNow_1 : List UInt8 := [172, 28, 16, 6, 160, 0, 21, 42, 180, 0, 16, 27, 182, 0, 90, 192, 0, 95, 182, 0, 177, 184, 0, 116]
abbrev dktX4_ofBandNow_1 : List UInt8 := dkwX4_ofBandNow_1 ++ dktX4_ofBandNow_2
def dkwX4_ofBandNow_0 : List UInt8 := [28, 16, 6, 162, 0, 22, 42, 180, 0, 16, 27, 182, 0, 90, 192, 0, 95, 182, 0, 177, 28, 184, 0, 113]
abbrev dktX4_ofBandNow_0 : List UInt8 := dkwX4_ofBandNow_0 ++ dktX4_ofBandNow_1
theorem dksX4_ofBandNow_0 : cX4_ofBandNow.data.toList.drop 0 = dktX4_ofBandNow_0 := by decide +kernel
theorem dksX4_ofBandNow_1 : cX4_ofBandNow.data.toList.drop 24 = dktX4_ofBandNow_1 := dk_seg dksX4_ofBandNow_0 24 rfl rfl
theorem dksX4_ofBandNow_2 : cX4_ofBandNow.data.toList.drop 48 = dktX4_ofBandNow_2 := dk_seg dksX4_ofBandNow_1 24 rfl rfl
theorem dksX4_ofBandNow_3 : cX4_ofBandNow.data.toList.drop 71 = dktX4_ofBandNow_3 := dk_seg dksX4_ofBandNow_2 23 rfl rfl
theorem dksX4_ofBandNow_4 : cX4_ofBandNow.data.toList.drop 93 = dktX4_ofBandNow_4 := dk_seg dksX4_ofBandNow_3 22 rfl rfl
theorem dksX4_ofBandNow_5 : cX4_ofBandNow.data.toList.drop 117 = dktX4_ofBandNow_5 := dk_seg dksX4_ofBandNow_4 24 rfl rfl
theorem dX4_ofBandNow_0 : decode cX4_ofBandNow 0 = .ok (.iload_n 2, 1) := dk_28 (dk_at dksX4_ofBandNow_0 0 rfl rfl)
theorem dX4_ofBandNow_1 : decode cX4_ofBandNow 1 = .ok (.bipush 6, 2) := dk_16 6 (dk_at dksX4_ofBandNow_0 1 rfl rfl)
theorem dX4_ofBandNow_3 : decode cX4_ofBandNow 3 = .ok (.if_icmp .ge 22, 3) := dk_162 0 22 (dk_at dksX4_ofBandNow_0 3 rfl rfl)
theorem dX4_ofBandNow_6 : decode cX4_ofBandNow 6 = .ok (.aload_n 0, 1) := dk_42 (dk_at dksX4_ofBandNow_0 6 rfl rfl)
theorem dX4_ofBandNow_7 : decode cX4_ofBandNow 7 = .ok (.getfield 16, 3) := dk_180 0 16 (dk_at dksX4_ofBandNow_0 7 rfl rfl)
theorem dX4_ofBandNow_10 : decode cX4_ofBandNow 10 = .ok (.iload_n 1, 1) := dk_27 (dk_at dksX4_ofBandNow_0 10 rfl rfl)
theorem dX4_ofBandNow_11 : decode cX4_ofBandNow 11 = .ok (.invokevirtual 90, 3) := dk_182 0 90 (dk_at dksX4_ofBandNow_0 11 rfl rfl)
theorem dX4_ofBandNow_14 : decode cX4_ofBandNow 14 = .ok (.checkcast 95, 3) := dk_192 0 95 (dk_at dksX4_ofBandNow_0 14 rfl rfl)
theorem dX4_ofBandNow_17 : decode cX4_ofBandNow 17 = .ok (.invokevirtual 177, 3) := dk_182 0 177 (dk_at dksX4_ofBandNow_0 17 rfl rfl)
theorem dX4_ofBandNow_20 : decode cX4_ofBandNow 20 = .ok (.iload_n 2, 1) := dk_28 (dk_at dksX4_ofBandNow_0 20 rfl rfl)
theorem dX4_ofBandNow_21 : decode cX4_ofBandNow 21 = .ok (.invokestatic 113, 3) := dk_184 0 113 (dk_at dksX4_ofBandNow_0 21 rfl rfl)
theorem dX4_ofBandNow_24 : decode cX4_ofBandNow 24 = .ok (.ireturn, 1) := dk_172 (dk_at dksX4_ofBandNow_1 0 rfl rfl)
theorem dX4_ofBandNow_25 : decode cX4_ofBandNow 25 = .ok (.iload_n 2, 1) := dk_28 (dk_at dksX4_ofBandNow_1 1 rfl rfl)
theorem dX4_ofBandNow_26 : decode cX4_ofBandNow 26 = .ok (.bipush 6, 2) := dk_16 6 (dk_at dksX4_ofBandNow_1 2 rfl rfl)
theorem dX4_ofBandNow_28 : decode cX4_ofBandNow 28 = .ok (.if_icmp .ne 21, 3) := dk_160 0 21 (dk_at dksX4_ofBandNow_1 4 rfl rfl)
theorem dX4_ofBandNow_31 : decode cX4_ofBandNow 31 = .ok (.aload_n 0, 1) := dk_42 (dk_at dksX4_ofBandNow_1 7 rfl rfl)
theorem dX4_ofBandNow_32 : decode cX4_ofBandNow 32 = .ok (.getfield 16, 3) := dk_180 0 16 (dk_at dksX4_ofBandNow_1 8 rfl rfl)
theorem dX4_ofBandNow_35 : decode cX4_ofBandNow 35 = .ok (.iload_n 1, 1) := dk_27 (dk_at dksX4_ofBandNow_1 11 rfl rfl)
theorem dX4_ofBandNow_36 : decode cX4_ofBandNow 36 = .ok (.invokevirtual 90, 3) := dk_182 0 90 (dk_at dksX4_ofBandNow_1 12 rfl rfl)
theorem dX4_ofBandNow_39 : decode cX4_ofBandNow 39 = .ok (.checkcast 95, 3) := dk_192 0 95 (dk_at dksX4_ofBandNow_1 15 rfl rfl)
theorem dX4_ofBandNow_42 : decode cX4_ofBandNow 42 = .ok (.invokevirtual 177, 3) := dk_182 0 177 (dk_at dksX4_ofBandNow_1 18 rfl rfl)
theorem dX4_ofBandNow_45 : decode cX4_ofBandNow 45 = .ok (.invokestatic 116, 3) := dk_184 0 116 (dk_at dksX4_ofBandNow_1 21 rfl rfl)
theorem dX4_ofBandNow_48 : decode cX4_ofBandNow 48 = .ok (.ireturn, 1) := dk_172 (dk_at dksX4_ofBandNow_2 0 rfl rfl)
theorem dX4_ofBandNow_49 : decode cX4_ofBandNow 49 = .ok (.iconst 0, 1) := dk_3 (dk_at dksX4_ofBandNow_2 1 rfl rfl)
theorem dX4_ofBandNow_50 : decode cX4_ofBandNow 50 = .ok (.istore_n 3, 1) := dk_62 (dk_at dksX4_ofBandNow_2 2 rfl rfl)
theorem dX4_ofBandNow_51 : decode cX4_ofBandNow 51 = .ok (.iconst 0, 1) := dk_3 (dk_at dksX4_ofBandNow_2 3 rfl rfl)
theorem dX4_ofBandNow_52 : decode cX4_ofBandNow 52 = .ok (.istore 4, 2) := dk_54 4 (dk_at dksX4_ofBandNow_2 4 rfl rfl)
theorem dX4_ofBandNow_54 : decode cX4_ofBandNow 54 = .ok (.iload 4, 2) := dk_21 4 (dk_at dksX4_ofBandNow_2 6 rfl rfl)
theorem dX4_ofBandNow_56 : decode cX4_ofBandNow 56 = .ok (.aload_n 0, 1) := dk_42 (dk_at dksX4_ofBandNow_2 8 rfl rfl)
theorem dX4_ofBandNow_57 : decode cX4_ofBandNow 57 = .ok (.getfield 19, 3) := dk_180 0 19 (dk_at dksX4_ofBandNow_2 9 rfl rfl)
theorem dX4_ofBandNow_60 : decode cX4_ofBandNow 60 = .ok (.invokevirtual 48, 3) := dk_182 0 48 (dk_at dksX4_ofBandNow_2 12 rfl rfl)
theorem dX4_ofBandNow_63 : decode cX4_ofBandNow 63 = .ok (.if_icmp .ge 61, 3) := dk_162 0 61 (dk_at dksX4_ofBandNow_2 15 rfl rfl)
theorem dX4_ofBandNow_66 : decode cX4_ofBandNow 66 = .ok (.iload_n 3, 1) := dk_29 (dk_at dksX4_ofBandNow_2 18 rfl rfl)
theorem dX4_ofBandNow_67 : decode cX4_ofBandNow 67 = .ok (.aload_n 0, 1) := dk_42 (dk_at dksX4_ofBandNow_2 19 rfl rfl)
theorem dX4_ofBandNow_68 : decode cX4_ofBandNow 68 = .ok (.getfield 19, 3) := dk_180 0 19 (dk_at dksX4_ofBandNow_2 20 rfl rfl)
theorem dX4_ofBandNow_71 : decode cX4_ofBandNow 71 = .ok (.iload 4, 2) := dk_21 4 (dk_at dksX4_ofBandNow_3 0 rfl rfl)
theorem dX4_ofBandNow_73 : decode cX4_ofBandNow 73 = .ok (.invokevirtual 90, 3) := dk_182 0 90 (dk_at dksX4_ofBandNow_3 2 rfl rfl)
theorem dX4_ofBandNow_76 : decode cX4_ofBandNow 76 = .ok (.checkcast 122, 3) := dk_192 0 122 (dk_at dksX4_ofBandNow_3 5 rfl rfl)
theorem dX4_ofBandNow_79 : decode cX4_ofBandNow 79 = .ok (.getfield 127, 3) := dk_180 0 127 (dk_at dksX4_ofBandNow_3 8 rfl rfl)
theorem dX4_ofBandNow_82 : decode cX4_ofBandNow 82 = .ok (.iload_n 1, 1) := dk_27 (dk_at dksX4_ofBandNow_3 11 rfl rfl)
theorem dX4_ofBandNow_83 : decode cX4_ofBandNow 83 = .ok (.if_icmp .ne 32, 3) := dk_160 0 32 (dk_at dksX4_ofBandNow_3 12 rfl rfl)
theorem dX4_ofBandNow_86 : decode cX4_ofBandNow 86 = .ok (.iload_n 2, 1) := dk_28 (dk_at dksX4_ofBandNow_3 15 rfl rfl)
theorem dX4_ofBandNow_87 : decode cX4_ofBandNow 87 = .ok (.bipush 7, 2) := dk_16 7 (dk_at dksX4_ofBandNow_3 16 rfl rfl)
theorem dX4_ofBandNow_89 : decode cX4_ofBandNow 89 = .ok (.if_icmp .eq 22, 3) := dk_159 0 22 (dk_at dksX4_ofBandNow_3 18 rfl rfl)
theorem dX4_ofBandNow_92 : decode cX4_ofBandNow 92 = .ok (.aload_n 0, 1) := dk_42 (dk_at dksX4_ofBandNow_3 21 rfl rfl)
theorem dX4_ofBandNow_93 : decode cX4_ofBandNow 93 = .ok (.getfield 19, 3) := dk_180 0 19 (dk_at dksX4_ofBandNow_4 0 rfl rfl)
theorem dX4_ofBandNow_96 : decode cX4_ofBandNow 96 = .ok (.iload 4, 2) := dk_21 4 (dk_at dksX4_ofBandNow_4 3 rfl rfl)
theorem dX4_ofBandNow_98 : decode cX4_ofBandNow 98 = .ok (.invokevirtual 90, 3) := dk_182 0 90 (dk_at dksX4_ofBandNow_4 5 rfl rfl)
theorem dX4_ofBandNow_101 : decode cX4_ofBandNow 101 = .ok (.checkcast 122, 3) := dk_192 0 122 (dk_at dksX4_ofBandNow_4 8 rfl rfl)
theorem dX4_ofBandNow_104 : decode cX4_ofBandNow 104 = .ok (.getfield 124, 3) := dk_180 0 124 (dk_at dksX4_ofBandNow_4 11 rfl rfl)
theorem dX4_ofBandNow_107 : decode cX4_ofBandNow 107 = .ok (.iconst 2, 1) := dk_5 (dk_at dksX4_ofBandNow_4 14 rfl rfl)
theorem dX4_ofBandNow_108 : decode cX4_ofBandNow 108 = .ok (.if_icmp .ne 7, 3) := dk_160 0 7 (dk_at dksX4_ofBandNow_4 15 rfl rfl)
theorem dX4_ofBandNow_111 : decode cX4_ofBandNow 111 = .ok (.iconst 1, 1) := dk_4 (dk_at dksX4_ofBandNow_4 18 rfl rfl)
theorem dX4_ofBandNow_112 : decode cX4_ofBandNow 112 = .ok (.goto 4, 3) := dk_167 0 4 (dk_at dksX4_ofBandNow_4 19 rfl rfl)
theorem dX4_ofBandNow_115 : decode cX4_ofBandNow 115 = .ok (.iconst 0, 1) := dk_3 (dk_at dksX4_ofBandNow_4 22 rfl rfl)
theorem dX4_ofBandNow_116 : decode cX4_ofBandNow 116 = .ok (.iadd, 1) := dk_96 (dk_at dksX4_ofBandNow_4 23 rfl rfl)
theorem dX4_ofBandNow_117 : decode cX4_ofBandNow 117 = .ok (.istore_n 3, 1) := dk_62 (dk_at dksX4_ofBandNow_5 0 rfl rfl)
theorem dX4_ofBandNow_118 : decode cX4_ofBandNow 118 = .ok (.iinc 4 1, 3) := dk_132 4 1 (dk_at dksX4_ofBandNow_5 1 rfl rfl)
theorem dX4_ofBandNow_121 : decode cX4_ofBandNow 121 = .ok (.goto (-67), 3) := dk_167 255 189 (dk_at dksX4_ofBandNow_5 4 rfl rfl)
theorem dX4_ofBandNow_124 : decode cX4_ofBandNow 124 = .ok (.iload_n 3, 1) := dk_29 (dk_at dksX4_ofBandNow_5 7 rfl rfl)
theorem dX4_ofBandNow_125 : decode cX4_ofBandNow 125 = .ok (.ireturn, 1) := dk_172 (dk_at dksX4_ofBandNow_5 8 rfl rfl)
abbrev cX4_ofWedding : ByteArray := prog_13_method_63_code
def yX4_ofWedding : MethodName := ⟨RX4, "ofWedding", "(II)I"⟩
def dkwX4_ofWedding_1 : List UInt8 := [184, 0, 52, 153, 0, 12, 42, 27, 28, 182, 1, 52, 167, 0, 8, 42, 5, 182, 0, 60, 172]
abbrev dktX4_ofWedding_1 : List UInt8 := dkwX4_ofWedding_1 ++ []
def dkwX4_ofWedding_0 : List UInt8 := [42, 3, 181, 0, 44, 42, 27, 182, 0, 216, 154, 0, 9, 42, 4, 182, 0, 60, 172, 28, 3, 16, 12]
abbrev dktX4_ofWedding_0 : List UInt8 := dkwX4_ofWedding_0 ++ dktX4_ofWedding_1
theorem dksX4_ofWedding_0 : cX4_ofWedding.data.toList.drop 0 = dktX4_ofWedding_0 := by decide +kernel
theorem dksX4_ofWedding_1 : cX4_ofWedding.data.toList.drop 23 = dktX4_ofWedding_1 := dk_seg dksX4_ofWedding_0 23 rfl rfl
theorem dX4_ofWedding_0 : decode cX4_ofWedding 0 = .ok (.aload_n 0, 1) := dk_42 (dk_at dksX4_ofWedding_0 0 rfl rfl)
theorem dX4_ofWedding_1 : decode cX4_ofWedding 1 = .ok (.iconst 0, 1) := dk_3 (dk_at dksX4_ofWedding_0 1 rfl rfl)
theorem dX4_ofWedding_2 : decode cX4_ofWedding 2 = .ok (.putfield 44, 3) := dk_181 0 44 (dk_at dksX4_ofWedding_0 2 rfl rfl)
theorem dX4_ofWedding_5 : decode cX4_ofWedding 5 = .ok (.aload_n 0, 1) := dk_42 (dk_at dksX4_ofWedding_0 5 rfl rfl)
theorem dX4_ofWedding_6 : decode cX4_ofWedding 6 = .ok (.iload_n 1, 1) := dk_27 (dk_at dksX4_ofWedding_0 6 rfl rfl)
theorem dX4_ofWedding_7 : decode cX4_ofWedding 7 = .ok (.invokevirtual 216, 3) := dk_182 0 216 (dk_at dksX4_ofWedding_0 7 rfl rfl)
theorem dX4_ofWedding_10 : decode cX4_ofWedding 10 = .ok (.ifCond .ne 9, 3) := dk_154 0 9 (dk_at dksX4_ofWedding_0 10 rfl rfl)
theorem dX4_ofWedding_13 : decode cX4_ofWedding 13 = .ok (.aload_n 0, 1) := dk_42 (dk_at dksX4_ofWedding_0 13 rfl rfl)
theorem dX4_ofWedding_14 : decode cX4_ofWedding 14 = .ok (.iconst 1, 1) := dk_4 (dk_at dksX4_ofWedding_0 14 rfl rfl)
theorem dX4_ofWedding_15 : decode cX4_ofWedding 15 = .ok (.invokevirtual 60, 3) := dk_182 0 60 (dk_at dksX4_ofWedding_0 15 rfl rfl)
theorem dX4_ofWedding_18 : decode cX4_ofWedding 18 = .ok (.ireturn, 1) := dk_172 (dk_at dksX4_ofWedding_0 18 rfl rfl)
theorem dX4_ofWedding_19 : decode cX4_ofWedding 19 = .ok (.iload_n 2, 1) := dk_28 (dk_at dksX4_ofWedding_0 19 rfl rfl)
theorem dX4_ofWedding_20 : decode cX4_ofWedding 20 = .ok (.iconst 0, 1) := dk_3 (dk_at dksX4_ofWedding_0 20 rfl rfl)
theorem dX4_ofWedding_21 : decode cX4_ofWedding 21 = .ok (.bipush 12, 2) := dk_16 12 (dk_at dksX4_ofWedding_0 21 rfl rfl)
theorem dX4_ofWedding_23 : decode cX4_ofWedding 23 = .ok (.invokestatic 52, 3) := dk_184 0 52 (dk_at dksX4_ofWedding_1 0 rfl rfl)
theorem dX4_ofWedding_26 : decode cX4_ofWedding 26 = .ok (.ifCond .eq 12, 3) := dk_153 0 12 (dk_at dksX4_ofWedding_1 3 rfl rfl)
theorem dX4_ofWedding_29 : decode cX4_ofWedding 29 = .ok (.aload_n 0, 1) := dk_42 (dk_at dksX4_ofWedding_1 6 rfl rfl)
theorem dX4_ofWedding_30 : decode cX4_ofWedding 30 = .ok (.iload_n 1, 1) := dk_27 (dk_at dksX4_ofWedding_1 7 rfl rfl)
theorem dX4_ofWedding_31 : decode cX4_ofWedding 31 = .ok (.iload_n 2, 1) := dk_28 (dk_at dksX4_ofWedding_1 8 rfl rfl)
theorem dX4_ofWedding_32 : decode cX4_ofWedding 32 = .ok (.invokevirtual 308, 3) := dk_182 1 52 (dk_at dksX4_ofWedding_1 9 rfl rfl)
theorem dX4_ofWedding_35 : decode cX4_ofWedding 35 = .ok (.goto 8, 3) := dk_167 0 8 (dk_at dksX4_ofWedding_1 12 rfl rfl)
theorem dX4_ofWedding_38 : decode cX4_ofWedding 38 = .ok (.aload_n 0, 1) := dk_42 (dk_at dksX4_ofWedding_1 15 rfl rfl)
theorem dX4_ofWedding_39 : decode cX4_ofWedding 39 = .ok (.iconst 2, 1) := dk_5 (dk_at dksX4_ofWedding_1 16 rfl rfl)
theorem dX4_ofWedding_40 : decode cX4_ofWedding 40 = .ok (.invokevirtual 60, 3) := dk_182 0 60 (dk_at dksX4_ofWedding_1 17 rfl rfl)
theorem dX4_ofWedding_43 : decode cX4_ofWedding 43 = .ok (.ireturn, 1) := dk_172 (dk_at dksX4_ofWedding_1 20 rfl rfl)
abbrev cX4_ofWeddingNow : ByteArray := prog_13_method_62_code
def yX4_ofWeddingNow : MethodName := ⟨RX4, "ofWeddingNow", "(II)I"⟩
def dkwX4_ofWeddingNow_4 : List UInt8 := [180, 0, 252, 172, 45, 180, 0, 210, 172, 42, 27, 182, 0, 219, 172, 45, 182, 0, 255, 172]
abbrev dktX4_ofWeddingNow_4 : List UInt8 := dkwX4_ofWeddingNow_4 ++ []
def dkwX4_ofWeddingNow_3 : List UInt8 := [172, 45, 180, 0, 152, 172, 45, 180, 0, 124, 172, 45, 180, 0, 160, 172, 45, 180, 0, 207, 172, 45]
abbrev dktX4_ofWeddingNow_3 : List UInt8 := dkwX4_ofWeddingNow_3 ++ dktX4_ofWeddingNow_4
def dkwX4_ofWeddingNow_2 : List UInt8 := [45, 180, 0, 127, 172, 45, 180, 0, 130, 172, 45, 180, 0, 143, 172, 45, 180, 0, 146, 172, 45, 180, 0, 149]
abbrev dktX4_ofWeddingNow_2 : List UInt8 := dkwX4_ofWeddingNow_2 ++ dktX4_ofWeddingNow_3
def dkwX4_ofWeddingNow_1 : List UInt8 := [170, 0, 0, 0, 0, 0, 124, 0, 0, 0, 0, 0, 0, 0, 11, 0, 0, 0, 63, 0, 0, 0, 68, 0, 0, 0, 73, 0, 0, 0, 78, 0, 0, 0, 83, 0, 0, 0, 88, 0, 0, 0, 93, 0, 0, 0, 98, 0, 0, 0, 103, 0, 0, 0, 108, 0, 0, 0, 113, 0, 0, 0, 118]
abbrev dktX4_ofWeddingNow_1 : List UInt8 := dkwX4_ofWeddingNow_1 ++ dktX4_ofWeddingNow_2
def dkwX4_ofWeddingNow_0 : List UInt8 := [42, 180, 0, 19, 27, 182, 0, 90, 192, 0, 122, 78, 28]
abbrev dktX4_ofWeddingNow_0 : List UInt8 := dkwX4_ofWeddingNow_0 ++ dktX4_ofWeddingNow_1
theorem dksX4_ofWeddingNow_0 : cX4_ofWeddingNow.data.toList.drop 0 = dktX4_ofWeddingNow_0 := by decide +kernel
theorem dksX4_ofWeddingNow_1 : cX4_ofWeddingNow.data.toList.drop 13 = dktX4_ofWeddingNow_1 := dk_seg dksX4_ofWeddingNow_0 13 rfl rfl
theorem dksX4_ofWeddingNow_2 : cX4_ofWeddingNow.data.toList.drop 76 = dktX4_ofWeddingNow_2 := dk_seg dksX4_ofWeddingNow_1 63 rfl rfl
theorem dksX4_ofWeddingNow_3 : cX4_ofWeddingNow.data.toList.drop 100 = dktX4_ofWeddingNow_3 := dk_seg dksX4_ofWeddingNow_2 24 rfl rfl
theorem dksX4_ofWeddingNow_4 : cX4_ofWeddingNow.data.toList.drop 122 = dktX4_ofWeddingNow_4 := dk_seg dksX4_ofWeddingNow_3 22 rfl rfl
theorem dX4_ofWeddingNow_0 : decode cX4_ofWeddingNow 0 = .ok (.aload_n 0, 1) := dk_42 (dk_at dksX4_ofWeddingNow_0 0 rfl rfl)
theorem dX4_ofWeddingNow_1 : decode cX4_ofWeddingNow 1 = .ok (.getfield 19, 3) := dk_180 0 19 (dk_at dksX4_ofWeddingNow_0 1 rfl rfl)
theorem dX4_ofWeddingNow_4 : decode cX4_ofWeddingNow 4 = .ok (.iload_n 1, 1) := dk_27 (dk_at dksX4_ofWeddingNow_0 4 rfl rfl)
theorem dX4_ofWeddingNow_5 : decode cX4_ofWeddingNow 5 = .ok (.invokevirtual 90, 3) := dk_182 0 90 (dk_at dksX4_ofWeddingNow_0 5 rfl rfl)
theorem dX4_ofWeddingNow_8 : decode cX4_ofWeddingNow 8 = .ok (.checkcast 122, 3) := dk_192 0 122 (dk_at dksX4_ofWeddingNow_0 8 rfl rfl)
theorem dX4_ofWeddingNow_11 : decode cX4_ofWeddingNow 11 = .ok (.astore_n 3, 1) := dk_78 (dk_at dksX4_ofWeddingNow_0 11 rfl rfl)
theorem dX4_ofWeddingNow_12 : decode cX4_ofWeddingNow 12 = .ok (.iload_n 2, 1) := dk_28 (dk_at dksX4_ofWeddingNow_0 12 rfl rfl)
theorem dX4_ofWeddingNow_13 : decode cX4_ofWeddingNow 13 = .ok (.tableswitch 124 0 11 #[63, 68, 73, 78, 83, 88, 93, 98, 103, 108, 113, 118], 63) := by decide +kernel
theorem dX4_ofWeddingNow_76 : decode cX4_ofWeddingNow 76 = .ok (.aload_n 3, 1) := dk_45 (dk_at dksX4_ofWeddingNow_2 0 rfl rfl)
theorem dX4_ofWeddingNow_77 : decode cX4_ofWeddingNow 77 = .ok (.getfield 127, 3) := dk_180 0 127 (dk_at dksX4_ofWeddingNow_2 1 rfl rfl)
theorem dX4_ofWeddingNow_80 : decode cX4_ofWeddingNow 80 = .ok (.ireturn, 1) := dk_172 (dk_at dksX4_ofWeddingNow_2 4 rfl rfl)
theorem dX4_ofWeddingNow_81 : decode cX4_ofWeddingNow 81 = .ok (.aload_n 3, 1) := dk_45 (dk_at dksX4_ofWeddingNow_2 5 rfl rfl)
theorem dX4_ofWeddingNow_82 : decode cX4_ofWeddingNow 82 = .ok (.getfield 130, 3) := dk_180 0 130 (dk_at dksX4_ofWeddingNow_2 6 rfl rfl)
theorem dX4_ofWeddingNow_85 : decode cX4_ofWeddingNow 85 = .ok (.ireturn, 1) := dk_172 (dk_at dksX4_ofWeddingNow_2 9 rfl rfl)
theorem dX4_ofWeddingNow_86 : decode cX4_ofWeddingNow 86 = .ok (.aload_n 3, 1) := dk_45 (dk_at dksX4_ofWeddingNow_2 10 rfl rfl)
theorem dX4_ofWeddingNow_87 : decode cX4_ofWeddingNow 87 = .ok (.getfield 143, 3) := dk_180 0 143 (dk_at dksX4_ofWeddingNow_2 11 rfl rfl)
theorem dX4_ofWeddingNow_90 : decode cX4_ofWeddingNow 90 = .ok (.ireturn, 1) := dk_172 (dk_at dksX4_ofWeddingNow_2 14 rfl rfl)
theorem dX4_ofWeddingNow_91 : decode cX4_ofWeddingNow 91 = .ok (.aload_n 3, 1) := dk_45 (dk_at dksX4_ofWeddingNow_2 15 rfl rfl)
theorem dX4_ofWeddingNow_92 : decode cX4_ofWeddingNow 92 = .ok (.getfield 146, 3) := dk_180 0 146 (dk_at dksX4_ofWeddingNow_2 16 rfl rfl)
theorem dX4_ofWeddingNow_95 : decode cX4_ofWeddingNow 95 = .ok (.ireturn, 1) := dk_172 (dk_at dksX4_ofWeddingNow_2 19 rfl rfl)
theorem dX4_ofWeddingNow_96 : decode cX4_ofWeddingNow 96 = .ok (.aload_n 3, 1) := dk_45 (dk_at dksX4_ofWeddingNow_2 20 rfl rfl)
theorem dX4_ofWeddingNow_97 : decode cX4_ofWeddingNow 97 = .ok (.getfield 149, 3) := dk_180 0 149 (dk_at dksX4_ofWeddingNow_2 21 rfl rfl)
theorem dX4_ofWeddingNow_100 : decode cX4_ofWeddingNow 100 = .ok (.ireturn, 1) := dk_172 (dk_at dksX4_ofWeddingNow_3 0 rfl rfl)
theorem dX4_ofWeddingNow_101 : decode cX4_ofWeddingNow 101 = .ok (.aload_n 3, 1) := dk_45 (dk_at dksX4_ofWeddingNow_3 1 rfl rfl)
theorem dX4_ofWeddingNow_102 : decode cX4_ofWeddingNow 102 = .ok (.getfield 152, 3) := dk_180 0 152 (dk_at dksX4_ofWeddingNow_3 2 rfl rfl)
theorem dX4_ofWeddingNow_105 : decode cX4_ofWeddingNow 105 = .ok (.ireturn, 1) := dk_172 (dk_at dksX4_ofWeddingNow_3 5 rfl rfl)
theorem dX4_ofWeddingNow_106 : decode cX4_ofWeddingNow 106 = .ok (.aload_n 3, 1) := dk_45 (dk_at dksX4_ofWeddingNow_3 6 rfl rfl)
theorem dX4_ofWeddingNow_107 : decode cX4_ofWeddingNow 107 = .ok (.getfield 124, 3) := dk_180 0 124 (dk_at dksX4_ofWeddingNow_3 7 rfl rfl)
theorem dX4_ofWeddingNow_110 : decode cX4_ofWeddingNow 110 = .ok (.ireturn, 1) := dk_172 (dk_at dksX4_ofWeddingNow_3 10 rfl rfl)
theorem dX4_ofWeddingNow_111 : decode cX4_ofWeddingNow 111 = .ok (.aload_n 3, 1) := dk_45 (dk_at dksX4_ofWeddingNow_3 11 rfl rfl)
theorem dX4_ofWeddingNow_112 : decode cX4_ofWeddingNow 112 = .ok (.getfield 160, 3) := dk_180 0 160 (dk_at dksX4_ofWeddingNow_3 12 rfl rfl)
theorem dX4_ofWeddingNow_115 : decode cX4_ofWeddingNow 115 = .ok (.ireturn, 1) := dk_172 (dk_at dksX4_ofWeddingNow_3 15 rfl rfl)
theorem dX4_ofWeddingNow_116 : decode cX4_ofWeddingNow 116 = .ok (.aload_n 3, 1) := dk_45 (dk_at dksX4_ofWeddingNow_3 16 rfl rfl)
theorem dX4_ofWeddingNow_117 : decode cX4_ofWeddingNow 117 = .ok (.getfield 207, 3) := dk_180 0 207 (dk_at dksX4_ofWeddingNow_3 17 rfl rfl)
theorem dX4_ofWeddingNow_120 : decode cX4_ofWeddingNow 120 = .ok (.ireturn, 1) := dk_172 (dk_at dksX4_ofWeddingNow_3 20 rfl rfl)
theorem dX4_ofWeddingNow_121 : decode cX4_ofWeddingNow 121 = .ok (.aload_n 3, 1) := dk_45 (dk_at dksX4_ofWeddingNow_3 21 rfl rfl)
theorem dX4_ofWeddingNow_122 : decode cX4_ofWeddingNow 122 = .ok (.getfield 252, 3) := dk_180 0 252 (dk_at dksX4_ofWeddingNow_4 0 rfl rfl)
theorem dX4_ofWeddingNow_125 : decode cX4_ofWeddingNow 125 = .ok (.ireturn, 1) := dk_172 (dk_at dksX4_ofWeddingNow_4 3 rfl rfl)
theorem dX4_ofWeddingNow_126 : decode cX4_ofWeddingNow 126 = .ok (.aload_n 3, 1) := dk_45 (dk_at dksX4_ofWeddingNow_4 4 rfl rfl)
theorem dX4_ofWeddingNow_127 : decode cX4_ofWeddingNow 127 = .ok (.getfield 210, 3) := dk_180 0 210 (dk_at dksX4_ofWeddingNow_4 5 rfl rfl)
theorem dX4_ofWeddingNow_130 : decode cX4_ofWeddingNow 130 = .ok (.ireturn, 1) := dk_172 (dk_at dksX4_ofWeddingNow_4 8 rfl rfl)
theorem dX4_ofWeddingNow_131 : decode cX4_ofWeddingNow 131 = .ok (.aload_n 0, 1) := dk_42 (dk_at dksX4_ofWeddingNow_4 9 rfl rfl)
theorem dX4_ofWeddingNow_132 : decode cX4_ofWeddingNow 132 = .ok (.iload_n 1, 1) := dk_27 (dk_at dksX4_ofWeddingNow_4 10 rfl rfl)
theorem dX4_ofWeddingNow_133 : decode cX4_ofWeddingNow 133 = .ok (.invokevirtual 219, 3) := dk_182 0 219 (dk_at dksX4_ofWeddingNow_4 11 rfl rfl)
theorem dX4_ofWeddingNow_136 : decode cX4_ofWeddingNow 136 = .ok (.ireturn, 1) := dk_172 (dk_at dksX4_ofWeddingNow_4 14 rfl rfl)
theorem dX4_ofWeddingNow_137 : decode cX4_ofWeddingNow 137 = .ok (.aload_n 3, 1) := dk_45 (dk_at dksX4_ofWeddingNow_4 15 rfl rfl)
theorem dX4_ofWeddingNow_138 : decode cX4_ofWeddingNow 138 = .ok (.invokevirtual 255, 3) := dk_182 0 255 (dk_at dksX4_ofWeddingNow_4 16 rfl rfl)
theorem dX4_ofWeddingNow_141 : decode cX4_ofWeddingNow 141 = .ok (.ireturn, 1) := dk_172 (dk_at dksX4_ofWeddingNow_4 19 rfl rfl)
abbrev cX4_drive_2 : ByteArray := prog_13_method_64_code
def yX4_drive_2 : MethodName := ⟨RX4, "drive", "(II)I"⟩
def dkwX4_drive_2_1 : List UInt8 := [182, 0, 109, 167, 0, 8, 42, 4, 182, 0, 60, 172]
abbrev dktX4_drive_2_1 : List UInt8 := dkwX4_drive_2_1 ++ []
def dkwX4_drive_2_0 : List UInt8 := [42, 3, 181, 0, 44, 27, 184, 0, 106, 153, 0, 19, 28, 184, 0, 106, 153, 0, 12, 42, 27, 28]
abbrev dktX4_drive_2_0 : List UInt8 := dkwX4_drive_2_0 ++ dktX4_drive_2_1
theorem dksX4_drive_2_0 : cX4_drive_2.data.toList.drop 0 = dktX4_drive_2_0 := by decide +kernel
theorem dksX4_drive_2_1 : cX4_drive_2.data.toList.drop 22 = dktX4_drive_2_1 := dk_seg dksX4_drive_2_0 22 rfl rfl
theorem dX4_drive_2_0 : decode cX4_drive_2 0 = .ok (.aload_n 0, 1) := dk_42 (dk_at dksX4_drive_2_0 0 rfl rfl)
theorem dX4_drive_2_1 : decode cX4_drive_2 1 = .ok (.iconst 0, 1) := dk_3 (dk_at dksX4_drive_2_0 1 rfl rfl)
theorem dX4_drive_2_2 : decode cX4_drive_2 2 = .ok (.putfield 44, 3) := dk_181 0 44 (dk_at dksX4_drive_2_0 2 rfl rfl)
theorem dX4_drive_2_5 : decode cX4_drive_2 5 = .ok (.iload_n 1, 1) := dk_27 (dk_at dksX4_drive_2_0 5 rfl rfl)
theorem dX4_drive_2_6 : decode cX4_drive_2 6 = .ok (.invokestatic 106, 3) := dk_184 0 106 (dk_at dksX4_drive_2_0 6 rfl rfl)
theorem dX4_drive_2_9 : decode cX4_drive_2 9 = .ok (.ifCond .eq 19, 3) := dk_153 0 19 (dk_at dksX4_drive_2_0 9 rfl rfl)
theorem dX4_drive_2_12 : decode cX4_drive_2 12 = .ok (.iload_n 2, 1) := dk_28 (dk_at dksX4_drive_2_0 12 rfl rfl)
theorem dX4_drive_2_13 : decode cX4_drive_2 13 = .ok (.invokestatic 106, 3) := dk_184 0 106 (dk_at dksX4_drive_2_0 13 rfl rfl)
theorem dX4_drive_2_16 : decode cX4_drive_2 16 = .ok (.ifCond .eq 12, 3) := dk_153 0 12 (dk_at dksX4_drive_2_0 16 rfl rfl)
theorem dX4_drive_2_19 : decode cX4_drive_2 19 = .ok (.aload_n 0, 1) := dk_42 (dk_at dksX4_drive_2_0 19 rfl rfl)
theorem dX4_drive_2_20 : decode cX4_drive_2 20 = .ok (.iload_n 1, 1) := dk_27 (dk_at dksX4_drive_2_0 20 rfl rfl)
theorem dX4_drive_2_21 : decode cX4_drive_2 21 = .ok (.iload_n 2, 1) := dk_28 (dk_at dksX4_drive_2_0 21 rfl rfl)
theorem dX4_drive_2_22 : decode cX4_drive_2 22 = .ok (.invokevirtual 109, 3) := dk_182 0 109 (dk_at dksX4_drive_2_1 0 rfl rfl)
theorem dX4_drive_2_25 : decode cX4_drive_2 25 = .ok (.goto 8, 3) := dk_167 0 8 (dk_at dksX4_drive_2_1 3 rfl rfl)
theorem dX4_drive_2_28 : decode cX4_drive_2 28 = .ok (.aload_n 0, 1) := dk_42 (dk_at dksX4_drive_2_1 6 rfl rfl)
theorem dX4_drive_2_29 : decode cX4_drive_2 29 = .ok (.iconst 1, 1) := dk_4 (dk_at dksX4_drive_2_1 7 rfl rfl)
theorem dX4_drive_2_30 : decode cX4_drive_2 30 = .ok (.invokevirtual 60, 3) := dk_182 0 60 (dk_at dksX4_drive_2_1 8 rfl rfl)
theorem dX4_drive_2_33 : decode cX4_drive_2 33 = .ok (.ireturn, 1) := dk_172 (dk_at dksX4_drive_2_1 11 rfl rfl)
abbrev cX4_free : ByteArray := prog_13_method_65_code
def yX4_free : MethodName := ⟨RX4, "free", "(II)Z"⟩
def dkwX4_free_2 : List UInt8 := [172]
abbrev dktX4_free_2 : List UInt8 := dkwX4_free_2 ++ []
def dkwX4_free_1 : List UInt8 := [181, 0, 44, 42, 180, 0, 44, 154, 0, 16, 42, 27, 28, 182, 0, 163, 153, 0, 7, 4, 167, 0, 4, 3]
abbrev dktX4_free_1 : List UInt8 := dkwX4_free_1 ++ dktX4_free_2
def dkwX4_free_0 : List UInt8 := [42, 42, 27, 182, 0, 87, 153, 0, 15, 42, 28, 182, 0, 216, 153, 0, 7, 3, 167, 0, 4, 4]
abbrev dktX4_free_0 : List UInt8 := dkwX4_free_0 ++ dktX4_free_1
theorem dksX4_free_0 : cX4_free.data.toList.drop 0 = dktX4_free_0 := by decide +kernel
theorem dksX4_free_1 : cX4_free.data.toList.drop 22 = dktX4_free_1 := dk_seg dksX4_free_0 22 rfl rfl
theorem dksX4_free_2 : cX4_free.data.toList.drop 46 = dktX4_free_2 := dk_seg dksX4_free_1 24 rfl rfl
theorem dX4_free_0 : decode cX4_free 0 = .ok (.aload_n 0, 1) := dk_42 (dk_at dksX4_free_0 0 rfl rfl)
theorem dX4_free_1 : decode cX4_free 1 = .ok (.aload_n 0, 1) := dk_42 (dk_at dksX4_free_0 1 rfl rfl)
theorem dX4_free_2 : decode cX4_free 2 = .ok (.iload_n 1, 1) := dk_27 (dk_at dksX4_free_0 2 rfl rfl)
theorem dX4_free_3 : decode cX4_free 3 = .ok (.invokevirtual 87, 3) := dk_182 0 87 (dk_at dksX4_free_0 3 rfl rfl)
theorem dX4_free_6 : decode cX4_free 6 = .ok (.ifCond .eq 15, 3) := dk_153 0 15 (dk_at dksX4_free_0 6 rfl rfl)
theorem dX4_free_9 : decode cX4_free 9 = .ok (.aload_n 0, 1) := dk_42 (dk_at dksX4_free_0 9 rfl rfl)
theorem dX4_free_10 : decode cX4_free 10 = .ok (.iload_n 2, 1) := dk_28 (dk_at dksX4_free_0 10 rfl rfl)
theorem dX4_free_11 : decode cX4_free 11 = .ok (.invokevirtual 216, 3) := dk_182 0 216 (dk_at dksX4_free_0 11 rfl rfl)
theorem dX4_free_14 : decode cX4_free 14 = .ok (.ifCond .eq 7, 3) := dk_153 0 7 (dk_at dksX4_free_0 14 rfl rfl)
theorem dX4_free_17 : decode cX4_free 17 = .ok (.iconst 0, 1) := dk_3 (dk_at dksX4_free_0 17 rfl rfl)
theorem dX4_free_18 : decode cX4_free 18 = .ok (.goto 4, 3) := dk_167 0 4 (dk_at dksX4_free_0 18 rfl rfl)
theorem dX4_free_21 : decode cX4_free 21 = .ok (.iconst 1, 1) := dk_4 (dk_at dksX4_free_0 21 rfl rfl)
theorem dX4_free_22 : decode cX4_free 22 = .ok (.putfield 44, 3) := dk_181 0 44 (dk_at dksX4_free_1 0 rfl rfl)
theorem dX4_free_25 : decode cX4_free 25 = .ok (.aload_n 0, 1) := dk_42 (dk_at dksX4_free_1 3 rfl rfl)
theorem dX4_free_26 : decode cX4_free 26 = .ok (.getfield 44, 3) := dk_180 0 44 (dk_at dksX4_free_1 4 rfl rfl)
theorem dX4_free_29 : decode cX4_free 29 = .ok (.ifCond .ne 16, 3) := dk_154 0 16 (dk_at dksX4_free_1 7 rfl rfl)
theorem dX4_free_32 : decode cX4_free 32 = .ok (.aload_n 0, 1) := dk_42 (dk_at dksX4_free_1 10 rfl rfl)
theorem dX4_free_33 : decode cX4_free 33 = .ok (.iload_n 1, 1) := dk_27 (dk_at dksX4_free_1 11 rfl rfl)
theorem dX4_free_34 : decode cX4_free 34 = .ok (.iload_n 2, 1) := dk_28 (dk_at dksX4_free_1 12 rfl rfl)
theorem dX4_free_35 : decode cX4_free 35 = .ok (.invokevirtual 163, 3) := dk_182 0 163 (dk_at dksX4_free_1 13 rfl rfl)
theorem dX4_free_38 : decode cX4_free 38 = .ok (.ifCond .eq 7, 3) := dk_153 0 7 (dk_at dksX4_free_1 16 rfl rfl)
theorem dX4_free_41 : decode cX4_free 41 = .ok (.iconst 1, 1) := dk_4 (dk_at dksX4_free_1 19 rfl rfl)
theorem dX4_free_42 : decode cX4_free 42 = .ok (.goto 4, 3) := dk_167 0 4 (dk_at dksX4_free_1 20 rfl rfl)
theorem dX4_free_45 : decode cX4_free 45 = .ok (.iconst 0, 1) := dk_3 (dk_at dksX4_free_1 23 rfl rfl)
theorem dX4_free_46 : decode cX4_free 46 = .ok (.ireturn, 1) := dk_172 (dk_at dksX4_free_2 0 rfl rfl)
abbrev cX4_filling : ByteArray := prog_13_method_67_code
def yX4_filling : MethodName := ⟨RX4, "filling", "(II)I"⟩
def dkwX4_filling_1 : List UInt8 := [184, 0, 52, 153, 0, 12, 42, 27, 28, 182, 1, 61, 167, 0, 8, 42, 5, 182, 0, 60, 172]
abbrev dktX4_filling_1 : List UInt8 := dkwX4_filling_1 ++ []
def dkwX4_filling_0 : List UInt8 := [42, 3, 181, 0, 44, 42, 27, 182, 0, 216, 154, 0, 9, 42, 4, 182, 0, 60, 172, 28, 3, 6]
abbrev dktX4_filling_0 : List UInt8 := dkwX4_filling_0 ++ dktX4_filling_1
theorem dksX4_filling_0 : cX4_filling.data.toList.drop 0 = dktX4_filling_0 := by decide +kernel
theorem dksX4_filling_1 : cX4_filling.data.toList.drop 22 = dktX4_filling_1 := dk_seg dksX4_filling_0 22 rfl rfl
theorem dX4_filling_0 : decode cX4_filling 0 = .ok (.aload_n 0, 1) := dk_42 (dk_at dksX4_filling_0 0 rfl rfl)
theorem dX4_filling_1 : decode cX4_filling 1 = .ok (.iconst 0, 1) := dk_3 (dk_at dksX4_filling_0 1 rfl rfl)
theorem dX4_filling_2 : decode cX4_filling 2 = .ok (.putfield 44, 3) := dk_181 0 44 (dk_at dksX4_filling_0 2 rfl rfl)
theorem dX4_filling_5 : decode cX4_filling 5 = .ok (.aload_n 0, 1) := dk_42 (dk_at dksX4_filling_0 5 rfl rfl)
theorem dX4_filling_6 : decode cX4_filling 6 = .ok (.iload_n 1, 1) := dk_27 (dk_at dksX4_filling_0 6 rfl rfl)
theorem dX4_filling_7 : decode cX4_filling 7 = .ok (.invokevirtual 216, 3) := dk_182 0 216 (dk_at dksX4_filling_0 7 rfl rfl)
theorem dX4_filling_10 : decode cX4_filling 10 = .ok (.ifCond .ne 9, 3) := dk_154 0 9 (dk_at dksX4_filling_0 10 rfl rfl)
theorem dX4_filling_13 : decode cX4_filling 13 = .ok (.aload_n 0, 1) := dk_42 (dk_at dksX4_filling_0 13 rfl rfl)
theorem dX4_filling_14 : decode cX4_filling 14 = .ok (.iconst 1, 1) := dk_4 (dk_at dksX4_filling_0 14 rfl rfl)
theorem dX4_filling_15 : decode cX4_filling 15 = .ok (.invokevirtual 60, 3) := dk_182 0 60 (dk_at dksX4_filling_0 15 rfl rfl)
theorem dX4_filling_18 : decode cX4_filling 18 = .ok (.ireturn, 1) := dk_172 (dk_at dksX4_filling_0 18 rfl rfl)
theorem dX4_filling_19 : decode cX4_filling 19 = .ok (.iload_n 2, 1) := dk_28 (dk_at dksX4_filling_0 19 rfl rfl)
theorem dX4_filling_20 : decode cX4_filling 20 = .ok (.iconst 0, 1) := dk_3 (dk_at dksX4_filling_0 20 rfl rfl)
theorem dX4_filling_21 : decode cX4_filling 21 = .ok (.iconst 3, 1) := dk_6 (dk_at dksX4_filling_0 21 rfl rfl)
theorem dX4_filling_22 : decode cX4_filling 22 = .ok (.invokestatic 52, 3) := dk_184 0 52 (dk_at dksX4_filling_1 0 rfl rfl)
theorem dX4_filling_25 : decode cX4_filling 25 = .ok (.ifCond .eq 12, 3) := dk_153 0 12 (dk_at dksX4_filling_1 3 rfl rfl)
theorem dX4_filling_28 : decode cX4_filling 28 = .ok (.aload_n 0, 1) := dk_42 (dk_at dksX4_filling_1 6 rfl rfl)
theorem dX4_filling_29 : decode cX4_filling 29 = .ok (.iload_n 1, 1) := dk_27 (dk_at dksX4_filling_1 7 rfl rfl)
theorem dX4_filling_30 : decode cX4_filling 30 = .ok (.iload_n 2, 1) := dk_28 (dk_at dksX4_filling_1 8 rfl rfl)
theorem dX4_filling_31 : decode cX4_filling 31 = .ok (.invokevirtual 317, 3) := dk_182 1 61 (dk_at dksX4_filling_1 9 rfl rfl)
theorem dX4_filling_34 : decode cX4_filling 34 = .ok (.goto 8, 3) := dk_167 0 8 (dk_at dksX4_filling_1 12 rfl rfl)
theorem dX4_filling_37 : decode cX4_filling 37 = .ok (.aload_n 0, 1) := dk_42 (dk_at dksX4_filling_1 15 rfl rfl)
theorem dX4_filling_38 : decode cX4_filling 38 = .ok (.iconst 2, 1) := dk_5 (dk_at dksX4_filling_1 16 rfl rfl)
theorem dX4_filling_39 : decode cX4_filling 39 = .ok (.invokevirtual 60, 3) := dk_182 0 60 (dk_at dksX4_filling_1 17 rfl rfl)
theorem dX4_filling_42 : decode cX4_filling 42 = .ok (.ireturn, 1) := dk_172 (dk_at dksX4_filling_1 20 rfl rfl)
abbrev cX4_fillingNow : ByteArray := prog_13_method_66_code
def yX4_fillingNow : MethodName := ⟨RX4, "fillingNow", "(II)I"⟩
def dkwX4_fillingNow_2 : List UInt8 := [180, 0, 19, 27, 182, 0, 90, 192, 0, 122, 182, 0, 197, 172]
abbrev dktX4_fillingNow_2 : List UInt8 := dkwX4_fillingNow_2 ++ []
def dkwX4_fillingNow_1 : List UInt8 := [3, 3, 182, 0, 200, 62, 28, 153, 0, 8, 29, 2, 160, 0, 7, 29, 167, 0, 19, 42, 29, 42]
abbrev dktX4_fillingNow_1 : List UInt8 := dkwX4_fillingNow_1 ++ dktX4_fillingNow_2
def dkwX4_fillingNow_0 : List UInt8 := [28, 5, 160, 0, 9, 42, 27, 182, 1, 55, 172, 28, 6, 160, 0, 9, 42, 27, 182, 1, 58, 172, 42, 27]
abbrev dktX4_fillingNow_0 : List UInt8 := dkwX4_fillingNow_0 ++ dktX4_fillingNow_1
theorem dksX4_fillingNow_0 : cX4_fillingNow.data.toList.drop 0 = dktX4_fillingNow_0 := by decide +kernel
theorem dksX4_fillingNow_1 : cX4_fillingNow.data.toList.drop 24 = dktX4_fillingNow_1 := dk_seg dksX4_fillingNow_0 24 rfl rfl
theorem dksX4_fillingNow_2 : cX4_fillingNow.data.toList.drop 46 = dktX4_fillingNow_2 := dk_seg dksX4_fillingNow_1 22 rfl rfl
theorem dX4_fillingNow_0 : decode cX4_fillingNow 0 = .ok (.iload_n 2, 1) := dk_28 (dk_at dksX4_fillingNow_0 0 rfl rfl)
theorem dX4_fillingNow_1 : decode cX4_fillingNow 1 = .ok (.iconst 2, 1) := dk_5 (dk_at dksX4_fillingNow_0 1 rfl rfl)
theorem dX4_fillingNow_2 : decode cX4_fillingNow 2 = .ok (.if_icmp .ne 9, 3) := dk_160 0 9 (dk_at dksX4_fillingNow_0 2 rfl rfl)
theorem dX4_fillingNow_5 : decode cX4_fillingNow 5 = .ok (.aload_n 0, 1) := dk_42 (dk_at dksX4_fillingNow_0 5 rfl rfl)
theorem dX4_fillingNow_6 : decode cX4_fillingNow 6 = .ok (.iload_n 1, 1) := dk_27 (dk_at dksX4_fillingNow_0 6 rfl rfl)
theorem dX4_fillingNow_7 : decode cX4_fillingNow 7 = .ok (.invokevirtual 311, 3) := dk_182 1 55 (dk_at dksX4_fillingNow_0 7 rfl rfl)
theorem dX4_fillingNow_10 : decode cX4_fillingNow 10 = .ok (.ireturn, 1) := dk_172 (dk_at dksX4_fillingNow_0 10 rfl rfl)
theorem dX4_fillingNow_11 : decode cX4_fillingNow 11 = .ok (.iload_n 2, 1) := dk_28 (dk_at dksX4_fillingNow_0 11 rfl rfl)
theorem dX4_fillingNow_12 : decode cX4_fillingNow 12 = .ok (.iconst 3, 1) := dk_6 (dk_at dksX4_fillingNow_0 12 rfl rfl)
theorem dX4_fillingNow_13 : decode cX4_fillingNow 13 = .ok (.if_icmp .ne 9, 3) := dk_160 0 9 (dk_at dksX4_fillingNow_0 13 rfl rfl)
theorem dX4_fillingNow_16 : decode cX4_fillingNow 16 = .ok (.aload_n 0, 1) := dk_42 (dk_at dksX4_fillingNow_0 16 rfl rfl)
theorem dX4_fillingNow_17 : decode cX4_fillingNow 17 = .ok (.iload_n 1, 1) := dk_27 (dk_at dksX4_fillingNow_0 17 rfl rfl)
theorem dX4_fillingNow_18 : decode cX4_fillingNow 18 = .ok (.invokevirtual 314, 3) := dk_182 1 58 (dk_at dksX4_fillingNow_0 18 rfl rfl)
theorem dX4_fillingNow_21 : decode cX4_fillingNow 21 = .ok (.ireturn, 1) := dk_172 (dk_at dksX4_fillingNow_0 21 rfl rfl)
theorem dX4_fillingNow_22 : decode cX4_fillingNow 22 = .ok (.aload_n 0, 1) := dk_42 (dk_at dksX4_fillingNow_0 22 rfl rfl)
theorem dX4_fillingNow_23 : decode cX4_fillingNow 23 = .ok (.iload_n 1, 1) := dk_27 (dk_at dksX4_fillingNow_0 23 rfl rfl)
theorem dX4_fillingNow_24 : decode cX4_fillingNow 24 = .ok (.iconst 0, 1) := dk_3 (dk_at dksX4_fillingNow_1 0 rfl rfl)
theorem dX4_fillingNow_25 : decode cX4_fillingNow 25 = .ok (.iconst 0, 1) := dk_3 (dk_at dksX4_fillingNow_1 1 rfl rfl)
theorem dX4_fillingNow_26 : decode cX4_fillingNow 26 = .ok (.invokevirtual 200, 3) := dk_182 0 200 (dk_at dksX4_fillingNow_1 2 rfl rfl)
theorem dX4_fillingNow_29 : decode cX4_fillingNow 29 = .ok (.istore_n 3, 1) := dk_62 (dk_at dksX4_fillingNow_1 5 rfl rfl)
theorem dX4_fillingNow_30 : decode cX4_fillingNow 30 = .ok (.iload_n 2, 1) := dk_28 (dk_at dksX4_fillingNow_1 6 rfl rfl)
theorem dX4_fillingNow_31 : decode cX4_fillingNow 31 = .ok (.ifCond .eq 8, 3) := dk_153 0 8 (dk_at dksX4_fillingNow_1 7 rfl rfl)
theorem dX4_fillingNow_34 : decode cX4_fillingNow 34 = .ok (.iload_n 3, 1) := dk_29 (dk_at dksX4_fillingNow_1 10 rfl rfl)
theorem dX4_fillingNow_35 : decode cX4_fillingNow 35 = .ok (.iconst (-1), 1) := dk_2 (dk_at dksX4_fillingNow_1 11 rfl rfl)
theorem dX4_fillingNow_36 : decode cX4_fillingNow 36 = .ok (.if_icmp .ne 7, 3) := dk_160 0 7 (dk_at dksX4_fillingNow_1 12 rfl rfl)
theorem dX4_fillingNow_39 : decode cX4_fillingNow 39 = .ok (.iload_n 3, 1) := dk_29 (dk_at dksX4_fillingNow_1 15 rfl rfl)
theorem dX4_fillingNow_40 : decode cX4_fillingNow 40 = .ok (.goto 19, 3) := dk_167 0 19 (dk_at dksX4_fillingNow_1 16 rfl rfl)
theorem dX4_fillingNow_43 : decode cX4_fillingNow 43 = .ok (.aload_n 0, 1) := dk_42 (dk_at dksX4_fillingNow_1 19 rfl rfl)
theorem dX4_fillingNow_44 : decode cX4_fillingNow 44 = .ok (.iload_n 3, 1) := dk_29 (dk_at dksX4_fillingNow_1 20 rfl rfl)
theorem dX4_fillingNow_45 : decode cX4_fillingNow 45 = .ok (.aload_n 0, 1) := dk_42 (dk_at dksX4_fillingNow_1 21 rfl rfl)
theorem dX4_fillingNow_46 : decode cX4_fillingNow 46 = .ok (.getfield 19, 3) := dk_180 0 19 (dk_at dksX4_fillingNow_2 0 rfl rfl)
theorem dX4_fillingNow_49 : decode cX4_fillingNow 49 = .ok (.iload_n 1, 1) := dk_27 (dk_at dksX4_fillingNow_2 3 rfl rfl)
theorem dX4_fillingNow_50 : decode cX4_fillingNow 50 = .ok (.invokevirtual 90, 3) := dk_182 0 90 (dk_at dksX4_fillingNow_2 4 rfl rfl)
theorem dX4_fillingNow_53 : decode cX4_fillingNow 53 = .ok (.checkcast 122, 3) := dk_192 0 122 (dk_at dksX4_fillingNow_2 7 rfl rfl)
theorem dX4_fillingNow_56 : decode cX4_fillingNow 56 = .ok (.invokevirtual 197, 3) := dk_182 0 197 (dk_at dksX4_fillingNow_2 10 rfl rfl)
theorem dX4_fillingNow_59 : decode cX4_fillingNow 59 = .ok (.ireturn, 1) := dk_172 (dk_at dksX4_fillingNow_2 13 rfl rfl)
abbrev cX4_fillings : ByteArray := prog_13_method_36_code
def yX4_fillings : MethodName := ⟨RX4, "fillings", "(I)I"⟩
def dkwX4_fillings_2 : List UInt8 := [153, 0, 7, 4, 167, 0, 4, 3, 96, 54, 4, 132, 5, 1, 167, 255, 218, 21, 4, 172]
abbrev dktX4_fillings_2 : List UInt8 := dkwX4_fillings_2 ++ []
def dkwX4_fillings_1 : List UInt8 := [21, 5, 29, 163, 0, 38, 21, 4, 21, 5, 29, 2, 130, 126, 154, 0, 17, 42, 21, 5, 44, 182, 0, 189]
abbrev dktX4_fillings_1 : List UInt8 := dkwX4_fillings_1 ++ dktX4_fillings_2
def dkwX4_fillings_0 : List UInt8 := [42, 180, 0, 19, 27, 182, 0, 90, 192, 0, 122, 77, 42, 27, 182, 0, 186, 62, 3, 54, 4, 4, 54, 5]
abbrev dktX4_fillings_0 : List UInt8 := dkwX4_fillings_0 ++ dktX4_fillings_1
theorem dksX4_fillings_0 : cX4_fillings.data.toList.drop 0 = dktX4_fillings_0 := by decide +kernel
theorem dksX4_fillings_1 : cX4_fillings.data.toList.drop 24 = dktX4_fillings_1 := dk_seg dksX4_fillings_0 24 rfl rfl
theorem dksX4_fillings_2 : cX4_fillings.data.toList.drop 48 = dktX4_fillings_2 := dk_seg dksX4_fillings_1 24 rfl rfl
theorem dX4_fillings_0 : decode cX4_fillings 0 = .ok (.aload_n 0, 1) := dk_42 (dk_at dksX4_fillings_0 0 rfl rfl)
theorem dX4_fillings_1 : decode cX4_fillings 1 = .ok (.getfield 19, 3) := dk_180 0 19 (dk_at dksX4_fillings_0 1 rfl rfl)
theorem dX4_fillings_4 : decode cX4_fillings 4 = .ok (.iload_n 1, 1) := dk_27 (dk_at dksX4_fillings_0 4 rfl rfl)
theorem dX4_fillings_5 : decode cX4_fillings 5 = .ok (.invokevirtual 90, 3) := dk_182 0 90 (dk_at dksX4_fillings_0 5 rfl rfl)
theorem dX4_fillings_8 : decode cX4_fillings 8 = .ok (.checkcast 122, 3) := dk_192 0 122 (dk_at dksX4_fillings_0 8 rfl rfl)
theorem dX4_fillings_11 : decode cX4_fillings 11 = .ok (.astore_n 2, 1) := dk_77 (dk_at dksX4_fillings_0 11 rfl rfl)
theorem dX4_fillings_12 : decode cX4_fillings 12 = .ok (.aload_n 0, 1) := dk_42 (dk_at dksX4_fillings_0 12 rfl rfl)
theorem dX4_fillings_13 : decode cX4_fillings 13 = .ok (.iload_n 1, 1) := dk_27 (dk_at dksX4_fillings_0 13 rfl rfl)
theorem dX4_fillings_14 : decode cX4_fillings 14 = .ok (.invokevirtual 186, 3) := dk_182 0 186 (dk_at dksX4_fillings_0 14 rfl rfl)
theorem dX4_fillings_17 : decode cX4_fillings 17 = .ok (.istore_n 3, 1) := dk_62 (dk_at dksX4_fillings_0 17 rfl rfl)
theorem dX4_fillings_18 : decode cX4_fillings 18 = .ok (.iconst 0, 1) := dk_3 (dk_at dksX4_fillings_0 18 rfl rfl)
theorem dX4_fillings_19 : decode cX4_fillings 19 = .ok (.istore 4, 2) := dk_54 4 (dk_at dksX4_fillings_0 19 rfl rfl)
theorem dX4_fillings_21 : decode cX4_fillings 21 = .ok (.iconst 1, 1) := dk_4 (dk_at dksX4_fillings_0 21 rfl rfl)
theorem dX4_fillings_22 : decode cX4_fillings 22 = .ok (.istore 5, 2) := dk_54 5 (dk_at dksX4_fillings_0 22 rfl rfl)
theorem dX4_fillings_24 : decode cX4_fillings 24 = .ok (.iload 5, 2) := dk_21 5 (dk_at dksX4_fillings_1 0 rfl rfl)
theorem dX4_fillings_26 : decode cX4_fillings 26 = .ok (.iload_n 3, 1) := dk_29 (dk_at dksX4_fillings_1 2 rfl rfl)
theorem dX4_fillings_27 : decode cX4_fillings 27 = .ok (.if_icmp .gt 38, 3) := dk_163 0 38 (dk_at dksX4_fillings_1 3 rfl rfl)
theorem dX4_fillings_30 : decode cX4_fillings 30 = .ok (.iload 4, 2) := dk_21 4 (dk_at dksX4_fillings_1 6 rfl rfl)
theorem dX4_fillings_32 : decode cX4_fillings 32 = .ok (.iload 5, 2) := dk_21 5 (dk_at dksX4_fillings_1 8 rfl rfl)
theorem dX4_fillings_34 : decode cX4_fillings 34 = .ok (.iload_n 3, 1) := dk_29 (dk_at dksX4_fillings_1 10 rfl rfl)
theorem dX4_fillings_35 : decode cX4_fillings 35 = .ok (.iconst (-1), 1) := dk_2 (dk_at dksX4_fillings_1 11 rfl rfl)
theorem dX4_fillings_36 : decode cX4_fillings 36 = .ok (.ixor, 1) := dk_130 (dk_at dksX4_fillings_1 12 rfl rfl)
theorem dX4_fillings_37 : decode cX4_fillings 37 = .ok (.iand, 1) := dk_126 (dk_at dksX4_fillings_1 13 rfl rfl)
theorem dX4_fillings_38 : decode cX4_fillings 38 = .ok (.ifCond .ne 17, 3) := dk_154 0 17 (dk_at dksX4_fillings_1 14 rfl rfl)
theorem dX4_fillings_41 : decode cX4_fillings 41 = .ok (.aload_n 0, 1) := dk_42 (dk_at dksX4_fillings_1 17 rfl rfl)
theorem dX4_fillings_42 : decode cX4_fillings 42 = .ok (.iload 5, 2) := dk_21 5 (dk_at dksX4_fillings_1 18 rfl rfl)
theorem dX4_fillings_44 : decode cX4_fillings 44 = .ok (.aload_n 2, 1) := dk_44 (dk_at dksX4_fillings_1 20 rfl rfl)
theorem dX4_fillings_45 : decode cX4_fillings 45 = .ok (.invokevirtual 189, 3) := dk_182 0 189 (dk_at dksX4_fillings_1 21 rfl rfl)
theorem dX4_fillings_48 : decode cX4_fillings 48 = .ok (.ifCond .eq 7, 3) := dk_153 0 7 (dk_at dksX4_fillings_2 0 rfl rfl)
theorem dX4_fillings_51 : decode cX4_fillings 51 = .ok (.iconst 1, 1) := dk_4 (dk_at dksX4_fillings_2 3 rfl rfl)
theorem dX4_fillings_52 : decode cX4_fillings 52 = .ok (.goto 4, 3) := dk_167 0 4 (dk_at dksX4_fillings_2 4 rfl rfl)
theorem dX4_fillings_55 : decode cX4_fillings 55 = .ok (.iconst 0, 1) := dk_3 (dk_at dksX4_fillings_2 7 rfl rfl)
theorem dX4_fillings_56 : decode cX4_fillings 56 = .ok (.iadd, 1) := dk_96 (dk_at dksX4_fillings_2 8 rfl rfl)
theorem dX4_fillings_57 : decode cX4_fillings 57 = .ok (.istore 4, 2) := dk_54 4 (dk_at dksX4_fillings_2 9 rfl rfl)
theorem dX4_fillings_59 : decode cX4_fillings 59 = .ok (.iinc 5 1, 3) := dk_132 5 1 (dk_at dksX4_fillings_2 11 rfl rfl)
theorem dX4_fillings_62 : decode cX4_fillings 62 = .ok (.goto (-38), 3) := dk_167 255 218 (dk_at dksX4_fillings_2 14 rfl rfl)
theorem dX4_fillings_65 : decode cX4_fillings 65 = .ok (.iload 4, 2) := dk_21 4 (dk_at dksX4_fillings_2 17 rfl rfl)
theorem dX4_fillings_67 : decode cX4_fillings 67 = .ok (.ireturn, 1) := dk_172 (dk_at dksX4_fillings_2 19 rfl rfl)
abbrev cX4_why : ByteArray := prog_13_method_37_code
def yX4_why : MethodName := ⟨RX4, "why", "(I)I"⟩
def dkwX4_why_5 : List UInt8 := [44, 180, 0, 152, 182, 0, 183, 153, 0, 5, 6, 172, 7, 54, 5, 132, 6, 1, 167, 255, 191, 21, 5, 172]
abbrev dktX4_why_5 : List UInt8 := dkwX4_why_5 ++ []
def dkwX4_why_4 : List UInt8 := [184, 0, 116, 160, 0, 36, 42, 21, 6, 29, 3, 3, 182, 0, 166, 154, 0, 6, 167, 0, 21, 42, 21, 6]
abbrev dktX4_why_4 : List UInt8 := dkwX4_why_4 ++ dktX4_why_5
def dkwX4_why_3 : List UInt8 := [21, 6, 21, 4, 163, 0, 64, 21, 6, 21, 4, 2, 130, 126, 154, 0, 48, 21, 6, 184, 0, 94, 29]
abbrev dktX4_why_3 : List UInt8 := dkwX4_why_3 ++ dktX4_why_4
def dkwX4_why_2 : List UInt8 := [162, 0, 5, 4, 172, 42, 27, 3, 3, 182, 0, 200, 2, 159, 0, 5, 3, 172, 5, 54, 5, 4, 54, 6]
abbrev dktX4_why_2 : List UInt8 := dkwX4_why_2 ++ dktX4_why_3
def dkwX4_why_1 : List UInt8 := [192, 0, 95, 182, 0, 177, 62, 42, 27, 182, 0, 186, 54, 4, 21, 4, 184, 0, 94, 29, 184, 0, 116]
abbrev dktX4_why_1 : List UInt8 := dkwX4_why_1 ++ dktX4_why_2
def dkwX4_why_0 : List UInt8 := [42, 180, 0, 19, 27, 182, 0, 90, 192, 0, 122, 77, 42, 180, 0, 16, 44, 180, 0, 127, 182, 0, 90]
abbrev dktX4_why_0 : List UInt8 := dkwX4_why_0 ++ dktX4_why_1
theorem dksX4_why_0 : cX4_why.data.toList.drop 0 = dktX4_why_0 := by decide +kernel
theorem dksX4_why_1 : cX4_why.data.toList.drop 23 = dktX4_why_1 := dk_seg dksX4_why_0 23 rfl rfl
theorem dksX4_why_2 : cX4_why.data.toList.drop 46 = dktX4_why_2 := dk_seg dksX4_why_1 23 rfl rfl
theorem dksX4_why_3 : cX4_why.data.toList.drop 70 = dktX4_why_3 := dk_seg dksX4_why_2 24 rfl rfl
theorem dksX4_why_4 : cX4_why.data.toList.drop 93 = dktX4_why_4 := dk_seg dksX4_why_3 23 rfl rfl
theorem dksX4_why_5 : cX4_why.data.toList.drop 117 = dktX4_why_5 := dk_seg dksX4_why_4 24 rfl rfl
theorem dX4_why_0 : decode cX4_why 0 = .ok (.aload_n 0, 1) := dk_42 (dk_at dksX4_why_0 0 rfl rfl)
theorem dX4_why_1 : decode cX4_why 1 = .ok (.getfield 19, 3) := dk_180 0 19 (dk_at dksX4_why_0 1 rfl rfl)
theorem dX4_why_4 : decode cX4_why 4 = .ok (.iload_n 1, 1) := dk_27 (dk_at dksX4_why_0 4 rfl rfl)
theorem dX4_why_5 : decode cX4_why 5 = .ok (.invokevirtual 90, 3) := dk_182 0 90 (dk_at dksX4_why_0 5 rfl rfl)
theorem dX4_why_8 : decode cX4_why 8 = .ok (.checkcast 122, 3) := dk_192 0 122 (dk_at dksX4_why_0 8 rfl rfl)
theorem dX4_why_11 : decode cX4_why 11 = .ok (.astore_n 2, 1) := dk_77 (dk_at dksX4_why_0 11 rfl rfl)
theorem dX4_why_12 : decode cX4_why 12 = .ok (.aload_n 0, 1) := dk_42 (dk_at dksX4_why_0 12 rfl rfl)
theorem dX4_why_13 : decode cX4_why 13 = .ok (.getfield 16, 3) := dk_180 0 16 (dk_at dksX4_why_0 13 rfl rfl)
theorem dX4_why_16 : decode cX4_why 16 = .ok (.aload_n 2, 1) := dk_44 (dk_at dksX4_why_0 16 rfl rfl)
theorem dX4_why_17 : decode cX4_why 17 = .ok (.getfield 127, 3) := dk_180 0 127 (dk_at dksX4_why_0 17 rfl rfl)
theorem dX4_why_20 : decode cX4_why 20 = .ok (.invokevirtual 90, 3) := dk_182 0 90 (dk_at dksX4_why_0 20 rfl rfl)
theorem dX4_why_23 : decode cX4_why 23 = .ok (.checkcast 95, 3) := dk_192 0 95 (dk_at dksX4_why_1 0 rfl rfl)
theorem dX4_why_26 : decode cX4_why 26 = .ok (.invokevirtual 177, 3) := dk_182 0 177 (dk_at dksX4_why_1 3 rfl rfl)
theorem dX4_why_29 : decode cX4_why 29 = .ok (.istore_n 3, 1) := dk_62 (dk_at dksX4_why_1 6 rfl rfl)
theorem dX4_why_30 : decode cX4_why 30 = .ok (.aload_n 0, 1) := dk_42 (dk_at dksX4_why_1 7 rfl rfl)
theorem dX4_why_31 : decode cX4_why 31 = .ok (.iload_n 1, 1) := dk_27 (dk_at dksX4_why_1 8 rfl rfl)
theorem dX4_why_32 : decode cX4_why 32 = .ok (.invokevirtual 186, 3) := dk_182 0 186 (dk_at dksX4_why_1 9 rfl rfl)
theorem dX4_why_35 : decode cX4_why 35 = .ok (.istore 4, 2) := dk_54 4 (dk_at dksX4_why_1 12 rfl rfl)
theorem dX4_why_37 : decode cX4_why 37 = .ok (.iload 4, 2) := dk_21 4 (dk_at dksX4_why_1 14 rfl rfl)
theorem dX4_why_39 : decode cX4_why 39 = .ok (.invokestatic 94, 3) := dk_184 0 94 (dk_at dksX4_why_1 16 rfl rfl)
theorem dX4_why_42 : decode cX4_why 42 = .ok (.iload_n 3, 1) := dk_29 (dk_at dksX4_why_1 19 rfl rfl)
theorem dX4_why_43 : decode cX4_why 43 = .ok (.invokestatic 116, 3) := dk_184 0 116 (dk_at dksX4_why_1 20 rfl rfl)
theorem dX4_why_46 : decode cX4_why 46 = .ok (.if_icmp .ge 5, 3) := dk_162 0 5 (dk_at dksX4_why_2 0 rfl rfl)
theorem dX4_why_49 : decode cX4_why 49 = .ok (.iconst 1, 1) := dk_4 (dk_at dksX4_why_2 3 rfl rfl)
theorem dX4_why_50 : decode cX4_why 50 = .ok (.ireturn, 1) := dk_172 (dk_at dksX4_why_2 4 rfl rfl)
theorem dX4_why_51 : decode cX4_why 51 = .ok (.aload_n 0, 1) := dk_42 (dk_at dksX4_why_2 5 rfl rfl)
theorem dX4_why_52 : decode cX4_why 52 = .ok (.iload_n 1, 1) := dk_27 (dk_at dksX4_why_2 6 rfl rfl)
theorem dX4_why_53 : decode cX4_why 53 = .ok (.iconst 0, 1) := dk_3 (dk_at dksX4_why_2 7 rfl rfl)
theorem dX4_why_54 : decode cX4_why 54 = .ok (.iconst 0, 1) := dk_3 (dk_at dksX4_why_2 8 rfl rfl)
theorem dX4_why_55 : decode cX4_why 55 = .ok (.invokevirtual 200, 3) := dk_182 0 200 (dk_at dksX4_why_2 9 rfl rfl)
theorem dX4_why_58 : decode cX4_why 58 = .ok (.iconst (-1), 1) := dk_2 (dk_at dksX4_why_2 12 rfl rfl)
theorem dX4_why_59 : decode cX4_why 59 = .ok (.if_icmp .eq 5, 3) := dk_159 0 5 (dk_at dksX4_why_2 13 rfl rfl)
theorem dX4_why_62 : decode cX4_why 62 = .ok (.iconst 0, 1) := dk_3 (dk_at dksX4_why_2 16 rfl rfl)
theorem dX4_why_63 : decode cX4_why 63 = .ok (.ireturn, 1) := dk_172 (dk_at dksX4_why_2 17 rfl rfl)
theorem dX4_why_64 : decode cX4_why 64 = .ok (.iconst 2, 1) := dk_5 (dk_at dksX4_why_2 18 rfl rfl)
theorem dX4_why_65 : decode cX4_why 65 = .ok (.istore 5, 2) := dk_54 5 (dk_at dksX4_why_2 19 rfl rfl)
theorem dX4_why_67 : decode cX4_why 67 = .ok (.iconst 1, 1) := dk_4 (dk_at dksX4_why_2 21 rfl rfl)
theorem dX4_why_68 : decode cX4_why 68 = .ok (.istore 6, 2) := dk_54 6 (dk_at dksX4_why_2 22 rfl rfl)
theorem dX4_why_70 : decode cX4_why 70 = .ok (.iload 6, 2) := dk_21 6 (dk_at dksX4_why_3 0 rfl rfl)
theorem dX4_why_72 : decode cX4_why 72 = .ok (.iload 4, 2) := dk_21 4 (dk_at dksX4_why_3 2 rfl rfl)
theorem dX4_why_74 : decode cX4_why 74 = .ok (.if_icmp .gt 64, 3) := dk_163 0 64 (dk_at dksX4_why_3 4 rfl rfl)
theorem dX4_why_77 : decode cX4_why 77 = .ok (.iload 6, 2) := dk_21 6 (dk_at dksX4_why_3 7 rfl rfl)
theorem dX4_why_79 : decode cX4_why 79 = .ok (.iload 4, 2) := dk_21 4 (dk_at dksX4_why_3 9 rfl rfl)
theorem dX4_why_81 : decode cX4_why 81 = .ok (.iconst (-1), 1) := dk_2 (dk_at dksX4_why_3 11 rfl rfl)
theorem dX4_why_82 : decode cX4_why 82 = .ok (.ixor, 1) := dk_130 (dk_at dksX4_why_3 12 rfl rfl)
theorem dX4_why_83 : decode cX4_why 83 = .ok (.iand, 1) := dk_126 (dk_at dksX4_why_3 13 rfl rfl)
theorem dX4_why_84 : decode cX4_why 84 = .ok (.ifCond .ne 48, 3) := dk_154 0 48 (dk_at dksX4_why_3 14 rfl rfl)
theorem dX4_why_87 : decode cX4_why 87 = .ok (.iload 6, 2) := dk_21 6 (dk_at dksX4_why_3 17 rfl rfl)
theorem dX4_why_89 : decode cX4_why 89 = .ok (.invokestatic 94, 3) := dk_184 0 94 (dk_at dksX4_why_3 19 rfl rfl)
theorem dX4_why_92 : decode cX4_why 92 = .ok (.iload_n 3, 1) := dk_29 (dk_at dksX4_why_3 22 rfl rfl)
theorem dX4_why_93 : decode cX4_why 93 = .ok (.invokestatic 116, 3) := dk_184 0 116 (dk_at dksX4_why_4 0 rfl rfl)
theorem dX4_why_96 : decode cX4_why 96 = .ok (.if_icmp .ne 36, 3) := dk_160 0 36 (dk_at dksX4_why_4 3 rfl rfl)
theorem dX4_why_99 : decode cX4_why 99 = .ok (.aload_n 0, 1) := dk_42 (dk_at dksX4_why_4 6 rfl rfl)
theorem dX4_why_100 : decode cX4_why 100 = .ok (.iload 6, 2) := dk_21 6 (dk_at dksX4_why_4 7 rfl rfl)
theorem dX4_why_102 : decode cX4_why 102 = .ok (.iload_n 3, 1) := dk_29 (dk_at dksX4_why_4 9 rfl rfl)
theorem dX4_why_103 : decode cX4_why 103 = .ok (.iconst 0, 1) := dk_3 (dk_at dksX4_why_4 10 rfl rfl)
theorem dX4_why_104 : decode cX4_why 104 = .ok (.iconst 0, 1) := dk_3 (dk_at dksX4_why_4 11 rfl rfl)
theorem dX4_why_105 : decode cX4_why 105 = .ok (.invokevirtual 166, 3) := dk_182 0 166 (dk_at dksX4_why_4 12 rfl rfl)
theorem dX4_why_108 : decode cX4_why 108 = .ok (.ifCond .ne 6, 3) := dk_154 0 6 (dk_at dksX4_why_4 15 rfl rfl)
theorem dX4_why_111 : decode cX4_why 111 = .ok (.goto 21, 3) := dk_167 0 21 (dk_at dksX4_why_4 18 rfl rfl)
theorem dX4_why_114 : decode cX4_why 114 = .ok (.aload_n 0, 1) := dk_42 (dk_at dksX4_why_4 21 rfl rfl)
theorem dX4_why_115 : decode cX4_why 115 = .ok (.iload 6, 2) := dk_21 6 (dk_at dksX4_why_4 22 rfl rfl)
theorem dX4_why_117 : decode cX4_why 117 = .ok (.aload_n 2, 1) := dk_44 (dk_at dksX4_why_5 0 rfl rfl)
theorem dX4_why_118 : decode cX4_why 118 = .ok (.getfield 152, 3) := dk_180 0 152 (dk_at dksX4_why_5 1 rfl rfl)
theorem dX4_why_121 : decode cX4_why 121 = .ok (.invokevirtual 183, 3) := dk_182 0 183 (dk_at dksX4_why_5 4 rfl rfl)
theorem dX4_why_124 : decode cX4_why 124 = .ok (.ifCond .eq 5, 3) := dk_153 0 5 (dk_at dksX4_why_5 7 rfl rfl)
theorem dX4_why_127 : decode cX4_why 127 = .ok (.iconst 3, 1) := dk_6 (dk_at dksX4_why_5 10 rfl rfl)
theorem dX4_why_128 : decode cX4_why 128 = .ok (.ireturn, 1) := dk_172 (dk_at dksX4_why_5 11 rfl rfl)
theorem dX4_why_129 : decode cX4_why 129 = .ok (.iconst 4, 1) := dk_7 (dk_at dksX4_why_5 12 rfl rfl)
theorem dX4_why_130 : decode cX4_why 130 = .ok (.istore 5, 2) := dk_54 5 (dk_at dksX4_why_5 13 rfl rfl)
theorem dX4_why_132 : decode cX4_why 132 = .ok (.iinc 6 1, 3) := dk_132 6 1 (dk_at dksX4_why_5 15 rfl rfl)
theorem dX4_why_135 : decode cX4_why 135 = .ok (.goto (-65), 3) := dk_167 255 191 (dk_at dksX4_why_5 18 rfl rfl)
theorem dX4_why_138 : decode cX4_why 138 = .ok (.iload 5, 2) := dk_21 5 (dk_at dksX4_why_5 21 rfl rfl)
theorem dX4_why_140 : decode cX4_why 140 = .ok (.ireturn, 1) := dk_172 (dk_at dksX4_why_5 23 rfl rfl)
abbrev cX4_set : ByteArray := prog_13_method_68_code
def yX4_set : MethodName := ⟨RX4, "set", "(IZ)I"⟩
def dkwX4_set_1 : List UInt8 := [182, 0, 60, 172, 28, 153, 0, 11, 42, 27, 182, 1, 64, 167, 0, 9, 42, 27, 182, 1, 14, 190, 172]
abbrev dktX4_set_1 : List UInt8 := dkwX4_set_1 ++ []
def dkwX4_set_0 : List UInt8 := [42, 3, 181, 0, 44, 27, 155, 0, 16, 27, 4, 42, 180, 0, 10, 182, 0, 48, 120, 161, 0, 9, 42, 4]
abbrev dktX4_set_0 : List UInt8 := dkwX4_set_0 ++ dktX4_set_1
theorem dksX4_set_0 : cX4_set.data.toList.drop 0 = dktX4_set_0 := by decide +kernel
theorem dksX4_set_1 : cX4_set.data.toList.drop 24 = dktX4_set_1 := dk_seg dksX4_set_0 24 rfl rfl
theorem dX4_set_0 : decode cX4_set 0 = .ok (.aload_n 0, 1) := dk_42 (dk_at dksX4_set_0 0 rfl rfl)
theorem dX4_set_1 : decode cX4_set 1 = .ok (.iconst 0, 1) := dk_3 (dk_at dksX4_set_0 1 rfl rfl)
theorem dX4_set_2 : decode cX4_set 2 = .ok (.putfield 44, 3) := dk_181 0 44 (dk_at dksX4_set_0 2 rfl rfl)
theorem dX4_set_5 : decode cX4_set 5 = .ok (.iload_n 1, 1) := dk_27 (dk_at dksX4_set_0 5 rfl rfl)
theorem dX4_set_6 : decode cX4_set 6 = .ok (.ifCond .lt 16, 3) := dk_155 0 16 (dk_at dksX4_set_0 6 rfl rfl)
theorem dX4_set_9 : decode cX4_set 9 = .ok (.iload_n 1, 1) := dk_27 (dk_at dksX4_set_0 9 rfl rfl)
theorem dX4_set_10 : decode cX4_set 10 = .ok (.iconst 1, 1) := dk_4 (dk_at dksX4_set_0 10 rfl rfl)
theorem dX4_set_11 : decode cX4_set 11 = .ok (.aload_n 0, 1) := dk_42 (dk_at dksX4_set_0 11 rfl rfl)
theorem dX4_set_12 : decode cX4_set 12 = .ok (.getfield 10, 3) := dk_180 0 10 (dk_at dksX4_set_0 12 rfl rfl)
theorem dX4_set_15 : decode cX4_set 15 = .ok (.invokevirtual 48, 3) := dk_182 0 48 (dk_at dksX4_set_0 15 rfl rfl)
theorem dX4_set_18 : decode cX4_set 18 = .ok (.ishl, 1) := dk_120 (dk_at dksX4_set_0 18 rfl rfl)
theorem dX4_set_19 : decode cX4_set 19 = .ok (.if_icmp .lt 9, 3) := dk_161 0 9 (dk_at dksX4_set_0 19 rfl rfl)
theorem dX4_set_22 : decode cX4_set 22 = .ok (.aload_n 0, 1) := dk_42 (dk_at dksX4_set_0 22 rfl rfl)
theorem dX4_set_23 : decode cX4_set 23 = .ok (.iconst 1, 1) := dk_4 (dk_at dksX4_set_0 23 rfl rfl)
theorem dX4_set_24 : decode cX4_set 24 = .ok (.invokevirtual 60, 3) := dk_182 0 60 (dk_at dksX4_set_1 0 rfl rfl)
theorem dX4_set_27 : decode cX4_set 27 = .ok (.ireturn, 1) := dk_172 (dk_at dksX4_set_1 3 rfl rfl)
theorem dX4_set_28 : decode cX4_set 28 = .ok (.iload_n 2, 1) := dk_28 (dk_at dksX4_set_1 4 rfl rfl)
theorem dX4_set_29 : decode cX4_set 29 = .ok (.ifCond .eq 11, 3) := dk_153 0 11 (dk_at dksX4_set_1 5 rfl rfl)
theorem dX4_set_32 : decode cX4_set 32 = .ok (.aload_n 0, 1) := dk_42 (dk_at dksX4_set_1 8 rfl rfl)
theorem dX4_set_33 : decode cX4_set 33 = .ok (.iload_n 1, 1) := dk_27 (dk_at dksX4_set_1 9 rfl rfl)
theorem dX4_set_34 : decode cX4_set 34 = .ok (.invokevirtual 320, 3) := dk_182 1 64 (dk_at dksX4_set_1 10 rfl rfl)
theorem dX4_set_37 : decode cX4_set 37 = .ok (.goto 9, 3) := dk_167 0 9 (dk_at dksX4_set_1 13 rfl rfl)
theorem dX4_set_40 : decode cX4_set 40 = .ok (.aload_n 0, 1) := dk_42 (dk_at dksX4_set_1 16 rfl rfl)
theorem dX4_set_41 : decode cX4_set 41 = .ok (.iload_n 1, 1) := dk_27 (dk_at dksX4_set_1 17 rfl rfl)
theorem dX4_set_42 : decode cX4_set 42 = .ok (.invokevirtual 270, 3) := dk_182 1 14 (dk_at dksX4_set_1 18 rfl rfl)
theorem dX4_set_45 : decode cX4_set 45 = .ok (.arraylength, 1) := dk_190 (dk_at dksX4_set_1 21 rfl rfl)
theorem dX4_set_46 : decode cX4_set 46 = .ok (.ireturn, 1) := dk_172 (dk_at dksX4_set_1 22 rfl rfl)
abbrev cX4_minutesOf : ByteArray := prog_13_method_53_code
def yX4_minutesOf : MethodName := ⟨RX4, "minutesOf", "(I)I"⟩
def dkwX4_minutesOf_1 : List UInt8 := [21, 5, 46, 54, 6, 28, 42, 180, 0, 29, 21, 6, 46, 96, 61, 132, 5, 1, 167, 255, 230, 28, 172]
abbrev dktX4_minutesOf_1 : List UInt8 := dkwX4_minutesOf_1 ++ []
def dkwX4_minutesOf_0 : List UInt8 := [3, 61, 42, 27, 182, 1, 14, 78, 45, 190, 54, 4, 3, 54, 5, 21, 5, 21, 4, 162, 0, 25, 45]
abbrev dktX4_minutesOf_0 : List UInt8 := dkwX4_minutesOf_0 ++ dktX4_minutesOf_1
theorem dksX4_minutesOf_0 : cX4_minutesOf.data.toList.drop 0 = dktX4_minutesOf_0 := by decide +kernel
theorem dksX4_minutesOf_1 : cX4_minutesOf.data.toList.drop 23 = dktX4_minutesOf_1 := dk_seg dksX4_minutesOf_0 23 rfl rfl
theorem dX4_minutesOf_0 : decode cX4_minutesOf 0 = .ok (.iconst 0, 1) := dk_3 (dk_at dksX4_minutesOf_0 0 rfl rfl)
theorem dX4_minutesOf_1 : decode cX4_minutesOf 1 = .ok (.istore_n 2, 1) := dk_61 (dk_at dksX4_minutesOf_0 1 rfl rfl)
theorem dX4_minutesOf_2 : decode cX4_minutesOf 2 = .ok (.aload_n 0, 1) := dk_42 (dk_at dksX4_minutesOf_0 2 rfl rfl)
theorem dX4_minutesOf_3 : decode cX4_minutesOf 3 = .ok (.iload_n 1, 1) := dk_27 (dk_at dksX4_minutesOf_0 3 rfl rfl)
theorem dX4_minutesOf_4 : decode cX4_minutesOf 4 = .ok (.invokevirtual 270, 3) := dk_182 1 14 (dk_at dksX4_minutesOf_0 4 rfl rfl)
theorem dX4_minutesOf_7 : decode cX4_minutesOf 7 = .ok (.astore_n 3, 1) := dk_78 (dk_at dksX4_minutesOf_0 7 rfl rfl)
theorem dX4_minutesOf_8 : decode cX4_minutesOf 8 = .ok (.aload_n 3, 1) := dk_45 (dk_at dksX4_minutesOf_0 8 rfl rfl)
theorem dX4_minutesOf_9 : decode cX4_minutesOf 9 = .ok (.arraylength, 1) := dk_190 (dk_at dksX4_minutesOf_0 9 rfl rfl)
theorem dX4_minutesOf_10 : decode cX4_minutesOf 10 = .ok (.istore 4, 2) := dk_54 4 (dk_at dksX4_minutesOf_0 10 rfl rfl)
theorem dX4_minutesOf_12 : decode cX4_minutesOf 12 = .ok (.iconst 0, 1) := dk_3 (dk_at dksX4_minutesOf_0 12 rfl rfl)
theorem dX4_minutesOf_13 : decode cX4_minutesOf 13 = .ok (.istore 5, 2) := dk_54 5 (dk_at dksX4_minutesOf_0 13 rfl rfl)
theorem dX4_minutesOf_15 : decode cX4_minutesOf 15 = .ok (.iload 5, 2) := dk_21 5 (dk_at dksX4_minutesOf_0 15 rfl rfl)
theorem dX4_minutesOf_17 : decode cX4_minutesOf 17 = .ok (.iload 4, 2) := dk_21 4 (dk_at dksX4_minutesOf_0 17 rfl rfl)
theorem dX4_minutesOf_19 : decode cX4_minutesOf 19 = .ok (.if_icmp .ge 25, 3) := dk_162 0 25 (dk_at dksX4_minutesOf_0 19 rfl rfl)
theorem dX4_minutesOf_22 : decode cX4_minutesOf 22 = .ok (.aload_n 3, 1) := dk_45 (dk_at dksX4_minutesOf_0 22 rfl rfl)
theorem dX4_minutesOf_23 : decode cX4_minutesOf 23 = .ok (.iload 5, 2) := dk_21 5 (dk_at dksX4_minutesOf_1 0 rfl rfl)
theorem dX4_minutesOf_25 : decode cX4_minutesOf 25 = .ok (.iaload, 1) := dk_46 (dk_at dksX4_minutesOf_1 2 rfl rfl)
theorem dX4_minutesOf_26 : decode cX4_minutesOf 26 = .ok (.istore 6, 2) := dk_54 6 (dk_at dksX4_minutesOf_1 3 rfl rfl)
theorem dX4_minutesOf_28 : decode cX4_minutesOf 28 = .ok (.iload_n 2, 1) := dk_28 (dk_at dksX4_minutesOf_1 5 rfl rfl)
theorem dX4_minutesOf_29 : decode cX4_minutesOf 29 = .ok (.aload_n 0, 1) := dk_42 (dk_at dksX4_minutesOf_1 6 rfl rfl)
theorem dX4_minutesOf_30 : decode cX4_minutesOf 30 = .ok (.getfield 29, 3) := dk_180 0 29 (dk_at dksX4_minutesOf_1 7 rfl rfl)
theorem dX4_minutesOf_33 : decode cX4_minutesOf 33 = .ok (.iload 6, 2) := dk_21 6 (dk_at dksX4_minutesOf_1 10 rfl rfl)
theorem dX4_minutesOf_35 : decode cX4_minutesOf 35 = .ok (.iaload, 1) := dk_46 (dk_at dksX4_minutesOf_1 12 rfl rfl)
theorem dX4_minutesOf_36 : decode cX4_minutesOf 36 = .ok (.iadd, 1) := dk_96 (dk_at dksX4_minutesOf_1 13 rfl rfl)
theorem dX4_minutesOf_37 : decode cX4_minutesOf 37 = .ok (.istore_n 2, 1) := dk_61 (dk_at dksX4_minutesOf_1 14 rfl rfl)
theorem dX4_minutesOf_38 : decode cX4_minutesOf 38 = .ok (.iinc 5 1, 3) := dk_132 5 1 (dk_at dksX4_minutesOf_1 15 rfl rfl)
theorem dX4_minutesOf_41 : decode cX4_minutesOf 41 = .ok (.goto (-26), 3) := dk_167 255 230 (dk_at dksX4_minutesOf_1 18 rfl rfl)
theorem dX4_minutesOf_44 : decode cX4_minutesOf 44 = .ok (.iload_n 2, 1) := dk_28 (dk_at dksX4_minutesOf_1 21 rfl rfl)
theorem dX4_minutesOf_45 : decode cX4_minutesOf 45 = .ok (.ireturn, 1) := dk_172 (dk_at dksX4_minutesOf_1 22 rfl rfl)
abbrev cX4_songs : ByteArray := prog_13_method_69_code
def yX4_songs : MethodName := ⟨RX4, "songs", "(I)Ljava/lang/String;"⟩
def dkwX4_songs_5 : List UInt8 := [167, 0, 7, 44, 182, 1, 85, 176]
abbrev dktX4_songs_5 : List UInt8 := dkwX4_songs_5 ++ []
def dkwX4_songs_4 : List UInt8 := [21, 6, 182, 1, 80, 87, 132, 5, 1, 167, 255, 214, 44, 182, 1, 72, 154, 0, 9, 19, 1, 83]
abbrev dktX4_songs_4 : List UInt8 := dkwX4_songs_4 ++ dktX4_songs_5
def dkwX4_songs_3 : List UInt8 := [46, 54, 6, 44, 44, 182, 1, 72, 158, 0, 9, 19, 1, 74, 167, 0, 6, 19, 1, 67, 182, 1, 76]
abbrev dktX4_songs_3 : List UInt8 := dkwX4_songs_3 ++ dktX4_songs_4
def dkwX4_songs_2 : List UInt8 := [180, 0, 160, 182, 1, 14, 78, 45, 190, 54, 4, 3, 54, 5, 21, 5, 21, 4, 162, 0, 41, 45, 21, 5]
abbrev dktX4_songs_2 : List UInt8 := dkwX4_songs_2 ++ dktX4_songs_3
def dkwX4_songs_1 : List UInt8 := [19, 1, 67, 176, 187, 1, 69, 89, 183, 1, 71, 77, 42, 42, 180, 0, 19, 27, 182, 0, 90, 192, 0, 122]
abbrev dktX4_songs_1 : List UInt8 := dkwX4_songs_1 ++ dktX4_songs_2
def dkwX4_songs_0 : List UInt8 := [42, 42, 27, 182, 0, 216, 153, 0, 7, 3, 167, 0, 4, 4, 181, 0, 44, 42, 180, 0, 44, 158, 0, 7]
abbrev dktX4_songs_0 : List UInt8 := dkwX4_songs_0 ++ dktX4_songs_1
theorem dksX4_songs_0 : cX4_songs.data.toList.drop 0 = dktX4_songs_0 := by decide +kernel
theorem dksX4_songs_1 : cX4_songs.data.toList.drop 24 = dktX4_songs_1 := dk_seg dksX4_songs_0 24 rfl rfl
theorem dksX4_songs_2 : cX4_songs.data.toList.drop 48 = dktX4_songs_2 := dk_seg dksX4_songs_1 24 rfl rfl
theorem dksX4_songs_3 : cX4_songs.data.toList.drop 72 = dktX4_songs_3 := dk_seg dksX4_songs_2 24 rfl rfl
theorem dksX4_songs_4 : cX4_songs.data.toList.drop 95 = dktX4_songs_4 := dk_seg dksX4_songs_3 23 rfl rfl
theorem dksX4_songs_5 : cX4_songs.data.toList.drop 117 = dktX4_songs_5 := dk_seg dksX4_songs_4 22 rfl rfl
theorem dX4_songs_0 : decode cX4_songs 0 = .ok (.aload_n 0, 1) := dk_42 (dk_at dksX4_songs_0 0 rfl rfl)
theorem dX4_songs_1 : decode cX4_songs 1 = .ok (.aload_n 0, 1) := dk_42 (dk_at dksX4_songs_0 1 rfl rfl)
theorem dX4_songs_2 : decode cX4_songs 2 = .ok (.iload_n 1, 1) := dk_27 (dk_at dksX4_songs_0 2 rfl rfl)
theorem dX4_songs_3 : decode cX4_songs 3 = .ok (.invokevirtual 216, 3) := dk_182 0 216 (dk_at dksX4_songs_0 3 rfl rfl)
theorem dX4_songs_6 : decode cX4_songs 6 = .ok (.ifCond .eq 7, 3) := dk_153 0 7 (dk_at dksX4_songs_0 6 rfl rfl)
theorem dX4_songs_9 : decode cX4_songs 9 = .ok (.iconst 0, 1) := dk_3 (dk_at dksX4_songs_0 9 rfl rfl)
theorem dX4_songs_10 : decode cX4_songs 10 = .ok (.goto 4, 3) := dk_167 0 4 (dk_at dksX4_songs_0 10 rfl rfl)
theorem dX4_songs_13 : decode cX4_songs 13 = .ok (.iconst 1, 1) := dk_4 (dk_at dksX4_songs_0 13 rfl rfl)
theorem dX4_songs_14 : decode cX4_songs 14 = .ok (.putfield 44, 3) := dk_181 0 44 (dk_at dksX4_songs_0 14 rfl rfl)
theorem dX4_songs_17 : decode cX4_songs 17 = .ok (.aload_n 0, 1) := dk_42 (dk_at dksX4_songs_0 17 rfl rfl)
theorem dX4_songs_18 : decode cX4_songs 18 = .ok (.getfield 44, 3) := dk_180 0 44 (dk_at dksX4_songs_0 18 rfl rfl)
theorem dX4_songs_21 : decode cX4_songs 21 = .ok (.ifCond .le 7, 3) := dk_158 0 7 (dk_at dksX4_songs_0 21 rfl rfl)
theorem dX4_songs_24 : decode cX4_songs 24 = .ok (.ldc_w 323, 3) := dk_19 1 67 (dk_at dksX4_songs_1 0 rfl rfl)
theorem dX4_songs_27 : decode cX4_songs 27 = .ok (.areturn, 1) := dk_176 (dk_at dksX4_songs_1 3 rfl rfl)
theorem dX4_songs_28 : decode cX4_songs 28 = .ok (.new 325, 3) := dk_187 1 69 (dk_at dksX4_songs_1 4 rfl rfl)
theorem dX4_songs_31 : decode cX4_songs 31 = .ok (.dup, 1) := dk_89 (dk_at dksX4_songs_1 7 rfl rfl)
theorem dX4_songs_32 : decode cX4_songs 32 = .ok (.invokespecial 327, 3) := dk_183 1 71 (dk_at dksX4_songs_1 8 rfl rfl)
theorem dX4_songs_35 : decode cX4_songs 35 = .ok (.astore_n 2, 1) := dk_77 (dk_at dksX4_songs_1 11 rfl rfl)
theorem dX4_songs_36 : decode cX4_songs 36 = .ok (.aload_n 0, 1) := dk_42 (dk_at dksX4_songs_1 12 rfl rfl)
theorem dX4_songs_37 : decode cX4_songs 37 = .ok (.aload_n 0, 1) := dk_42 (dk_at dksX4_songs_1 13 rfl rfl)
theorem dX4_songs_38 : decode cX4_songs 38 = .ok (.getfield 19, 3) := dk_180 0 19 (dk_at dksX4_songs_1 14 rfl rfl)
theorem dX4_songs_41 : decode cX4_songs 41 = .ok (.iload_n 1, 1) := dk_27 (dk_at dksX4_songs_1 17 rfl rfl)
theorem dX4_songs_42 : decode cX4_songs 42 = .ok (.invokevirtual 90, 3) := dk_182 0 90 (dk_at dksX4_songs_1 18 rfl rfl)
theorem dX4_songs_45 : decode cX4_songs 45 = .ok (.checkcast 122, 3) := dk_192 0 122 (dk_at dksX4_songs_1 21 rfl rfl)
theorem dX4_songs_48 : decode cX4_songs 48 = .ok (.getfield 160, 3) := dk_180 0 160 (dk_at dksX4_songs_2 0 rfl rfl)
theorem dX4_songs_51 : decode cX4_songs 51 = .ok (.invokevirtual 270, 3) := dk_182 1 14 (dk_at dksX4_songs_2 3 rfl rfl)
theorem dX4_songs_54 : decode cX4_songs 54 = .ok (.astore_n 3, 1) := dk_78 (dk_at dksX4_songs_2 6 rfl rfl)
theorem dX4_songs_55 : decode cX4_songs 55 = .ok (.aload_n 3, 1) := dk_45 (dk_at dksX4_songs_2 7 rfl rfl)
theorem dX4_songs_56 : decode cX4_songs 56 = .ok (.arraylength, 1) := dk_190 (dk_at dksX4_songs_2 8 rfl rfl)
theorem dX4_songs_57 : decode cX4_songs 57 = .ok (.istore 4, 2) := dk_54 4 (dk_at dksX4_songs_2 9 rfl rfl)
theorem dX4_songs_59 : decode cX4_songs 59 = .ok (.iconst 0, 1) := dk_3 (dk_at dksX4_songs_2 11 rfl rfl)
theorem dX4_songs_60 : decode cX4_songs 60 = .ok (.istore 5, 2) := dk_54 5 (dk_at dksX4_songs_2 12 rfl rfl)
theorem dX4_songs_62 : decode cX4_songs 62 = .ok (.iload 5, 2) := dk_21 5 (dk_at dksX4_songs_2 14 rfl rfl)
theorem dX4_songs_64 : decode cX4_songs 64 = .ok (.iload 4, 2) := dk_21 4 (dk_at dksX4_songs_2 16 rfl rfl)
theorem dX4_songs_66 : decode cX4_songs 66 = .ok (.if_icmp .ge 41, 3) := dk_162 0 41 (dk_at dksX4_songs_2 18 rfl rfl)
theorem dX4_songs_69 : decode cX4_songs 69 = .ok (.aload_n 3, 1) := dk_45 (dk_at dksX4_songs_2 21 rfl rfl)
theorem dX4_songs_70 : decode cX4_songs 70 = .ok (.iload 5, 2) := dk_21 5 (dk_at dksX4_songs_2 22 rfl rfl)
theorem dX4_songs_72 : decode cX4_songs 72 = .ok (.iaload, 1) := dk_46 (dk_at dksX4_songs_3 0 rfl rfl)
theorem dX4_songs_73 : decode cX4_songs 73 = .ok (.istore 6, 2) := dk_54 6 (dk_at dksX4_songs_3 1 rfl rfl)
theorem dX4_songs_75 : decode cX4_songs 75 = .ok (.aload_n 2, 1) := dk_44 (dk_at dksX4_songs_3 3 rfl rfl)
theorem dX4_songs_76 : decode cX4_songs 76 = .ok (.aload_n 2, 1) := dk_44 (dk_at dksX4_songs_3 4 rfl rfl)
theorem dX4_songs_77 : decode cX4_songs 77 = .ok (.invokevirtual 328, 3) := dk_182 1 72 (dk_at dksX4_songs_3 5 rfl rfl)
theorem dX4_songs_80 : decode cX4_songs 80 = .ok (.ifCond .le 9, 3) := dk_158 0 9 (dk_at dksX4_songs_3 8 rfl rfl)
theorem dX4_songs_83 : decode cX4_songs 83 = .ok (.ldc_w 330, 3) := dk_19 1 74 (dk_at dksX4_songs_3 11 rfl rfl)
theorem dX4_songs_86 : decode cX4_songs 86 = .ok (.goto 6, 3) := dk_167 0 6 (dk_at dksX4_songs_3 14 rfl rfl)
theorem dX4_songs_89 : decode cX4_songs 89 = .ok (.ldc_w 323, 3) := dk_19 1 67 (dk_at dksX4_songs_3 17 rfl rfl)
theorem dX4_songs_92 : decode cX4_songs 92 = .ok (.invokevirtual 332, 3) := dk_182 1 76 (dk_at dksX4_songs_3 20 rfl rfl)
theorem dX4_songs_95 : decode cX4_songs 95 = .ok (.iload 6, 2) := dk_21 6 (dk_at dksX4_songs_4 0 rfl rfl)
theorem dX4_songs_97 : decode cX4_songs 97 = .ok (.invokevirtual 336, 3) := dk_182 1 80 (dk_at dksX4_songs_4 2 rfl rfl)
theorem dX4_songs_100 : decode cX4_songs 100 = .ok (.pop, 1) := dk_87 (dk_at dksX4_songs_4 5 rfl rfl)
theorem dX4_songs_101 : decode cX4_songs 101 = .ok (.iinc 5 1, 3) := dk_132 5 1 (dk_at dksX4_songs_4 6 rfl rfl)
theorem dX4_songs_104 : decode cX4_songs 104 = .ok (.goto (-42), 3) := dk_167 255 214 (dk_at dksX4_songs_4 9 rfl rfl)
theorem dX4_songs_107 : decode cX4_songs 107 = .ok (.aload_n 2, 1) := dk_44 (dk_at dksX4_songs_4 12 rfl rfl)
theorem dX4_songs_108 : decode cX4_songs 108 = .ok (.invokevirtual 328, 3) := dk_182 1 72 (dk_at dksX4_songs_4 13 rfl rfl)
theorem dX4_songs_111 : decode cX4_songs 111 = .ok (.ifCond .ne 9, 3) := dk_154 0 9 (dk_at dksX4_songs_4 16 rfl rfl)
theorem dX4_songs_114 : decode cX4_songs 114 = .ok (.ldc_w 339, 3) := dk_19 1 83 (dk_at dksX4_songs_4 19 rfl rfl)
theorem dX4_songs_117 : decode cX4_songs 117 = .ok (.goto 7, 3) := dk_167 0 7 (dk_at dksX4_songs_5 0 rfl rfl)
theorem dX4_songs_120 : decode cX4_songs 120 = .ok (.aload_n 2, 1) := dk_44 (dk_at dksX4_songs_5 3 rfl rfl)
theorem dX4_songs_121 : decode cX4_songs 121 = .ok (.invokevirtual 341, 3) := dk_182 1 85 (dk_at dksX4_songs_5 4 rfl rfl)
theorem dX4_songs_124 : decode cX4_songs 124 = .ok (.areturn, 1) := dk_176 (dk_at dksX4_songs_5 7 rfl rfl)
abbrev cX4_desk : ByteArray := prog_13_method_72_code
def yX4_desk : MethodName := ⟨RX4, "desk", "(I)I"⟩
def dkwX4_desk_1 : List UInt8 := [4, 182, 0, 60, 172]
abbrev dktX4_desk_1 : List UInt8 := dkwX4_desk_1 ++ []
def dkwX4_desk_0 : List UInt8 := [42, 3, 181, 0, 44, 27, 3, 16, 12, 184, 0, 52, 153, 0, 11, 42, 27, 182, 1, 95, 167, 0, 8, 42]
abbrev dktX4_desk_0 : List UInt8 := dkwX4_desk_0 ++ dktX4_desk_1
theorem dksX4_desk_0 : cX4_desk.data.toList.drop 0 = dktX4_desk_0 := by decide +kernel
theorem dksX4_desk_1 : cX4_desk.data.toList.drop 24 = dktX4_desk_1 := dk_seg dksX4_desk_0 24 rfl rfl
theorem dX4_desk_0 : decode cX4_desk 0 = .ok (.aload_n 0, 1) := dk_42 (dk_at dksX4_desk_0 0 rfl rfl)
theorem dX4_desk_1 : decode cX4_desk 1 = .ok (.iconst 0, 1) := dk_3 (dk_at dksX4_desk_0 1 rfl rfl)
theorem dX4_desk_2 : decode cX4_desk 2 = .ok (.putfield 44, 3) := dk_181 0 44 (dk_at dksX4_desk_0 2 rfl rfl)
theorem dX4_desk_5 : decode cX4_desk 5 = .ok (.iload_n 1, 1) := dk_27 (dk_at dksX4_desk_0 5 rfl rfl)
theorem dX4_desk_6 : decode cX4_desk 6 = .ok (.iconst 0, 1) := dk_3 (dk_at dksX4_desk_0 6 rfl rfl)
theorem dX4_desk_7 : decode cX4_desk 7 = .ok (.bipush 12, 2) := dk_16 12 (dk_at dksX4_desk_0 7 rfl rfl)
theorem dX4_desk_9 : decode cX4_desk 9 = .ok (.invokestatic 52, 3) := dk_184 0 52 (dk_at dksX4_desk_0 9 rfl rfl)
theorem dX4_desk_12 : decode cX4_desk 12 = .ok (.ifCond .eq 11, 3) := dk_153 0 11 (dk_at dksX4_desk_0 12 rfl rfl)
theorem dX4_desk_15 : decode cX4_desk 15 = .ok (.aload_n 0, 1) := dk_42 (dk_at dksX4_desk_0 15 rfl rfl)
theorem dX4_desk_16 : decode cX4_desk 16 = .ok (.iload_n 1, 1) := dk_27 (dk_at dksX4_desk_0 16 rfl rfl)
theorem dX4_desk_17 : decode cX4_desk 17 = .ok (.invokevirtual 351, 3) := dk_182 1 95 (dk_at dksX4_desk_0 17 rfl rfl)
theorem dX4_desk_20 : decode cX4_desk 20 = .ok (.goto 8, 3) := dk_167 0 8 (dk_at dksX4_desk_0 20 rfl rfl)
theorem dX4_desk_23 : decode cX4_desk 23 = .ok (.aload_n 0, 1) := dk_42 (dk_at dksX4_desk_0 23 rfl rfl)
theorem dX4_desk_24 : decode cX4_desk 24 = .ok (.iconst 1, 1) := dk_4 (dk_at dksX4_desk_1 0 rfl rfl)
theorem dX4_desk_25 : decode cX4_desk 25 = .ok (.invokevirtual 60, 3) := dk_182 0 60 (dk_at dksX4_desk_1 1 rfl rfl)
theorem dX4_desk_28 : decode cX4_desk 28 = .ok (.ireturn, 1) := dk_172 (dk_at dksX4_desk_1 4 rfl rfl)
abbrev cX4_deskNow : ByteArray := prog_13_method_70_code
def yX4_deskNow : MethodName := ⟨RX4, "deskNow", "(I)I"⟩
def dkwX4_deskNow_12 : List UInt8 := [132, 6, 1, 167, 255, 226, 132, 3, 1, 167, 255, 185, 28, 172, 42, 182, 1, 89, 172]
abbrev dktX4_deskNow_12 : List UInt8 := dkwX4_deskNow_12 ++ []
def dkwX4_deskNow_11 : List UInt8 := [162, 0, 29, 25, 4, 21, 6, 51, 54, 7, 28, 21, 7, 153, 0, 7, 4, 167, 0, 4, 3, 96, 61]
abbrev dktX4_deskNow_11 : List UInt8 := dkwX4_deskNow_11 ++ dktX4_deskNow_12
def dkwX4_deskNow_10 : List UInt8 := [182, 0, 90, 192, 0, 68, 180, 0, 156, 58, 4, 25, 4, 190, 54, 5, 3, 54, 6, 21, 6, 21, 5]
abbrev dktX4_deskNow_10 : List UInt8 := dkwX4_deskNow_10 ++ dktX4_deskNow_11
def dkwX4_deskNow_9 : List UInt8 := [167, 255, 225, 28, 172, 3, 62, 29, 42, 180, 0, 10, 182, 0, 48, 162, 0, 66, 42, 180, 0, 10, 29]
abbrev dktX4_deskNow_9 : List UInt8 := dkwX4_deskNow_9 ++ dktX4_deskNow_10
def dkwX4_deskNow_8 : List UInt8 := [162, 0, 26, 28, 42, 180, 0, 10, 29, 182, 0, 90, 192, 0, 68, 180, 1, 11, 96, 61, 132, 3, 1]
abbrev dktX4_deskNow_8 : List UInt8 := dkwX4_deskNow_8 ++ dktX4_deskNow_9
def dkwX4_deskNow_7 : List UInt8 := [96, 61, 132, 3, 1, 167, 255, 222, 28, 5, 108, 172, 3, 62, 29, 42, 180, 0, 10, 182, 0, 48]
abbrev dktX4_deskNow_7 : List UInt8 := dkwX4_deskNow_7 ++ dktX4_deskNow_8
def dkwX4_deskNow_6 : List UInt8 := [182, 0, 48, 162, 0, 29, 28, 42, 180, 0, 10, 29, 182, 0, 90, 192, 0, 68, 180, 0, 99, 184, 0, 94]
abbrev dktX4_deskNow_6 : List UInt8 := dkwX4_deskNow_6 ++ dktX4_deskNow_7
def dkwX4_deskNow_5 : List UInt8 := [96, 61, 132, 3, 1, 167, 255, 214, 28, 172, 42, 180, 0, 213, 172, 3, 62, 29, 42, 180, 0, 10]
abbrev dktX4_deskNow_5 : List UInt8 := dkwX4_deskNow_5 ++ dktX4_deskNow_6
def dkwX4_deskNow_4 : List UInt8 := [180, 0, 19, 29, 182, 0, 90, 192, 0, 122, 180, 0, 124, 27, 7, 100, 160, 0, 7, 4, 167, 0, 4, 3]
abbrev dktX4_deskNow_4 : List UInt8 := dkwX4_deskNow_4 ++ dktX4_deskNow_5
def dkwX4_deskNow_3 : List UInt8 := [180, 0, 19, 182, 0, 48, 172, 3, 62, 29, 42, 180, 0, 19, 182, 0, 48, 162, 0, 37, 28, 42]
abbrev dktX4_deskNow_3 : List UInt8 := dkwX4_deskNow_3 ++ dktX4_deskNow_4
def dkwX4_deskNow_2 : List UInt8 := [42, 180, 0, 57, 172, 42, 180, 0, 10, 182, 0, 48, 172, 42, 180, 0, 16, 182, 0, 48, 172, 42]
abbrev dktX4_deskNow_2 : List UInt8 := dkwX4_deskNow_2 ++ dktX4_deskNow_3
def dkwX4_deskNow_1 : List UInt8 := [170, 0, 0, 1, 47, 0, 0, 0, 0, 0, 0, 0, 11, 0, 0, 0, 61, 0, 0, 0, 66, 0, 0, 0, 74, 0, 0, 0, 82, 0, 0, 0, 90, 0, 0, 0, 90, 0, 0, 0, 90, 0, 0, 0, 90, 0, 0, 0, 139, 0, 0, 0, 144, 0, 0, 0, 187, 0, 0, 0, 225]
abbrev dktX4_deskNow_1 : List UInt8 := dkwX4_deskNow_1 ++ dktX4_deskNow_2
def dkwX4_deskNow_0 : List UInt8 := [3, 61, 27]
abbrev dktX4_deskNow_0 : List UInt8 := dkwX4_deskNow_0 ++ dktX4_deskNow_1
theorem dksX4_deskNow_0 : cX4_deskNow.data.toList.drop 0 = dktX4_deskNow_0 := by decide +kernel
theorem dksX4_deskNow_1 : cX4_deskNow.data.toList.drop 3 = dktX4_deskNow_1 := dk_seg dksX4_deskNow_0 3 rfl rfl
theorem dksX4_deskNow_2 : cX4_deskNow.data.toList.drop 64 = dktX4_deskNow_2 := dk_seg dksX4_deskNow_1 61 rfl rfl
theorem dksX4_deskNow_3 : cX4_deskNow.data.toList.drop 86 = dktX4_deskNow_3 := dk_seg dksX4_deskNow_2 22 rfl rfl
theorem dksX4_deskNow_4 : cX4_deskNow.data.toList.drop 108 = dktX4_deskNow_4 := dk_seg dksX4_deskNow_3 22 rfl rfl
theorem dksX4_deskNow_5 : cX4_deskNow.data.toList.drop 132 = dktX4_deskNow_5 := dk_seg dksX4_deskNow_4 24 rfl rfl
theorem dksX4_deskNow_6 : cX4_deskNow.data.toList.drop 154 = dktX4_deskNow_6 := dk_seg dksX4_deskNow_5 22 rfl rfl
theorem dksX4_deskNow_7 : cX4_deskNow.data.toList.drop 178 = dktX4_deskNow_7 := dk_seg dksX4_deskNow_6 24 rfl rfl
theorem dksX4_deskNow_8 : cX4_deskNow.data.toList.drop 200 = dktX4_deskNow_8 := dk_seg dksX4_deskNow_7 22 rfl rfl
theorem dksX4_deskNow_9 : cX4_deskNow.data.toList.drop 223 = dktX4_deskNow_9 := dk_seg dksX4_deskNow_8 23 rfl rfl
theorem dksX4_deskNow_10 : cX4_deskNow.data.toList.drop 246 = dktX4_deskNow_10 := dk_seg dksX4_deskNow_9 23 rfl rfl
theorem dksX4_deskNow_11 : cX4_deskNow.data.toList.drop 269 = dktX4_deskNow_11 := dk_seg dksX4_deskNow_10 23 rfl rfl
theorem dksX4_deskNow_12 : cX4_deskNow.data.toList.drop 292 = dktX4_deskNow_12 := dk_seg dksX4_deskNow_11 23 rfl rfl
theorem dX4_deskNow_0 : decode cX4_deskNow 0 = .ok (.iconst 0, 1) := dk_3 (dk_at dksX4_deskNow_0 0 rfl rfl)
theorem dX4_deskNow_1 : decode cX4_deskNow 1 = .ok (.istore_n 2, 1) := dk_61 (dk_at dksX4_deskNow_0 1 rfl rfl)
theorem dX4_deskNow_2 : decode cX4_deskNow 2 = .ok (.iload_n 1, 1) := dk_27 (dk_at dksX4_deskNow_0 2 rfl rfl)
theorem dX4_deskNow_3 : decode cX4_deskNow 3 = .ok (.tableswitch 303 0 11 #[61, 66, 74, 82, 90, 90, 90, 90, 139, 144, 187, 225], 61) := by decide +kernel
theorem dX4_deskNow_64 : decode cX4_deskNow 64 = .ok (.aload_n 0, 1) := dk_42 (dk_at dksX4_deskNow_2 0 rfl rfl)
theorem dX4_deskNow_65 : decode cX4_deskNow 65 = .ok (.getfield 57, 3) := dk_180 0 57 (dk_at dksX4_deskNow_2 1 rfl rfl)
theorem dX4_deskNow_68 : decode cX4_deskNow 68 = .ok (.ireturn, 1) := dk_172 (dk_at dksX4_deskNow_2 4 rfl rfl)
theorem dX4_deskNow_69 : decode cX4_deskNow 69 = .ok (.aload_n 0, 1) := dk_42 (dk_at dksX4_deskNow_2 5 rfl rfl)
theorem dX4_deskNow_70 : decode cX4_deskNow 70 = .ok (.getfield 10, 3) := dk_180 0 10 (dk_at dksX4_deskNow_2 6 rfl rfl)
theorem dX4_deskNow_73 : decode cX4_deskNow 73 = .ok (.invokevirtual 48, 3) := dk_182 0 48 (dk_at dksX4_deskNow_2 9 rfl rfl)
theorem dX4_deskNow_76 : decode cX4_deskNow 76 = .ok (.ireturn, 1) := dk_172 (dk_at dksX4_deskNow_2 12 rfl rfl)
theorem dX4_deskNow_77 : decode cX4_deskNow 77 = .ok (.aload_n 0, 1) := dk_42 (dk_at dksX4_deskNow_2 13 rfl rfl)
theorem dX4_deskNow_78 : decode cX4_deskNow 78 = .ok (.getfield 16, 3) := dk_180 0 16 (dk_at dksX4_deskNow_2 14 rfl rfl)
theorem dX4_deskNow_81 : decode cX4_deskNow 81 = .ok (.invokevirtual 48, 3) := dk_182 0 48 (dk_at dksX4_deskNow_2 17 rfl rfl)
theorem dX4_deskNow_84 : decode cX4_deskNow 84 = .ok (.ireturn, 1) := dk_172 (dk_at dksX4_deskNow_2 20 rfl rfl)
theorem dX4_deskNow_85 : decode cX4_deskNow 85 = .ok (.aload_n 0, 1) := dk_42 (dk_at dksX4_deskNow_2 21 rfl rfl)
theorem dX4_deskNow_86 : decode cX4_deskNow 86 = .ok (.getfield 19, 3) := dk_180 0 19 (dk_at dksX4_deskNow_3 0 rfl rfl)
theorem dX4_deskNow_89 : decode cX4_deskNow 89 = .ok (.invokevirtual 48, 3) := dk_182 0 48 (dk_at dksX4_deskNow_3 3 rfl rfl)
theorem dX4_deskNow_92 : decode cX4_deskNow 92 = .ok (.ireturn, 1) := dk_172 (dk_at dksX4_deskNow_3 6 rfl rfl)
theorem dX4_deskNow_93 : decode cX4_deskNow 93 = .ok (.iconst 0, 1) := dk_3 (dk_at dksX4_deskNow_3 7 rfl rfl)
theorem dX4_deskNow_94 : decode cX4_deskNow 94 = .ok (.istore_n 3, 1) := dk_62 (dk_at dksX4_deskNow_3 8 rfl rfl)
theorem dX4_deskNow_95 : decode cX4_deskNow 95 = .ok (.iload_n 3, 1) := dk_29 (dk_at dksX4_deskNow_3 9 rfl rfl)
theorem dX4_deskNow_96 : decode cX4_deskNow 96 = .ok (.aload_n 0, 1) := dk_42 (dk_at dksX4_deskNow_3 10 rfl rfl)
theorem dX4_deskNow_97 : decode cX4_deskNow 97 = .ok (.getfield 19, 3) := dk_180 0 19 (dk_at dksX4_deskNow_3 11 rfl rfl)
theorem dX4_deskNow_100 : decode cX4_deskNow 100 = .ok (.invokevirtual 48, 3) := dk_182 0 48 (dk_at dksX4_deskNow_3 14 rfl rfl)
theorem dX4_deskNow_103 : decode cX4_deskNow 103 = .ok (.if_icmp .ge 37, 3) := dk_162 0 37 (dk_at dksX4_deskNow_3 17 rfl rfl)
theorem dX4_deskNow_106 : decode cX4_deskNow 106 = .ok (.iload_n 2, 1) := dk_28 (dk_at dksX4_deskNow_3 20 rfl rfl)
theorem dX4_deskNow_107 : decode cX4_deskNow 107 = .ok (.aload_n 0, 1) := dk_42 (dk_at dksX4_deskNow_3 21 rfl rfl)
theorem dX4_deskNow_108 : decode cX4_deskNow 108 = .ok (.getfield 19, 3) := dk_180 0 19 (dk_at dksX4_deskNow_4 0 rfl rfl)
theorem dX4_deskNow_111 : decode cX4_deskNow 111 = .ok (.iload_n 3, 1) := dk_29 (dk_at dksX4_deskNow_4 3 rfl rfl)
theorem dX4_deskNow_112 : decode cX4_deskNow 112 = .ok (.invokevirtual 90, 3) := dk_182 0 90 (dk_at dksX4_deskNow_4 4 rfl rfl)
theorem dX4_deskNow_115 : decode cX4_deskNow 115 = .ok (.checkcast 122, 3) := dk_192 0 122 (dk_at dksX4_deskNow_4 7 rfl rfl)
theorem dX4_deskNow_118 : decode cX4_deskNow 118 = .ok (.getfield 124, 3) := dk_180 0 124 (dk_at dksX4_deskNow_4 10 rfl rfl)
theorem dX4_deskNow_121 : decode cX4_deskNow 121 = .ok (.iload_n 1, 1) := dk_27 (dk_at dksX4_deskNow_4 13 rfl rfl)
theorem dX4_deskNow_122 : decode cX4_deskNow 122 = .ok (.iconst 4, 1) := dk_7 (dk_at dksX4_deskNow_4 14 rfl rfl)
theorem dX4_deskNow_123 : decode cX4_deskNow 123 = .ok (.isub, 1) := dk_100 (dk_at dksX4_deskNow_4 15 rfl rfl)
theorem dX4_deskNow_124 : decode cX4_deskNow 124 = .ok (.if_icmp .ne 7, 3) := dk_160 0 7 (dk_at dksX4_deskNow_4 16 rfl rfl)
theorem dX4_deskNow_127 : decode cX4_deskNow 127 = .ok (.iconst 1, 1) := dk_4 (dk_at dksX4_deskNow_4 19 rfl rfl)
theorem dX4_deskNow_128 : decode cX4_deskNow 128 = .ok (.goto 4, 3) := dk_167 0 4 (dk_at dksX4_deskNow_4 20 rfl rfl)
theorem dX4_deskNow_131 : decode cX4_deskNow 131 = .ok (.iconst 0, 1) := dk_3 (dk_at dksX4_deskNow_4 23 rfl rfl)
theorem dX4_deskNow_132 : decode cX4_deskNow 132 = .ok (.iadd, 1) := dk_96 (dk_at dksX4_deskNow_5 0 rfl rfl)
theorem dX4_deskNow_133 : decode cX4_deskNow 133 = .ok (.istore_n 2, 1) := dk_61 (dk_at dksX4_deskNow_5 1 rfl rfl)
theorem dX4_deskNow_134 : decode cX4_deskNow 134 = .ok (.iinc 3 1, 3) := dk_132 3 1 (dk_at dksX4_deskNow_5 2 rfl rfl)
theorem dX4_deskNow_137 : decode cX4_deskNow 137 = .ok (.goto (-42), 3) := dk_167 255 214 (dk_at dksX4_deskNow_5 5 rfl rfl)
theorem dX4_deskNow_140 : decode cX4_deskNow 140 = .ok (.iload_n 2, 1) := dk_28 (dk_at dksX4_deskNow_5 8 rfl rfl)
theorem dX4_deskNow_141 : decode cX4_deskNow 141 = .ok (.ireturn, 1) := dk_172 (dk_at dksX4_deskNow_5 9 rfl rfl)
theorem dX4_deskNow_142 : decode cX4_deskNow 142 = .ok (.aload_n 0, 1) := dk_42 (dk_at dksX4_deskNow_5 10 rfl rfl)
theorem dX4_deskNow_143 : decode cX4_deskNow 143 = .ok (.getfield 213, 3) := dk_180 0 213 (dk_at dksX4_deskNow_5 11 rfl rfl)
theorem dX4_deskNow_146 : decode cX4_deskNow 146 = .ok (.ireturn, 1) := dk_172 (dk_at dksX4_deskNow_5 14 rfl rfl)
theorem dX4_deskNow_147 : decode cX4_deskNow 147 = .ok (.iconst 0, 1) := dk_3 (dk_at dksX4_deskNow_5 15 rfl rfl)
theorem dX4_deskNow_148 : decode cX4_deskNow 148 = .ok (.istore_n 3, 1) := dk_62 (dk_at dksX4_deskNow_5 16 rfl rfl)
theorem dX4_deskNow_149 : decode cX4_deskNow 149 = .ok (.iload_n 3, 1) := dk_29 (dk_at dksX4_deskNow_5 17 rfl rfl)
theorem dX4_deskNow_150 : decode cX4_deskNow 150 = .ok (.aload_n 0, 1) := dk_42 (dk_at dksX4_deskNow_5 18 rfl rfl)
theorem dX4_deskNow_151 : decode cX4_deskNow 151 = .ok (.getfield 10, 3) := dk_180 0 10 (dk_at dksX4_deskNow_5 19 rfl rfl)
theorem dX4_deskNow_154 : decode cX4_deskNow 154 = .ok (.invokevirtual 48, 3) := dk_182 0 48 (dk_at dksX4_deskNow_6 0 rfl rfl)
theorem dX4_deskNow_157 : decode cX4_deskNow 157 = .ok (.if_icmp .ge 29, 3) := dk_162 0 29 (dk_at dksX4_deskNow_6 3 rfl rfl)
theorem dX4_deskNow_160 : decode cX4_deskNow 160 = .ok (.iload_n 2, 1) := dk_28 (dk_at dksX4_deskNow_6 6 rfl rfl)
theorem dX4_deskNow_161 : decode cX4_deskNow 161 = .ok (.aload_n 0, 1) := dk_42 (dk_at dksX4_deskNow_6 7 rfl rfl)
theorem dX4_deskNow_162 : decode cX4_deskNow 162 = .ok (.getfield 10, 3) := dk_180 0 10 (dk_at dksX4_deskNow_6 8 rfl rfl)
theorem dX4_deskNow_165 : decode cX4_deskNow 165 = .ok (.iload_n 3, 1) := dk_29 (dk_at dksX4_deskNow_6 11 rfl rfl)
theorem dX4_deskNow_166 : decode cX4_deskNow 166 = .ok (.invokevirtual 90, 3) := dk_182 0 90 (dk_at dksX4_deskNow_6 12 rfl rfl)
theorem dX4_deskNow_169 : decode cX4_deskNow 169 = .ok (.checkcast 68, 3) := dk_192 0 68 (dk_at dksX4_deskNow_6 15 rfl rfl)
theorem dX4_deskNow_172 : decode cX4_deskNow 172 = .ok (.getfield 99, 3) := dk_180 0 99 (dk_at dksX4_deskNow_6 18 rfl rfl)
theorem dX4_deskNow_175 : decode cX4_deskNow 175 = .ok (.invokestatic 94, 3) := dk_184 0 94 (dk_at dksX4_deskNow_6 21 rfl rfl)
theorem dX4_deskNow_178 : decode cX4_deskNow 178 = .ok (.iadd, 1) := dk_96 (dk_at dksX4_deskNow_7 0 rfl rfl)
theorem dX4_deskNow_179 : decode cX4_deskNow 179 = .ok (.istore_n 2, 1) := dk_61 (dk_at dksX4_deskNow_7 1 rfl rfl)
theorem dX4_deskNow_180 : decode cX4_deskNow 180 = .ok (.iinc 3 1, 3) := dk_132 3 1 (dk_at dksX4_deskNow_7 2 rfl rfl)
theorem dX4_deskNow_183 : decode cX4_deskNow 183 = .ok (.goto (-34), 3) := dk_167 255 222 (dk_at dksX4_deskNow_7 5 rfl rfl)
theorem dX4_deskNow_186 : decode cX4_deskNow 186 = .ok (.iload_n 2, 1) := dk_28 (dk_at dksX4_deskNow_7 8 rfl rfl)
theorem dX4_deskNow_187 : decode cX4_deskNow 187 = .ok (.iconst 2, 1) := dk_5 (dk_at dksX4_deskNow_7 9 rfl rfl)
theorem dX4_deskNow_188 : decode cX4_deskNow 188 = .ok (.idiv, 1) := dk_108 (dk_at dksX4_deskNow_7 10 rfl rfl)
theorem dX4_deskNow_189 : decode cX4_deskNow 189 = .ok (.ireturn, 1) := dk_172 (dk_at dksX4_deskNow_7 11 rfl rfl)
theorem dX4_deskNow_190 : decode cX4_deskNow 190 = .ok (.iconst 0, 1) := dk_3 (dk_at dksX4_deskNow_7 12 rfl rfl)
theorem dX4_deskNow_191 : decode cX4_deskNow 191 = .ok (.istore_n 3, 1) := dk_62 (dk_at dksX4_deskNow_7 13 rfl rfl)
theorem dX4_deskNow_192 : decode cX4_deskNow 192 = .ok (.iload_n 3, 1) := dk_29 (dk_at dksX4_deskNow_7 14 rfl rfl)
theorem dX4_deskNow_193 : decode cX4_deskNow 193 = .ok (.aload_n 0, 1) := dk_42 (dk_at dksX4_deskNow_7 15 rfl rfl)
theorem dX4_deskNow_194 : decode cX4_deskNow 194 = .ok (.getfield 10, 3) := dk_180 0 10 (dk_at dksX4_deskNow_7 16 rfl rfl)
theorem dX4_deskNow_197 : decode cX4_deskNow 197 = .ok (.invokevirtual 48, 3) := dk_182 0 48 (dk_at dksX4_deskNow_7 19 rfl rfl)
theorem dX4_deskNow_200 : decode cX4_deskNow 200 = .ok (.if_icmp .ge 26, 3) := dk_162 0 26 (dk_at dksX4_deskNow_8 0 rfl rfl)
theorem dX4_deskNow_203 : decode cX4_deskNow 203 = .ok (.iload_n 2, 1) := dk_28 (dk_at dksX4_deskNow_8 3 rfl rfl)
theorem dX4_deskNow_204 : decode cX4_deskNow 204 = .ok (.aload_n 0, 1) := dk_42 (dk_at dksX4_deskNow_8 4 rfl rfl)
theorem dX4_deskNow_205 : decode cX4_deskNow 205 = .ok (.getfield 10, 3) := dk_180 0 10 (dk_at dksX4_deskNow_8 5 rfl rfl)
theorem dX4_deskNow_208 : decode cX4_deskNow 208 = .ok (.iload_n 3, 1) := dk_29 (dk_at dksX4_deskNow_8 8 rfl rfl)
theorem dX4_deskNow_209 : decode cX4_deskNow 209 = .ok (.invokevirtual 90, 3) := dk_182 0 90 (dk_at dksX4_deskNow_8 9 rfl rfl)
theorem dX4_deskNow_212 : decode cX4_deskNow 212 = .ok (.checkcast 68, 3) := dk_192 0 68 (dk_at dksX4_deskNow_8 12 rfl rfl)
theorem dX4_deskNow_215 : decode cX4_deskNow 215 = .ok (.getfield 267, 3) := dk_180 1 11 (dk_at dksX4_deskNow_8 15 rfl rfl)
theorem dX4_deskNow_218 : decode cX4_deskNow 218 = .ok (.iadd, 1) := dk_96 (dk_at dksX4_deskNow_8 18 rfl rfl)
theorem dX4_deskNow_219 : decode cX4_deskNow 219 = .ok (.istore_n 2, 1) := dk_61 (dk_at dksX4_deskNow_8 19 rfl rfl)
theorem dX4_deskNow_220 : decode cX4_deskNow 220 = .ok (.iinc 3 1, 3) := dk_132 3 1 (dk_at dksX4_deskNow_8 20 rfl rfl)
theorem dX4_deskNow_223 : decode cX4_deskNow 223 = .ok (.goto (-31), 3) := dk_167 255 225 (dk_at dksX4_deskNow_9 0 rfl rfl)
theorem dX4_deskNow_226 : decode cX4_deskNow 226 = .ok (.iload_n 2, 1) := dk_28 (dk_at dksX4_deskNow_9 3 rfl rfl)
theorem dX4_deskNow_227 : decode cX4_deskNow 227 = .ok (.ireturn, 1) := dk_172 (dk_at dksX4_deskNow_9 4 rfl rfl)
theorem dX4_deskNow_228 : decode cX4_deskNow 228 = .ok (.iconst 0, 1) := dk_3 (dk_at dksX4_deskNow_9 5 rfl rfl)
theorem dX4_deskNow_229 : decode cX4_deskNow 229 = .ok (.istore_n 3, 1) := dk_62 (dk_at dksX4_deskNow_9 6 rfl rfl)
theorem dX4_deskNow_230 : decode cX4_deskNow 230 = .ok (.iload_n 3, 1) := dk_29 (dk_at dksX4_deskNow_9 7 rfl rfl)
theorem dX4_deskNow_231 : decode cX4_deskNow 231 = .ok (.aload_n 0, 1) := dk_42 (dk_at dksX4_deskNow_9 8 rfl rfl)
theorem dX4_deskNow_232 : decode cX4_deskNow 232 = .ok (.getfield 10, 3) := dk_180 0 10 (dk_at dksX4_deskNow_9 9 rfl rfl)
theorem dX4_deskNow_235 : decode cX4_deskNow 235 = .ok (.invokevirtual 48, 3) := dk_182 0 48 (dk_at dksX4_deskNow_9 12 rfl rfl)
theorem dX4_deskNow_238 : decode cX4_deskNow 238 = .ok (.if_icmp .ge 66, 3) := dk_162 0 66 (dk_at dksX4_deskNow_9 15 rfl rfl)
theorem dX4_deskNow_241 : decode cX4_deskNow 241 = .ok (.aload_n 0, 1) := dk_42 (dk_at dksX4_deskNow_9 18 rfl rfl)
theorem dX4_deskNow_242 : decode cX4_deskNow 242 = .ok (.getfield 10, 3) := dk_180 0 10 (dk_at dksX4_deskNow_9 19 rfl rfl)
theorem dX4_deskNow_245 : decode cX4_deskNow 245 = .ok (.iload_n 3, 1) := dk_29 (dk_at dksX4_deskNow_9 22 rfl rfl)
theorem dX4_deskNow_246 : decode cX4_deskNow 246 = .ok (.invokevirtual 90, 3) := dk_182 0 90 (dk_at dksX4_deskNow_10 0 rfl rfl)
theorem dX4_deskNow_249 : decode cX4_deskNow 249 = .ok (.checkcast 68, 3) := dk_192 0 68 (dk_at dksX4_deskNow_10 3 rfl rfl)
theorem dX4_deskNow_252 : decode cX4_deskNow 252 = .ok (.getfield 156, 3) := dk_180 0 156 (dk_at dksX4_deskNow_10 6 rfl rfl)
theorem dX4_deskNow_255 : decode cX4_deskNow 255 = .ok (.astore 4, 2) := dk_58 4 (dk_at dksX4_deskNow_10 9 rfl rfl)
theorem dX4_deskNow_257 : decode cX4_deskNow 257 = .ok (.aload 4, 2) := dk_25 4 (dk_at dksX4_deskNow_10 11 rfl rfl)
theorem dX4_deskNow_259 : decode cX4_deskNow 259 = .ok (.arraylength, 1) := dk_190 (dk_at dksX4_deskNow_10 13 rfl rfl)
theorem dX4_deskNow_260 : decode cX4_deskNow 260 = .ok (.istore 5, 2) := dk_54 5 (dk_at dksX4_deskNow_10 14 rfl rfl)
theorem dX4_deskNow_262 : decode cX4_deskNow 262 = .ok (.iconst 0, 1) := dk_3 (dk_at dksX4_deskNow_10 16 rfl rfl)
theorem dX4_deskNow_263 : decode cX4_deskNow 263 = .ok (.istore 6, 2) := dk_54 6 (dk_at dksX4_deskNow_10 17 rfl rfl)
theorem dX4_deskNow_265 : decode cX4_deskNow 265 = .ok (.iload 6, 2) := dk_21 6 (dk_at dksX4_deskNow_10 19 rfl rfl)
theorem dX4_deskNow_267 : decode cX4_deskNow 267 = .ok (.iload 5, 2) := dk_21 5 (dk_at dksX4_deskNow_10 21 rfl rfl)
theorem dX4_deskNow_269 : decode cX4_deskNow 269 = .ok (.if_icmp .ge 29, 3) := dk_162 0 29 (dk_at dksX4_deskNow_11 0 rfl rfl)
theorem dX4_deskNow_272 : decode cX4_deskNow 272 = .ok (.aload 4, 2) := dk_25 4 (dk_at dksX4_deskNow_11 3 rfl rfl)
theorem dX4_deskNow_274 : decode cX4_deskNow 274 = .ok (.iload 6, 2) := dk_21 6 (dk_at dksX4_deskNow_11 5 rfl rfl)
theorem dX4_deskNow_276 : decode cX4_deskNow 276 = .ok (.baload, 1) := dk_51 (dk_at dksX4_deskNow_11 7 rfl rfl)
theorem dX4_deskNow_277 : decode cX4_deskNow 277 = .ok (.istore 7, 2) := dk_54 7 (dk_at dksX4_deskNow_11 8 rfl rfl)
theorem dX4_deskNow_279 : decode cX4_deskNow 279 = .ok (.iload_n 2, 1) := dk_28 (dk_at dksX4_deskNow_11 10 rfl rfl)
theorem dX4_deskNow_280 : decode cX4_deskNow 280 = .ok (.iload 7, 2) := dk_21 7 (dk_at dksX4_deskNow_11 11 rfl rfl)
theorem dX4_deskNow_282 : decode cX4_deskNow 282 = .ok (.ifCond .eq 7, 3) := dk_153 0 7 (dk_at dksX4_deskNow_11 13 rfl rfl)
theorem dX4_deskNow_285 : decode cX4_deskNow 285 = .ok (.iconst 1, 1) := dk_4 (dk_at dksX4_deskNow_11 16 rfl rfl)
theorem dX4_deskNow_286 : decode cX4_deskNow 286 = .ok (.goto 4, 3) := dk_167 0 4 (dk_at dksX4_deskNow_11 17 rfl rfl)
theorem dX4_deskNow_289 : decode cX4_deskNow 289 = .ok (.iconst 0, 1) := dk_3 (dk_at dksX4_deskNow_11 20 rfl rfl)
theorem dX4_deskNow_290 : decode cX4_deskNow 290 = .ok (.iadd, 1) := dk_96 (dk_at dksX4_deskNow_11 21 rfl rfl)
theorem dX4_deskNow_291 : decode cX4_deskNow 291 = .ok (.istore_n 2, 1) := dk_61 (dk_at dksX4_deskNow_11 22 rfl rfl)
theorem dX4_deskNow_292 : decode cX4_deskNow 292 = .ok (.iinc 6 1, 3) := dk_132 6 1 (dk_at dksX4_deskNow_12 0 rfl rfl)
theorem dX4_deskNow_295 : decode cX4_deskNow 295 = .ok (.goto (-30), 3) := dk_167 255 226 (dk_at dksX4_deskNow_12 3 rfl rfl)
theorem dX4_deskNow_298 : decode cX4_deskNow 298 = .ok (.iinc 3 1, 3) := dk_132 3 1 (dk_at dksX4_deskNow_12 6 rfl rfl)
theorem dX4_deskNow_301 : decode cX4_deskNow 301 = .ok (.goto (-71), 3) := dk_167 255 185 (dk_at dksX4_deskNow_12 9 rfl rfl)
theorem dX4_deskNow_304 : decode cX4_deskNow 304 = .ok (.iload_n 2, 1) := dk_28 (dk_at dksX4_deskNow_12 12 rfl rfl)
theorem dX4_deskNow_305 : decode cX4_deskNow 305 = .ok (.ireturn, 1) := dk_172 (dk_at dksX4_deskNow_12 13 rfl rfl)
theorem dX4_deskNow_306 : decode cX4_deskNow 306 = .ok (.aload_n 0, 1) := dk_42 (dk_at dksX4_deskNow_12 14 rfl rfl)
theorem dX4_deskNow_307 : decode cX4_deskNow 307 = .ok (.invokevirtual 345, 3) := dk_182 1 89 (dk_at dksX4_deskNow_12 15 rfl rfl)
theorem dX4_deskNow_310 : decode cX4_deskNow 310 = .ok (.ireturn, 1) := dk_172 (dk_at dksX4_deskNow_12 18 rfl rfl)
abbrev cX4_apart : ByteArray := prog_13_method_71_code
def yX4_apart : MethodName := ⟨RX4, "apart", "()I"⟩
def dkwX4_apart_2 : List UInt8 := [60, 28, 21, 4, 184, 1, 25, 61, 132, 3, 1, 167, 255, 219, 27, 28, 100, 172]
abbrev dktX4_apart_2 : List UInt8 := dkwX4_apart_2 ++ []
def dkwX4_apart_1 : List UInt8 := [180, 0, 10, 182, 0, 48, 162, 0, 32, 42, 29, 182, 1, 37, 5, 46, 54, 4, 27, 21, 4, 184, 0, 244]
abbrev dktX4_apart_1 : List UInt8 := dkwX4_apart_1 ++ dktX4_apart_2
def dkwX4_apart_0 : List UInt8 := [3, 60, 42, 180, 0, 10, 182, 1, 92, 153, 0, 7, 3, 167, 0, 6, 17, 39, 15, 61, 3, 62, 29, 42]
abbrev dktX4_apart_0 : List UInt8 := dkwX4_apart_0 ++ dktX4_apart_1
theorem dksX4_apart_0 : cX4_apart.data.toList.drop 0 = dktX4_apart_0 := by decide +kernel
theorem dksX4_apart_1 : cX4_apart.data.toList.drop 24 = dktX4_apart_1 := dk_seg dksX4_apart_0 24 rfl rfl
theorem dksX4_apart_2 : cX4_apart.data.toList.drop 48 = dktX4_apart_2 := dk_seg dksX4_apart_1 24 rfl rfl
theorem dX4_apart_0 : decode cX4_apart 0 = .ok (.iconst 0, 1) := dk_3 (dk_at dksX4_apart_0 0 rfl rfl)
theorem dX4_apart_1 : decode cX4_apart 1 = .ok (.istore_n 1, 1) := dk_60 (dk_at dksX4_apart_0 1 rfl rfl)
theorem dX4_apart_2 : decode cX4_apart 2 = .ok (.aload_n 0, 1) := dk_42 (dk_at dksX4_apart_0 2 rfl rfl)
theorem dX4_apart_3 : decode cX4_apart 3 = .ok (.getfield 10, 3) := dk_180 0 10 (dk_at dksX4_apart_0 3 rfl rfl)
theorem dX4_apart_6 : decode cX4_apart 6 = .ok (.invokevirtual 348, 3) := dk_182 1 92 (dk_at dksX4_apart_0 6 rfl rfl)
theorem dX4_apart_9 : decode cX4_apart 9 = .ok (.ifCond .eq 7, 3) := dk_153 0 7 (dk_at dksX4_apart_0 9 rfl rfl)
theorem dX4_apart_12 : decode cX4_apart 12 = .ok (.iconst 0, 1) := dk_3 (dk_at dksX4_apart_0 12 rfl rfl)
theorem dX4_apart_13 : decode cX4_apart 13 = .ok (.goto 6, 3) := dk_167 0 6 (dk_at dksX4_apart_0 13 rfl rfl)
theorem dX4_apart_16 : decode cX4_apart 16 = .ok (.sipush 9999, 3) := dk_17 39 15 (dk_at dksX4_apart_0 16 rfl rfl)
theorem dX4_apart_19 : decode cX4_apart 19 = .ok (.istore_n 2, 1) := dk_61 (dk_at dksX4_apart_0 19 rfl rfl)
theorem dX4_apart_20 : decode cX4_apart 20 = .ok (.iconst 0, 1) := dk_3 (dk_at dksX4_apart_0 20 rfl rfl)
theorem dX4_apart_21 : decode cX4_apart 21 = .ok (.istore_n 3, 1) := dk_62 (dk_at dksX4_apart_0 21 rfl rfl)
theorem dX4_apart_22 : decode cX4_apart 22 = .ok (.iload_n 3, 1) := dk_29 (dk_at dksX4_apart_0 22 rfl rfl)
theorem dX4_apart_23 : decode cX4_apart 23 = .ok (.aload_n 0, 1) := dk_42 (dk_at dksX4_apart_0 23 rfl rfl)
theorem dX4_apart_24 : decode cX4_apart 24 = .ok (.getfield 10, 3) := dk_180 0 10 (dk_at dksX4_apart_1 0 rfl rfl)
theorem dX4_apart_27 : decode cX4_apart 27 = .ok (.invokevirtual 48, 3) := dk_182 0 48 (dk_at dksX4_apart_1 3 rfl rfl)
theorem dX4_apart_30 : decode cX4_apart 30 = .ok (.if_icmp .ge 32, 3) := dk_162 0 32 (dk_at dksX4_apart_1 6 rfl rfl)
theorem dX4_apart_33 : decode cX4_apart 33 = .ok (.aload_n 0, 1) := dk_42 (dk_at dksX4_apart_1 9 rfl rfl)
theorem dX4_apart_34 : decode cX4_apart 34 = .ok (.iload_n 3, 1) := dk_29 (dk_at dksX4_apart_1 10 rfl rfl)
theorem dX4_apart_35 : decode cX4_apart 35 = .ok (.invokevirtual 293, 3) := dk_182 1 37 (dk_at dksX4_apart_1 11 rfl rfl)
theorem dX4_apart_38 : decode cX4_apart 38 = .ok (.iconst 2, 1) := dk_5 (dk_at dksX4_apart_1 14 rfl rfl)
theorem dX4_apart_39 : decode cX4_apart 39 = .ok (.iaload, 1) := dk_46 (dk_at dksX4_apart_1 15 rfl rfl)
theorem dX4_apart_40 : decode cX4_apart 40 = .ok (.istore 4, 2) := dk_54 4 (dk_at dksX4_apart_1 16 rfl rfl)
theorem dX4_apart_42 : decode cX4_apart 42 = .ok (.iload_n 1, 1) := dk_27 (dk_at dksX4_apart_1 18 rfl rfl)
theorem dX4_apart_43 : decode cX4_apart 43 = .ok (.iload 4, 2) := dk_21 4 (dk_at dksX4_apart_1 19 rfl rfl)
theorem dX4_apart_45 : decode cX4_apart 45 = .ok (.invokestatic 244, 3) := dk_184 0 244 (dk_at dksX4_apart_1 21 rfl rfl)
theorem dX4_apart_48 : decode cX4_apart 48 = .ok (.istore_n 1, 1) := dk_60 (dk_at dksX4_apart_2 0 rfl rfl)
theorem dX4_apart_49 : decode cX4_apart 49 = .ok (.iload_n 2, 1) := dk_28 (dk_at dksX4_apart_2 1 rfl rfl)
theorem dX4_apart_50 : decode cX4_apart 50 = .ok (.iload 4, 2) := dk_21 4 (dk_at dksX4_apart_2 2 rfl rfl)
theorem dX4_apart_52 : decode cX4_apart 52 = .ok (.invokestatic 281, 3) := dk_184 1 25 (dk_at dksX4_apart_2 4 rfl rfl)
theorem dX4_apart_55 : decode cX4_apart 55 = .ok (.istore_n 2, 1) := dk_61 (dk_at dksX4_apart_2 7 rfl rfl)
theorem dX4_apart_56 : decode cX4_apart 56 = .ok (.iinc 3 1, 3) := dk_132 3 1 (dk_at dksX4_apart_2 8 rfl rfl)
theorem dX4_apart_59 : decode cX4_apart 59 = .ok (.goto (-37), 3) := dk_167 255 219 (dk_at dksX4_apart_2 11 rfl rfl)
theorem dX4_apart_62 : decode cX4_apart 62 = .ok (.iload_n 1, 1) := dk_27 (dk_at dksX4_apart_2 14 rfl rfl)
theorem dX4_apart_63 : decode cX4_apart 63 = .ok (.iload_n 2, 1) := dk_28 (dk_at dksX4_apart_2 15 rfl rfl)
theorem dX4_apart_64 : decode cX4_apart 64 = .ok (.isub, 1) := dk_100 (dk_at dksX4_apart_2 16 rfl rfl)
theorem dX4_apart_65 : decode cX4_apart 65 = .ok (.ireturn, 1) := dk_172 (dk_at dksX4_apart_2 17 rfl rfl)
abbrev cX4_tell : ByteArray := prog_13_method_73_code
def yX4_tell : MethodName := ⟨RX4, "tell", "(I)Ljava/lang/String;"⟩
def dkwX4_tell_9 : List UInt8 := [182, 1, 76, 21, 6, 182, 1, 80, 87, 4, 54, 5, 132, 6, 1, 167, 255, 198, 25, 4, 182, 1, 85, 176]
abbrev dktX4_tell_9 : List UInt8 := dkwX4_tell_9 ++ []
def dkwX4_tell_8 : List UInt8 := [154, 0, 6, 167, 0, 31, 25, 4, 21, 5, 153, 0, 9, 19, 1, 112, 167, 0, 6, 19, 1, 114]
abbrev dktX4_tell_8 : List UInt8 := dkwX4_tell_8 ++ dktX4_tell_9
def dkwX4_tell_7 : List UInt8 := [3, 54, 6, 21, 6, 42, 180, 0, 10, 182, 0, 48, 162, 0, 52, 44, 180, 0, 160, 21, 6, 184, 0, 102]
abbrev dktX4_tell_7 : List UInt8 := dkwX4_tell_7 ++ dktX4_tell_8
def dkwX4_tell_6 : List UInt8 := [180, 0, 124, 4, 159, 0, 17, 44, 180, 0, 124, 5, 159, 0, 9, 25, 4, 182, 1, 85, 176, 3, 54, 5]
abbrev dktX4_tell_6 : List UInt8 := dkwX4_tell_6 ++ dktX4_tell_7
def dkwX4_tell_5 : List UInt8 := [182, 1, 76, 44, 180, 0, 143, 182, 1, 80, 19, 1, 110, 182, 1, 76, 45, 182, 1, 76, 87, 44]
abbrev dktX4_tell_5 : List UInt8 := dkwX4_tell_5 ++ dktX4_tell_6
def dkwX4_tell_4 : List UInt8 := [25, 4, 27, 182, 1, 80, 19, 1, 106, 182, 1, 76, 44, 180, 0, 130, 182, 1, 80, 19, 1, 108]
abbrev dktX4_tell_4 : List UInt8 := dkwX4_tell_4 ++ dktX4_tell_5
def dkwX4_tell_3 : List UInt8 := [5, 160, 0, 9, 19, 1, 102, 167, 0, 6, 19, 1, 104, 78, 187, 1, 69, 89, 183, 1, 71, 58, 4]
abbrev dktX4_tell_3 : List UInt8 := dkwX4_tell_3 ++ dktX4_tell_4
def dkwX4_tell_2 : List UInt8 := [19, 1, 98, 167, 0, 34, 44, 180, 0, 124, 4, 160, 0, 9, 19, 1, 100, 167, 0, 20, 44, 180, 0, 124]
abbrev dktX4_tell_2 : List UInt8 := dkwX4_tell_2 ++ dktX4_tell_3
def dkwX4_tell_1 : List UInt8 := [19, 1, 67, 176, 42, 180, 0, 19, 27, 182, 0, 90, 192, 0, 122, 77, 44, 180, 0, 124, 154, 0, 9]
abbrev dktX4_tell_1 : List UInt8 := dkwX4_tell_1 ++ dktX4_tell_2
def dkwX4_tell_0 : List UInt8 := [42, 42, 27, 182, 0, 216, 153, 0, 7, 3, 167, 0, 4, 4, 181, 0, 44, 42, 180, 0, 44, 158, 0, 7]
abbrev dktX4_tell_0 : List UInt8 := dkwX4_tell_0 ++ dktX4_tell_1
theorem dksX4_tell_0 : cX4_tell.data.toList.drop 0 = dktX4_tell_0 := by decide +kernel
theorem dksX4_tell_1 : cX4_tell.data.toList.drop 24 = dktX4_tell_1 := dk_seg dksX4_tell_0 24 rfl rfl
theorem dksX4_tell_2 : cX4_tell.data.toList.drop 47 = dktX4_tell_2 := dk_seg dksX4_tell_1 23 rfl rfl
theorem dksX4_tell_3 : cX4_tell.data.toList.drop 71 = dktX4_tell_3 := dk_seg dksX4_tell_2 24 rfl rfl
theorem dksX4_tell_4 : cX4_tell.data.toList.drop 94 = dktX4_tell_4 := dk_seg dksX4_tell_3 23 rfl rfl
theorem dksX4_tell_5 : cX4_tell.data.toList.drop 116 = dktX4_tell_5 := dk_seg dksX4_tell_4 22 rfl rfl
theorem dksX4_tell_6 : cX4_tell.data.toList.drop 138 = dktX4_tell_6 := dk_seg dksX4_tell_5 22 rfl rfl
theorem dksX4_tell_7 : cX4_tell.data.toList.drop 162 = dktX4_tell_7 := dk_seg dksX4_tell_6 24 rfl rfl
theorem dksX4_tell_8 : cX4_tell.data.toList.drop 186 = dktX4_tell_8 := dk_seg dksX4_tell_7 24 rfl rfl
theorem dksX4_tell_9 : cX4_tell.data.toList.drop 208 = dktX4_tell_9 := dk_seg dksX4_tell_8 22 rfl rfl
theorem dX4_tell_0 : decode cX4_tell 0 = .ok (.aload_n 0, 1) := dk_42 (dk_at dksX4_tell_0 0 rfl rfl)
theorem dX4_tell_1 : decode cX4_tell 1 = .ok (.aload_n 0, 1) := dk_42 (dk_at dksX4_tell_0 1 rfl rfl)
theorem dX4_tell_2 : decode cX4_tell 2 = .ok (.iload_n 1, 1) := dk_27 (dk_at dksX4_tell_0 2 rfl rfl)
theorem dX4_tell_3 : decode cX4_tell 3 = .ok (.invokevirtual 216, 3) := dk_182 0 216 (dk_at dksX4_tell_0 3 rfl rfl)
theorem dX4_tell_6 : decode cX4_tell 6 = .ok (.ifCond .eq 7, 3) := dk_153 0 7 (dk_at dksX4_tell_0 6 rfl rfl)
theorem dX4_tell_9 : decode cX4_tell 9 = .ok (.iconst 0, 1) := dk_3 (dk_at dksX4_tell_0 9 rfl rfl)
theorem dX4_tell_10 : decode cX4_tell 10 = .ok (.goto 4, 3) := dk_167 0 4 (dk_at dksX4_tell_0 10 rfl rfl)
theorem dX4_tell_13 : decode cX4_tell 13 = .ok (.iconst 1, 1) := dk_4 (dk_at dksX4_tell_0 13 rfl rfl)
theorem dX4_tell_14 : decode cX4_tell 14 = .ok (.putfield 44, 3) := dk_181 0 44 (dk_at dksX4_tell_0 14 rfl rfl)
theorem dX4_tell_17 : decode cX4_tell 17 = .ok (.aload_n 0, 1) := dk_42 (dk_at dksX4_tell_0 17 rfl rfl)
theorem dX4_tell_18 : decode cX4_tell 18 = .ok (.getfield 44, 3) := dk_180 0 44 (dk_at dksX4_tell_0 18 rfl rfl)
theorem dX4_tell_21 : decode cX4_tell 21 = .ok (.ifCond .le 7, 3) := dk_158 0 7 (dk_at dksX4_tell_0 21 rfl rfl)
theorem dX4_tell_24 : decode cX4_tell 24 = .ok (.ldc_w 323, 3) := dk_19 1 67 (dk_at dksX4_tell_1 0 rfl rfl)
theorem dX4_tell_27 : decode cX4_tell 27 = .ok (.areturn, 1) := dk_176 (dk_at dksX4_tell_1 3 rfl rfl)
theorem dX4_tell_28 : decode cX4_tell 28 = .ok (.aload_n 0, 1) := dk_42 (dk_at dksX4_tell_1 4 rfl rfl)
theorem dX4_tell_29 : decode cX4_tell 29 = .ok (.getfield 19, 3) := dk_180 0 19 (dk_at dksX4_tell_1 5 rfl rfl)
theorem dX4_tell_32 : decode cX4_tell 32 = .ok (.iload_n 1, 1) := dk_27 (dk_at dksX4_tell_1 8 rfl rfl)
theorem dX4_tell_33 : decode cX4_tell 33 = .ok (.invokevirtual 90, 3) := dk_182 0 90 (dk_at dksX4_tell_1 9 rfl rfl)
theorem dX4_tell_36 : decode cX4_tell 36 = .ok (.checkcast 122, 3) := dk_192 0 122 (dk_at dksX4_tell_1 12 rfl rfl)
theorem dX4_tell_39 : decode cX4_tell 39 = .ok (.astore_n 2, 1) := dk_77 (dk_at dksX4_tell_1 15 rfl rfl)
theorem dX4_tell_40 : decode cX4_tell 40 = .ok (.aload_n 2, 1) := dk_44 (dk_at dksX4_tell_1 16 rfl rfl)
theorem dX4_tell_41 : decode cX4_tell 41 = .ok (.getfield 124, 3) := dk_180 0 124 (dk_at dksX4_tell_1 17 rfl rfl)
theorem dX4_tell_44 : decode cX4_tell 44 = .ok (.ifCond .ne 9, 3) := dk_154 0 9 (dk_at dksX4_tell_1 20 rfl rfl)
theorem dX4_tell_47 : decode cX4_tell 47 = .ok (.ldc_w 354, 3) := dk_19 1 98 (dk_at dksX4_tell_2 0 rfl rfl)
theorem dX4_tell_50 : decode cX4_tell 50 = .ok (.goto 34, 3) := dk_167 0 34 (dk_at dksX4_tell_2 3 rfl rfl)
theorem dX4_tell_53 : decode cX4_tell 53 = .ok (.aload_n 2, 1) := dk_44 (dk_at dksX4_tell_2 6 rfl rfl)
theorem dX4_tell_54 : decode cX4_tell 54 = .ok (.getfield 124, 3) := dk_180 0 124 (dk_at dksX4_tell_2 7 rfl rfl)
theorem dX4_tell_57 : decode cX4_tell 57 = .ok (.iconst 1, 1) := dk_4 (dk_at dksX4_tell_2 10 rfl rfl)
theorem dX4_tell_58 : decode cX4_tell 58 = .ok (.if_icmp .ne 9, 3) := dk_160 0 9 (dk_at dksX4_tell_2 11 rfl rfl)
theorem dX4_tell_61 : decode cX4_tell 61 = .ok (.ldc_w 356, 3) := dk_19 1 100 (dk_at dksX4_tell_2 14 rfl rfl)
theorem dX4_tell_64 : decode cX4_tell 64 = .ok (.goto 20, 3) := dk_167 0 20 (dk_at dksX4_tell_2 17 rfl rfl)
theorem dX4_tell_67 : decode cX4_tell 67 = .ok (.aload_n 2, 1) := dk_44 (dk_at dksX4_tell_2 20 rfl rfl)
theorem dX4_tell_68 : decode cX4_tell 68 = .ok (.getfield 124, 3) := dk_180 0 124 (dk_at dksX4_tell_2 21 rfl rfl)
theorem dX4_tell_71 : decode cX4_tell 71 = .ok (.iconst 2, 1) := dk_5 (dk_at dksX4_tell_3 0 rfl rfl)
theorem dX4_tell_72 : decode cX4_tell 72 = .ok (.if_icmp .ne 9, 3) := dk_160 0 9 (dk_at dksX4_tell_3 1 rfl rfl)
theorem dX4_tell_75 : decode cX4_tell 75 = .ok (.ldc_w 358, 3) := dk_19 1 102 (dk_at dksX4_tell_3 4 rfl rfl)
theorem dX4_tell_78 : decode cX4_tell 78 = .ok (.goto 6, 3) := dk_167 0 6 (dk_at dksX4_tell_3 7 rfl rfl)
theorem dX4_tell_81 : decode cX4_tell 81 = .ok (.ldc_w 360, 3) := dk_19 1 104 (dk_at dksX4_tell_3 10 rfl rfl)
theorem dX4_tell_84 : decode cX4_tell 84 = .ok (.astore_n 3, 1) := dk_78 (dk_at dksX4_tell_3 13 rfl rfl)
theorem dX4_tell_85 : decode cX4_tell 85 = .ok (.new 325, 3) := dk_187 1 69 (dk_at dksX4_tell_3 14 rfl rfl)
theorem dX4_tell_88 : decode cX4_tell 88 = .ok (.dup, 1) := dk_89 (dk_at dksX4_tell_3 17 rfl rfl)
theorem dX4_tell_89 : decode cX4_tell 89 = .ok (.invokespecial 327, 3) := dk_183 1 71 (dk_at dksX4_tell_3 18 rfl rfl)
theorem dX4_tell_92 : decode cX4_tell 92 = .ok (.astore 4, 2) := dk_58 4 (dk_at dksX4_tell_3 21 rfl rfl)
theorem dX4_tell_94 : decode cX4_tell 94 = .ok (.aload 4, 2) := dk_25 4 (dk_at dksX4_tell_4 0 rfl rfl)
theorem dX4_tell_96 : decode cX4_tell 96 = .ok (.iload_n 1, 1) := dk_27 (dk_at dksX4_tell_4 2 rfl rfl)
theorem dX4_tell_97 : decode cX4_tell 97 = .ok (.invokevirtual 336, 3) := dk_182 1 80 (dk_at dksX4_tell_4 3 rfl rfl)
theorem dX4_tell_100 : decode cX4_tell 100 = .ok (.ldc_w 362, 3) := dk_19 1 106 (dk_at dksX4_tell_4 6 rfl rfl)
theorem dX4_tell_103 : decode cX4_tell 103 = .ok (.invokevirtual 332, 3) := dk_182 1 76 (dk_at dksX4_tell_4 9 rfl rfl)
theorem dX4_tell_106 : decode cX4_tell 106 = .ok (.aload_n 2, 1) := dk_44 (dk_at dksX4_tell_4 12 rfl rfl)
theorem dX4_tell_107 : decode cX4_tell 107 = .ok (.getfield 130, 3) := dk_180 0 130 (dk_at dksX4_tell_4 13 rfl rfl)
theorem dX4_tell_110 : decode cX4_tell 110 = .ok (.invokevirtual 336, 3) := dk_182 1 80 (dk_at dksX4_tell_4 16 rfl rfl)
theorem dX4_tell_113 : decode cX4_tell 113 = .ok (.ldc_w 364, 3) := dk_19 1 108 (dk_at dksX4_tell_4 19 rfl rfl)
theorem dX4_tell_116 : decode cX4_tell 116 = .ok (.invokevirtual 332, 3) := dk_182 1 76 (dk_at dksX4_tell_5 0 rfl rfl)
theorem dX4_tell_119 : decode cX4_tell 119 = .ok (.aload_n 2, 1) := dk_44 (dk_at dksX4_tell_5 3 rfl rfl)
theorem dX4_tell_120 : decode cX4_tell 120 = .ok (.getfield 143, 3) := dk_180 0 143 (dk_at dksX4_tell_5 4 rfl rfl)
theorem dX4_tell_123 : decode cX4_tell 123 = .ok (.invokevirtual 336, 3) := dk_182 1 80 (dk_at dksX4_tell_5 7 rfl rfl)
theorem dX4_tell_126 : decode cX4_tell 126 = .ok (.ldc_w 366, 3) := dk_19 1 110 (dk_at dksX4_tell_5 10 rfl rfl)
theorem dX4_tell_129 : decode cX4_tell 129 = .ok (.invokevirtual 332, 3) := dk_182 1 76 (dk_at dksX4_tell_5 13 rfl rfl)
theorem dX4_tell_132 : decode cX4_tell 132 = .ok (.aload_n 3, 1) := dk_45 (dk_at dksX4_tell_5 16 rfl rfl)
theorem dX4_tell_133 : decode cX4_tell 133 = .ok (.invokevirtual 332, 3) := dk_182 1 76 (dk_at dksX4_tell_5 17 rfl rfl)
theorem dX4_tell_136 : decode cX4_tell 136 = .ok (.pop, 1) := dk_87 (dk_at dksX4_tell_5 20 rfl rfl)
theorem dX4_tell_137 : decode cX4_tell 137 = .ok (.aload_n 2, 1) := dk_44 (dk_at dksX4_tell_5 21 rfl rfl)
theorem dX4_tell_138 : decode cX4_tell 138 = .ok (.getfield 124, 3) := dk_180 0 124 (dk_at dksX4_tell_6 0 rfl rfl)
theorem dX4_tell_141 : decode cX4_tell 141 = .ok (.iconst 1, 1) := dk_4 (dk_at dksX4_tell_6 3 rfl rfl)
theorem dX4_tell_142 : decode cX4_tell 142 = .ok (.if_icmp .eq 17, 3) := dk_159 0 17 (dk_at dksX4_tell_6 4 rfl rfl)
theorem dX4_tell_145 : decode cX4_tell 145 = .ok (.aload_n 2, 1) := dk_44 (dk_at dksX4_tell_6 7 rfl rfl)
theorem dX4_tell_146 : decode cX4_tell 146 = .ok (.getfield 124, 3) := dk_180 0 124 (dk_at dksX4_tell_6 8 rfl rfl)
theorem dX4_tell_149 : decode cX4_tell 149 = .ok (.iconst 2, 1) := dk_5 (dk_at dksX4_tell_6 11 rfl rfl)
theorem dX4_tell_150 : decode cX4_tell 150 = .ok (.if_icmp .eq 9, 3) := dk_159 0 9 (dk_at dksX4_tell_6 12 rfl rfl)
theorem dX4_tell_153 : decode cX4_tell 153 = .ok (.aload 4, 2) := dk_25 4 (dk_at dksX4_tell_6 15 rfl rfl)
theorem dX4_tell_155 : decode cX4_tell 155 = .ok (.invokevirtual 341, 3) := dk_182 1 85 (dk_at dksX4_tell_6 17 rfl rfl)
theorem dX4_tell_158 : decode cX4_tell 158 = .ok (.areturn, 1) := dk_176 (dk_at dksX4_tell_6 20 rfl rfl)
theorem dX4_tell_159 : decode cX4_tell 159 = .ok (.iconst 0, 1) := dk_3 (dk_at dksX4_tell_6 21 rfl rfl)
theorem dX4_tell_160 : decode cX4_tell 160 = .ok (.istore 5, 2) := dk_54 5 (dk_at dksX4_tell_6 22 rfl rfl)
theorem dX4_tell_162 : decode cX4_tell 162 = .ok (.iconst 0, 1) := dk_3 (dk_at dksX4_tell_7 0 rfl rfl)
theorem dX4_tell_163 : decode cX4_tell 163 = .ok (.istore 6, 2) := dk_54 6 (dk_at dksX4_tell_7 1 rfl rfl)
theorem dX4_tell_165 : decode cX4_tell 165 = .ok (.iload 6, 2) := dk_21 6 (dk_at dksX4_tell_7 3 rfl rfl)
theorem dX4_tell_167 : decode cX4_tell 167 = .ok (.aload_n 0, 1) := dk_42 (dk_at dksX4_tell_7 5 rfl rfl)
theorem dX4_tell_168 : decode cX4_tell 168 = .ok (.getfield 10, 3) := dk_180 0 10 (dk_at dksX4_tell_7 6 rfl rfl)
theorem dX4_tell_171 : decode cX4_tell 171 = .ok (.invokevirtual 48, 3) := dk_182 0 48 (dk_at dksX4_tell_7 9 rfl rfl)
theorem dX4_tell_174 : decode cX4_tell 174 = .ok (.if_icmp .ge 52, 3) := dk_162 0 52 (dk_at dksX4_tell_7 12 rfl rfl)
theorem dX4_tell_177 : decode cX4_tell 177 = .ok (.aload_n 2, 1) := dk_44 (dk_at dksX4_tell_7 15 rfl rfl)
theorem dX4_tell_178 : decode cX4_tell 178 = .ok (.getfield 160, 3) := dk_180 0 160 (dk_at dksX4_tell_7 16 rfl rfl)
theorem dX4_tell_181 : decode cX4_tell 181 = .ok (.iload 6, 2) := dk_21 6 (dk_at dksX4_tell_7 19 rfl rfl)
theorem dX4_tell_183 : decode cX4_tell 183 = .ok (.invokestatic 102, 3) := dk_184 0 102 (dk_at dksX4_tell_7 21 rfl rfl)
theorem dX4_tell_186 : decode cX4_tell 186 = .ok (.ifCond .ne 6, 3) := dk_154 0 6 (dk_at dksX4_tell_8 0 rfl rfl)
theorem dX4_tell_189 : decode cX4_tell 189 = .ok (.goto 31, 3) := dk_167 0 31 (dk_at dksX4_tell_8 3 rfl rfl)
theorem dX4_tell_192 : decode cX4_tell 192 = .ok (.aload 4, 2) := dk_25 4 (dk_at dksX4_tell_8 6 rfl rfl)
theorem dX4_tell_194 : decode cX4_tell 194 = .ok (.iload 5, 2) := dk_21 5 (dk_at dksX4_tell_8 8 rfl rfl)
theorem dX4_tell_196 : decode cX4_tell 196 = .ok (.ifCond .eq 9, 3) := dk_153 0 9 (dk_at dksX4_tell_8 10 rfl rfl)
theorem dX4_tell_199 : decode cX4_tell 199 = .ok (.ldc_w 368, 3) := dk_19 1 112 (dk_at dksX4_tell_8 13 rfl rfl)
theorem dX4_tell_202 : decode cX4_tell 202 = .ok (.goto 6, 3) := dk_167 0 6 (dk_at dksX4_tell_8 16 rfl rfl)
theorem dX4_tell_205 : decode cX4_tell 205 = .ok (.ldc_w 370, 3) := dk_19 1 114 (dk_at dksX4_tell_8 19 rfl rfl)
theorem dX4_tell_208 : decode cX4_tell 208 = .ok (.invokevirtual 332, 3) := dk_182 1 76 (dk_at dksX4_tell_9 0 rfl rfl)
theorem dX4_tell_211 : decode cX4_tell 211 = .ok (.iload 6, 2) := dk_21 6 (dk_at dksX4_tell_9 3 rfl rfl)
theorem dX4_tell_213 : decode cX4_tell 213 = .ok (.invokevirtual 336, 3) := dk_182 1 80 (dk_at dksX4_tell_9 5 rfl rfl)
theorem dX4_tell_216 : decode cX4_tell 216 = .ok (.pop, 1) := dk_87 (dk_at dksX4_tell_9 8 rfl rfl)
theorem dX4_tell_217 : decode cX4_tell 217 = .ok (.iconst 1, 1) := dk_4 (dk_at dksX4_tell_9 9 rfl rfl)
theorem dX4_tell_218 : decode cX4_tell 218 = .ok (.istore 5, 2) := dk_54 5 (dk_at dksX4_tell_9 10 rfl rfl)
theorem dX4_tell_220 : decode cX4_tell 220 = .ok (.iinc 6 1, 3) := dk_132 6 1 (dk_at dksX4_tell_9 12 rfl rfl)
theorem dX4_tell_223 : decode cX4_tell 223 = .ok (.goto (-58), 3) := dk_167 255 198 (dk_at dksX4_tell_9 15 rfl rfl)
theorem dX4_tell_226 : decode cX4_tell 226 = .ok (.aload 4, 2) := dk_25 4 (dk_at dksX4_tell_9 18 rfl rfl)
theorem dX4_tell_228 : decode cX4_tell 228 = .ok (.invokevirtual 341, 3) := dk_182 1 85 (dk_at dksX4_tell_9 20 rfl rfl)
theorem dX4_tell_231 : decode cX4_tell 231 = .ok (.areturn, 1) := dk_176 (dk_at dksX4_tell_9 23 rfl rfl)
abbrev cX4_wouldLose : ByteArray := prog_13_method_74_code
def yX4_wouldLose : MethodName := ⟨RX4, "wouldLose", "(II)I"⟩
def dkwX4_wouldLose_11 : List UInt8 := [25, 5, 21, 9, 46, 181, 0, 210, 132, 9, 1, 167, 255, 187, 21, 8, 172]
abbrev dktX4_wouldLose_11 : List UInt8 := dkwX4_wouldLose_11 ++ []
def dkwX4_wouldLose_10 : List UInt8 := [192, 0, 122, 25, 4, 21, 9, 46, 181, 0, 124, 42, 180, 0, 19, 21, 9, 182, 0, 90, 192, 0, 122]
abbrev dktX4_wouldLose_10 : List UInt8 := dkwX4_wouldLose_10 ++ dktX4_wouldLose_11
def dkwX4_wouldLose_9 : List UInt8 := [182, 0, 90, 192, 0, 122, 45, 21, 9, 46, 181, 0, 160, 42, 180, 0, 19, 21, 9, 182, 0, 90]
abbrev dktX4_wouldLose_9 : List UInt8 := dkwX4_wouldLose_9 ++ dktX4_wouldLose_10
def dkwX4_wouldLose_8 : List UInt8 := [84, 42, 21, 7, 181, 0, 213, 3, 54, 9, 21, 9, 45, 190, 162, 0, 68, 42, 180, 0, 19, 21, 9]
abbrev dktX4_wouldLose_8 : List UInt8 := dkwX4_wouldLose_8 ++ dktX4_wouldLose_9
def dkwX4_wouldLose_7 : List UInt8 := [27, 28, 182, 0, 249, 54, 8, 42, 180, 0, 10, 27, 182, 0, 90, 192, 0, 68, 180, 0, 156, 28, 21, 6]
abbrev dktX4_wouldLose_7 : List UInt8 := dkwX4_wouldLose_7 ++ dktX4_wouldLose_8
def dkwX4_wouldLose_6 : List UInt8 := [180, 0, 10, 27, 182, 0, 90, 192, 0, 68, 180, 0, 156, 28, 51, 54, 6, 42, 180, 0, 213, 54, 7, 42]
abbrev dktX4_wouldLose_6 : List UInt8 := dkwX4_wouldLose_6 ++ dktX4_wouldLose_7
def dkwX4_wouldLose_5 : List UInt8 := [42, 180, 0, 19, 21, 6, 182, 0, 90, 192, 0, 122, 180, 0, 210, 79, 132, 6, 1, 167, 255, 187, 42]
abbrev dktX4_wouldLose_5 : List UInt8 := dkwX4_wouldLose_5 ++ dktX4_wouldLose_6
def dkwX4_wouldLose_4 : List UInt8 := [25, 4, 21, 6, 42, 180, 0, 19, 21, 6, 182, 0, 90, 192, 0, 122, 180, 0, 124, 79, 25, 5, 21, 6]
abbrev dktX4_wouldLose_4 : List UInt8 := dkwX4_wouldLose_4 ++ dktX4_wouldLose_5
def dkwX4_wouldLose_3 : List UInt8 := [190, 162, 0, 68, 45, 21, 6, 42, 180, 0, 19, 21, 6, 182, 0, 90, 192, 0, 122, 180, 0, 160, 79]
abbrev dktX4_wouldLose_3 : List UInt8 := dkwX4_wouldLose_3 ++ dktX4_wouldLose_4
def dkwX4_wouldLose_2 : List UInt8 := [182, 0, 48, 188, 10, 58, 4, 42, 180, 0, 19, 182, 0, 48, 188, 10, 58, 5, 3, 54, 6, 21, 6, 45]
abbrev dktX4_wouldLose_2 : List UInt8 := dkwX4_wouldLose_2 ++ dktX4_wouldLose_3
def dkwX4_wouldLose_1 : List UInt8 := [154, 0, 9, 42, 5, 182, 0, 60, 172, 42, 180, 0, 19, 182, 0, 48, 188, 10, 78, 42, 180, 0, 19]
abbrev dktX4_wouldLose_1 : List UInt8 := dkwX4_wouldLose_1 ++ dktX4_wouldLose_2
def dkwX4_wouldLose_0 : List UInt8 := [42, 3, 181, 0, 44, 42, 27, 182, 0, 87, 154, 0, 9, 42, 4, 182, 0, 60, 172, 42, 28, 182, 0, 136]
abbrev dktX4_wouldLose_0 : List UInt8 := dkwX4_wouldLose_0 ++ dktX4_wouldLose_1
theorem dksX4_wouldLose_0 : cX4_wouldLose.data.toList.drop 0 = dktX4_wouldLose_0 := by decide +kernel
theorem dksX4_wouldLose_1 : cX4_wouldLose.data.toList.drop 24 = dktX4_wouldLose_1 := dk_seg dksX4_wouldLose_0 24 rfl rfl
theorem dksX4_wouldLose_2 : cX4_wouldLose.data.toList.drop 47 = dktX4_wouldLose_2 := dk_seg dksX4_wouldLose_1 23 rfl rfl
theorem dksX4_wouldLose_3 : cX4_wouldLose.data.toList.drop 71 = dktX4_wouldLose_3 := dk_seg dksX4_wouldLose_2 24 rfl rfl
theorem dksX4_wouldLose_4 : cX4_wouldLose.data.toList.drop 94 = dktX4_wouldLose_4 := dk_seg dksX4_wouldLose_3 23 rfl rfl
theorem dksX4_wouldLose_5 : cX4_wouldLose.data.toList.drop 118 = dktX4_wouldLose_5 := dk_seg dksX4_wouldLose_4 24 rfl rfl
theorem dksX4_wouldLose_6 : cX4_wouldLose.data.toList.drop 141 = dktX4_wouldLose_6 := dk_seg dksX4_wouldLose_5 23 rfl rfl
theorem dksX4_wouldLose_7 : cX4_wouldLose.data.toList.drop 165 = dktX4_wouldLose_7 := dk_seg dksX4_wouldLose_6 24 rfl rfl
theorem dksX4_wouldLose_8 : cX4_wouldLose.data.toList.drop 189 = dktX4_wouldLose_8 := dk_seg dksX4_wouldLose_7 24 rfl rfl
theorem dksX4_wouldLose_9 : cX4_wouldLose.data.toList.drop 212 = dktX4_wouldLose_9 := dk_seg dksX4_wouldLose_8 23 rfl rfl
theorem dksX4_wouldLose_10 : cX4_wouldLose.data.toList.drop 234 = dktX4_wouldLose_10 := dk_seg dksX4_wouldLose_9 22 rfl rfl
theorem dksX4_wouldLose_11 : cX4_wouldLose.data.toList.drop 257 = dktX4_wouldLose_11 := dk_seg dksX4_wouldLose_10 23 rfl rfl
theorem dX4_wouldLose_0 : decode cX4_wouldLose 0 = .ok (.aload_n 0, 1) := dk_42 (dk_at dksX4_wouldLose_0 0 rfl rfl)
theorem dX4_wouldLose_1 : decode cX4_wouldLose 1 = .ok (.iconst 0, 1) := dk_3 (dk_at dksX4_wouldLose_0 1 rfl rfl)
theorem dX4_wouldLose_2 : decode cX4_wouldLose 2 = .ok (.putfield 44, 3) := dk_181 0 44 (dk_at dksX4_wouldLose_0 2 rfl rfl)
theorem dX4_wouldLose_5 : decode cX4_wouldLose 5 = .ok (.aload_n 0, 1) := dk_42 (dk_at dksX4_wouldLose_0 5 rfl rfl)
theorem dX4_wouldLose_6 : decode cX4_wouldLose 6 = .ok (.iload_n 1, 1) := dk_27 (dk_at dksX4_wouldLose_0 6 rfl rfl)
theorem dX4_wouldLose_7 : decode cX4_wouldLose 7 = .ok (.invokevirtual 87, 3) := dk_182 0 87 (dk_at dksX4_wouldLose_0 7 rfl rfl)
theorem dX4_wouldLose_10 : decode cX4_wouldLose 10 = .ok (.ifCond .ne 9, 3) := dk_154 0 9 (dk_at dksX4_wouldLose_0 10 rfl rfl)
theorem dX4_wouldLose_13 : decode cX4_wouldLose 13 = .ok (.aload_n 0, 1) := dk_42 (dk_at dksX4_wouldLose_0 13 rfl rfl)
theorem dX4_wouldLose_14 : decode cX4_wouldLose 14 = .ok (.iconst 1, 1) := dk_4 (dk_at dksX4_wouldLose_0 14 rfl rfl)
theorem dX4_wouldLose_15 : decode cX4_wouldLose 15 = .ok (.invokevirtual 60, 3) := dk_182 0 60 (dk_at dksX4_wouldLose_0 15 rfl rfl)
theorem dX4_wouldLose_18 : decode cX4_wouldLose 18 = .ok (.ireturn, 1) := dk_172 (dk_at dksX4_wouldLose_0 18 rfl rfl)
theorem dX4_wouldLose_19 : decode cX4_wouldLose 19 = .ok (.aload_n 0, 1) := dk_42 (dk_at dksX4_wouldLose_0 19 rfl rfl)
theorem dX4_wouldLose_20 : decode cX4_wouldLose 20 = .ok (.iload_n 2, 1) := dk_28 (dk_at dksX4_wouldLose_0 20 rfl rfl)
theorem dX4_wouldLose_21 : decode cX4_wouldLose 21 = .ok (.invokevirtual 136, 3) := dk_182 0 136 (dk_at dksX4_wouldLose_0 21 rfl rfl)
theorem dX4_wouldLose_24 : decode cX4_wouldLose 24 = .ok (.ifCond .ne 9, 3) := dk_154 0 9 (dk_at dksX4_wouldLose_1 0 rfl rfl)
theorem dX4_wouldLose_27 : decode cX4_wouldLose 27 = .ok (.aload_n 0, 1) := dk_42 (dk_at dksX4_wouldLose_1 3 rfl rfl)
theorem dX4_wouldLose_28 : decode cX4_wouldLose 28 = .ok (.iconst 2, 1) := dk_5 (dk_at dksX4_wouldLose_1 4 rfl rfl)
theorem dX4_wouldLose_29 : decode cX4_wouldLose 29 = .ok (.invokevirtual 60, 3) := dk_182 0 60 (dk_at dksX4_wouldLose_1 5 rfl rfl)
theorem dX4_wouldLose_32 : decode cX4_wouldLose 32 = .ok (.ireturn, 1) := dk_172 (dk_at dksX4_wouldLose_1 8 rfl rfl)
theorem dX4_wouldLose_33 : decode cX4_wouldLose 33 = .ok (.aload_n 0, 1) := dk_42 (dk_at dksX4_wouldLose_1 9 rfl rfl)
theorem dX4_wouldLose_34 : decode cX4_wouldLose 34 = .ok (.getfield 19, 3) := dk_180 0 19 (dk_at dksX4_wouldLose_1 10 rfl rfl)
theorem dX4_wouldLose_37 : decode cX4_wouldLose 37 = .ok (.invokevirtual 48, 3) := dk_182 0 48 (dk_at dksX4_wouldLose_1 13 rfl rfl)
theorem dX4_wouldLose_40 : decode cX4_wouldLose 40 = .ok (.newarray .int, 2) := dk_188_10 (dk_at dksX4_wouldLose_1 16 rfl rfl)
theorem dX4_wouldLose_42 : decode cX4_wouldLose 42 = .ok (.astore_n 3, 1) := dk_78 (dk_at dksX4_wouldLose_1 18 rfl rfl)
theorem dX4_wouldLose_43 : decode cX4_wouldLose 43 = .ok (.aload_n 0, 1) := dk_42 (dk_at dksX4_wouldLose_1 19 rfl rfl)
theorem dX4_wouldLose_44 : decode cX4_wouldLose 44 = .ok (.getfield 19, 3) := dk_180 0 19 (dk_at dksX4_wouldLose_1 20 rfl rfl)
theorem dX4_wouldLose_47 : decode cX4_wouldLose 47 = .ok (.invokevirtual 48, 3) := dk_182 0 48 (dk_at dksX4_wouldLose_2 0 rfl rfl)
theorem dX4_wouldLose_50 : decode cX4_wouldLose 50 = .ok (.newarray .int, 2) := dk_188_10 (dk_at dksX4_wouldLose_2 3 rfl rfl)
theorem dX4_wouldLose_52 : decode cX4_wouldLose 52 = .ok (.astore 4, 2) := dk_58 4 (dk_at dksX4_wouldLose_2 5 rfl rfl)
theorem dX4_wouldLose_54 : decode cX4_wouldLose 54 = .ok (.aload_n 0, 1) := dk_42 (dk_at dksX4_wouldLose_2 7 rfl rfl)
theorem dX4_wouldLose_55 : decode cX4_wouldLose 55 = .ok (.getfield 19, 3) := dk_180 0 19 (dk_at dksX4_wouldLose_2 8 rfl rfl)
theorem dX4_wouldLose_58 : decode cX4_wouldLose 58 = .ok (.invokevirtual 48, 3) := dk_182 0 48 (dk_at dksX4_wouldLose_2 11 rfl rfl)
theorem dX4_wouldLose_61 : decode cX4_wouldLose 61 = .ok (.newarray .int, 2) := dk_188_10 (dk_at dksX4_wouldLose_2 14 rfl rfl)
theorem dX4_wouldLose_63 : decode cX4_wouldLose 63 = .ok (.astore 5, 2) := dk_58 5 (dk_at dksX4_wouldLose_2 16 rfl rfl)
theorem dX4_wouldLose_65 : decode cX4_wouldLose 65 = .ok (.iconst 0, 1) := dk_3 (dk_at dksX4_wouldLose_2 18 rfl rfl)
theorem dX4_wouldLose_66 : decode cX4_wouldLose 66 = .ok (.istore 6, 2) := dk_54 6 (dk_at dksX4_wouldLose_2 19 rfl rfl)
theorem dX4_wouldLose_68 : decode cX4_wouldLose 68 = .ok (.iload 6, 2) := dk_21 6 (dk_at dksX4_wouldLose_2 21 rfl rfl)
theorem dX4_wouldLose_70 : decode cX4_wouldLose 70 = .ok (.aload_n 3, 1) := dk_45 (dk_at dksX4_wouldLose_2 23 rfl rfl)
theorem dX4_wouldLose_71 : decode cX4_wouldLose 71 = .ok (.arraylength, 1) := dk_190 (dk_at dksX4_wouldLose_3 0 rfl rfl)
theorem dX4_wouldLose_72 : decode cX4_wouldLose 72 = .ok (.if_icmp .ge 68, 3) := dk_162 0 68 (dk_at dksX4_wouldLose_3 1 rfl rfl)
theorem dX4_wouldLose_75 : decode cX4_wouldLose 75 = .ok (.aload_n 3, 1) := dk_45 (dk_at dksX4_wouldLose_3 4 rfl rfl)
theorem dX4_wouldLose_76 : decode cX4_wouldLose 76 = .ok (.iload 6, 2) := dk_21 6 (dk_at dksX4_wouldLose_3 5 rfl rfl)
theorem dX4_wouldLose_78 : decode cX4_wouldLose 78 = .ok (.aload_n 0, 1) := dk_42 (dk_at dksX4_wouldLose_3 7 rfl rfl)
theorem dX4_wouldLose_79 : decode cX4_wouldLose 79 = .ok (.getfield 19, 3) := dk_180 0 19 (dk_at dksX4_wouldLose_3 8 rfl rfl)
theorem dX4_wouldLose_82 : decode cX4_wouldLose 82 = .ok (.iload 6, 2) := dk_21 6 (dk_at dksX4_wouldLose_3 11 rfl rfl)
theorem dX4_wouldLose_84 : decode cX4_wouldLose 84 = .ok (.invokevirtual 90, 3) := dk_182 0 90 (dk_at dksX4_wouldLose_3 13 rfl rfl)
theorem dX4_wouldLose_87 : decode cX4_wouldLose 87 = .ok (.checkcast 122, 3) := dk_192 0 122 (dk_at dksX4_wouldLose_3 16 rfl rfl)
theorem dX4_wouldLose_90 : decode cX4_wouldLose 90 = .ok (.getfield 160, 3) := dk_180 0 160 (dk_at dksX4_wouldLose_3 19 rfl rfl)
theorem dX4_wouldLose_93 : decode cX4_wouldLose 93 = .ok (.iastore, 1) := dk_79 (dk_at dksX4_wouldLose_3 22 rfl rfl)
theorem dX4_wouldLose_94 : decode cX4_wouldLose 94 = .ok (.aload 4, 2) := dk_25 4 (dk_at dksX4_wouldLose_4 0 rfl rfl)
theorem dX4_wouldLose_96 : decode cX4_wouldLose 96 = .ok (.iload 6, 2) := dk_21 6 (dk_at dksX4_wouldLose_4 2 rfl rfl)
theorem dX4_wouldLose_98 : decode cX4_wouldLose 98 = .ok (.aload_n 0, 1) := dk_42 (dk_at dksX4_wouldLose_4 4 rfl rfl)
theorem dX4_wouldLose_99 : decode cX4_wouldLose 99 = .ok (.getfield 19, 3) := dk_180 0 19 (dk_at dksX4_wouldLose_4 5 rfl rfl)
theorem dX4_wouldLose_102 : decode cX4_wouldLose 102 = .ok (.iload 6, 2) := dk_21 6 (dk_at dksX4_wouldLose_4 8 rfl rfl)
theorem dX4_wouldLose_104 : decode cX4_wouldLose 104 = .ok (.invokevirtual 90, 3) := dk_182 0 90 (dk_at dksX4_wouldLose_4 10 rfl rfl)
theorem dX4_wouldLose_107 : decode cX4_wouldLose 107 = .ok (.checkcast 122, 3) := dk_192 0 122 (dk_at dksX4_wouldLose_4 13 rfl rfl)
theorem dX4_wouldLose_110 : decode cX4_wouldLose 110 = .ok (.getfield 124, 3) := dk_180 0 124 (dk_at dksX4_wouldLose_4 16 rfl rfl)
theorem dX4_wouldLose_113 : decode cX4_wouldLose 113 = .ok (.iastore, 1) := dk_79 (dk_at dksX4_wouldLose_4 19 rfl rfl)
theorem dX4_wouldLose_114 : decode cX4_wouldLose 114 = .ok (.aload 5, 2) := dk_25 5 (dk_at dksX4_wouldLose_4 20 rfl rfl)
theorem dX4_wouldLose_116 : decode cX4_wouldLose 116 = .ok (.iload 6, 2) := dk_21 6 (dk_at dksX4_wouldLose_4 22 rfl rfl)
theorem dX4_wouldLose_118 : decode cX4_wouldLose 118 = .ok (.aload_n 0, 1) := dk_42 (dk_at dksX4_wouldLose_5 0 rfl rfl)
theorem dX4_wouldLose_119 : decode cX4_wouldLose 119 = .ok (.getfield 19, 3) := dk_180 0 19 (dk_at dksX4_wouldLose_5 1 rfl rfl)
theorem dX4_wouldLose_122 : decode cX4_wouldLose 122 = .ok (.iload 6, 2) := dk_21 6 (dk_at dksX4_wouldLose_5 4 rfl rfl)
theorem dX4_wouldLose_124 : decode cX4_wouldLose 124 = .ok (.invokevirtual 90, 3) := dk_182 0 90 (dk_at dksX4_wouldLose_5 6 rfl rfl)
theorem dX4_wouldLose_127 : decode cX4_wouldLose 127 = .ok (.checkcast 122, 3) := dk_192 0 122 (dk_at dksX4_wouldLose_5 9 rfl rfl)
theorem dX4_wouldLose_130 : decode cX4_wouldLose 130 = .ok (.getfield 210, 3) := dk_180 0 210 (dk_at dksX4_wouldLose_5 12 rfl rfl)
theorem dX4_wouldLose_133 : decode cX4_wouldLose 133 = .ok (.iastore, 1) := dk_79 (dk_at dksX4_wouldLose_5 15 rfl rfl)
theorem dX4_wouldLose_134 : decode cX4_wouldLose 134 = .ok (.iinc 6 1, 3) := dk_132 6 1 (dk_at dksX4_wouldLose_5 16 rfl rfl)
theorem dX4_wouldLose_137 : decode cX4_wouldLose 137 = .ok (.goto (-69), 3) := dk_167 255 187 (dk_at dksX4_wouldLose_5 19 rfl rfl)
theorem dX4_wouldLose_140 : decode cX4_wouldLose 140 = .ok (.aload_n 0, 1) := dk_42 (dk_at dksX4_wouldLose_5 22 rfl rfl)
theorem dX4_wouldLose_141 : decode cX4_wouldLose 141 = .ok (.getfield 10, 3) := dk_180 0 10 (dk_at dksX4_wouldLose_6 0 rfl rfl)
theorem dX4_wouldLose_144 : decode cX4_wouldLose 144 = .ok (.iload_n 1, 1) := dk_27 (dk_at dksX4_wouldLose_6 3 rfl rfl)
theorem dX4_wouldLose_145 : decode cX4_wouldLose 145 = .ok (.invokevirtual 90, 3) := dk_182 0 90 (dk_at dksX4_wouldLose_6 4 rfl rfl)
theorem dX4_wouldLose_148 : decode cX4_wouldLose 148 = .ok (.checkcast 68, 3) := dk_192 0 68 (dk_at dksX4_wouldLose_6 7 rfl rfl)
theorem dX4_wouldLose_151 : decode cX4_wouldLose 151 = .ok (.getfield 156, 3) := dk_180 0 156 (dk_at dksX4_wouldLose_6 10 rfl rfl)
theorem dX4_wouldLose_154 : decode cX4_wouldLose 154 = .ok (.iload_n 2, 1) := dk_28 (dk_at dksX4_wouldLose_6 13 rfl rfl)
theorem dX4_wouldLose_155 : decode cX4_wouldLose 155 = .ok (.baload, 1) := dk_51 (dk_at dksX4_wouldLose_6 14 rfl rfl)
theorem dX4_wouldLose_156 : decode cX4_wouldLose 156 = .ok (.istore 6, 2) := dk_54 6 (dk_at dksX4_wouldLose_6 15 rfl rfl)
theorem dX4_wouldLose_158 : decode cX4_wouldLose 158 = .ok (.aload_n 0, 1) := dk_42 (dk_at dksX4_wouldLose_6 17 rfl rfl)
theorem dX4_wouldLose_159 : decode cX4_wouldLose 159 = .ok (.getfield 213, 3) := dk_180 0 213 (dk_at dksX4_wouldLose_6 18 rfl rfl)
theorem dX4_wouldLose_162 : decode cX4_wouldLose 162 = .ok (.istore 7, 2) := dk_54 7 (dk_at dksX4_wouldLose_6 21 rfl rfl)
theorem dX4_wouldLose_164 : decode cX4_wouldLose 164 = .ok (.aload_n 0, 1) := dk_42 (dk_at dksX4_wouldLose_6 23 rfl rfl)
theorem dX4_wouldLose_165 : decode cX4_wouldLose 165 = .ok (.iload_n 1, 1) := dk_27 (dk_at dksX4_wouldLose_7 0 rfl rfl)
theorem dX4_wouldLose_166 : decode cX4_wouldLose 166 = .ok (.iload_n 2, 1) := dk_28 (dk_at dksX4_wouldLose_7 1 rfl rfl)
theorem dX4_wouldLose_167 : decode cX4_wouldLose 167 = .ok (.invokevirtual 249, 3) := dk_182 0 249 (dk_at dksX4_wouldLose_7 2 rfl rfl)
theorem dX4_wouldLose_170 : decode cX4_wouldLose 170 = .ok (.istore 8, 2) := dk_54 8 (dk_at dksX4_wouldLose_7 5 rfl rfl)
theorem dX4_wouldLose_172 : decode cX4_wouldLose 172 = .ok (.aload_n 0, 1) := dk_42 (dk_at dksX4_wouldLose_7 7 rfl rfl)
theorem dX4_wouldLose_173 : decode cX4_wouldLose 173 = .ok (.getfield 10, 3) := dk_180 0 10 (dk_at dksX4_wouldLose_7 8 rfl rfl)
theorem dX4_wouldLose_176 : decode cX4_wouldLose 176 = .ok (.iload_n 1, 1) := dk_27 (dk_at dksX4_wouldLose_7 11 rfl rfl)
theorem dX4_wouldLose_177 : decode cX4_wouldLose 177 = .ok (.invokevirtual 90, 3) := dk_182 0 90 (dk_at dksX4_wouldLose_7 12 rfl rfl)
theorem dX4_wouldLose_180 : decode cX4_wouldLose 180 = .ok (.checkcast 68, 3) := dk_192 0 68 (dk_at dksX4_wouldLose_7 15 rfl rfl)
theorem dX4_wouldLose_183 : decode cX4_wouldLose 183 = .ok (.getfield 156, 3) := dk_180 0 156 (dk_at dksX4_wouldLose_7 18 rfl rfl)
theorem dX4_wouldLose_186 : decode cX4_wouldLose 186 = .ok (.iload_n 2, 1) := dk_28 (dk_at dksX4_wouldLose_7 21 rfl rfl)
theorem dX4_wouldLose_187 : decode cX4_wouldLose 187 = .ok (.iload 6, 2) := dk_21 6 (dk_at dksX4_wouldLose_7 22 rfl rfl)
theorem dX4_wouldLose_189 : decode cX4_wouldLose 189 = .ok (.bastore, 1) := dk_84 (dk_at dksX4_wouldLose_8 0 rfl rfl)
theorem dX4_wouldLose_190 : decode cX4_wouldLose 190 = .ok (.aload_n 0, 1) := dk_42 (dk_at dksX4_wouldLose_8 1 rfl rfl)
theorem dX4_wouldLose_191 : decode cX4_wouldLose 191 = .ok (.iload 7, 2) := dk_21 7 (dk_at dksX4_wouldLose_8 2 rfl rfl)
theorem dX4_wouldLose_193 : decode cX4_wouldLose 193 = .ok (.putfield 213, 3) := dk_181 0 213 (dk_at dksX4_wouldLose_8 4 rfl rfl)
theorem dX4_wouldLose_196 : decode cX4_wouldLose 196 = .ok (.iconst 0, 1) := dk_3 (dk_at dksX4_wouldLose_8 7 rfl rfl)
theorem dX4_wouldLose_197 : decode cX4_wouldLose 197 = .ok (.istore 9, 2) := dk_54 9 (dk_at dksX4_wouldLose_8 8 rfl rfl)
theorem dX4_wouldLose_199 : decode cX4_wouldLose 199 = .ok (.iload 9, 2) := dk_21 9 (dk_at dksX4_wouldLose_8 10 rfl rfl)
theorem dX4_wouldLose_201 : decode cX4_wouldLose 201 = .ok (.aload_n 3, 1) := dk_45 (dk_at dksX4_wouldLose_8 12 rfl rfl)
theorem dX4_wouldLose_202 : decode cX4_wouldLose 202 = .ok (.arraylength, 1) := dk_190 (dk_at dksX4_wouldLose_8 13 rfl rfl)
theorem dX4_wouldLose_203 : decode cX4_wouldLose 203 = .ok (.if_icmp .ge 68, 3) := dk_162 0 68 (dk_at dksX4_wouldLose_8 14 rfl rfl)
theorem dX4_wouldLose_206 : decode cX4_wouldLose 206 = .ok (.aload_n 0, 1) := dk_42 (dk_at dksX4_wouldLose_8 17 rfl rfl)
theorem dX4_wouldLose_207 : decode cX4_wouldLose 207 = .ok (.getfield 19, 3) := dk_180 0 19 (dk_at dksX4_wouldLose_8 18 rfl rfl)
theorem dX4_wouldLose_210 : decode cX4_wouldLose 210 = .ok (.iload 9, 2) := dk_21 9 (dk_at dksX4_wouldLose_8 21 rfl rfl)
theorem dX4_wouldLose_212 : decode cX4_wouldLose 212 = .ok (.invokevirtual 90, 3) := dk_182 0 90 (dk_at dksX4_wouldLose_9 0 rfl rfl)
theorem dX4_wouldLose_215 : decode cX4_wouldLose 215 = .ok (.checkcast 122, 3) := dk_192 0 122 (dk_at dksX4_wouldLose_9 3 rfl rfl)
theorem dX4_wouldLose_218 : decode cX4_wouldLose 218 = .ok (.aload_n 3, 1) := dk_45 (dk_at dksX4_wouldLose_9 6 rfl rfl)
theorem dX4_wouldLose_219 : decode cX4_wouldLose 219 = .ok (.iload 9, 2) := dk_21 9 (dk_at dksX4_wouldLose_9 7 rfl rfl)
theorem dX4_wouldLose_221 : decode cX4_wouldLose 221 = .ok (.iaload, 1) := dk_46 (dk_at dksX4_wouldLose_9 9 rfl rfl)
theorem dX4_wouldLose_222 : decode cX4_wouldLose 222 = .ok (.putfield 160, 3) := dk_181 0 160 (dk_at dksX4_wouldLose_9 10 rfl rfl)
theorem dX4_wouldLose_225 : decode cX4_wouldLose 225 = .ok (.aload_n 0, 1) := dk_42 (dk_at dksX4_wouldLose_9 13 rfl rfl)
theorem dX4_wouldLose_226 : decode cX4_wouldLose 226 = .ok (.getfield 19, 3) := dk_180 0 19 (dk_at dksX4_wouldLose_9 14 rfl rfl)
theorem dX4_wouldLose_229 : decode cX4_wouldLose 229 = .ok (.iload 9, 2) := dk_21 9 (dk_at dksX4_wouldLose_9 17 rfl rfl)
theorem dX4_wouldLose_231 : decode cX4_wouldLose 231 = .ok (.invokevirtual 90, 3) := dk_182 0 90 (dk_at dksX4_wouldLose_9 19 rfl rfl)
theorem dX4_wouldLose_234 : decode cX4_wouldLose 234 = .ok (.checkcast 122, 3) := dk_192 0 122 (dk_at dksX4_wouldLose_10 0 rfl rfl)
theorem dX4_wouldLose_237 : decode cX4_wouldLose 237 = .ok (.aload 4, 2) := dk_25 4 (dk_at dksX4_wouldLose_10 3 rfl rfl)
theorem dX4_wouldLose_239 : decode cX4_wouldLose 239 = .ok (.iload 9, 2) := dk_21 9 (dk_at dksX4_wouldLose_10 5 rfl rfl)
theorem dX4_wouldLose_241 : decode cX4_wouldLose 241 = .ok (.iaload, 1) := dk_46 (dk_at dksX4_wouldLose_10 7 rfl rfl)
theorem dX4_wouldLose_242 : decode cX4_wouldLose 242 = .ok (.putfield 124, 3) := dk_181 0 124 (dk_at dksX4_wouldLose_10 8 rfl rfl)
theorem dX4_wouldLose_245 : decode cX4_wouldLose 245 = .ok (.aload_n 0, 1) := dk_42 (dk_at dksX4_wouldLose_10 11 rfl rfl)
theorem dX4_wouldLose_246 : decode cX4_wouldLose 246 = .ok (.getfield 19, 3) := dk_180 0 19 (dk_at dksX4_wouldLose_10 12 rfl rfl)
theorem dX4_wouldLose_249 : decode cX4_wouldLose 249 = .ok (.iload 9, 2) := dk_21 9 (dk_at dksX4_wouldLose_10 15 rfl rfl)
theorem dX4_wouldLose_251 : decode cX4_wouldLose 251 = .ok (.invokevirtual 90, 3) := dk_182 0 90 (dk_at dksX4_wouldLose_10 17 rfl rfl)
theorem dX4_wouldLose_254 : decode cX4_wouldLose 254 = .ok (.checkcast 122, 3) := dk_192 0 122 (dk_at dksX4_wouldLose_10 20 rfl rfl)
theorem dX4_wouldLose_257 : decode cX4_wouldLose 257 = .ok (.aload 5, 2) := dk_25 5 (dk_at dksX4_wouldLose_11 0 rfl rfl)
theorem dX4_wouldLose_259 : decode cX4_wouldLose 259 = .ok (.iload 9, 2) := dk_21 9 (dk_at dksX4_wouldLose_11 2 rfl rfl)
theorem dX4_wouldLose_261 : decode cX4_wouldLose 261 = .ok (.iaload, 1) := dk_46 (dk_at dksX4_wouldLose_11 4 rfl rfl)
theorem dX4_wouldLose_262 : decode cX4_wouldLose 262 = .ok (.putfield 210, 3) := dk_181 0 210 (dk_at dksX4_wouldLose_11 5 rfl rfl)
theorem dX4_wouldLose_265 : decode cX4_wouldLose 265 = .ok (.iinc 9 1, 3) := dk_132 9 1 (dk_at dksX4_wouldLose_11 8 rfl rfl)
theorem dX4_wouldLose_268 : decode cX4_wouldLose 268 = .ok (.goto (-69), 3) := dk_167 255 187 (dk_at dksX4_wouldLose_11 11 rfl rfl)
theorem dX4_wouldLose_271 : decode cX4_wouldLose 271 = .ok (.iload 8, 2) := dk_21 8 (dk_at dksX4_wouldLose_11 14 rfl rfl)
theorem dX4_wouldLose_273 : decode cX4_wouldLose 273 = .ok (.ireturn, 1) := dk_172 (dk_at dksX4_wouldLose_11 16 rfl rfl)
abbrev cX4_plan : ByteArray := prog_13_method_75_code
def yX4_plan : MethodName := ⟨RX4, "plan", "(IZ)I"⟩
def dkwX4_plan_8 : List UInt8 := [54, 7, 132, 8, 1, 167, 255, 221, 28, 153, 0, 8, 21, 7, 167, 0, 5, 21, 6, 172]
abbrev dktX4_plan_8 : List UInt8 := dkwX4_plan_8 ++ []
def dkwX4_plan_7 : List UInt8 := [21, 7, 21, 5, 21, 8, 184, 0, 102, 153, 0, 12, 4, 45, 21, 8, 46, 120, 167, 0, 4, 3, 128]
abbrev dktX4_plan_7 : List UInt8 := dkwX4_plan_7 ++ dktX4_plan_8
def dkwX4_plan_6 : List UInt8 := [21, 7, 54, 5, 132, 7, 1, 167, 255, 215, 3, 54, 7, 3, 54, 8, 21, 8, 21, 4, 162, 0, 34]
abbrev dktX4_plan_6 : List UInt8 := dkwX4_plan_6 ++ dktX4_plan_7
def dkwX4_plan_5 : List UInt8 := [21, 7, 21, 4, 182, 1, 116, 54, 8, 21, 8, 21, 6, 163, 0, 6, 167, 0, 11, 21, 8, 54, 6]
abbrev dktX4_plan_5 : List UInt8 := dkwX4_plan_5 ++ dktX4_plan_6
def dkwX4_plan_4 : List UInt8 := [167, 255, 195, 3, 54, 5, 3, 54, 6, 4, 54, 7, 21, 7, 4, 21, 4, 120, 162, 0, 38, 42, 45]
abbrev dktX4_plan_4 : List UInt8 := dkwX4_plan_4 ++ dktX4_plan_5
def dkwX4_plan_3 : List UInt8 := [21, 5, 182, 0, 219, 153, 0, 6, 167, 0, 12, 45, 21, 4, 21, 5, 79, 132, 4, 1, 132, 5, 1]
abbrev dktX4_plan_3 : List UInt8 := dkwX4_plan_3 ++ dktX4_plan_4
def dkwX4_plan_2 : List UInt8 := [162, 0, 49, 42, 180, 0, 19, 21, 5, 182, 0, 90, 192, 0, 122, 180, 0, 130, 27, 160, 0, 24, 42]
abbrev dktX4_plan_2 : List UInt8 := dkwX4_plan_2 ++ dktX4_plan_3
def dkwX4_plan_1 : List UInt8 := [188, 10, 78, 3, 54, 4, 3, 54, 5, 21, 5, 42, 180, 0, 19, 182, 0, 48, 162, 0, 55, 21, 4, 6]
abbrev dktX4_plan_1 : List UInt8 := dkwX4_plan_1 ++ dktX4_plan_2
def dkwX4_plan_0 : List UInt8 := [42, 3, 181, 0, 44, 27, 3, 17, 1, 109, 184, 0, 52, 154, 0, 9, 42, 4, 182, 0, 60, 172, 6]
abbrev dktX4_plan_0 : List UInt8 := dkwX4_plan_0 ++ dktX4_plan_1
theorem dksX4_plan_0 : cX4_plan.data.toList.drop 0 = dktX4_plan_0 := by decide +kernel
theorem dksX4_plan_1 : cX4_plan.data.toList.drop 23 = dktX4_plan_1 := dk_seg dksX4_plan_0 23 rfl rfl
theorem dksX4_plan_2 : cX4_plan.data.toList.drop 47 = dktX4_plan_2 := dk_seg dksX4_plan_1 24 rfl rfl
theorem dksX4_plan_3 : cX4_plan.data.toList.drop 70 = dktX4_plan_3 := dk_seg dksX4_plan_2 23 rfl rfl
theorem dksX4_plan_4 : cX4_plan.data.toList.drop 93 = dktX4_plan_4 := dk_seg dksX4_plan_3 23 rfl rfl
theorem dksX4_plan_5 : cX4_plan.data.toList.drop 116 = dktX4_plan_5 := dk_seg dksX4_plan_4 23 rfl rfl
theorem dksX4_plan_6 : cX4_plan.data.toList.drop 139 = dktX4_plan_6 := dk_seg dksX4_plan_5 23 rfl rfl
theorem dksX4_plan_7 : cX4_plan.data.toList.drop 162 = dktX4_plan_7 := dk_seg dksX4_plan_6 23 rfl rfl
theorem dksX4_plan_8 : cX4_plan.data.toList.drop 185 = dktX4_plan_8 := dk_seg dksX4_plan_7 23 rfl rfl
theorem dX4_plan_0 : decode cX4_plan 0 = .ok (.aload_n 0, 1) := dk_42 (dk_at dksX4_plan_0 0 rfl rfl)
theorem dX4_plan_1 : decode cX4_plan 1 = .ok (.iconst 0, 1) := dk_3 (dk_at dksX4_plan_0 1 rfl rfl)
theorem dX4_plan_2 : decode cX4_plan 2 = .ok (.putfield 44, 3) := dk_181 0 44 (dk_at dksX4_plan_0 2 rfl rfl)
theorem dX4_plan_5 : decode cX4_plan 5 = .ok (.iload_n 1, 1) := dk_27 (dk_at dksX4_plan_0 5 rfl rfl)
theorem dX4_plan_6 : decode cX4_plan 6 = .ok (.iconst 0, 1) := dk_3 (dk_at dksX4_plan_0 6 rfl rfl)
theorem dX4_plan_7 : decode cX4_plan 7 = .ok (.sipush 365, 3) := dk_17 1 109 (dk_at dksX4_plan_0 7 rfl rfl)
theorem dX4_plan_10 : decode cX4_plan 10 = .ok (.invokestatic 52, 3) := dk_184 0 52 (dk_at dksX4_plan_0 10 rfl rfl)
theorem dX4_plan_13 : decode cX4_plan 13 = .ok (.ifCond .ne 9, 3) := dk_154 0 9 (dk_at dksX4_plan_0 13 rfl rfl)
theorem dX4_plan_16 : decode cX4_plan 16 = .ok (.aload_n 0, 1) := dk_42 (dk_at dksX4_plan_0 16 rfl rfl)
theorem dX4_plan_17 : decode cX4_plan 17 = .ok (.iconst 1, 1) := dk_4 (dk_at dksX4_plan_0 17 rfl rfl)
theorem dX4_plan_18 : decode cX4_plan 18 = .ok (.invokevirtual 60, 3) := dk_182 0 60 (dk_at dksX4_plan_0 18 rfl rfl)
theorem dX4_plan_21 : decode cX4_plan 21 = .ok (.ireturn, 1) := dk_172 (dk_at dksX4_plan_0 21 rfl rfl)
theorem dX4_plan_22 : decode cX4_plan 22 = .ok (.iconst 3, 1) := dk_6 (dk_at dksX4_plan_0 22 rfl rfl)
theorem dX4_plan_23 : decode cX4_plan 23 = .ok (.newarray .int, 2) := dk_188_10 (dk_at dksX4_plan_1 0 rfl rfl)
theorem dX4_plan_25 : decode cX4_plan 25 = .ok (.astore_n 3, 1) := dk_78 (dk_at dksX4_plan_1 2 rfl rfl)
theorem dX4_plan_26 : decode cX4_plan 26 = .ok (.iconst 0, 1) := dk_3 (dk_at dksX4_plan_1 3 rfl rfl)
theorem dX4_plan_27 : decode cX4_plan 27 = .ok (.istore 4, 2) := dk_54 4 (dk_at dksX4_plan_1 4 rfl rfl)
theorem dX4_plan_29 : decode cX4_plan 29 = .ok (.iconst 0, 1) := dk_3 (dk_at dksX4_plan_1 6 rfl rfl)
theorem dX4_plan_30 : decode cX4_plan 30 = .ok (.istore 5, 2) := dk_54 5 (dk_at dksX4_plan_1 7 rfl rfl)
theorem dX4_plan_32 : decode cX4_plan 32 = .ok (.iload 5, 2) := dk_21 5 (dk_at dksX4_plan_1 9 rfl rfl)
theorem dX4_plan_34 : decode cX4_plan 34 = .ok (.aload_n 0, 1) := dk_42 (dk_at dksX4_plan_1 11 rfl rfl)
theorem dX4_plan_35 : decode cX4_plan 35 = .ok (.getfield 19, 3) := dk_180 0 19 (dk_at dksX4_plan_1 12 rfl rfl)
theorem dX4_plan_38 : decode cX4_plan 38 = .ok (.invokevirtual 48, 3) := dk_182 0 48 (dk_at dksX4_plan_1 15 rfl rfl)
theorem dX4_plan_41 : decode cX4_plan 41 = .ok (.if_icmp .ge 55, 3) := dk_162 0 55 (dk_at dksX4_plan_1 18 rfl rfl)
theorem dX4_plan_44 : decode cX4_plan 44 = .ok (.iload 4, 2) := dk_21 4 (dk_at dksX4_plan_1 21 rfl rfl)
theorem dX4_plan_46 : decode cX4_plan 46 = .ok (.iconst 3, 1) := dk_6 (dk_at dksX4_plan_1 23 rfl rfl)
theorem dX4_plan_47 : decode cX4_plan 47 = .ok (.if_icmp .ge 49, 3) := dk_162 0 49 (dk_at dksX4_plan_2 0 rfl rfl)
theorem dX4_plan_50 : decode cX4_plan 50 = .ok (.aload_n 0, 1) := dk_42 (dk_at dksX4_plan_2 3 rfl rfl)
theorem dX4_plan_51 : decode cX4_plan 51 = .ok (.getfield 19, 3) := dk_180 0 19 (dk_at dksX4_plan_2 4 rfl rfl)
theorem dX4_plan_54 : decode cX4_plan 54 = .ok (.iload 5, 2) := dk_21 5 (dk_at dksX4_plan_2 7 rfl rfl)
theorem dX4_plan_56 : decode cX4_plan 56 = .ok (.invokevirtual 90, 3) := dk_182 0 90 (dk_at dksX4_plan_2 9 rfl rfl)
theorem dX4_plan_59 : decode cX4_plan 59 = .ok (.checkcast 122, 3) := dk_192 0 122 (dk_at dksX4_plan_2 12 rfl rfl)
theorem dX4_plan_62 : decode cX4_plan 62 = .ok (.getfield 130, 3) := dk_180 0 130 (dk_at dksX4_plan_2 15 rfl rfl)
theorem dX4_plan_65 : decode cX4_plan 65 = .ok (.iload_n 1, 1) := dk_27 (dk_at dksX4_plan_2 18 rfl rfl)
theorem dX4_plan_66 : decode cX4_plan 66 = .ok (.if_icmp .ne 24, 3) := dk_160 0 24 (dk_at dksX4_plan_2 19 rfl rfl)
theorem dX4_plan_69 : decode cX4_plan 69 = .ok (.aload_n 0, 1) := dk_42 (dk_at dksX4_plan_2 22 rfl rfl)
theorem dX4_plan_70 : decode cX4_plan 70 = .ok (.iload 5, 2) := dk_21 5 (dk_at dksX4_plan_3 0 rfl rfl)
theorem dX4_plan_72 : decode cX4_plan 72 = .ok (.invokevirtual 219, 3) := dk_182 0 219 (dk_at dksX4_plan_3 2 rfl rfl)
theorem dX4_plan_75 : decode cX4_plan 75 = .ok (.ifCond .eq 6, 3) := dk_153 0 6 (dk_at dksX4_plan_3 5 rfl rfl)
theorem dX4_plan_78 : decode cX4_plan 78 = .ok (.goto 12, 3) := dk_167 0 12 (dk_at dksX4_plan_3 8 rfl rfl)
theorem dX4_plan_81 : decode cX4_plan 81 = .ok (.aload_n 3, 1) := dk_45 (dk_at dksX4_plan_3 11 rfl rfl)
theorem dX4_plan_82 : decode cX4_plan 82 = .ok (.iload 4, 2) := dk_21 4 (dk_at dksX4_plan_3 12 rfl rfl)
theorem dX4_plan_84 : decode cX4_plan 84 = .ok (.iload 5, 2) := dk_21 5 (dk_at dksX4_plan_3 14 rfl rfl)
theorem dX4_plan_86 : decode cX4_plan 86 = .ok (.iastore, 1) := dk_79 (dk_at dksX4_plan_3 16 rfl rfl)
theorem dX4_plan_87 : decode cX4_plan 87 = .ok (.iinc 4 1, 3) := dk_132 4 1 (dk_at dksX4_plan_3 17 rfl rfl)
theorem dX4_plan_90 : decode cX4_plan 90 = .ok (.iinc 5 1, 3) := dk_132 5 1 (dk_at dksX4_plan_3 20 rfl rfl)
theorem dX4_plan_93 : decode cX4_plan 93 = .ok (.goto (-61), 3) := dk_167 255 195 (dk_at dksX4_plan_4 0 rfl rfl)
theorem dX4_plan_96 : decode cX4_plan 96 = .ok (.iconst 0, 1) := dk_3 (dk_at dksX4_plan_4 3 rfl rfl)
theorem dX4_plan_97 : decode cX4_plan 97 = .ok (.istore 5, 2) := dk_54 5 (dk_at dksX4_plan_4 4 rfl rfl)
theorem dX4_plan_99 : decode cX4_plan 99 = .ok (.iconst 0, 1) := dk_3 (dk_at dksX4_plan_4 6 rfl rfl)
theorem dX4_plan_100 : decode cX4_plan 100 = .ok (.istore 6, 2) := dk_54 6 (dk_at dksX4_plan_4 7 rfl rfl)
theorem dX4_plan_102 : decode cX4_plan 102 = .ok (.iconst 1, 1) := dk_4 (dk_at dksX4_plan_4 9 rfl rfl)
theorem dX4_plan_103 : decode cX4_plan 103 = .ok (.istore 7, 2) := dk_54 7 (dk_at dksX4_plan_4 10 rfl rfl)
theorem dX4_plan_105 : decode cX4_plan 105 = .ok (.iload 7, 2) := dk_21 7 (dk_at dksX4_plan_4 12 rfl rfl)
theorem dX4_plan_107 : decode cX4_plan 107 = .ok (.iconst 1, 1) := dk_4 (dk_at dksX4_plan_4 14 rfl rfl)
theorem dX4_plan_108 : decode cX4_plan 108 = .ok (.iload 4, 2) := dk_21 4 (dk_at dksX4_plan_4 15 rfl rfl)
theorem dX4_plan_110 : decode cX4_plan 110 = .ok (.ishl, 1) := dk_120 (dk_at dksX4_plan_4 17 rfl rfl)
theorem dX4_plan_111 : decode cX4_plan 111 = .ok (.if_icmp .ge 38, 3) := dk_162 0 38 (dk_at dksX4_plan_4 18 rfl rfl)
theorem dX4_plan_114 : decode cX4_plan 114 = .ok (.aload_n 0, 1) := dk_42 (dk_at dksX4_plan_4 21 rfl rfl)
theorem dX4_plan_115 : decode cX4_plan 115 = .ok (.aload_n 3, 1) := dk_45 (dk_at dksX4_plan_4 22 rfl rfl)
theorem dX4_plan_116 : decode cX4_plan 116 = .ok (.iload 7, 2) := dk_21 7 (dk_at dksX4_plan_5 0 rfl rfl)
theorem dX4_plan_118 : decode cX4_plan 118 = .ok (.iload 4, 2) := dk_21 4 (dk_at dksX4_plan_5 2 rfl rfl)
theorem dX4_plan_120 : decode cX4_plan 120 = .ok (.invokevirtual 372, 3) := dk_182 1 116 (dk_at dksX4_plan_5 4 rfl rfl)
theorem dX4_plan_123 : decode cX4_plan 123 = .ok (.istore 8, 2) := dk_54 8 (dk_at dksX4_plan_5 7 rfl rfl)
theorem dX4_plan_125 : decode cX4_plan 125 = .ok (.iload 8, 2) := dk_21 8 (dk_at dksX4_plan_5 9 rfl rfl)
theorem dX4_plan_127 : decode cX4_plan 127 = .ok (.iload 6, 2) := dk_21 6 (dk_at dksX4_plan_5 11 rfl rfl)
theorem dX4_plan_129 : decode cX4_plan 129 = .ok (.if_icmp .gt 6, 3) := dk_163 0 6 (dk_at dksX4_plan_5 13 rfl rfl)
theorem dX4_plan_132 : decode cX4_plan 132 = .ok (.goto 11, 3) := dk_167 0 11 (dk_at dksX4_plan_5 16 rfl rfl)
theorem dX4_plan_135 : decode cX4_plan 135 = .ok (.iload 8, 2) := dk_21 8 (dk_at dksX4_plan_5 19 rfl rfl)
theorem dX4_plan_137 : decode cX4_plan 137 = .ok (.istore 6, 2) := dk_54 6 (dk_at dksX4_plan_5 21 rfl rfl)
theorem dX4_plan_139 : decode cX4_plan 139 = .ok (.iload 7, 2) := dk_21 7 (dk_at dksX4_plan_6 0 rfl rfl)
theorem dX4_plan_141 : decode cX4_plan 141 = .ok (.istore 5, 2) := dk_54 5 (dk_at dksX4_plan_6 2 rfl rfl)
theorem dX4_plan_143 : decode cX4_plan 143 = .ok (.iinc 7 1, 3) := dk_132 7 1 (dk_at dksX4_plan_6 4 rfl rfl)
theorem dX4_plan_146 : decode cX4_plan 146 = .ok (.goto (-41), 3) := dk_167 255 215 (dk_at dksX4_plan_6 7 rfl rfl)
theorem dX4_plan_149 : decode cX4_plan 149 = .ok (.iconst 0, 1) := dk_3 (dk_at dksX4_plan_6 10 rfl rfl)
theorem dX4_plan_150 : decode cX4_plan 150 = .ok (.istore 7, 2) := dk_54 7 (dk_at dksX4_plan_6 11 rfl rfl)
theorem dX4_plan_152 : decode cX4_plan 152 = .ok (.iconst 0, 1) := dk_3 (dk_at dksX4_plan_6 13 rfl rfl)
theorem dX4_plan_153 : decode cX4_plan 153 = .ok (.istore 8, 2) := dk_54 8 (dk_at dksX4_plan_6 14 rfl rfl)
theorem dX4_plan_155 : decode cX4_plan 155 = .ok (.iload 8, 2) := dk_21 8 (dk_at dksX4_plan_6 16 rfl rfl)
theorem dX4_plan_157 : decode cX4_plan 157 = .ok (.iload 4, 2) := dk_21 4 (dk_at dksX4_plan_6 18 rfl rfl)
theorem dX4_plan_159 : decode cX4_plan 159 = .ok (.if_icmp .ge 34, 3) := dk_162 0 34 (dk_at dksX4_plan_6 20 rfl rfl)
theorem dX4_plan_162 : decode cX4_plan 162 = .ok (.iload 7, 2) := dk_21 7 (dk_at dksX4_plan_7 0 rfl rfl)
theorem dX4_plan_164 : decode cX4_plan 164 = .ok (.iload 5, 2) := dk_21 5 (dk_at dksX4_plan_7 2 rfl rfl)
theorem dX4_plan_166 : decode cX4_plan 166 = .ok (.iload 8, 2) := dk_21 8 (dk_at dksX4_plan_7 4 rfl rfl)
theorem dX4_plan_168 : decode cX4_plan 168 = .ok (.invokestatic 102, 3) := dk_184 0 102 (dk_at dksX4_plan_7 6 rfl rfl)
theorem dX4_plan_171 : decode cX4_plan 171 = .ok (.ifCond .eq 12, 3) := dk_153 0 12 (dk_at dksX4_plan_7 9 rfl rfl)
theorem dX4_plan_174 : decode cX4_plan 174 = .ok (.iconst 1, 1) := dk_4 (dk_at dksX4_plan_7 12 rfl rfl)
theorem dX4_plan_175 : decode cX4_plan 175 = .ok (.aload_n 3, 1) := dk_45 (dk_at dksX4_plan_7 13 rfl rfl)
theorem dX4_plan_176 : decode cX4_plan 176 = .ok (.iload 8, 2) := dk_21 8 (dk_at dksX4_plan_7 14 rfl rfl)
theorem dX4_plan_178 : decode cX4_plan 178 = .ok (.iaload, 1) := dk_46 (dk_at dksX4_plan_7 16 rfl rfl)
theorem dX4_plan_179 : decode cX4_plan 179 = .ok (.ishl, 1) := dk_120 (dk_at dksX4_plan_7 17 rfl rfl)
theorem dX4_plan_180 : decode cX4_plan 180 = .ok (.goto 4, 3) := dk_167 0 4 (dk_at dksX4_plan_7 18 rfl rfl)
theorem dX4_plan_183 : decode cX4_plan 183 = .ok (.iconst 0, 1) := dk_3 (dk_at dksX4_plan_7 21 rfl rfl)
theorem dX4_plan_184 : decode cX4_plan 184 = .ok (.ior, 1) := dk_128 (dk_at dksX4_plan_7 22 rfl rfl)
theorem dX4_plan_185 : decode cX4_plan 185 = .ok (.istore 7, 2) := dk_54 7 (dk_at dksX4_plan_8 0 rfl rfl)
theorem dX4_plan_187 : decode cX4_plan 187 = .ok (.iinc 8 1, 3) := dk_132 8 1 (dk_at dksX4_plan_8 2 rfl rfl)
theorem dX4_plan_190 : decode cX4_plan 190 = .ok (.goto (-35), 3) := dk_167 255 221 (dk_at dksX4_plan_8 5 rfl rfl)
theorem dX4_plan_193 : decode cX4_plan 193 = .ok (.iload_n 2, 1) := dk_28 (dk_at dksX4_plan_8 8 rfl rfl)
theorem dX4_plan_194 : decode cX4_plan 194 = .ok (.ifCond .eq 8, 3) := dk_153 0 8 (dk_at dksX4_plan_8 9 rfl rfl)
theorem dX4_plan_197 : decode cX4_plan 197 = .ok (.iload 7, 2) := dk_21 7 (dk_at dksX4_plan_8 12 rfl rfl)
theorem dX4_plan_199 : decode cX4_plan 199 = .ok (.goto 5, 3) := dk_167 0 5 (dk_at dksX4_plan_8 14 rfl rfl)
theorem dX4_plan_202 : decode cX4_plan 202 = .ok (.iload 6, 2) := dk_21 6 (dk_at dksX4_plan_8 17 rfl rfl)
theorem dX4_plan_204 : decode cX4_plan 204 = .ok (.ireturn, 1) := dk_172 (dk_at dksX4_plan_8 19 rfl rfl)
abbrev cX4_tried : ByteArray := prog_13_method_76_code
def yX4_tried : MethodName := ⟨RX4, "tried", "([III)I"⟩
def dkwX4_tried_7 : List UInt8 := [181, 0, 207, 25, 8, 3, 181, 0, 210, 132, 7, 1, 167, 255, 194, 42, 21, 6, 181, 0, 213, 21, 4, 172]
abbrev dktX4_tried_7 : List UInt8 := dkwX4_tried_7 ++ []
def dkwX4_tried_6 : List UInt8 := [182, 0, 90, 192, 0, 122, 58, 8, 25, 8, 3, 181, 0, 124, 25, 8, 3, 181, 0, 160, 25, 8, 3]
abbrev dktX4_tried_6 : List UInt8 := dkwX4_tried_6 ++ dktX4_tried_7
def dkwX4_tried_5 : List UInt8 := [162, 0, 62, 21, 5, 21, 7, 184, 0, 102, 154, 0, 6, 167, 0, 43, 42, 180, 0, 19, 43, 21, 7, 46]
abbrev dktX4_tried_5 : List UInt8 := dkwX4_tried_5 ++ dktX4_tried_6
def dkwX4_tried_4 : List UInt8 := [182, 0, 90, 192, 0, 122, 180, 0, 207, 96, 54, 4, 132, 7, 1, 167, 255, 162, 3, 54, 7, 21, 7, 29]
abbrev dktX4_tried_4 : List UInt8 := dkwX4_tried_4 ++ dktX4_tried_5
def dkwX4_tried_3 : List UInt8 := [182, 0, 222, 21, 5, 4, 21, 7, 120, 128, 54, 5, 21, 4, 42, 180, 0, 19, 43, 21, 7, 46]
abbrev dktX4_tried_3 : List UInt8 := dkwX4_tried_3 ++ dktX4_tried_4
def dkwX4_tried_2 : List UInt8 := [160, 0, 8, 19, 1, 120, 54, 4, 21, 8, 2, 160, 0, 6, 167, 0, 44, 42, 43, 21, 7, 46, 21, 8]
abbrev dktX4_tried_2 : List UInt8 := dkwX4_tried_2 ++ dktX4_tried_3
def dkwX4_tried_1 : List UInt8 := [184, 0, 102, 154, 0, 6, 167, 0, 76, 42, 43, 21, 7, 46, 3, 3, 182, 0, 200, 54, 8, 21, 8, 2]
abbrev dktX4_tried_1 : List UInt8 := dkwX4_tried_1 ++ dktX4_tried_2
def dkwX4_tried_0 : List UInt8 := [3, 54, 4, 3, 54, 5, 42, 180, 0, 213, 54, 6, 3, 54, 7, 21, 7, 29, 162, 0, 94, 28, 21, 7]
abbrev dktX4_tried_0 : List UInt8 := dkwX4_tried_0 ++ dktX4_tried_1
theorem dksX4_tried_0 : cX4_tried.data.toList.drop 0 = dktX4_tried_0 := by decide +kernel
theorem dksX4_tried_1 : cX4_tried.data.toList.drop 24 = dktX4_tried_1 := dk_seg dksX4_tried_0 24 rfl rfl
theorem dksX4_tried_2 : cX4_tried.data.toList.drop 48 = dktX4_tried_2 := dk_seg dksX4_tried_1 24 rfl rfl
theorem dksX4_tried_3 : cX4_tried.data.toList.drop 72 = dktX4_tried_3 := dk_seg dksX4_tried_2 24 rfl rfl
theorem dksX4_tried_4 : cX4_tried.data.toList.drop 94 = dktX4_tried_4 := dk_seg dksX4_tried_3 22 rfl rfl
theorem dksX4_tried_5 : cX4_tried.data.toList.drop 118 = dktX4_tried_5 := dk_seg dksX4_tried_4 24 rfl rfl
theorem dksX4_tried_6 : cX4_tried.data.toList.drop 142 = dktX4_tried_6 := dk_seg dksX4_tried_5 24 rfl rfl
theorem dksX4_tried_7 : cX4_tried.data.toList.drop 165 = dktX4_tried_7 := dk_seg dksX4_tried_6 23 rfl rfl
theorem dX4_tried_0 : decode cX4_tried 0 = .ok (.iconst 0, 1) := dk_3 (dk_at dksX4_tried_0 0 rfl rfl)
theorem dX4_tried_1 : decode cX4_tried 1 = .ok (.istore 4, 2) := dk_54 4 (dk_at dksX4_tried_0 1 rfl rfl)
theorem dX4_tried_3 : decode cX4_tried 3 = .ok (.iconst 0, 1) := dk_3 (dk_at dksX4_tried_0 3 rfl rfl)
theorem dX4_tried_4 : decode cX4_tried 4 = .ok (.istore 5, 2) := dk_54 5 (dk_at dksX4_tried_0 4 rfl rfl)
theorem dX4_tried_6 : decode cX4_tried 6 = .ok (.aload_n 0, 1) := dk_42 (dk_at dksX4_tried_0 6 rfl rfl)
theorem dX4_tried_7 : decode cX4_tried 7 = .ok (.getfield 213, 3) := dk_180 0 213 (dk_at dksX4_tried_0 7 rfl rfl)
theorem dX4_tried_10 : decode cX4_tried 10 = .ok (.istore 6, 2) := dk_54 6 (dk_at dksX4_tried_0 10 rfl rfl)
theorem dX4_tried_12 : decode cX4_tried 12 = .ok (.iconst 0, 1) := dk_3 (dk_at dksX4_tried_0 12 rfl rfl)
theorem dX4_tried_13 : decode cX4_tried 13 = .ok (.istore 7, 2) := dk_54 7 (dk_at dksX4_tried_0 13 rfl rfl)
theorem dX4_tried_15 : decode cX4_tried 15 = .ok (.iload 7, 2) := dk_21 7 (dk_at dksX4_tried_0 15 rfl rfl)
theorem dX4_tried_17 : decode cX4_tried 17 = .ok (.iload_n 3, 1) := dk_29 (dk_at dksX4_tried_0 17 rfl rfl)
theorem dX4_tried_18 : decode cX4_tried 18 = .ok (.if_icmp .ge 94, 3) := dk_162 0 94 (dk_at dksX4_tried_0 18 rfl rfl)
theorem dX4_tried_21 : decode cX4_tried 21 = .ok (.iload_n 2, 1) := dk_28 (dk_at dksX4_tried_0 21 rfl rfl)
theorem dX4_tried_22 : decode cX4_tried 22 = .ok (.iload 7, 2) := dk_21 7 (dk_at dksX4_tried_0 22 rfl rfl)
theorem dX4_tried_24 : decode cX4_tried 24 = .ok (.invokestatic 102, 3) := dk_184 0 102 (dk_at dksX4_tried_1 0 rfl rfl)
theorem dX4_tried_27 : decode cX4_tried 27 = .ok (.ifCond .ne 6, 3) := dk_154 0 6 (dk_at dksX4_tried_1 3 rfl rfl)
theorem dX4_tried_30 : decode cX4_tried 30 = .ok (.goto 76, 3) := dk_167 0 76 (dk_at dksX4_tried_1 6 rfl rfl)
theorem dX4_tried_33 : decode cX4_tried 33 = .ok (.aload_n 0, 1) := dk_42 (dk_at dksX4_tried_1 9 rfl rfl)
theorem dX4_tried_34 : decode cX4_tried 34 = .ok (.aload_n 1, 1) := dk_43 (dk_at dksX4_tried_1 10 rfl rfl)
theorem dX4_tried_35 : decode cX4_tried 35 = .ok (.iload 7, 2) := dk_21 7 (dk_at dksX4_tried_1 11 rfl rfl)
theorem dX4_tried_37 : decode cX4_tried 37 = .ok (.iaload, 1) := dk_46 (dk_at dksX4_tried_1 13 rfl rfl)
theorem dX4_tried_38 : decode cX4_tried 38 = .ok (.iconst 0, 1) := dk_3 (dk_at dksX4_tried_1 14 rfl rfl)
theorem dX4_tried_39 : decode cX4_tried 39 = .ok (.iconst 0, 1) := dk_3 (dk_at dksX4_tried_1 15 rfl rfl)
theorem dX4_tried_40 : decode cX4_tried 40 = .ok (.invokevirtual 200, 3) := dk_182 0 200 (dk_at dksX4_tried_1 16 rfl rfl)
theorem dX4_tried_43 : decode cX4_tried 43 = .ok (.istore 8, 2) := dk_54 8 (dk_at dksX4_tried_1 19 rfl rfl)
theorem dX4_tried_45 : decode cX4_tried 45 = .ok (.iload 8, 2) := dk_21 8 (dk_at dksX4_tried_1 21 rfl rfl)
theorem dX4_tried_47 : decode cX4_tried 47 = .ok (.iconst (-1), 1) := dk_2 (dk_at dksX4_tried_1 23 rfl rfl)
theorem dX4_tried_48 : decode cX4_tried 48 = .ok (.if_icmp .ne 8, 3) := dk_160 0 8 (dk_at dksX4_tried_2 0 rfl rfl)
theorem dX4_tried_51 : decode cX4_tried 51 = .ok (.ldc_w 376, 3) := dk_19 1 120 (dk_at dksX4_tried_2 3 rfl rfl)
theorem dX4_tried_54 : decode cX4_tried 54 = .ok (.istore 4, 2) := dk_54 4 (dk_at dksX4_tried_2 6 rfl rfl)
theorem dX4_tried_56 : decode cX4_tried 56 = .ok (.iload 8, 2) := dk_21 8 (dk_at dksX4_tried_2 8 rfl rfl)
theorem dX4_tried_58 : decode cX4_tried 58 = .ok (.iconst (-1), 1) := dk_2 (dk_at dksX4_tried_2 10 rfl rfl)
theorem dX4_tried_59 : decode cX4_tried 59 = .ok (.if_icmp .ne 6, 3) := dk_160 0 6 (dk_at dksX4_tried_2 11 rfl rfl)
theorem dX4_tried_62 : decode cX4_tried 62 = .ok (.goto 44, 3) := dk_167 0 44 (dk_at dksX4_tried_2 14 rfl rfl)
theorem dX4_tried_65 : decode cX4_tried 65 = .ok (.aload_n 0, 1) := dk_42 (dk_at dksX4_tried_2 17 rfl rfl)
theorem dX4_tried_66 : decode cX4_tried 66 = .ok (.aload_n 1, 1) := dk_43 (dk_at dksX4_tried_2 18 rfl rfl)
theorem dX4_tried_67 : decode cX4_tried 67 = .ok (.iload 7, 2) := dk_21 7 (dk_at dksX4_tried_2 19 rfl rfl)
theorem dX4_tried_69 : decode cX4_tried 69 = .ok (.iaload, 1) := dk_46 (dk_at dksX4_tried_2 21 rfl rfl)
theorem dX4_tried_70 : decode cX4_tried 70 = .ok (.iload 8, 2) := dk_21 8 (dk_at dksX4_tried_2 22 rfl rfl)
theorem dX4_tried_72 : decode cX4_tried 72 = .ok (.invokevirtual 222, 3) := dk_182 0 222 (dk_at dksX4_tried_3 0 rfl rfl)
theorem dX4_tried_75 : decode cX4_tried 75 = .ok (.iload 5, 2) := dk_21 5 (dk_at dksX4_tried_3 3 rfl rfl)
theorem dX4_tried_77 : decode cX4_tried 77 = .ok (.iconst 1, 1) := dk_4 (dk_at dksX4_tried_3 5 rfl rfl)
theorem dX4_tried_78 : decode cX4_tried 78 = .ok (.iload 7, 2) := dk_21 7 (dk_at dksX4_tried_3 6 rfl rfl)
theorem dX4_tried_80 : decode cX4_tried 80 = .ok (.ishl, 1) := dk_120 (dk_at dksX4_tried_3 8 rfl rfl)
theorem dX4_tried_81 : decode cX4_tried 81 = .ok (.ior, 1) := dk_128 (dk_at dksX4_tried_3 9 rfl rfl)
theorem dX4_tried_82 : decode cX4_tried 82 = .ok (.istore 5, 2) := dk_54 5 (dk_at dksX4_tried_3 10 rfl rfl)
theorem dX4_tried_84 : decode cX4_tried 84 = .ok (.iload 4, 2) := dk_21 4 (dk_at dksX4_tried_3 12 rfl rfl)
theorem dX4_tried_86 : decode cX4_tried 86 = .ok (.aload_n 0, 1) := dk_42 (dk_at dksX4_tried_3 14 rfl rfl)
theorem dX4_tried_87 : decode cX4_tried 87 = .ok (.getfield 19, 3) := dk_180 0 19 (dk_at dksX4_tried_3 15 rfl rfl)
theorem dX4_tried_90 : decode cX4_tried 90 = .ok (.aload_n 1, 1) := dk_43 (dk_at dksX4_tried_3 18 rfl rfl)
theorem dX4_tried_91 : decode cX4_tried 91 = .ok (.iload 7, 2) := dk_21 7 (dk_at dksX4_tried_3 19 rfl rfl)
theorem dX4_tried_93 : decode cX4_tried 93 = .ok (.iaload, 1) := dk_46 (dk_at dksX4_tried_3 21 rfl rfl)
theorem dX4_tried_94 : decode cX4_tried 94 = .ok (.invokevirtual 90, 3) := dk_182 0 90 (dk_at dksX4_tried_4 0 rfl rfl)
theorem dX4_tried_97 : decode cX4_tried 97 = .ok (.checkcast 122, 3) := dk_192 0 122 (dk_at dksX4_tried_4 3 rfl rfl)
theorem dX4_tried_100 : decode cX4_tried 100 = .ok (.getfield 207, 3) := dk_180 0 207 (dk_at dksX4_tried_4 6 rfl rfl)
theorem dX4_tried_103 : decode cX4_tried 103 = .ok (.iadd, 1) := dk_96 (dk_at dksX4_tried_4 9 rfl rfl)
theorem dX4_tried_104 : decode cX4_tried 104 = .ok (.istore 4, 2) := dk_54 4 (dk_at dksX4_tried_4 10 rfl rfl)
theorem dX4_tried_106 : decode cX4_tried 106 = .ok (.iinc 7 1, 3) := dk_132 7 1 (dk_at dksX4_tried_4 12 rfl rfl)
theorem dX4_tried_109 : decode cX4_tried 109 = .ok (.goto (-94), 3) := dk_167 255 162 (dk_at dksX4_tried_4 15 rfl rfl)
theorem dX4_tried_112 : decode cX4_tried 112 = .ok (.iconst 0, 1) := dk_3 (dk_at dksX4_tried_4 18 rfl rfl)
theorem dX4_tried_113 : decode cX4_tried 113 = .ok (.istore 7, 2) := dk_54 7 (dk_at dksX4_tried_4 19 rfl rfl)
theorem dX4_tried_115 : decode cX4_tried 115 = .ok (.iload 7, 2) := dk_21 7 (dk_at dksX4_tried_4 21 rfl rfl)
theorem dX4_tried_117 : decode cX4_tried 117 = .ok (.iload_n 3, 1) := dk_29 (dk_at dksX4_tried_4 23 rfl rfl)
theorem dX4_tried_118 : decode cX4_tried 118 = .ok (.if_icmp .ge 62, 3) := dk_162 0 62 (dk_at dksX4_tried_5 0 rfl rfl)
theorem dX4_tried_121 : decode cX4_tried 121 = .ok (.iload 5, 2) := dk_21 5 (dk_at dksX4_tried_5 3 rfl rfl)
theorem dX4_tried_123 : decode cX4_tried 123 = .ok (.iload 7, 2) := dk_21 7 (dk_at dksX4_tried_5 5 rfl rfl)
theorem dX4_tried_125 : decode cX4_tried 125 = .ok (.invokestatic 102, 3) := dk_184 0 102 (dk_at dksX4_tried_5 7 rfl rfl)
theorem dX4_tried_128 : decode cX4_tried 128 = .ok (.ifCond .ne 6, 3) := dk_154 0 6 (dk_at dksX4_tried_5 10 rfl rfl)
theorem dX4_tried_131 : decode cX4_tried 131 = .ok (.goto 43, 3) := dk_167 0 43 (dk_at dksX4_tried_5 13 rfl rfl)
theorem dX4_tried_134 : decode cX4_tried 134 = .ok (.aload_n 0, 1) := dk_42 (dk_at dksX4_tried_5 16 rfl rfl)
theorem dX4_tried_135 : decode cX4_tried 135 = .ok (.getfield 19, 3) := dk_180 0 19 (dk_at dksX4_tried_5 17 rfl rfl)
theorem dX4_tried_138 : decode cX4_tried 138 = .ok (.aload_n 1, 1) := dk_43 (dk_at dksX4_tried_5 20 rfl rfl)
theorem dX4_tried_139 : decode cX4_tried 139 = .ok (.iload 7, 2) := dk_21 7 (dk_at dksX4_tried_5 21 rfl rfl)
theorem dX4_tried_141 : decode cX4_tried 141 = .ok (.iaload, 1) := dk_46 (dk_at dksX4_tried_5 23 rfl rfl)
theorem dX4_tried_142 : decode cX4_tried 142 = .ok (.invokevirtual 90, 3) := dk_182 0 90 (dk_at dksX4_tried_6 0 rfl rfl)
theorem dX4_tried_145 : decode cX4_tried 145 = .ok (.checkcast 122, 3) := dk_192 0 122 (dk_at dksX4_tried_6 3 rfl rfl)
theorem dX4_tried_148 : decode cX4_tried 148 = .ok (.astore 8, 2) := dk_58 8 (dk_at dksX4_tried_6 6 rfl rfl)
theorem dX4_tried_150 : decode cX4_tried 150 = .ok (.aload 8, 2) := dk_25 8 (dk_at dksX4_tried_6 8 rfl rfl)
theorem dX4_tried_152 : decode cX4_tried 152 = .ok (.iconst 0, 1) := dk_3 (dk_at dksX4_tried_6 10 rfl rfl)
theorem dX4_tried_153 : decode cX4_tried 153 = .ok (.putfield 124, 3) := dk_181 0 124 (dk_at dksX4_tried_6 11 rfl rfl)
theorem dX4_tried_156 : decode cX4_tried 156 = .ok (.aload 8, 2) := dk_25 8 (dk_at dksX4_tried_6 14 rfl rfl)
theorem dX4_tried_158 : decode cX4_tried 158 = .ok (.iconst 0, 1) := dk_3 (dk_at dksX4_tried_6 16 rfl rfl)
theorem dX4_tried_159 : decode cX4_tried 159 = .ok (.putfield 160, 3) := dk_181 0 160 (dk_at dksX4_tried_6 17 rfl rfl)
theorem dX4_tried_162 : decode cX4_tried 162 = .ok (.aload 8, 2) := dk_25 8 (dk_at dksX4_tried_6 20 rfl rfl)
theorem dX4_tried_164 : decode cX4_tried 164 = .ok (.iconst 0, 1) := dk_3 (dk_at dksX4_tried_6 22 rfl rfl)
theorem dX4_tried_165 : decode cX4_tried 165 = .ok (.putfield 207, 3) := dk_181 0 207 (dk_at dksX4_tried_7 0 rfl rfl)
theorem dX4_tried_168 : decode cX4_tried 168 = .ok (.aload 8, 2) := dk_25 8 (dk_at dksX4_tried_7 3 rfl rfl)
theorem dX4_tried_170 : decode cX4_tried 170 = .ok (.iconst 0, 1) := dk_3 (dk_at dksX4_tried_7 5 rfl rfl)
theorem dX4_tried_171 : decode cX4_tried 171 = .ok (.putfield 210, 3) := dk_181 0 210 (dk_at dksX4_tried_7 6 rfl rfl)
theorem dX4_tried_174 : decode cX4_tried 174 = .ok (.iinc 7 1, 3) := dk_132 7 1 (dk_at dksX4_tried_7 9 rfl rfl)
theorem dX4_tried_177 : decode cX4_tried 177 = .ok (.goto (-62), 3) := dk_167 255 194 (dk_at dksX4_tried_7 12 rfl rfl)
theorem dX4_tried_180 : decode cX4_tried 180 = .ok (.aload_n 0, 1) := dk_42 (dk_at dksX4_tried_7 15 rfl rfl)
theorem dX4_tried_181 : decode cX4_tried 181 = .ok (.iload 6, 2) := dk_21 6 (dk_at dksX4_tried_7 16 rfl rfl)
theorem dX4_tried_183 : decode cX4_tried 183 = .ok (.putfield 213, 3) := dk_181 0 213 (dk_at dksX4_tried_7 18 rfl rfl)
theorem dX4_tried_186 : decode cX4_tried 186 = .ok (.iload 4, 2) := dk_21 4 (dk_at dksX4_tried_7 21 rfl rfl)
theorem dX4_tried_188 : decode cX4_tried 188 = .ok (.ireturn, 1) := dk_172 (dk_at dksX4_tried_7 23 rfl rfl)
abbrev cX4_wouldCancel : ByteArray := prog_13_method_77_code
def yX4_wouldCancel : MethodName := ⟨RX4, "wouldCancel", "(I)I"⟩
def dkwX4_wouldCancel_2 : List UInt8 := [180, 0, 210, 100, 184, 0, 244, 42, 44, 182, 1, 8, 100, 167, 0, 8, 42, 5, 182, 0, 60, 172]
abbrev dktX4_wouldCancel_2 : List UInt8 := dkwX4_wouldCancel_2 ++ []
def dkwX4_wouldCancel_1 : List UInt8 := [182, 0, 90, 192, 0, 122, 77, 44, 180, 0, 124, 4, 160, 0, 26, 3, 42, 44, 182, 0, 240, 44]
abbrev dktX4_wouldCancel_1 : List UInt8 := dkwX4_wouldCancel_1 ++ dktX4_wouldCancel_2
def dkwX4_wouldCancel_0 : List UInt8 := [42, 3, 181, 0, 44, 42, 27, 182, 0, 216, 154, 0, 9, 42, 4, 182, 0, 60, 172, 42, 180, 0, 19, 27]
abbrev dktX4_wouldCancel_0 : List UInt8 := dkwX4_wouldCancel_0 ++ dktX4_wouldCancel_1
theorem dksX4_wouldCancel_0 : cX4_wouldCancel.data.toList.drop 0 = dktX4_wouldCancel_0 := by decide +kernel
theorem dksX4_wouldCancel_1 : cX4_wouldCancel.data.toList.drop 24 = dktX4_wouldCancel_1 := dk_seg dksX4_wouldCancel_0 24 rfl rfl
theorem dksX4_wouldCancel_2 : cX4_wouldCancel.data.toList.drop 46 = dktX4_wouldCancel_2 := dk_seg dksX4_wouldCancel_1 22 rfl rfl
theorem dX4_wouldCancel_0 : decode cX4_wouldCancel 0 = .ok (.aload_n 0, 1) := dk_42 (dk_at dksX4_wouldCancel_0 0 rfl rfl)
theorem dX4_wouldCancel_1 : decode cX4_wouldCancel 1 = .ok (.iconst 0, 1) := dk_3 (dk_at dksX4_wouldCancel_0 1 rfl rfl)
theorem dX4_wouldCancel_2 : decode cX4_wouldCancel 2 = .ok (.putfield 44, 3) := dk_181 0 44 (dk_at dksX4_wouldCancel_0 2 rfl rfl)
theorem dX4_wouldCancel_5 : decode cX4_wouldCancel 5 = .ok (.aload_n 0, 1) := dk_42 (dk_at dksX4_wouldCancel_0 5 rfl rfl)
theorem dX4_wouldCancel_6 : decode cX4_wouldCancel 6 = .ok (.iload_n 1, 1) := dk_27 (dk_at dksX4_wouldCancel_0 6 rfl rfl)
theorem dX4_wouldCancel_7 : decode cX4_wouldCancel 7 = .ok (.invokevirtual 216, 3) := dk_182 0 216 (dk_at dksX4_wouldCancel_0 7 rfl rfl)
theorem dX4_wouldCancel_10 : decode cX4_wouldCancel 10 = .ok (.ifCond .ne 9, 3) := dk_154 0 9 (dk_at dksX4_wouldCancel_0 10 rfl rfl)
theorem dX4_wouldCancel_13 : decode cX4_wouldCancel 13 = .ok (.aload_n 0, 1) := dk_42 (dk_at dksX4_wouldCancel_0 13 rfl rfl)
theorem dX4_wouldCancel_14 : decode cX4_wouldCancel 14 = .ok (.iconst 1, 1) := dk_4 (dk_at dksX4_wouldCancel_0 14 rfl rfl)
theorem dX4_wouldCancel_15 : decode cX4_wouldCancel 15 = .ok (.invokevirtual 60, 3) := dk_182 0 60 (dk_at dksX4_wouldCancel_0 15 rfl rfl)
theorem dX4_wouldCancel_18 : decode cX4_wouldCancel 18 = .ok (.ireturn, 1) := dk_172 (dk_at dksX4_wouldCancel_0 18 rfl rfl)
theorem dX4_wouldCancel_19 : decode cX4_wouldCancel 19 = .ok (.aload_n 0, 1) := dk_42 (dk_at dksX4_wouldCancel_0 19 rfl rfl)
theorem dX4_wouldCancel_20 : decode cX4_wouldCancel 20 = .ok (.getfield 19, 3) := dk_180 0 19 (dk_at dksX4_wouldCancel_0 20 rfl rfl)
theorem dX4_wouldCancel_23 : decode cX4_wouldCancel 23 = .ok (.iload_n 1, 1) := dk_27 (dk_at dksX4_wouldCancel_0 23 rfl rfl)
theorem dX4_wouldCancel_24 : decode cX4_wouldCancel 24 = .ok (.invokevirtual 90, 3) := dk_182 0 90 (dk_at dksX4_wouldCancel_1 0 rfl rfl)
theorem dX4_wouldCancel_27 : decode cX4_wouldCancel 27 = .ok (.checkcast 122, 3) := dk_192 0 122 (dk_at dksX4_wouldCancel_1 3 rfl rfl)
theorem dX4_wouldCancel_30 : decode cX4_wouldCancel 30 = .ok (.astore_n 2, 1) := dk_77 (dk_at dksX4_wouldCancel_1 6 rfl rfl)
theorem dX4_wouldCancel_31 : decode cX4_wouldCancel 31 = .ok (.aload_n 2, 1) := dk_44 (dk_at dksX4_wouldCancel_1 7 rfl rfl)
theorem dX4_wouldCancel_32 : decode cX4_wouldCancel 32 = .ok (.getfield 124, 3) := dk_180 0 124 (dk_at dksX4_wouldCancel_1 8 rfl rfl)
theorem dX4_wouldCancel_35 : decode cX4_wouldCancel 35 = .ok (.iconst 1, 1) := dk_4 (dk_at dksX4_wouldCancel_1 11 rfl rfl)
theorem dX4_wouldCancel_36 : decode cX4_wouldCancel 36 = .ok (.if_icmp .ne 26, 3) := dk_160 0 26 (dk_at dksX4_wouldCancel_1 12 rfl rfl)
theorem dX4_wouldCancel_39 : decode cX4_wouldCancel 39 = .ok (.iconst 0, 1) := dk_3 (dk_at dksX4_wouldCancel_1 15 rfl rfl)
theorem dX4_wouldCancel_40 : decode cX4_wouldCancel 40 = .ok (.aload_n 0, 1) := dk_42 (dk_at dksX4_wouldCancel_1 16 rfl rfl)
theorem dX4_wouldCancel_41 : decode cX4_wouldCancel 41 = .ok (.aload_n 2, 1) := dk_44 (dk_at dksX4_wouldCancel_1 17 rfl rfl)
theorem dX4_wouldCancel_42 : decode cX4_wouldCancel 42 = .ok (.invokevirtual 240, 3) := dk_182 0 240 (dk_at dksX4_wouldCancel_1 18 rfl rfl)
theorem dX4_wouldCancel_45 : decode cX4_wouldCancel 45 = .ok (.aload_n 2, 1) := dk_44 (dk_at dksX4_wouldCancel_1 21 rfl rfl)
theorem dX4_wouldCancel_46 : decode cX4_wouldCancel 46 = .ok (.getfield 210, 3) := dk_180 0 210 (dk_at dksX4_wouldCancel_2 0 rfl rfl)
theorem dX4_wouldCancel_49 : decode cX4_wouldCancel 49 = .ok (.isub, 1) := dk_100 (dk_at dksX4_wouldCancel_2 3 rfl rfl)
theorem dX4_wouldCancel_50 : decode cX4_wouldCancel 50 = .ok (.invokestatic 244, 3) := dk_184 0 244 (dk_at dksX4_wouldCancel_2 4 rfl rfl)
theorem dX4_wouldCancel_53 : decode cX4_wouldCancel 53 = .ok (.aload_n 0, 1) := dk_42 (dk_at dksX4_wouldCancel_2 7 rfl rfl)
theorem dX4_wouldCancel_54 : decode cX4_wouldCancel 54 = .ok (.aload_n 2, 1) := dk_44 (dk_at dksX4_wouldCancel_2 8 rfl rfl)
theorem dX4_wouldCancel_55 : decode cX4_wouldCancel 55 = .ok (.invokevirtual 264, 3) := dk_182 1 8 (dk_at dksX4_wouldCancel_2 9 rfl rfl)
theorem dX4_wouldCancel_58 : decode cX4_wouldCancel 58 = .ok (.isub, 1) := dk_100 (dk_at dksX4_wouldCancel_2 12 rfl rfl)
theorem dX4_wouldCancel_59 : decode cX4_wouldCancel 59 = .ok (.goto 8, 3) := dk_167 0 8 (dk_at dksX4_wouldCancel_2 13 rfl rfl)
theorem dX4_wouldCancel_62 : decode cX4_wouldCancel 62 = .ok (.aload_n 0, 1) := dk_42 (dk_at dksX4_wouldCancel_2 16 rfl rfl)
theorem dX4_wouldCancel_63 : decode cX4_wouldCancel 63 = .ok (.iconst 2, 1) := dk_5 (dk_at dksX4_wouldCancel_2 17 rfl rfl)
theorem dX4_wouldCancel_64 : decode cX4_wouldCancel 64 = .ok (.invokevirtual 60, 3) := dk_182 0 60 (dk_at dksX4_wouldCancel_2 18 rfl rfl)
theorem dX4_wouldCancel_67 : decode cX4_wouldCancel 67 = .ok (.ireturn, 1) := dk_172 (dk_at dksX4_wouldCancel_2 21 rfl rfl)
abbrev cX4_key : ByteArray := prog_13_method_78_code
def yX4_key : MethodName := ⟨RX4, "key", "(I)I"⟩
def dkwX4_key_2 : List UInt8 := [4, 28, 120, 3, 182, 0, 200, 2, 160, 0, 5, 28, 172, 132, 2, 1, 167, 255, 227, 2, 172]
abbrev dktX4_key_2 : List UInt8 := dkwX4_key_2 ++ []
def dkwX4_key_1 : List UInt8 := [182, 0, 200, 2, 160, 0, 5, 2, 172, 3, 61, 28, 42, 180, 0, 10, 182, 0, 48, 162, 0, 24, 42, 27]
abbrev dktX4_key_1 : List UInt8 := dkwX4_key_1 ++ dktX4_key_2
def dkwX4_key_0 : List UInt8 := [42, 3, 181, 0, 44, 42, 27, 182, 0, 216, 154, 0, 9, 42, 4, 182, 0, 60, 172, 42, 27, 3, 3]
abbrev dktX4_key_0 : List UInt8 := dkwX4_key_0 ++ dktX4_key_1
theorem dksX4_key_0 : cX4_key.data.toList.drop 0 = dktX4_key_0 := by decide +kernel
theorem dksX4_key_1 : cX4_key.data.toList.drop 23 = dktX4_key_1 := dk_seg dksX4_key_0 23 rfl rfl
theorem dksX4_key_2 : cX4_key.data.toList.drop 47 = dktX4_key_2 := dk_seg dksX4_key_1 24 rfl rfl
theorem dX4_key_0 : decode cX4_key 0 = .ok (.aload_n 0, 1) := dk_42 (dk_at dksX4_key_0 0 rfl rfl)
theorem dX4_key_1 : decode cX4_key 1 = .ok (.iconst 0, 1) := dk_3 (dk_at dksX4_key_0 1 rfl rfl)
theorem dX4_key_2 : decode cX4_key 2 = .ok (.putfield 44, 3) := dk_181 0 44 (dk_at dksX4_key_0 2 rfl rfl)
theorem dX4_key_5 : decode cX4_key 5 = .ok (.aload_n 0, 1) := dk_42 (dk_at dksX4_key_0 5 rfl rfl)
theorem dX4_key_6 : decode cX4_key 6 = .ok (.iload_n 1, 1) := dk_27 (dk_at dksX4_key_0 6 rfl rfl)
theorem dX4_key_7 : decode cX4_key 7 = .ok (.invokevirtual 216, 3) := dk_182 0 216 (dk_at dksX4_key_0 7 rfl rfl)
theorem dX4_key_10 : decode cX4_key 10 = .ok (.ifCond .ne 9, 3) := dk_154 0 9 (dk_at dksX4_key_0 10 rfl rfl)
theorem dX4_key_13 : decode cX4_key 13 = .ok (.aload_n 0, 1) := dk_42 (dk_at dksX4_key_0 13 rfl rfl)
theorem dX4_key_14 : decode cX4_key 14 = .ok (.iconst 1, 1) := dk_4 (dk_at dksX4_key_0 14 rfl rfl)
theorem dX4_key_15 : decode cX4_key 15 = .ok (.invokevirtual 60, 3) := dk_182 0 60 (dk_at dksX4_key_0 15 rfl rfl)
theorem dX4_key_18 : decode cX4_key 18 = .ok (.ireturn, 1) := dk_172 (dk_at dksX4_key_0 18 rfl rfl)
theorem dX4_key_19 : decode cX4_key 19 = .ok (.aload_n 0, 1) := dk_42 (dk_at dksX4_key_0 19 rfl rfl)
theorem dX4_key_20 : decode cX4_key 20 = .ok (.iload_n 1, 1) := dk_27 (dk_at dksX4_key_0 20 rfl rfl)
theorem dX4_key_21 : decode cX4_key 21 = .ok (.iconst 0, 1) := dk_3 (dk_at dksX4_key_0 21 rfl rfl)
theorem dX4_key_22 : decode cX4_key 22 = .ok (.iconst 0, 1) := dk_3 (dk_at dksX4_key_0 22 rfl rfl)
theorem dX4_key_23 : decode cX4_key 23 = .ok (.invokevirtual 200, 3) := dk_182 0 200 (dk_at dksX4_key_1 0 rfl rfl)
theorem dX4_key_26 : decode cX4_key 26 = .ok (.iconst (-1), 1) := dk_2 (dk_at dksX4_key_1 3 rfl rfl)
theorem dX4_key_27 : decode cX4_key 27 = .ok (.if_icmp .ne 5, 3) := dk_160 0 5 (dk_at dksX4_key_1 4 rfl rfl)
theorem dX4_key_30 : decode cX4_key 30 = .ok (.iconst (-1), 1) := dk_2 (dk_at dksX4_key_1 7 rfl rfl)
theorem dX4_key_31 : decode cX4_key 31 = .ok (.ireturn, 1) := dk_172 (dk_at dksX4_key_1 8 rfl rfl)
theorem dX4_key_32 : decode cX4_key 32 = .ok (.iconst 0, 1) := dk_3 (dk_at dksX4_key_1 9 rfl rfl)
theorem dX4_key_33 : decode cX4_key 33 = .ok (.istore_n 2, 1) := dk_61 (dk_at dksX4_key_1 10 rfl rfl)
theorem dX4_key_34 : decode cX4_key 34 = .ok (.iload_n 2, 1) := dk_28 (dk_at dksX4_key_1 11 rfl rfl)
theorem dX4_key_35 : decode cX4_key 35 = .ok (.aload_n 0, 1) := dk_42 (dk_at dksX4_key_1 12 rfl rfl)
theorem dX4_key_36 : decode cX4_key 36 = .ok (.getfield 10, 3) := dk_180 0 10 (dk_at dksX4_key_1 13 rfl rfl)
theorem dX4_key_39 : decode cX4_key 39 = .ok (.invokevirtual 48, 3) := dk_182 0 48 (dk_at dksX4_key_1 16 rfl rfl)
theorem dX4_key_42 : decode cX4_key 42 = .ok (.if_icmp .ge 24, 3) := dk_162 0 24 (dk_at dksX4_key_1 19 rfl rfl)
theorem dX4_key_45 : decode cX4_key 45 = .ok (.aload_n 0, 1) := dk_42 (dk_at dksX4_key_1 22 rfl rfl)
theorem dX4_key_46 : decode cX4_key 46 = .ok (.iload_n 1, 1) := dk_27 (dk_at dksX4_key_1 23 rfl rfl)
theorem dX4_key_47 : decode cX4_key 47 = .ok (.iconst 1, 1) := dk_4 (dk_at dksX4_key_2 0 rfl rfl)
theorem dX4_key_48 : decode cX4_key 48 = .ok (.iload_n 2, 1) := dk_28 (dk_at dksX4_key_2 1 rfl rfl)
theorem dX4_key_49 : decode cX4_key 49 = .ok (.ishl, 1) := dk_120 (dk_at dksX4_key_2 2 rfl rfl)
theorem dX4_key_50 : decode cX4_key 50 = .ok (.iconst 0, 1) := dk_3 (dk_at dksX4_key_2 3 rfl rfl)
theorem dX4_key_51 : decode cX4_key 51 = .ok (.invokevirtual 200, 3) := dk_182 0 200 (dk_at dksX4_key_2 4 rfl rfl)
theorem dX4_key_54 : decode cX4_key 54 = .ok (.iconst (-1), 1) := dk_2 (dk_at dksX4_key_2 7 rfl rfl)
theorem dX4_key_55 : decode cX4_key 55 = .ok (.if_icmp .ne 5, 3) := dk_160 0 5 (dk_at dksX4_key_2 8 rfl rfl)
theorem dX4_key_58 : decode cX4_key 58 = .ok (.iload_n 2, 1) := dk_28 (dk_at dksX4_key_2 11 rfl rfl)
theorem dX4_key_59 : decode cX4_key 59 = .ok (.ireturn, 1) := dk_172 (dk_at dksX4_key_2 12 rfl rfl)
theorem dX4_key_60 : decode cX4_key 60 = .ok (.iinc 2 1, 3) := dk_132 2 1 (dk_at dksX4_key_2 13 rfl rfl)
theorem dX4_key_63 : decode cX4_key 63 = .ok (.goto (-29), 3) := dk_167 255 227 (dk_at dksX4_key_2 16 rfl rfl)
theorem dX4_key_66 : decode cX4_key 66 = .ok (.iconst (-1), 1) := dk_2 (dk_at dksX4_key_2 19 rfl rfl)
theorem dX4_key_67 : decode cX4_key 67 = .ok (.ireturn, 1) := dk_172 (dk_at dksX4_key_2 20 rfl rfl)
abbrev cX4_isSound : ByteArray := prog_13_method_80_code
def yX4_isSound : MethodName := ⟨RX4, "isSound", "()Z"⟩
def dkwX4_isSound_0 : List UInt8 := [42, 3, 181, 0, 44, 42, 182, 1, 121, 172]
abbrev dktX4_isSound_0 : List UInt8 := dkwX4_isSound_0 ++ []
theorem dksX4_isSound_0 : cX4_isSound.data.toList.drop 0 = dktX4_isSound_0 := by decide +kernel
theorem dX4_isSound_0 : decode cX4_isSound 0 = .ok (.aload_n 0, 1) := dk_42 (dk_at dksX4_isSound_0 0 rfl rfl)
theorem dX4_isSound_1 : decode cX4_isSound 1 = .ok (.iconst 0, 1) := dk_3 (dk_at dksX4_isSound_0 1 rfl rfl)
theorem dX4_isSound_2 : decode cX4_isSound 2 = .ok (.putfield 44, 3) := dk_181 0 44 (dk_at dksX4_isSound_0 2 rfl rfl)
theorem dX4_isSound_5 : decode cX4_isSound 5 = .ok (.aload_n 0, 1) := dk_42 (dk_at dksX4_isSound_0 5 rfl rfl)
theorem dX4_isSound_6 : decode cX4_isSound 6 = .ok (.invokevirtual 377, 3) := dk_182 1 121 (dk_at dksX4_isSound_0 6 rfl rfl)
theorem dX4_isSound_9 : decode cX4_isSound 9 = .ok (.ireturn, 1) := dk_172 (dk_at dksX4_isSound_0 9 rfl rfl)
abbrev cX4_isSoundNow : ByteArray := prog_13_method_79_code
def yX4_isSoundNow : MethodName := ⟨RX4, "isSoundNow", "()Z"⟩
def dkwX4_isSoundNow_8 : List UInt8 := [42, 16, 10, 182, 1, 95, 100, 160, 0, 14, 28, 17, 3, 232, 163, 0, 7, 4, 167, 0, 4, 3, 172]
abbrev dktX4_isSoundNow_8 : List UInt8 := dkwX4_isSoundNow_8 ++ []
def dkwX4_isSoundNow_7 : List UInt8 := [16, 16, 162, 0, 17, 28, 42, 29, 182, 1, 43, 96, 61, 132, 3, 1, 167, 255, 239, 42, 180, 0, 213, 27]
abbrev dktX4_isSoundNow_7 : List UInt8 := dkwX4_isSoundNow_7 ++ dktX4_isSoundNow_8
def dkwX4_isSoundNow_6 : List UInt8 := [180, 0, 130, 160, 0, 5, 3, 172, 132, 5, 1, 167, 255, 196, 132, 3, 1, 167, 255, 109, 3, 62, 29]
abbrev dktX4_isSoundNow_6 : List UInt8 := dkwX4_isSoundNow_6 ++ dktX4_isSoundNow_7
def dkwX4_isSoundNow_5 : List UInt8 := [160, 0, 31, 25, 6, 180, 0, 127, 25, 4, 180, 0, 127, 160, 0, 18, 25, 6, 180, 0, 130, 25, 4]
abbrev dktX4_isSoundNow_5 : List UInt8 := dkwX4_isSoundNow_5 ++ dktX4_isSoundNow_6
def dkwX4_isSoundNow_4 : List UInt8 := [162, 0, 60, 42, 180, 0, 19, 21, 5, 182, 0, 90, 192, 0, 122, 58, 6, 25, 6, 180, 0, 124, 4]
abbrev dktX4_isSoundNow_4 : List UInt8 := dkwX4_isSoundNow_4 ++ dktX4_isSoundNow_5
def dkwX4_isSoundNow_3 : List UInt8 := [182, 0, 90, 192, 0, 95, 182, 0, 177, 184, 0, 116, 159, 0, 5, 3, 172, 3, 54, 5, 21, 5, 29]
abbrev dktX4_isSoundNow_3 : List UInt8 := dkwX4_isSoundNow_3 ++ dktX4_isSoundNow_4
def dkwX4_isSoundNow_2 : List UInt8 := [159, 0, 6, 167, 0, 103, 25, 4, 180, 0, 160, 184, 0, 94, 42, 180, 0, 16, 25, 4, 180, 0, 127]
abbrev dktX4_isSoundNow_2 : List UInt8 := dkwX4_isSoundNow_2 ++ dktX4_isSoundNow_3
def dkwX4_isSoundNow_1 : List UInt8 := [182, 0, 90, 192, 0, 122, 58, 4, 27, 25, 4, 180, 0, 210, 96, 60, 25, 4, 180, 0, 124, 4]
abbrev dktX4_isSoundNow_1 : List UInt8 := dkwX4_isSoundNow_1 ++ dktX4_isSoundNow_2
def dkwX4_isSoundNow_0 : List UInt8 := [3, 60, 3, 61, 3, 62, 29, 42, 180, 0, 19, 182, 0, 48, 162, 0, 142, 42, 180, 0, 19, 29]
abbrev dktX4_isSoundNow_0 : List UInt8 := dkwX4_isSoundNow_0 ++ dktX4_isSoundNow_1
theorem dksX4_isSoundNow_0 : cX4_isSoundNow.data.toList.drop 0 = dktX4_isSoundNow_0 := by decide +kernel
theorem dksX4_isSoundNow_1 : cX4_isSoundNow.data.toList.drop 22 = dktX4_isSoundNow_1 := dk_seg dksX4_isSoundNow_0 22 rfl rfl
theorem dksX4_isSoundNow_2 : cX4_isSoundNow.data.toList.drop 44 = dktX4_isSoundNow_2 := dk_seg dksX4_isSoundNow_1 22 rfl rfl
theorem dksX4_isSoundNow_3 : cX4_isSoundNow.data.toList.drop 67 = dktX4_isSoundNow_3 := dk_seg dksX4_isSoundNow_2 23 rfl rfl
theorem dksX4_isSoundNow_4 : cX4_isSoundNow.data.toList.drop 90 = dktX4_isSoundNow_4 := dk_seg dksX4_isSoundNow_3 23 rfl rfl
theorem dksX4_isSoundNow_5 : cX4_isSoundNow.data.toList.drop 113 = dktX4_isSoundNow_5 := dk_seg dksX4_isSoundNow_4 23 rfl rfl
theorem dksX4_isSoundNow_6 : cX4_isSoundNow.data.toList.drop 136 = dktX4_isSoundNow_6 := dk_seg dksX4_isSoundNow_5 23 rfl rfl
theorem dksX4_isSoundNow_7 : cX4_isSoundNow.data.toList.drop 159 = dktX4_isSoundNow_7 := dk_seg dksX4_isSoundNow_6 23 rfl rfl
theorem dksX4_isSoundNow_8 : cX4_isSoundNow.data.toList.drop 183 = dktX4_isSoundNow_8 := dk_seg dksX4_isSoundNow_7 24 rfl rfl
theorem dX4_isSoundNow_0 : decode cX4_isSoundNow 0 = .ok (.iconst 0, 1) := dk_3 (dk_at dksX4_isSoundNow_0 0 rfl rfl)
theorem dX4_isSoundNow_1 : decode cX4_isSoundNow 1 = .ok (.istore_n 1, 1) := dk_60 (dk_at dksX4_isSoundNow_0 1 rfl rfl)
theorem dX4_isSoundNow_2 : decode cX4_isSoundNow 2 = .ok (.iconst 0, 1) := dk_3 (dk_at dksX4_isSoundNow_0 2 rfl rfl)
theorem dX4_isSoundNow_3 : decode cX4_isSoundNow 3 = .ok (.istore_n 2, 1) := dk_61 (dk_at dksX4_isSoundNow_0 3 rfl rfl)
theorem dX4_isSoundNow_4 : decode cX4_isSoundNow 4 = .ok (.iconst 0, 1) := dk_3 (dk_at dksX4_isSoundNow_0 4 rfl rfl)
theorem dX4_isSoundNow_5 : decode cX4_isSoundNow 5 = .ok (.istore_n 3, 1) := dk_62 (dk_at dksX4_isSoundNow_0 5 rfl rfl)
theorem dX4_isSoundNow_6 : decode cX4_isSoundNow 6 = .ok (.iload_n 3, 1) := dk_29 (dk_at dksX4_isSoundNow_0 6 rfl rfl)
theorem dX4_isSoundNow_7 : decode cX4_isSoundNow 7 = .ok (.aload_n 0, 1) := dk_42 (dk_at dksX4_isSoundNow_0 7 rfl rfl)
theorem dX4_isSoundNow_8 : decode cX4_isSoundNow 8 = .ok (.getfield 19, 3) := dk_180 0 19 (dk_at dksX4_isSoundNow_0 8 rfl rfl)
theorem dX4_isSoundNow_11 : decode cX4_isSoundNow 11 = .ok (.invokevirtual 48, 3) := dk_182 0 48 (dk_at dksX4_isSoundNow_0 11 rfl rfl)
theorem dX4_isSoundNow_14 : decode cX4_isSoundNow 14 = .ok (.if_icmp .ge 142, 3) := dk_162 0 142 (dk_at dksX4_isSoundNow_0 14 rfl rfl)
theorem dX4_isSoundNow_17 : decode cX4_isSoundNow 17 = .ok (.aload_n 0, 1) := dk_42 (dk_at dksX4_isSoundNow_0 17 rfl rfl)
theorem dX4_isSoundNow_18 : decode cX4_isSoundNow 18 = .ok (.getfield 19, 3) := dk_180 0 19 (dk_at dksX4_isSoundNow_0 18 rfl rfl)
theorem dX4_isSoundNow_21 : decode cX4_isSoundNow 21 = .ok (.iload_n 3, 1) := dk_29 (dk_at dksX4_isSoundNow_0 21 rfl rfl)
theorem dX4_isSoundNow_22 : decode cX4_isSoundNow 22 = .ok (.invokevirtual 90, 3) := dk_182 0 90 (dk_at dksX4_isSoundNow_1 0 rfl rfl)
theorem dX4_isSoundNow_25 : decode cX4_isSoundNow 25 = .ok (.checkcast 122, 3) := dk_192 0 122 (dk_at dksX4_isSoundNow_1 3 rfl rfl)
theorem dX4_isSoundNow_28 : decode cX4_isSoundNow 28 = .ok (.astore 4, 2) := dk_58 4 (dk_at dksX4_isSoundNow_1 6 rfl rfl)
theorem dX4_isSoundNow_30 : decode cX4_isSoundNow 30 = .ok (.iload_n 1, 1) := dk_27 (dk_at dksX4_isSoundNow_1 8 rfl rfl)
theorem dX4_isSoundNow_31 : decode cX4_isSoundNow 31 = .ok (.aload 4, 2) := dk_25 4 (dk_at dksX4_isSoundNow_1 9 rfl rfl)
theorem dX4_isSoundNow_33 : decode cX4_isSoundNow 33 = .ok (.getfield 210, 3) := dk_180 0 210 (dk_at dksX4_isSoundNow_1 11 rfl rfl)
theorem dX4_isSoundNow_36 : decode cX4_isSoundNow 36 = .ok (.iadd, 1) := dk_96 (dk_at dksX4_isSoundNow_1 14 rfl rfl)
theorem dX4_isSoundNow_37 : decode cX4_isSoundNow 37 = .ok (.istore_n 1, 1) := dk_60 (dk_at dksX4_isSoundNow_1 15 rfl rfl)
theorem dX4_isSoundNow_38 : decode cX4_isSoundNow 38 = .ok (.aload 4, 2) := dk_25 4 (dk_at dksX4_isSoundNow_1 16 rfl rfl)
theorem dX4_isSoundNow_40 : decode cX4_isSoundNow 40 = .ok (.getfield 124, 3) := dk_180 0 124 (dk_at dksX4_isSoundNow_1 18 rfl rfl)
theorem dX4_isSoundNow_43 : decode cX4_isSoundNow 43 = .ok (.iconst 1, 1) := dk_4 (dk_at dksX4_isSoundNow_1 21 rfl rfl)
theorem dX4_isSoundNow_44 : decode cX4_isSoundNow 44 = .ok (.if_icmp .eq 6, 3) := dk_159 0 6 (dk_at dksX4_isSoundNow_2 0 rfl rfl)
theorem dX4_isSoundNow_47 : decode cX4_isSoundNow 47 = .ok (.goto 103, 3) := dk_167 0 103 (dk_at dksX4_isSoundNow_2 3 rfl rfl)
theorem dX4_isSoundNow_50 : decode cX4_isSoundNow 50 = .ok (.aload 4, 2) := dk_25 4 (dk_at dksX4_isSoundNow_2 6 rfl rfl)
theorem dX4_isSoundNow_52 : decode cX4_isSoundNow 52 = .ok (.getfield 160, 3) := dk_180 0 160 (dk_at dksX4_isSoundNow_2 8 rfl rfl)
theorem dX4_isSoundNow_55 : decode cX4_isSoundNow 55 = .ok (.invokestatic 94, 3) := dk_184 0 94 (dk_at dksX4_isSoundNow_2 11 rfl rfl)
theorem dX4_isSoundNow_58 : decode cX4_isSoundNow 58 = .ok (.aload_n 0, 1) := dk_42 (dk_at dksX4_isSoundNow_2 14 rfl rfl)
theorem dX4_isSoundNow_59 : decode cX4_isSoundNow 59 = .ok (.getfield 16, 3) := dk_180 0 16 (dk_at dksX4_isSoundNow_2 15 rfl rfl)
theorem dX4_isSoundNow_62 : decode cX4_isSoundNow 62 = .ok (.aload 4, 2) := dk_25 4 (dk_at dksX4_isSoundNow_2 18 rfl rfl)
theorem dX4_isSoundNow_64 : decode cX4_isSoundNow 64 = .ok (.getfield 127, 3) := dk_180 0 127 (dk_at dksX4_isSoundNow_2 20 rfl rfl)
theorem dX4_isSoundNow_67 : decode cX4_isSoundNow 67 = .ok (.invokevirtual 90, 3) := dk_182 0 90 (dk_at dksX4_isSoundNow_3 0 rfl rfl)
theorem dX4_isSoundNow_70 : decode cX4_isSoundNow 70 = .ok (.checkcast 95, 3) := dk_192 0 95 (dk_at dksX4_isSoundNow_3 3 rfl rfl)
theorem dX4_isSoundNow_73 : decode cX4_isSoundNow 73 = .ok (.invokevirtual 177, 3) := dk_182 0 177 (dk_at dksX4_isSoundNow_3 6 rfl rfl)
theorem dX4_isSoundNow_76 : decode cX4_isSoundNow 76 = .ok (.invokestatic 116, 3) := dk_184 0 116 (dk_at dksX4_isSoundNow_3 9 rfl rfl)
theorem dX4_isSoundNow_79 : decode cX4_isSoundNow 79 = .ok (.if_icmp .eq 5, 3) := dk_159 0 5 (dk_at dksX4_isSoundNow_3 12 rfl rfl)
theorem dX4_isSoundNow_82 : decode cX4_isSoundNow 82 = .ok (.iconst 0, 1) := dk_3 (dk_at dksX4_isSoundNow_3 15 rfl rfl)
theorem dX4_isSoundNow_83 : decode cX4_isSoundNow 83 = .ok (.ireturn, 1) := dk_172 (dk_at dksX4_isSoundNow_3 16 rfl rfl)
theorem dX4_isSoundNow_84 : decode cX4_isSoundNow 84 = .ok (.iconst 0, 1) := dk_3 (dk_at dksX4_isSoundNow_3 17 rfl rfl)
theorem dX4_isSoundNow_85 : decode cX4_isSoundNow 85 = .ok (.istore 5, 2) := dk_54 5 (dk_at dksX4_isSoundNow_3 18 rfl rfl)
theorem dX4_isSoundNow_87 : decode cX4_isSoundNow 87 = .ok (.iload 5, 2) := dk_21 5 (dk_at dksX4_isSoundNow_3 20 rfl rfl)
theorem dX4_isSoundNow_89 : decode cX4_isSoundNow 89 = .ok (.iload_n 3, 1) := dk_29 (dk_at dksX4_isSoundNow_3 22 rfl rfl)
theorem dX4_isSoundNow_90 : decode cX4_isSoundNow 90 = .ok (.if_icmp .ge 60, 3) := dk_162 0 60 (dk_at dksX4_isSoundNow_4 0 rfl rfl)
theorem dX4_isSoundNow_93 : decode cX4_isSoundNow 93 = .ok (.aload_n 0, 1) := dk_42 (dk_at dksX4_isSoundNow_4 3 rfl rfl)
theorem dX4_isSoundNow_94 : decode cX4_isSoundNow 94 = .ok (.getfield 19, 3) := dk_180 0 19 (dk_at dksX4_isSoundNow_4 4 rfl rfl)
theorem dX4_isSoundNow_97 : decode cX4_isSoundNow 97 = .ok (.iload 5, 2) := dk_21 5 (dk_at dksX4_isSoundNow_4 7 rfl rfl)
theorem dX4_isSoundNow_99 : decode cX4_isSoundNow 99 = .ok (.invokevirtual 90, 3) := dk_182 0 90 (dk_at dksX4_isSoundNow_4 9 rfl rfl)
theorem dX4_isSoundNow_102 : decode cX4_isSoundNow 102 = .ok (.checkcast 122, 3) := dk_192 0 122 (dk_at dksX4_isSoundNow_4 12 rfl rfl)
theorem dX4_isSoundNow_105 : decode cX4_isSoundNow 105 = .ok (.astore 6, 2) := dk_58 6 (dk_at dksX4_isSoundNow_4 15 rfl rfl)
theorem dX4_isSoundNow_107 : decode cX4_isSoundNow 107 = .ok (.aload 6, 2) := dk_25 6 (dk_at dksX4_isSoundNow_4 17 rfl rfl)
theorem dX4_isSoundNow_109 : decode cX4_isSoundNow 109 = .ok (.getfield 124, 3) := dk_180 0 124 (dk_at dksX4_isSoundNow_4 19 rfl rfl)
theorem dX4_isSoundNow_112 : decode cX4_isSoundNow 112 = .ok (.iconst 1, 1) := dk_4 (dk_at dksX4_isSoundNow_4 22 rfl rfl)
theorem dX4_isSoundNow_113 : decode cX4_isSoundNow 113 = .ok (.if_icmp .ne 31, 3) := dk_160 0 31 (dk_at dksX4_isSoundNow_5 0 rfl rfl)
theorem dX4_isSoundNow_116 : decode cX4_isSoundNow 116 = .ok (.aload 6, 2) := dk_25 6 (dk_at dksX4_isSoundNow_5 3 rfl rfl)
theorem dX4_isSoundNow_118 : decode cX4_isSoundNow 118 = .ok (.getfield 127, 3) := dk_180 0 127 (dk_at dksX4_isSoundNow_5 5 rfl rfl)
theorem dX4_isSoundNow_121 : decode cX4_isSoundNow 121 = .ok (.aload 4, 2) := dk_25 4 (dk_at dksX4_isSoundNow_5 8 rfl rfl)
theorem dX4_isSoundNow_123 : decode cX4_isSoundNow 123 = .ok (.getfield 127, 3) := dk_180 0 127 (dk_at dksX4_isSoundNow_5 10 rfl rfl)
theorem dX4_isSoundNow_126 : decode cX4_isSoundNow 126 = .ok (.if_icmp .ne 18, 3) := dk_160 0 18 (dk_at dksX4_isSoundNow_5 13 rfl rfl)
theorem dX4_isSoundNow_129 : decode cX4_isSoundNow 129 = .ok (.aload 6, 2) := dk_25 6 (dk_at dksX4_isSoundNow_5 16 rfl rfl)
theorem dX4_isSoundNow_131 : decode cX4_isSoundNow 131 = .ok (.getfield 130, 3) := dk_180 0 130 (dk_at dksX4_isSoundNow_5 18 rfl rfl)
theorem dX4_isSoundNow_134 : decode cX4_isSoundNow 134 = .ok (.aload 4, 2) := dk_25 4 (dk_at dksX4_isSoundNow_5 21 rfl rfl)
theorem dX4_isSoundNow_136 : decode cX4_isSoundNow 136 = .ok (.getfield 130, 3) := dk_180 0 130 (dk_at dksX4_isSoundNow_6 0 rfl rfl)
theorem dX4_isSoundNow_139 : decode cX4_isSoundNow 139 = .ok (.if_icmp .ne 5, 3) := dk_160 0 5 (dk_at dksX4_isSoundNow_6 3 rfl rfl)
theorem dX4_isSoundNow_142 : decode cX4_isSoundNow 142 = .ok (.iconst 0, 1) := dk_3 (dk_at dksX4_isSoundNow_6 6 rfl rfl)
theorem dX4_isSoundNow_143 : decode cX4_isSoundNow 143 = .ok (.ireturn, 1) := dk_172 (dk_at dksX4_isSoundNow_6 7 rfl rfl)
theorem dX4_isSoundNow_144 : decode cX4_isSoundNow 144 = .ok (.iinc 5 1, 3) := dk_132 5 1 (dk_at dksX4_isSoundNow_6 8 rfl rfl)
theorem dX4_isSoundNow_147 : decode cX4_isSoundNow 147 = .ok (.goto (-60), 3) := dk_167 255 196 (dk_at dksX4_isSoundNow_6 11 rfl rfl)
theorem dX4_isSoundNow_150 : decode cX4_isSoundNow 150 = .ok (.iinc 3 1, 3) := dk_132 3 1 (dk_at dksX4_isSoundNow_6 14 rfl rfl)
theorem dX4_isSoundNow_153 : decode cX4_isSoundNow 153 = .ok (.goto (-147), 3) := dk_167 255 109 (dk_at dksX4_isSoundNow_6 17 rfl rfl)
theorem dX4_isSoundNow_156 : decode cX4_isSoundNow 156 = .ok (.iconst 0, 1) := dk_3 (dk_at dksX4_isSoundNow_6 20 rfl rfl)
theorem dX4_isSoundNow_157 : decode cX4_isSoundNow 157 = .ok (.istore_n 3, 1) := dk_62 (dk_at dksX4_isSoundNow_6 21 rfl rfl)
theorem dX4_isSoundNow_158 : decode cX4_isSoundNow 158 = .ok (.iload_n 3, 1) := dk_29 (dk_at dksX4_isSoundNow_6 22 rfl rfl)
theorem dX4_isSoundNow_159 : decode cX4_isSoundNow 159 = .ok (.bipush 16, 2) := dk_16 16 (dk_at dksX4_isSoundNow_7 0 rfl rfl)
theorem dX4_isSoundNow_161 : decode cX4_isSoundNow 161 = .ok (.if_icmp .ge 17, 3) := dk_162 0 17 (dk_at dksX4_isSoundNow_7 2 rfl rfl)
theorem dX4_isSoundNow_164 : decode cX4_isSoundNow 164 = .ok (.iload_n 2, 1) := dk_28 (dk_at dksX4_isSoundNow_7 5 rfl rfl)
theorem dX4_isSoundNow_165 : decode cX4_isSoundNow 165 = .ok (.aload_n 0, 1) := dk_42 (dk_at dksX4_isSoundNow_7 6 rfl rfl)
theorem dX4_isSoundNow_166 : decode cX4_isSoundNow 166 = .ok (.iload_n 3, 1) := dk_29 (dk_at dksX4_isSoundNow_7 7 rfl rfl)
theorem dX4_isSoundNow_167 : decode cX4_isSoundNow 167 = .ok (.invokevirtual 299, 3) := dk_182 1 43 (dk_at dksX4_isSoundNow_7 8 rfl rfl)
theorem dX4_isSoundNow_170 : decode cX4_isSoundNow 170 = .ok (.iadd, 1) := dk_96 (dk_at dksX4_isSoundNow_7 11 rfl rfl)
theorem dX4_isSoundNow_171 : decode cX4_isSoundNow 171 = .ok (.istore_n 2, 1) := dk_61 (dk_at dksX4_isSoundNow_7 12 rfl rfl)
theorem dX4_isSoundNow_172 : decode cX4_isSoundNow 172 = .ok (.iinc 3 1, 3) := dk_132 3 1 (dk_at dksX4_isSoundNow_7 13 rfl rfl)
theorem dX4_isSoundNow_175 : decode cX4_isSoundNow 175 = .ok (.goto (-17), 3) := dk_167 255 239 (dk_at dksX4_isSoundNow_7 16 rfl rfl)
theorem dX4_isSoundNow_178 : decode cX4_isSoundNow 178 = .ok (.aload_n 0, 1) := dk_42 (dk_at dksX4_isSoundNow_7 19 rfl rfl)
theorem dX4_isSoundNow_179 : decode cX4_isSoundNow 179 = .ok (.getfield 213, 3) := dk_180 0 213 (dk_at dksX4_isSoundNow_7 20 rfl rfl)
theorem dX4_isSoundNow_182 : decode cX4_isSoundNow 182 = .ok (.iload_n 1, 1) := dk_27 (dk_at dksX4_isSoundNow_7 23 rfl rfl)
theorem dX4_isSoundNow_183 : decode cX4_isSoundNow 183 = .ok (.aload_n 0, 1) := dk_42 (dk_at dksX4_isSoundNow_8 0 rfl rfl)
theorem dX4_isSoundNow_184 : decode cX4_isSoundNow 184 = .ok (.bipush 10, 2) := dk_16 10 (dk_at dksX4_isSoundNow_8 1 rfl rfl)
theorem dX4_isSoundNow_186 : decode cX4_isSoundNow 186 = .ok (.invokevirtual 351, 3) := dk_182 1 95 (dk_at dksX4_isSoundNow_8 3 rfl rfl)
theorem dX4_isSoundNow_189 : decode cX4_isSoundNow 189 = .ok (.isub, 1) := dk_100 (dk_at dksX4_isSoundNow_8 6 rfl rfl)
theorem dX4_isSoundNow_190 : decode cX4_isSoundNow 190 = .ok (.if_icmp .ne 14, 3) := dk_160 0 14 (dk_at dksX4_isSoundNow_8 7 rfl rfl)
theorem dX4_isSoundNow_193 : decode cX4_isSoundNow 193 = .ok (.iload_n 2, 1) := dk_28 (dk_at dksX4_isSoundNow_8 10 rfl rfl)
theorem dX4_isSoundNow_194 : decode cX4_isSoundNow 194 = .ok (.sipush 1000, 3) := dk_17 3 232 (dk_at dksX4_isSoundNow_8 11 rfl rfl)
theorem dX4_isSoundNow_197 : decode cX4_isSoundNow 197 = .ok (.if_icmp .gt 7, 3) := dk_163 0 7 (dk_at dksX4_isSoundNow_8 14 rfl rfl)
theorem dX4_isSoundNow_200 : decode cX4_isSoundNow 200 = .ok (.iconst 1, 1) := dk_4 (dk_at dksX4_isSoundNow_8 17 rfl rfl)
theorem dX4_isSoundNow_201 : decode cX4_isSoundNow 201 = .ok (.goto 4, 3) := dk_167 0 4 (dk_at dksX4_isSoundNow_8 18 rfl rfl)
theorem dX4_isSoundNow_204 : decode cX4_isSoundNow 204 = .ok (.iconst 0, 1) := dk_3 (dk_at dksX4_isSoundNow_8 21 rfl rfl)
theorem dX4_isSoundNow_205 : decode cX4_isSoundNow 205 = .ok (.ireturn, 1) := dk_172 (dk_at dksX4_isSoundNow_8 22 rfl rfl)
abbrev cX4_digest : ByteArray := prog_13_method_82_code
def yX4_digest : MethodName := ⟨RX4, "digest", "()J"⟩
def dkwX4_digest_13 : List UInt8 := [42, 42, 182, 1, 121, 153, 0, 7, 10, 167, 0, 4, 9, 182, 1, 132, 42, 180, 1, 124, 173]
abbrev dktX4_digest_13 : List UInt8 := dkwX4_digest_13 ++ []
def dkwX4_digest_12 : List UInt8 := [182, 0, 48, 120, 4, 100, 182, 1, 64, 133, 182, 1, 132, 42, 42, 3, 8, 182, 0, 109, 133, 182, 1, 132]
abbrev dktX4_digest_12 : List UInt8 := dkwX4_digest_12 ++ dktX4_digest_13
def dkwX4_digest_11 : List UInt8 := [180, 0, 160, 182, 1, 14, 190, 133, 182, 1, 132, 132, 1, 1, 167, 255, 152, 42, 42, 4, 42, 180, 0, 10]
abbrev dktX4_digest_11 : List UInt8 := dkwX4_digest_11 ++ dktX4_digest_12
def dkwX4_digest_10 : List UInt8 := [133, 182, 1, 132, 132, 2, 1, 167, 255, 220, 42, 42, 42, 180, 0, 19, 27, 182, 0, 90, 192, 0, 122]
abbrev dktX4_digest_10 : List UInt8 := dkwX4_digest_10 ++ dktX4_digest_11
def dkwX4_digest_9 : List UInt8 := [42, 180, 0, 19, 27, 182, 0, 90, 192, 0, 122, 180, 0, 124, 154, 0, 20, 42, 42, 27, 28, 182, 1, 61]
abbrev dktX4_digest_9 : List UInt8 := dkwX4_digest_9 ++ dktX4_digest_10
def dkwX4_digest_8 : List UInt8 := [42, 42, 27, 28, 182, 1, 52, 133, 182, 1, 132, 132, 2, 1, 167, 255, 236, 3, 61, 28, 7, 162, 0, 37]
abbrev dktX4_digest_8 : List UInt8 := dkwX4_digest_8 ++ dktX4_digest_9
def dkwX4_digest_7 : List UInt8 := [167, 255, 217, 3, 60, 27, 42, 180, 0, 19, 182, 0, 48, 162, 0, 99, 3, 61, 28, 16, 13, 162, 0, 20]
abbrev dktX4_digest_7 : List UInt8 := dkwX4_digest_7 ++ dktX4_digest_8
def dkwX4_digest_6 : List UInt8 := [162, 0, 20, 42, 42, 27, 28, 182, 1, 49, 133, 182, 1, 132, 132, 2, 1, 167, 255, 236, 132, 1, 1]
abbrev dktX4_digest_6 : List UInt8 := dkwX4_digest_6 ++ dktX4_digest_7
def dkwX4_digest_5 : List UInt8 := [132, 1, 1, 167, 255, 222, 3, 60, 27, 42, 180, 0, 16, 182, 0, 48, 162, 0, 34, 3, 61, 28, 16, 9]
abbrev dktX4_digest_5 : List UInt8 := dkwX4_digest_5 ++ dktX4_digest_6
def dkwX4_digest_4 : List UInt8 := [16, 6, 162, 0, 20, 42, 42, 27, 28, 182, 1, 46, 133, 182, 1, 132, 132, 2, 1, 167, 255, 236]
abbrev dktX4_digest_4 : List UInt8 := dkwX4_digest_4 ++ dktX4_digest_5
def dkwX4_digest_3 : List UInt8 := [132, 2, 1, 167, 255, 236, 132, 1, 1, 167, 255, 217, 3, 60, 27, 16, 16, 162, 0, 34, 3, 61, 28]
abbrev dktX4_digest_3 : List UInt8 := dkwX4_digest_3 ++ dktX4_digest_4
def dkwX4_digest_2 : List UInt8 := [162, 0, 34, 3, 61, 28, 16, 9, 162, 0, 20, 42, 42, 27, 28, 182, 1, 40, 133, 182, 1, 132]
abbrev dktX4_digest_2 : List UInt8 := dkwX4_digest_2 ++ dktX4_digest_3
def dkwX4_digest_1 : List UInt8 := [182, 1, 95, 133, 182, 1, 132, 132, 1, 1, 167, 255, 237, 3, 60, 27, 42, 180, 0, 10, 182, 0, 48]
abbrev dktX4_digest_1 : List UInt8 := dkwX4_digest_1 ++ dktX4_digest_2
def dkwX4_digest_0 : List UInt8 := [42, 3, 181, 0, 44, 42, 20, 1, 130, 181, 1, 124, 3, 60, 27, 16, 13, 162, 0, 19, 42, 42, 27]
abbrev dktX4_digest_0 : List UInt8 := dkwX4_digest_0 ++ dktX4_digest_1
theorem dksX4_digest_0 : cX4_digest.data.toList.drop 0 = dktX4_digest_0 := by decide +kernel
theorem dksX4_digest_1 : cX4_digest.data.toList.drop 23 = dktX4_digest_1 := dk_seg dksX4_digest_0 23 rfl rfl
theorem dksX4_digest_2 : cX4_digest.data.toList.drop 46 = dktX4_digest_2 := dk_seg dksX4_digest_1 23 rfl rfl
theorem dksX4_digest_3 : cX4_digest.data.toList.drop 68 = dktX4_digest_3 := dk_seg dksX4_digest_2 22 rfl rfl
theorem dksX4_digest_4 : cX4_digest.data.toList.drop 91 = dktX4_digest_4 := dk_seg dksX4_digest_3 23 rfl rfl
theorem dksX4_digest_5 : cX4_digest.data.toList.drop 113 = dktX4_digest_5 := dk_seg dksX4_digest_4 22 rfl rfl
theorem dksX4_digest_6 : cX4_digest.data.toList.drop 137 = dktX4_digest_6 := dk_seg dksX4_digest_5 24 rfl rfl
theorem dksX4_digest_7 : cX4_digest.data.toList.drop 160 = dktX4_digest_7 := dk_seg dksX4_digest_6 23 rfl rfl
theorem dksX4_digest_8 : cX4_digest.data.toList.drop 184 = dktX4_digest_8 := dk_seg dksX4_digest_7 24 rfl rfl
theorem dksX4_digest_9 : cX4_digest.data.toList.drop 208 = dktX4_digest_9 := dk_seg dksX4_digest_8 24 rfl rfl
theorem dksX4_digest_10 : cX4_digest.data.toList.drop 232 = dktX4_digest_10 := dk_seg dksX4_digest_9 24 rfl rfl
theorem dksX4_digest_11 : cX4_digest.data.toList.drop 255 = dktX4_digest_11 := dk_seg dksX4_digest_10 23 rfl rfl
theorem dksX4_digest_12 : cX4_digest.data.toList.drop 279 = dktX4_digest_12 := dk_seg dksX4_digest_11 24 rfl rfl
theorem dksX4_digest_13 : cX4_digest.data.toList.drop 303 = dktX4_digest_13 := dk_seg dksX4_digest_12 24 rfl rfl
theorem dX4_digest_0 : decode cX4_digest 0 = .ok (.aload_n 0, 1) := dk_42 (dk_at dksX4_digest_0 0 rfl rfl)
theorem dX4_digest_1 : decode cX4_digest 1 = .ok (.iconst 0, 1) := dk_3 (dk_at dksX4_digest_0 1 rfl rfl)
theorem dX4_digest_2 : decode cX4_digest 2 = .ok (.putfield 44, 3) := dk_181 0 44 (dk_at dksX4_digest_0 2 rfl rfl)
theorem dX4_digest_5 : decode cX4_digest 5 = .ok (.aload_n 0, 1) := dk_42 (dk_at dksX4_digest_0 5 rfl rfl)
theorem dX4_digest_6 : decode cX4_digest 6 = .ok (.ldc2_w 386, 3) := dk_20 1 130 (dk_at dksX4_digest_0 6 rfl rfl)
theorem dX4_digest_9 : decode cX4_digest 9 = .ok (.putfield 380, 3) := dk_181 1 124 (dk_at dksX4_digest_0 9 rfl rfl)
theorem dX4_digest_12 : decode cX4_digest 12 = .ok (.iconst 0, 1) := dk_3 (dk_at dksX4_digest_0 12 rfl rfl)
theorem dX4_digest_13 : decode cX4_digest 13 = .ok (.istore_n 1, 1) := dk_60 (dk_at dksX4_digest_0 13 rfl rfl)
theorem dX4_digest_14 : decode cX4_digest 14 = .ok (.iload_n 1, 1) := dk_27 (dk_at dksX4_digest_0 14 rfl rfl)
theorem dX4_digest_15 : decode cX4_digest 15 = .ok (.bipush 13, 2) := dk_16 13 (dk_at dksX4_digest_0 15 rfl rfl)
theorem dX4_digest_17 : decode cX4_digest 17 = .ok (.if_icmp .ge 19, 3) := dk_162 0 19 (dk_at dksX4_digest_0 17 rfl rfl)
theorem dX4_digest_20 : decode cX4_digest 20 = .ok (.aload_n 0, 1) := dk_42 (dk_at dksX4_digest_0 20 rfl rfl)
theorem dX4_digest_21 : decode cX4_digest 21 = .ok (.aload_n 0, 1) := dk_42 (dk_at dksX4_digest_0 21 rfl rfl)
theorem dX4_digest_22 : decode cX4_digest 22 = .ok (.iload_n 1, 1) := dk_27 (dk_at dksX4_digest_0 22 rfl rfl)
theorem dX4_digest_23 : decode cX4_digest 23 = .ok (.invokevirtual 351, 3) := dk_182 1 95 (dk_at dksX4_digest_1 0 rfl rfl)
theorem dX4_digest_26 : decode cX4_digest 26 = .ok (.i2l, 1) := dk_133 (dk_at dksX4_digest_1 3 rfl rfl)
theorem dX4_digest_27 : decode cX4_digest 27 = .ok (.invokevirtual 388, 3) := dk_182 1 132 (dk_at dksX4_digest_1 4 rfl rfl)
theorem dX4_digest_30 : decode cX4_digest 30 = .ok (.iinc 1 1, 3) := dk_132 1 1 (dk_at dksX4_digest_1 7 rfl rfl)
theorem dX4_digest_33 : decode cX4_digest 33 = .ok (.goto (-19), 3) := dk_167 255 237 (dk_at dksX4_digest_1 10 rfl rfl)
theorem dX4_digest_36 : decode cX4_digest 36 = .ok (.iconst 0, 1) := dk_3 (dk_at dksX4_digest_1 13 rfl rfl)
theorem dX4_digest_37 : decode cX4_digest 37 = .ok (.istore_n 1, 1) := dk_60 (dk_at dksX4_digest_1 14 rfl rfl)
theorem dX4_digest_38 : decode cX4_digest 38 = .ok (.iload_n 1, 1) := dk_27 (dk_at dksX4_digest_1 15 rfl rfl)
theorem dX4_digest_39 : decode cX4_digest 39 = .ok (.aload_n 0, 1) := dk_42 (dk_at dksX4_digest_1 16 rfl rfl)
theorem dX4_digest_40 : decode cX4_digest 40 = .ok (.getfield 10, 3) := dk_180 0 10 (dk_at dksX4_digest_1 17 rfl rfl)
theorem dX4_digest_43 : decode cX4_digest 43 = .ok (.invokevirtual 48, 3) := dk_182 0 48 (dk_at dksX4_digest_1 20 rfl rfl)
theorem dX4_digest_46 : decode cX4_digest 46 = .ok (.if_icmp .ge 34, 3) := dk_162 0 34 (dk_at dksX4_digest_2 0 rfl rfl)
theorem dX4_digest_49 : decode cX4_digest 49 = .ok (.iconst 0, 1) := dk_3 (dk_at dksX4_digest_2 3 rfl rfl)
theorem dX4_digest_50 : decode cX4_digest 50 = .ok (.istore_n 2, 1) := dk_61 (dk_at dksX4_digest_2 4 rfl rfl)
theorem dX4_digest_51 : decode cX4_digest 51 = .ok (.iload_n 2, 1) := dk_28 (dk_at dksX4_digest_2 5 rfl rfl)
theorem dX4_digest_52 : decode cX4_digest 52 = .ok (.bipush 9, 2) := dk_16 9 (dk_at dksX4_digest_2 6 rfl rfl)
theorem dX4_digest_54 : decode cX4_digest 54 = .ok (.if_icmp .ge 20, 3) := dk_162 0 20 (dk_at dksX4_digest_2 8 rfl rfl)
theorem dX4_digest_57 : decode cX4_digest 57 = .ok (.aload_n 0, 1) := dk_42 (dk_at dksX4_digest_2 11 rfl rfl)
theorem dX4_digest_58 : decode cX4_digest 58 = .ok (.aload_n 0, 1) := dk_42 (dk_at dksX4_digest_2 12 rfl rfl)
theorem dX4_digest_59 : decode cX4_digest 59 = .ok (.iload_n 1, 1) := dk_27 (dk_at dksX4_digest_2 13 rfl rfl)
theorem dX4_digest_60 : decode cX4_digest 60 = .ok (.iload_n 2, 1) := dk_28 (dk_at dksX4_digest_2 14 rfl rfl)
theorem dX4_digest_61 : decode cX4_digest 61 = .ok (.invokevirtual 296, 3) := dk_182 1 40 (dk_at dksX4_digest_2 15 rfl rfl)
theorem dX4_digest_64 : decode cX4_digest 64 = .ok (.i2l, 1) := dk_133 (dk_at dksX4_digest_2 18 rfl rfl)
theorem dX4_digest_65 : decode cX4_digest 65 = .ok (.invokevirtual 388, 3) := dk_182 1 132 (dk_at dksX4_digest_2 19 rfl rfl)
theorem dX4_digest_68 : decode cX4_digest 68 = .ok (.iinc 2 1, 3) := dk_132 2 1 (dk_at dksX4_digest_3 0 rfl rfl)
theorem dX4_digest_71 : decode cX4_digest 71 = .ok (.goto (-20), 3) := dk_167 255 236 (dk_at dksX4_digest_3 3 rfl rfl)
theorem dX4_digest_74 : decode cX4_digest 74 = .ok (.iinc 1 1, 3) := dk_132 1 1 (dk_at dksX4_digest_3 6 rfl rfl)
theorem dX4_digest_77 : decode cX4_digest 77 = .ok (.goto (-39), 3) := dk_167 255 217 (dk_at dksX4_digest_3 9 rfl rfl)
theorem dX4_digest_80 : decode cX4_digest 80 = .ok (.iconst 0, 1) := dk_3 (dk_at dksX4_digest_3 12 rfl rfl)
theorem dX4_digest_81 : decode cX4_digest 81 = .ok (.istore_n 1, 1) := dk_60 (dk_at dksX4_digest_3 13 rfl rfl)
theorem dX4_digest_82 : decode cX4_digest 82 = .ok (.iload_n 1, 1) := dk_27 (dk_at dksX4_digest_3 14 rfl rfl)
theorem dX4_digest_83 : decode cX4_digest 83 = .ok (.bipush 16, 2) := dk_16 16 (dk_at dksX4_digest_3 15 rfl rfl)
theorem dX4_digest_85 : decode cX4_digest 85 = .ok (.if_icmp .ge 34, 3) := dk_162 0 34 (dk_at dksX4_digest_3 17 rfl rfl)
theorem dX4_digest_88 : decode cX4_digest 88 = .ok (.iconst 0, 1) := dk_3 (dk_at dksX4_digest_3 20 rfl rfl)
theorem dX4_digest_89 : decode cX4_digest 89 = .ok (.istore_n 2, 1) := dk_61 (dk_at dksX4_digest_3 21 rfl rfl)
theorem dX4_digest_90 : decode cX4_digest 90 = .ok (.iload_n 2, 1) := dk_28 (dk_at dksX4_digest_3 22 rfl rfl)
theorem dX4_digest_91 : decode cX4_digest 91 = .ok (.bipush 6, 2) := dk_16 6 (dk_at dksX4_digest_4 0 rfl rfl)
theorem dX4_digest_93 : decode cX4_digest 93 = .ok (.if_icmp .ge 20, 3) := dk_162 0 20 (dk_at dksX4_digest_4 2 rfl rfl)
theorem dX4_digest_96 : decode cX4_digest 96 = .ok (.aload_n 0, 1) := dk_42 (dk_at dksX4_digest_4 5 rfl rfl)
theorem dX4_digest_97 : decode cX4_digest 97 = .ok (.aload_n 0, 1) := dk_42 (dk_at dksX4_digest_4 6 rfl rfl)
theorem dX4_digest_98 : decode cX4_digest 98 = .ok (.iload_n 1, 1) := dk_27 (dk_at dksX4_digest_4 7 rfl rfl)
theorem dX4_digest_99 : decode cX4_digest 99 = .ok (.iload_n 2, 1) := dk_28 (dk_at dksX4_digest_4 8 rfl rfl)
theorem dX4_digest_100 : decode cX4_digest 100 = .ok (.invokevirtual 302, 3) := dk_182 1 46 (dk_at dksX4_digest_4 9 rfl rfl)
theorem dX4_digest_103 : decode cX4_digest 103 = .ok (.i2l, 1) := dk_133 (dk_at dksX4_digest_4 12 rfl rfl)
theorem dX4_digest_104 : decode cX4_digest 104 = .ok (.invokevirtual 388, 3) := dk_182 1 132 (dk_at dksX4_digest_4 13 rfl rfl)
theorem dX4_digest_107 : decode cX4_digest 107 = .ok (.iinc 2 1, 3) := dk_132 2 1 (dk_at dksX4_digest_4 16 rfl rfl)
theorem dX4_digest_110 : decode cX4_digest 110 = .ok (.goto (-20), 3) := dk_167 255 236 (dk_at dksX4_digest_4 19 rfl rfl)
theorem dX4_digest_113 : decode cX4_digest 113 = .ok (.iinc 1 1, 3) := dk_132 1 1 (dk_at dksX4_digest_5 0 rfl rfl)
theorem dX4_digest_116 : decode cX4_digest 116 = .ok (.goto (-34), 3) := dk_167 255 222 (dk_at dksX4_digest_5 3 rfl rfl)
theorem dX4_digest_119 : decode cX4_digest 119 = .ok (.iconst 0, 1) := dk_3 (dk_at dksX4_digest_5 6 rfl rfl)
theorem dX4_digest_120 : decode cX4_digest 120 = .ok (.istore_n 1, 1) := dk_60 (dk_at dksX4_digest_5 7 rfl rfl)
theorem dX4_digest_121 : decode cX4_digest 121 = .ok (.iload_n 1, 1) := dk_27 (dk_at dksX4_digest_5 8 rfl rfl)
theorem dX4_digest_122 : decode cX4_digest 122 = .ok (.aload_n 0, 1) := dk_42 (dk_at dksX4_digest_5 9 rfl rfl)
theorem dX4_digest_123 : decode cX4_digest 123 = .ok (.getfield 16, 3) := dk_180 0 16 (dk_at dksX4_digest_5 10 rfl rfl)
theorem dX4_digest_126 : decode cX4_digest 126 = .ok (.invokevirtual 48, 3) := dk_182 0 48 (dk_at dksX4_digest_5 13 rfl rfl)
theorem dX4_digest_129 : decode cX4_digest 129 = .ok (.if_icmp .ge 34, 3) := dk_162 0 34 (dk_at dksX4_digest_5 16 rfl rfl)
theorem dX4_digest_132 : decode cX4_digest 132 = .ok (.iconst 0, 1) := dk_3 (dk_at dksX4_digest_5 19 rfl rfl)
theorem dX4_digest_133 : decode cX4_digest 133 = .ok (.istore_n 2, 1) := dk_61 (dk_at dksX4_digest_5 20 rfl rfl)
theorem dX4_digest_134 : decode cX4_digest 134 = .ok (.iload_n 2, 1) := dk_28 (dk_at dksX4_digest_5 21 rfl rfl)
theorem dX4_digest_135 : decode cX4_digest 135 = .ok (.bipush 9, 2) := dk_16 9 (dk_at dksX4_digest_5 22 rfl rfl)
theorem dX4_digest_137 : decode cX4_digest 137 = .ok (.if_icmp .ge 20, 3) := dk_162 0 20 (dk_at dksX4_digest_6 0 rfl rfl)
theorem dX4_digest_140 : decode cX4_digest 140 = .ok (.aload_n 0, 1) := dk_42 (dk_at dksX4_digest_6 3 rfl rfl)
theorem dX4_digest_141 : decode cX4_digest 141 = .ok (.aload_n 0, 1) := dk_42 (dk_at dksX4_digest_6 4 rfl rfl)
theorem dX4_digest_142 : decode cX4_digest 142 = .ok (.iload_n 1, 1) := dk_27 (dk_at dksX4_digest_6 5 rfl rfl)
theorem dX4_digest_143 : decode cX4_digest 143 = .ok (.iload_n 2, 1) := dk_28 (dk_at dksX4_digest_6 6 rfl rfl)
theorem dX4_digest_144 : decode cX4_digest 144 = .ok (.invokevirtual 305, 3) := dk_182 1 49 (dk_at dksX4_digest_6 7 rfl rfl)
theorem dX4_digest_147 : decode cX4_digest 147 = .ok (.i2l, 1) := dk_133 (dk_at dksX4_digest_6 10 rfl rfl)
theorem dX4_digest_148 : decode cX4_digest 148 = .ok (.invokevirtual 388, 3) := dk_182 1 132 (dk_at dksX4_digest_6 11 rfl rfl)
theorem dX4_digest_151 : decode cX4_digest 151 = .ok (.iinc 2 1, 3) := dk_132 2 1 (dk_at dksX4_digest_6 14 rfl rfl)
theorem dX4_digest_154 : decode cX4_digest 154 = .ok (.goto (-20), 3) := dk_167 255 236 (dk_at dksX4_digest_6 17 rfl rfl)
theorem dX4_digest_157 : decode cX4_digest 157 = .ok (.iinc 1 1, 3) := dk_132 1 1 (dk_at dksX4_digest_6 20 rfl rfl)
theorem dX4_digest_160 : decode cX4_digest 160 = .ok (.goto (-39), 3) := dk_167 255 217 (dk_at dksX4_digest_7 0 rfl rfl)
theorem dX4_digest_163 : decode cX4_digest 163 = .ok (.iconst 0, 1) := dk_3 (dk_at dksX4_digest_7 3 rfl rfl)
theorem dX4_digest_164 : decode cX4_digest 164 = .ok (.istore_n 1, 1) := dk_60 (dk_at dksX4_digest_7 4 rfl rfl)
theorem dX4_digest_165 : decode cX4_digest 165 = .ok (.iload_n 1, 1) := dk_27 (dk_at dksX4_digest_7 5 rfl rfl)
theorem dX4_digest_166 : decode cX4_digest 166 = .ok (.aload_n 0, 1) := dk_42 (dk_at dksX4_digest_7 6 rfl rfl)
theorem dX4_digest_167 : decode cX4_digest 167 = .ok (.getfield 19, 3) := dk_180 0 19 (dk_at dksX4_digest_7 7 rfl rfl)
theorem dX4_digest_170 : decode cX4_digest 170 = .ok (.invokevirtual 48, 3) := dk_182 0 48 (dk_at dksX4_digest_7 10 rfl rfl)
theorem dX4_digest_173 : decode cX4_digest 173 = .ok (.if_icmp .ge 99, 3) := dk_162 0 99 (dk_at dksX4_digest_7 13 rfl rfl)
theorem dX4_digest_176 : decode cX4_digest 176 = .ok (.iconst 0, 1) := dk_3 (dk_at dksX4_digest_7 16 rfl rfl)
theorem dX4_digest_177 : decode cX4_digest 177 = .ok (.istore_n 2, 1) := dk_61 (dk_at dksX4_digest_7 17 rfl rfl)
theorem dX4_digest_178 : decode cX4_digest 178 = .ok (.iload_n 2, 1) := dk_28 (dk_at dksX4_digest_7 18 rfl rfl)
theorem dX4_digest_179 : decode cX4_digest 179 = .ok (.bipush 13, 2) := dk_16 13 (dk_at dksX4_digest_7 19 rfl rfl)
theorem dX4_digest_181 : decode cX4_digest 181 = .ok (.if_icmp .ge 20, 3) := dk_162 0 20 (dk_at dksX4_digest_7 21 rfl rfl)
theorem dX4_digest_184 : decode cX4_digest 184 = .ok (.aload_n 0, 1) := dk_42 (dk_at dksX4_digest_8 0 rfl rfl)
theorem dX4_digest_185 : decode cX4_digest 185 = .ok (.aload_n 0, 1) := dk_42 (dk_at dksX4_digest_8 1 rfl rfl)
theorem dX4_digest_186 : decode cX4_digest 186 = .ok (.iload_n 1, 1) := dk_27 (dk_at dksX4_digest_8 2 rfl rfl)
theorem dX4_digest_187 : decode cX4_digest 187 = .ok (.iload_n 2, 1) := dk_28 (dk_at dksX4_digest_8 3 rfl rfl)
theorem dX4_digest_188 : decode cX4_digest 188 = .ok (.invokevirtual 308, 3) := dk_182 1 52 (dk_at dksX4_digest_8 4 rfl rfl)
theorem dX4_digest_191 : decode cX4_digest 191 = .ok (.i2l, 1) := dk_133 (dk_at dksX4_digest_8 7 rfl rfl)
theorem dX4_digest_192 : decode cX4_digest 192 = .ok (.invokevirtual 388, 3) := dk_182 1 132 (dk_at dksX4_digest_8 8 rfl rfl)
theorem dX4_digest_195 : decode cX4_digest 195 = .ok (.iinc 2 1, 3) := dk_132 2 1 (dk_at dksX4_digest_8 11 rfl rfl)
theorem dX4_digest_198 : decode cX4_digest 198 = .ok (.goto (-20), 3) := dk_167 255 236 (dk_at dksX4_digest_8 14 rfl rfl)
theorem dX4_digest_201 : decode cX4_digest 201 = .ok (.iconst 0, 1) := dk_3 (dk_at dksX4_digest_8 17 rfl rfl)
theorem dX4_digest_202 : decode cX4_digest 202 = .ok (.istore_n 2, 1) := dk_61 (dk_at dksX4_digest_8 18 rfl rfl)
theorem dX4_digest_203 : decode cX4_digest 203 = .ok (.iload_n 2, 1) := dk_28 (dk_at dksX4_digest_8 19 rfl rfl)
theorem dX4_digest_204 : decode cX4_digest 204 = .ok (.iconst 4, 1) := dk_7 (dk_at dksX4_digest_8 20 rfl rfl)
theorem dX4_digest_205 : decode cX4_digest 205 = .ok (.if_icmp .ge 37, 3) := dk_162 0 37 (dk_at dksX4_digest_8 21 rfl rfl)
theorem dX4_digest_208 : decode cX4_digest 208 = .ok (.aload_n 0, 1) := dk_42 (dk_at dksX4_digest_9 0 rfl rfl)
theorem dX4_digest_209 : decode cX4_digest 209 = .ok (.getfield 19, 3) := dk_180 0 19 (dk_at dksX4_digest_9 1 rfl rfl)
theorem dX4_digest_212 : decode cX4_digest 212 = .ok (.iload_n 1, 1) := dk_27 (dk_at dksX4_digest_9 4 rfl rfl)
theorem dX4_digest_213 : decode cX4_digest 213 = .ok (.invokevirtual 90, 3) := dk_182 0 90 (dk_at dksX4_digest_9 5 rfl rfl)
theorem dX4_digest_216 : decode cX4_digest 216 = .ok (.checkcast 122, 3) := dk_192 0 122 (dk_at dksX4_digest_9 8 rfl rfl)
theorem dX4_digest_219 : decode cX4_digest 219 = .ok (.getfield 124, 3) := dk_180 0 124 (dk_at dksX4_digest_9 11 rfl rfl)
theorem dX4_digest_222 : decode cX4_digest 222 = .ok (.ifCond .ne 20, 3) := dk_154 0 20 (dk_at dksX4_digest_9 14 rfl rfl)
theorem dX4_digest_225 : decode cX4_digest 225 = .ok (.aload_n 0, 1) := dk_42 (dk_at dksX4_digest_9 17 rfl rfl)
theorem dX4_digest_226 : decode cX4_digest 226 = .ok (.aload_n 0, 1) := dk_42 (dk_at dksX4_digest_9 18 rfl rfl)
theorem dX4_digest_227 : decode cX4_digest 227 = .ok (.iload_n 1, 1) := dk_27 (dk_at dksX4_digest_9 19 rfl rfl)
theorem dX4_digest_228 : decode cX4_digest 228 = .ok (.iload_n 2, 1) := dk_28 (dk_at dksX4_digest_9 20 rfl rfl)
theorem dX4_digest_229 : decode cX4_digest 229 = .ok (.invokevirtual 317, 3) := dk_182 1 61 (dk_at dksX4_digest_9 21 rfl rfl)
theorem dX4_digest_232 : decode cX4_digest 232 = .ok (.i2l, 1) := dk_133 (dk_at dksX4_digest_10 0 rfl rfl)
theorem dX4_digest_233 : decode cX4_digest 233 = .ok (.invokevirtual 388, 3) := dk_182 1 132 (dk_at dksX4_digest_10 1 rfl rfl)
theorem dX4_digest_236 : decode cX4_digest 236 = .ok (.iinc 2 1, 3) := dk_132 2 1 (dk_at dksX4_digest_10 4 rfl rfl)
theorem dX4_digest_239 : decode cX4_digest 239 = .ok (.goto (-36), 3) := dk_167 255 220 (dk_at dksX4_digest_10 7 rfl rfl)
theorem dX4_digest_242 : decode cX4_digest 242 = .ok (.aload_n 0, 1) := dk_42 (dk_at dksX4_digest_10 10 rfl rfl)
theorem dX4_digest_243 : decode cX4_digest 243 = .ok (.aload_n 0, 1) := dk_42 (dk_at dksX4_digest_10 11 rfl rfl)
theorem dX4_digest_244 : decode cX4_digest 244 = .ok (.aload_n 0, 1) := dk_42 (dk_at dksX4_digest_10 12 rfl rfl)
theorem dX4_digest_245 : decode cX4_digest 245 = .ok (.getfield 19, 3) := dk_180 0 19 (dk_at dksX4_digest_10 13 rfl rfl)
theorem dX4_digest_248 : decode cX4_digest 248 = .ok (.iload_n 1, 1) := dk_27 (dk_at dksX4_digest_10 16 rfl rfl)
theorem dX4_digest_249 : decode cX4_digest 249 = .ok (.invokevirtual 90, 3) := dk_182 0 90 (dk_at dksX4_digest_10 17 rfl rfl)
theorem dX4_digest_252 : decode cX4_digest 252 = .ok (.checkcast 122, 3) := dk_192 0 122 (dk_at dksX4_digest_10 20 rfl rfl)
theorem dX4_digest_255 : decode cX4_digest 255 = .ok (.getfield 160, 3) := dk_180 0 160 (dk_at dksX4_digest_11 0 rfl rfl)
theorem dX4_digest_258 : decode cX4_digest 258 = .ok (.invokevirtual 270, 3) := dk_182 1 14 (dk_at dksX4_digest_11 3 rfl rfl)
theorem dX4_digest_261 : decode cX4_digest 261 = .ok (.arraylength, 1) := dk_190 (dk_at dksX4_digest_11 6 rfl rfl)
theorem dX4_digest_262 : decode cX4_digest 262 = .ok (.i2l, 1) := dk_133 (dk_at dksX4_digest_11 7 rfl rfl)
theorem dX4_digest_263 : decode cX4_digest 263 = .ok (.invokevirtual 388, 3) := dk_182 1 132 (dk_at dksX4_digest_11 8 rfl rfl)
theorem dX4_digest_266 : decode cX4_digest 266 = .ok (.iinc 1 1, 3) := dk_132 1 1 (dk_at dksX4_digest_11 11 rfl rfl)
theorem dX4_digest_269 : decode cX4_digest 269 = .ok (.goto (-104), 3) := dk_167 255 152 (dk_at dksX4_digest_11 14 rfl rfl)
theorem dX4_digest_272 : decode cX4_digest 272 = .ok (.aload_n 0, 1) := dk_42 (dk_at dksX4_digest_11 17 rfl rfl)
theorem dX4_digest_273 : decode cX4_digest 273 = .ok (.aload_n 0, 1) := dk_42 (dk_at dksX4_digest_11 18 rfl rfl)
theorem dX4_digest_274 : decode cX4_digest 274 = .ok (.iconst 1, 1) := dk_4 (dk_at dksX4_digest_11 19 rfl rfl)
theorem dX4_digest_275 : decode cX4_digest 275 = .ok (.aload_n 0, 1) := dk_42 (dk_at dksX4_digest_11 20 rfl rfl)
theorem dX4_digest_276 : decode cX4_digest 276 = .ok (.getfield 10, 3) := dk_180 0 10 (dk_at dksX4_digest_11 21 rfl rfl)
theorem dX4_digest_279 : decode cX4_digest 279 = .ok (.invokevirtual 48, 3) := dk_182 0 48 (dk_at dksX4_digest_12 0 rfl rfl)
theorem dX4_digest_282 : decode cX4_digest 282 = .ok (.ishl, 1) := dk_120 (dk_at dksX4_digest_12 3 rfl rfl)
theorem dX4_digest_283 : decode cX4_digest 283 = .ok (.iconst 1, 1) := dk_4 (dk_at dksX4_digest_12 4 rfl rfl)
theorem dX4_digest_284 : decode cX4_digest 284 = .ok (.isub, 1) := dk_100 (dk_at dksX4_digest_12 5 rfl rfl)
theorem dX4_digest_285 : decode cX4_digest 285 = .ok (.invokevirtual 320, 3) := dk_182 1 64 (dk_at dksX4_digest_12 6 rfl rfl)
theorem dX4_digest_288 : decode cX4_digest 288 = .ok (.i2l, 1) := dk_133 (dk_at dksX4_digest_12 9 rfl rfl)
theorem dX4_digest_289 : decode cX4_digest 289 = .ok (.invokevirtual 388, 3) := dk_182 1 132 (dk_at dksX4_digest_12 10 rfl rfl)
theorem dX4_digest_292 : decode cX4_digest 292 = .ok (.aload_n 0, 1) := dk_42 (dk_at dksX4_digest_12 13 rfl rfl)
theorem dX4_digest_293 : decode cX4_digest 293 = .ok (.aload_n 0, 1) := dk_42 (dk_at dksX4_digest_12 14 rfl rfl)
theorem dX4_digest_294 : decode cX4_digest 294 = .ok (.iconst 0, 1) := dk_3 (dk_at dksX4_digest_12 15 rfl rfl)
theorem dX4_digest_295 : decode cX4_digest 295 = .ok (.iconst 5, 1) := dk_8 (dk_at dksX4_digest_12 16 rfl rfl)
theorem dX4_digest_296 : decode cX4_digest 296 = .ok (.invokevirtual 109, 3) := dk_182 0 109 (dk_at dksX4_digest_12 17 rfl rfl)
theorem dX4_digest_299 : decode cX4_digest 299 = .ok (.i2l, 1) := dk_133 (dk_at dksX4_digest_12 20 rfl rfl)
theorem dX4_digest_300 : decode cX4_digest 300 = .ok (.invokevirtual 388, 3) := dk_182 1 132 (dk_at dksX4_digest_12 21 rfl rfl)
theorem dX4_digest_303 : decode cX4_digest 303 = .ok (.aload_n 0, 1) := dk_42 (dk_at dksX4_digest_13 0 rfl rfl)
theorem dX4_digest_304 : decode cX4_digest 304 = .ok (.aload_n 0, 1) := dk_42 (dk_at dksX4_digest_13 1 rfl rfl)
theorem dX4_digest_305 : decode cX4_digest 305 = .ok (.invokevirtual 377, 3) := dk_182 1 121 (dk_at dksX4_digest_13 2 rfl rfl)
theorem dX4_digest_308 : decode cX4_digest 308 = .ok (.ifCond .eq 7, 3) := dk_153 0 7 (dk_at dksX4_digest_13 5 rfl rfl)
theorem dX4_digest_311 : decode cX4_digest 311 = .ok (.lconst 1, 1) := dk_10 (dk_at dksX4_digest_13 8 rfl rfl)
theorem dX4_digest_312 : decode cX4_digest 312 = .ok (.goto 4, 3) := dk_167 0 4 (dk_at dksX4_digest_13 9 rfl rfl)
theorem dX4_digest_315 : decode cX4_digest 315 = .ok (.lconst 0, 1) := dk_9 (dk_at dksX4_digest_13 12 rfl rfl)
theorem dX4_digest_316 : decode cX4_digest 316 = .ok (.invokevirtual 388, 3) := dk_182 1 132 (dk_at dksX4_digest_13 13 rfl rfl)
theorem dX4_digest_319 : decode cX4_digest 319 = .ok (.aload_n 0, 1) := dk_42 (dk_at dksX4_digest_13 16 rfl rfl)
theorem dX4_digest_320 : decode cX4_digest 320 = .ok (.getfield 380, 3) := dk_180 1 124 (dk_at dksX4_digest_13 17 rfl rfl)
theorem dX4_digest_323 : decode cX4_digest 323 = .ok (.lreturn, 1) := dk_173 (dk_at dksX4_digest_13 20 rfl rfl)
abbrev cX4_add : ByteArray := prog_13_method_81_code
def yX4_add : MethodName := ⟨RX4, "add", "(J)V"⟩
def dkwX4_add_0 : List UInt8 := [42, 42, 180, 1, 124, 20, 1, 128, 105, 31, 97, 181, 1, 124, 177]
abbrev dktX4_add_0 : List UInt8 := dkwX4_add_0 ++ []
theorem dksX4_add_0 : cX4_add.data.toList.drop 0 = dktX4_add_0 := by decide +kernel
theorem dX4_add_0 : decode cX4_add 0 = .ok (.aload_n 0, 1) := dk_42 (dk_at dksX4_add_0 0 rfl rfl)
theorem dX4_add_1 : decode cX4_add 1 = .ok (.aload_n 0, 1) := dk_42 (dk_at dksX4_add_0 1 rfl rfl)
theorem dX4_add_2 : decode cX4_add 2 = .ok (.getfield 380, 3) := dk_180 1 124 (dk_at dksX4_add_0 2 rfl rfl)
theorem dX4_add_5 : decode cX4_add 5 = .ok (.ldc2_w 384, 3) := dk_20 1 128 (dk_at dksX4_add_0 5 rfl rfl)
theorem dX4_add_8 : decode cX4_add 8 = .ok (.lmul, 1) := dk_105 (dk_at dksX4_add_0 8 rfl rfl)
theorem dX4_add_9 : decode cX4_add 9 = .ok (.lload_n 1, 1) := dk_31 (dk_at dksX4_add_0 9 rfl rfl)
theorem dX4_add_10 : decode cX4_add 10 = .ok (.ladd, 1) := dk_97 (dk_at dksX4_add_0 10 rfl rfl)
theorem dX4_add_11 : decode cX4_add 11 = .ok (.putfield 380, 3) := dk_181 1 124 (dk_at dksX4_add_0 11 rfl rfl)
theorem dX4_add_14 : decode cX4_add 14 = .ok (.return_, 1) := dk_177 (dk_at dksX4_add_0 14 rfl rfl)
theorem q110 : (Jvm.Cond.initialized "FirstdanceAgencyModel") ∈ lw_all := lw_g (lw_at lw_m1 11 rfl) rfl
theorem q272 : (Jvm.Cond.selects "FirstdanceAgencyModel" ({ cls := "java/lang/Object", name := "getClass", desc := "()Ljava/lang/Class;" } : Jvm.MethodName) ({ cls := "java/lang/Object", name := "getClass", desc := "()Ljava/lang/Class;" } : Jvm.MethodName)) ∈ lw_all := lw_g (lw_at lw_m1 173 rfl) rfl
theorem q1529 : (Jvm.Cond.instantiable "FirstdanceAgencyModel" (13 : Nat)) ∈ lw_all := lw_g (lw_at lw_m6 230 rfl) rfl
theorem q1531 : (Jvm.Cond.instanceMethod ({ cls := "FirstdanceAgencyModel", name := "<init>", desc := "()V" } : Jvm.MethodName)) ∈ lw_all := lw_g (lw_at lw_m6 232 rfl) rfl
theorem q1532 : (Jvm.Cond.code ({ cls := "FirstdanceAgencyModel", name := "<init>", desc := "()V" } : Jvm.MethodName) prog_13_method_1_code (2 : Nat) (Option.none : Option Jvm.ClassFile.FieldType)) ∈ lw_all := lw_g (lw_at lw_m6 233 rfl) rfl
theorem q1533 : (Jvm.Cond.methodLink "FirstdanceAgencyModel" (1 : Nat) ({ cls := "java/lang/Object", name := "<init>", desc := "()V" } : Jvm.MethodName)) ∈ lw_all := lw_g (lw_at lw_m6 234 rfl) rfl
theorem q1534 : (Jvm.Cond.classLink "FirstdanceAgencyModel" (7 : Nat) "java/util/ArrayList") ∈ lw_all := lw_g (lw_at lw_m6 235 rfl) rfl
theorem q1535 : (Jvm.Cond.methodLink "FirstdanceAgencyModel" (9 : Nat) ({ cls := "java/util/ArrayList", name := "<init>", desc := "()V" } : Jvm.MethodName)) ∈ lw_all := lw_g (lw_at lw_m6 236 rfl) rfl
theorem q1536 : (Jvm.Cond.methodLink "FirstdanceAgencyModel" (41 : Nat) ({ cls := "FirstdanceAgencyModel", name := "drive", desc := "()V" } : Jvm.MethodName)) ∈ lw_all := lw_g (lw_at lw_m6 237 rfl) rfl
theorem q1537 : (Jvm.Cond.privateMethod ({ cls := "FirstdanceAgencyModel", name := "drive", desc := "()V" } : Jvm.MethodName)) ∈ lw_tbl := lw_at lw_m6 238 rfl
theorem q1538 : (Jvm.Cond.instanceMethod ({ cls := "FirstdanceAgencyModel", name := "drive", desc := "()V" } : Jvm.MethodName)) ∈ lw_all := lw_g (lw_at lw_m6 239 rfl) rfl
theorem q1539 : (Jvm.Cond.code ({ cls := "FirstdanceAgencyModel", name := "drive", desc := "()V" } : Jvm.MethodName) prog_13_method_15_code (7 : Nat) (Option.none : Option Jvm.ClassFile.FieldType)) ∈ lw_all := lw_g (lw_at lw_m7 0 rfl) rfl
theorem q1540 : (Jvm.Cond.fieldLink "FirstdanceAgencyModel" (44 : Nat) "FirstdanceAgencyModel" "thrown" "I") ∈ lw_all := lw_g (lw_at lw_m7 1 rfl) rfl
theorem q1541 : (Jvm.Cond.fieldLink "FirstdanceAgencyModel" (57 : Nat) "FirstdanceAgencyModel" "today" "I") ∈ lw_all := lw_g (lw_at lw_m7 2 rfl) rfl
theorem q1542 : (Jvm.Cond.fieldLink "FirstdanceAgencyModel" (213 : Nat) "FirstdanceAgencyModel" "cash" "I") ∈ lw_all := lw_g (lw_at lw_m7 3 rfl) rfl
theorem q1543 : (Jvm.Cond.fieldLink "FirstdanceAgencyModel" (10 : Nat) "FirstdanceAgencyModel" "players" "Ljava/util/ArrayList;") ∈ lw_all := lw_g (lw_at lw_m7 4 rfl) rfl
theorem q1544 : (Jvm.Cond.fieldLink "FirstdanceAgencyModel" (16 : Nat) "FirstdanceAgencyModel" "bands" "Ljava/util/ArrayList;") ∈ lw_all := lw_g (lw_at lw_m7 5 rfl) rfl
theorem q1545 : (Jvm.Cond.fieldLink "FirstdanceAgencyModel" (19 : Nat) "FirstdanceAgencyModel" "weddings" "Ljava/util/ArrayList;") ∈ lw_all := lw_g (lw_at lw_m7 6 rfl) rfl
theorem q1546 : (Jvm.Cond.fieldLink "FirstdanceAgencyModel" (22 : Nat) "FirstdanceAgencyModel" "keys" "[I") ∈ lw_all := lw_g (lw_at lw_m7 7 rfl) rfl
theorem q1547 : (Jvm.Cond.fieldLink "FirstdanceAgencyModel" (26 : Nat) "FirstdanceAgencyModel" "energies" "[I") ∈ lw_all := lw_g (lw_at lw_m7 8 rfl) rfl
theorem q1548 : (Jvm.Cond.fieldLink "FirstdanceAgencyModel" (29 : Nat) "FirstdanceAgencyModel" "minutes" "[I") ∈ lw_all := lw_g (lw_at lw_m7 9 rfl) rfl
theorem q1549 : (Jvm.Cond.fieldLink "FirstdanceAgencyModel" (32 : Nat) "FirstdanceAgencyModel" "plays" "[I") ∈ lw_all := lw_g (lw_at lw_m7 10 rfl) rfl
theorem q1550 : (Jvm.Cond.fieldLink "FirstdanceAgencyModel" (35 : Nat) "FirstdanceAgencyModel" "roads" "[I") ∈ lw_all := lw_g (lw_at lw_m7 11 rfl) rfl
theorem q1551 : (Jvm.Cond.fieldLink "FirstdanceAgencyModel" (38 : Nat) "FirstdanceAgencyModel" "drives" "[I") ∈ lw_all := lw_g (lw_at lw_m7 12 rfl) rfl
theorem q1552 : (Jvm.Cond.fieldLink "FirstdanceAgencyModel" (380 : Nat) "FirstdanceAgencyModel" "sum" "J") ∈ lw_all := lw_g (lw_at lw_m7 13 rfl) rfl
theorem q1553 : (Jvm.Cond.lays "FirstdanceAgencyModel" "FirstdanceAgencyModel" "thrown" "I") ∈ lw_all := lw_g (lw_at lw_m7 14 rfl) rfl
theorem q1554 : (Jvm.Cond.soleField "FirstdanceAgencyModel" "thrown") ∈ lw_all := lw_g (lw_at lw_m7 15 rfl) rfl
theorem q1555 : (Jvm.Cond.lays "FirstdanceAgencyModel" "FirstdanceAgencyModel" "today" "I") ∈ lw_all := lw_g (lw_at lw_m7 16 rfl) rfl
theorem q1556 : (Jvm.Cond.soleField "FirstdanceAgencyModel" "today") ∈ lw_all := lw_g (lw_at lw_m7 17 rfl) rfl
theorem q1557 : (Jvm.Cond.lays "FirstdanceAgencyModel" "FirstdanceAgencyModel" "cash" "I") ∈ lw_all := lw_g (lw_at lw_m7 18 rfl) rfl
theorem q1558 : (Jvm.Cond.soleField "FirstdanceAgencyModel" "cash") ∈ lw_all := lw_g (lw_at lw_m7 19 rfl) rfl
theorem q1559 : (Jvm.Cond.laysFinal "FirstdanceAgencyModel" "FirstdanceAgencyModel" "players" "Ljava/util/ArrayList;") ∈ lw_all := lw_g (lw_at lw_m7 20 rfl) rfl
theorem q1560 : (Jvm.Cond.soleField "FirstdanceAgencyModel" "players") ∈ lw_all := lw_g (lw_at lw_m7 21 rfl) rfl
theorem q1561 : (Jvm.Cond.laysFinal "FirstdanceAgencyModel" "FirstdanceAgencyModel" "bands" "Ljava/util/ArrayList;") ∈ lw_all := lw_g (lw_at lw_m7 22 rfl) rfl
theorem q1562 : (Jvm.Cond.soleField "FirstdanceAgencyModel" "bands") ∈ lw_all := lw_g (lw_at lw_m7 23 rfl) rfl
theorem q1563 : (Jvm.Cond.laysFinal "FirstdanceAgencyModel" "FirstdanceAgencyModel" "weddings" "Ljava/util/ArrayList;") ∈ lw_all := lw_g (lw_at lw_m7 24 rfl) rfl
theorem q1564 : (Jvm.Cond.soleField "FirstdanceAgencyModel" "weddings") ∈ lw_all := lw_g (lw_at lw_m7 25 rfl) rfl
theorem q1565 : (Jvm.Cond.laysFinal "FirstdanceAgencyModel" "FirstdanceAgencyModel" "keys" "[I") ∈ lw_all := lw_g (lw_at lw_m7 26 rfl) rfl
theorem q1566 : (Jvm.Cond.soleField "FirstdanceAgencyModel" "keys") ∈ lw_all := lw_g (lw_at lw_m7 27 rfl) rfl
theorem q1567 : (Jvm.Cond.laysFinal "FirstdanceAgencyModel" "FirstdanceAgencyModel" "energies" "[I") ∈ lw_all := lw_g (lw_at lw_m7 28 rfl) rfl
theorem q1568 : (Jvm.Cond.soleField "FirstdanceAgencyModel" "energies") ∈ lw_all := lw_g (lw_at lw_m7 29 rfl) rfl
theorem q1569 : (Jvm.Cond.laysFinal "FirstdanceAgencyModel" "FirstdanceAgencyModel" "minutes" "[I") ∈ lw_all := lw_g (lw_at lw_m7 30 rfl) rfl
theorem q1570 : (Jvm.Cond.soleField "FirstdanceAgencyModel" "minutes") ∈ lw_all := lw_g (lw_at lw_m7 31 rfl) rfl
theorem q1571 : (Jvm.Cond.laysFinal "FirstdanceAgencyModel" "FirstdanceAgencyModel" "plays" "[I") ∈ lw_all := lw_g (lw_at lw_m7 32 rfl) rfl
theorem q1572 : (Jvm.Cond.soleField "FirstdanceAgencyModel" "plays") ∈ lw_all := lw_g (lw_at lw_m7 33 rfl) rfl
theorem q1573 : (Jvm.Cond.laysFinal "FirstdanceAgencyModel" "FirstdanceAgencyModel" "roads" "[I") ∈ lw_all := lw_g (lw_at lw_m7 34 rfl) rfl
theorem q1574 : (Jvm.Cond.soleField "FirstdanceAgencyModel" "roads") ∈ lw_all := lw_g (lw_at lw_m7 35 rfl) rfl
theorem q1575 : (Jvm.Cond.laysFinal "FirstdanceAgencyModel" "FirstdanceAgencyModel" "drives" "[I") ∈ lw_all := lw_g (lw_at lw_m7 36 rfl) rfl
theorem q1576 : (Jvm.Cond.soleField "FirstdanceAgencyModel" "drives") ∈ lw_all := lw_g (lw_at lw_m7 37 rfl) rfl
theorem q1577 : (Jvm.Cond.lays "FirstdanceAgencyModel" "FirstdanceAgencyModel" "sum" "J") ∈ lw_all := lw_g (lw_at lw_m7 38 rfl) rfl
theorem q1578 : (Jvm.Cond.soleField "FirstdanceAgencyModel" "sum") ∈ lw_all := lw_g (lw_at lw_m7 39 rfl) rfl
theorem q1579 : (Jvm.Cond.superclass "FirstdanceAgencyModel" "java/lang/Object") ∈ lw_all := lw_g (lw_at lw_m7 40 rfl) rfl
theorem q1581 : (Jvm.Cond.instanceMethod ({ cls := "FirstdanceAgencyModel", name := "thrown", desc := "()I" } : Jvm.MethodName)) ∈ lw_all := lw_g (lw_at lw_m7 42 rfl) rfl
theorem q1582 : (Jvm.Cond.selects "FirstdanceAgencyModel" ({ cls := "FirstdanceAgencyModel", name := "thrown", desc := "()I" } : Jvm.MethodName) ({ cls := "FirstdanceAgencyModel", name := "thrown", desc := "()I" } : Jvm.MethodName)) ∈ lw_all := lw_g (lw_at lw_m7 43 rfl) rfl
theorem q1583 : (Jvm.Cond.code ({ cls := "FirstdanceAgencyModel", name := "thrown", desc := "()I" } : Jvm.MethodName) prog_13_method_2_code (1 : Nat) (Option.some Jvm.ClassFile.FieldType.int)) ∈ lw_all := lw_g (lw_at lw_m7 44 rfl) rfl
theorem q1585 : (Jvm.Cond.instanceMethod ({ cls := "FirstdanceAgencyModel", name := "player", desc := "(IIII)I" } : Jvm.MethodName)) ∈ lw_all := lw_g (lw_at lw_m7 46 rfl) rfl
theorem q1586 : (Jvm.Cond.selects "FirstdanceAgencyModel" ({ cls := "FirstdanceAgencyModel", name := "player", desc := "(IIII)I" } : Jvm.MethodName) ({ cls := "FirstdanceAgencyModel", name := "player", desc := "(IIII)I" } : Jvm.MethodName)) ∈ lw_all := lw_g (lw_at lw_m7 47 rfl) rfl
theorem q1587 : (Jvm.Cond.code ({ cls := "FirstdanceAgencyModel", name := "player", desc := "(IIII)I" } : Jvm.MethodName) prog_13_method_10_code (6 : Nat) (Option.some Jvm.ClassFile.FieldType.int)) ∈ lw_all := lw_g (lw_at lw_m7 48 rfl) rfl
theorem q1588 : (Jvm.Cond.methodLink "FirstdanceAgencyModel" (52 : Nat) ({ cls := "FirstdanceAgencyModel", name := "is", desc := "(III)Z" } : Jvm.MethodName)) ∈ lw_all := lw_g (lw_at lw_m7 49 rfl) rfl
theorem q1589 : (Jvm.Cond.static ({ cls := "FirstdanceAgencyModel", name := "is", desc := "(III)Z" } : Jvm.MethodName)) ∈ lw_all := lw_g (lw_at lw_m7 50 rfl) rfl
theorem q1590 : (Jvm.Cond.code ({ cls := "FirstdanceAgencyModel", name := "is", desc := "(III)Z" } : Jvm.MethodName) prog_13_method_4_code (3 : Nat) (Option.some Jvm.ClassFile.FieldType.boolean)) ∈ lw_all := lw_g (lw_at lw_m7 51 rfl) rfl
theorem q1591 : (Jvm.Cond.methodLink "FirstdanceAgencyModel" (60 : Nat) ({ cls := "FirstdanceAgencyModel", name := "refuse", desc := "(I)I" } : Jvm.MethodName)) ∈ lw_all := lw_g (lw_at lw_m7 52 rfl) rfl
theorem q1592 : (Jvm.Cond.privateMethod ({ cls := "FirstdanceAgencyModel", name := "refuse", desc := "(I)I" } : Jvm.MethodName)) ∈ lw_tbl := lw_at lw_m7 53 rfl
theorem q1593 : (Jvm.Cond.instanceMethod ({ cls := "FirstdanceAgencyModel", name := "refuse", desc := "(I)I" } : Jvm.MethodName)) ∈ lw_all := lw_g (lw_at lw_m7 54 rfl) rfl
theorem q1594 : (Jvm.Cond.code ({ cls := "FirstdanceAgencyModel", name := "refuse", desc := "(I)I" } : Jvm.MethodName) prog_13_method_3_code (2 : Nat) (Option.some Jvm.ClassFile.FieldType.int)) ∈ lw_all := lw_g (lw_at lw_m7 55 rfl) rfl
theorem q1595 : (Jvm.Cond.methodLink "FirstdanceAgencyModel" (64 : Nat) ({ cls := "FirstdanceAgencyModel", name := "areSongs", desc := "(I)Z" } : Jvm.MethodName)) ∈ lw_all := lw_g (lw_at lw_m7 56 rfl) rfl
theorem q1596 : (Jvm.Cond.privateMethod ({ cls := "FirstdanceAgencyModel", name := "areSongs", desc := "(I)Z" } : Jvm.MethodName)) ∈ lw_tbl := lw_at lw_m7 57 rfl
theorem q1597 : (Jvm.Cond.instanceMethod ({ cls := "FirstdanceAgencyModel", name := "areSongs", desc := "(I)Z" } : Jvm.MethodName)) ∈ lw_all := lw_g (lw_at lw_m7 58 rfl) rfl
theorem q1598 : (Jvm.Cond.code ({ cls := "FirstdanceAgencyModel", name := "areSongs", desc := "(I)Z" } : Jvm.MethodName) prog_13_method_7_code (2 : Nat) (Option.some Jvm.ClassFile.FieldType.boolean)) ∈ lw_all := lw_g (lw_at lw_m7 59 rfl) rfl
theorem q1599 : (Jvm.Cond.constant "FirstdanceAgencyModel" (56 : Nat) (65535 : Int32)) ∈ lw_all := lw_g (lw_at lw_m7 60 rfl) rfl
theorem q1600 : (Jvm.Cond.methodLink "FirstdanceAgencyModel" (48 : Nat) ({ cls := "java/util/ArrayList", name := "size", desc := "()I" } : Jvm.MethodName)) ∈ lw_all := lw_g (lw_at lw_m7 61 rfl) rfl
theorem q1601 : (Jvm.Cond.classLink "FirstdanceAgencyModel" (68 : Nat) "FirstdanceAgencyModel$Player") ∈ lw_all := lw_g (lw_at lw_m7 62 rfl) rfl
theorem q1603 : (Jvm.Cond.methodLinkNest "FirstdanceAgencyModel" (70 : Nat) ({ cls := "FirstdanceAgencyModel$Player", name := "<init>", desc := "()V" } : Jvm.MethodName) "FirstdanceAgencyModel") ∈ lw_tbl := lw_at lw_m7 64 rfl
theorem q1607 : (Jvm.Cond.fieldLinkNest "FirstdanceAgencyModel" (71 : Nat) "FirstdanceAgencyModel$Player" "instruments" "I" "FirstdanceAgencyModel") ∈ lw_tbl := lw_at lw_m7 68 rfl
theorem q1608 : (Jvm.Cond.fieldLinkNest "FirstdanceAgencyModel" (74 : Nat) "FirstdanceAgencyModel$Player" "songs" "I" "FirstdanceAgencyModel") ∈ lw_tbl := lw_at lw_m7 69 rfl
theorem q1609 : (Jvm.Cond.fieldLinkNest "FirstdanceAgencyModel" (77 : Nat) "FirstdanceAgencyModel$Player" "home" "I" "FirstdanceAgencyModel") ∈ lw_tbl := lw_at lw_m7 70 rfl
theorem q1610 : (Jvm.Cond.fieldLinkNest "FirstdanceAgencyModel" (80 : Nat) "FirstdanceAgencyModel$Player" "fee" "I" "FirstdanceAgencyModel") ∈ lw_tbl := lw_at lw_m7 71 rfl
theorem q1611 : (Jvm.Cond.fieldLinkNest "FirstdanceAgencyModel" (99 : Nat) "FirstdanceAgencyModel$Player" "feuds" "I" "FirstdanceAgencyModel") ∈ lw_tbl := lw_at lw_m7 72 rfl
theorem q1612 : (Jvm.Cond.fieldLinkNest "FirstdanceAgencyModel" (267 : Nat) "FirstdanceAgencyModel$Player" "earned" "I" "FirstdanceAgencyModel") ∈ lw_tbl := lw_at lw_m7 73 rfl
theorem q1614 : (Jvm.Cond.fieldLinkNest "FirstdanceAgencyModel" (156 : Nat) "FirstdanceAgencyModel$Player" "isOff" "[Z" "FirstdanceAgencyModel") ∈ lw_tbl := lw_at lw_m7 75 rfl
theorem q1630 : (Jvm.Cond.methodLink "FirstdanceAgencyModel" (83 : Nat) ({ cls := "java/util/ArrayList", name := "add", desc := "(Ljava/lang/Object;)Z" } : Jvm.MethodName)) ∈ lw_all := lw_g (lw_at lw_m7 91 rfl) rfl
theorem q1632 : (Jvm.Cond.instanceMethod ({ cls := "FirstdanceAgencyModel", name := "learn", desc := "(II)I" } : Jvm.MethodName)) ∈ lw_all := lw_g (lw_at lw_m7 93 rfl) rfl
theorem q1633 : (Jvm.Cond.selects "FirstdanceAgencyModel" ({ cls := "FirstdanceAgencyModel", name := "learn", desc := "(II)I" } : Jvm.MethodName) ({ cls := "FirstdanceAgencyModel", name := "learn", desc := "(II)I" } : Jvm.MethodName)) ∈ lw_all := lw_g (lw_at lw_m7 94 rfl) rfl
theorem q1634 : (Jvm.Cond.code ({ cls := "FirstdanceAgencyModel", name := "learn", desc := "(II)I" } : Jvm.MethodName) prog_13_method_11_code (3 : Nat) (Option.some Jvm.ClassFile.FieldType.int)) ∈ lw_all := lw_g (lw_at lw_m7 95 rfl) rfl
theorem q1635 : (Jvm.Cond.methodLink "FirstdanceAgencyModel" (87 : Nat) ({ cls := "FirstdanceAgencyModel", name := "isPlayer", desc := "(I)Z" } : Jvm.MethodName)) ∈ lw_all := lw_g (lw_at lw_m7 96 rfl) rfl
theorem q1636 : (Jvm.Cond.privateMethod ({ cls := "FirstdanceAgencyModel", name := "isPlayer", desc := "(I)Z" } : Jvm.MethodName)) ∈ lw_tbl := lw_at lw_m7 97 rfl
theorem q1637 : (Jvm.Cond.instanceMethod ({ cls := "FirstdanceAgencyModel", name := "isPlayer", desc := "(I)Z" } : Jvm.MethodName)) ∈ lw_all := lw_g (lw_at lw_m7 98 rfl) rfl
theorem q1638 : (Jvm.Cond.code ({ cls := "FirstdanceAgencyModel", name := "isPlayer", desc := "(I)Z" } : Jvm.MethodName) prog_13_method_5_code (2 : Nat) (Option.some Jvm.ClassFile.FieldType.boolean)) ∈ lw_all := lw_g (lw_at lw_m7 99 rfl) rfl
theorem q1639 : (Jvm.Cond.methodLink "FirstdanceAgencyModel" (90 : Nat) ({ cls := "java/util/ArrayList", name := "get", desc := "(I)Ljava/lang/Object;" } : Jvm.MethodName)) ∈ lw_all := lw_g (lw_at lw_m7 100 rfl) rfl
theorem q1640 : (Jvm.Cond.methodLink "FirstdanceAgencyModel" (94 : Nat) ({ cls := "java/lang/Integer", name := "bitCount", desc := "(I)I" } : Jvm.MethodName)) ∈ lw_all := lw_g (lw_at lw_m7 101 rfl) rfl
theorem q1647 : (Jvm.Cond.instanceMethod ({ cls := "FirstdanceAgencyModel", name := "song", desc := "(IIII)I" } : Jvm.MethodName)) ∈ lw_all := lw_g (lw_at lw_m7 108 rfl) rfl
theorem q1648 : (Jvm.Cond.selects "FirstdanceAgencyModel" ({ cls := "FirstdanceAgencyModel", name := "song", desc := "(IIII)I" } : Jvm.MethodName) ({ cls := "FirstdanceAgencyModel", name := "song", desc := "(IIII)I" } : Jvm.MethodName)) ∈ lw_all := lw_g (lw_at lw_m7 109 rfl) rfl
theorem q1649 : (Jvm.Cond.code ({ cls := "FirstdanceAgencyModel", name := "song", desc := "(IIII)I" } : Jvm.MethodName) prog_13_method_12_code (6 : Nat) (Option.some Jvm.ClassFile.FieldType.int)) ∈ lw_all := lw_g (lw_at lw_m7 110 rfl) rfl
theorem q1651 : (Jvm.Cond.instanceMethod ({ cls := "FirstdanceAgencyModel", name := "feud", desc := "(IIZ)Z" } : Jvm.MethodName)) ∈ lw_all := lw_g (lw_at lw_m7 112 rfl) rfl
theorem q1652 : (Jvm.Cond.selects "FirstdanceAgencyModel" ({ cls := "FirstdanceAgencyModel", name := "feud", desc := "(IIZ)Z" } : Jvm.MethodName) ({ cls := "FirstdanceAgencyModel", name := "feud", desc := "(IIZ)Z" } : Jvm.MethodName)) ∈ lw_all := lw_g (lw_at lw_m7 113 rfl) rfl
theorem q1653 : (Jvm.Cond.code ({ cls := "FirstdanceAgencyModel", name := "feud", desc := "(IIZ)Z" } : Jvm.MethodName) prog_13_method_13_code (7 : Nat) (Option.some Jvm.ClassFile.FieldType.boolean)) ∈ lw_all := lw_g (lw_at lw_m7 114 rfl) rfl
theorem q1654 : (Jvm.Cond.methodLink "FirstdanceAgencyModel" (102 : Nat) ({ cls := "FirstdanceAgencyModel", name := "isIn", desc := "(II)Z" } : Jvm.MethodName)) ∈ lw_all := lw_g (lw_at lw_m7 115 rfl) rfl
theorem q1655 : (Jvm.Cond.static ({ cls := "FirstdanceAgencyModel", name := "isIn", desc := "(II)Z" } : Jvm.MethodName)) ∈ lw_all := lw_g (lw_at lw_m7 116 rfl) rfl
theorem q1656 : (Jvm.Cond.code ({ cls := "FirstdanceAgencyModel", name := "isIn", desc := "(II)Z" } : Jvm.MethodName) prog_13_method_9_code (2 : Nat) (Option.some Jvm.ClassFile.FieldType.boolean)) ∈ lw_all := lw_g (lw_at lw_m7 117 rfl) rfl
theorem q1658 : (Jvm.Cond.instanceMethod ({ cls := "FirstdanceAgencyModel", name := "road", desc := "(III)I" } : Jvm.MethodName)) ∈ lw_all := lw_g (lw_at lw_m7 119 rfl) rfl
theorem q1659 : (Jvm.Cond.selects "FirstdanceAgencyModel" ({ cls := "FirstdanceAgencyModel", name := "road", desc := "(III)I" } : Jvm.MethodName) ({ cls := "FirstdanceAgencyModel", name := "road", desc := "(III)I" } : Jvm.MethodName)) ∈ lw_all := lw_g (lw_at lw_m7 120 rfl) rfl
theorem q1660 : (Jvm.Cond.code ({ cls := "FirstdanceAgencyModel", name := "road", desc := "(III)I" } : Jvm.MethodName) prog_13_method_17_code (4 : Nat) (Option.some Jvm.ClassFile.FieldType.int)) ∈ lw_all := lw_g (lw_at lw_m7 121 rfl) rfl
theorem q1661 : (Jvm.Cond.methodLink "FirstdanceAgencyModel" (106 : Nat) ({ cls := "FirstdanceAgencyModel", name := "isTown", desc := "(I)Z" } : Jvm.MethodName)) ∈ lw_all := lw_g (lw_at lw_m7 122 rfl) rfl
theorem q1662 : (Jvm.Cond.static ({ cls := "FirstdanceAgencyModel", name := "isTown", desc := "(I)Z" } : Jvm.MethodName)) ∈ lw_all := lw_g (lw_at lw_m7 123 rfl) rfl
theorem q1663 : (Jvm.Cond.code ({ cls := "FirstdanceAgencyModel", name := "isTown", desc := "(I)Z" } : Jvm.MethodName) prog_13_method_14_code (1 : Nat) (Option.some Jvm.ClassFile.FieldType.boolean)) ∈ lw_all := lw_g (lw_at lw_m7 124 rfl) rfl
theorem q1664 : (Jvm.Cond.methodLink "FirstdanceAgencyModel" (109 : Nat) ({ cls := "FirstdanceAgencyModel", name := "driveOf", desc := "(II)I" } : Jvm.MethodName)) ∈ lw_all := lw_g (lw_at lw_m7 125 rfl) rfl
theorem q1665 : (Jvm.Cond.privateMethod ({ cls := "FirstdanceAgencyModel", name := "driveOf", desc := "(II)I" } : Jvm.MethodName)) ∈ lw_tbl := lw_at lw_m7 126 rfl
theorem q1666 : (Jvm.Cond.instanceMethod ({ cls := "FirstdanceAgencyModel", name := "driveOf", desc := "(II)I" } : Jvm.MethodName)) ∈ lw_all := lw_g (lw_at lw_m7 127 rfl) rfl
theorem q1667 : (Jvm.Cond.code ({ cls := "FirstdanceAgencyModel", name := "driveOf", desc := "(II)I" } : Jvm.MethodName) prog_13_method_16_code (3 : Nat) (Option.some Jvm.ClassFile.FieldType.int)) ∈ lw_all := lw_g (lw_at lw_m7 128 rfl) rfl
theorem q1669 : (Jvm.Cond.instanceMethod ({ cls := "FirstdanceAgencyModel", name := "band", desc := "(I)I" } : Jvm.MethodName)) ∈ lw_all := lw_g (lw_at lw_m7 130 rfl) rfl
theorem q1670 : (Jvm.Cond.selects "FirstdanceAgencyModel" ({ cls := "FirstdanceAgencyModel", name := "band", desc := "(I)I" } : Jvm.MethodName) ({ cls := "FirstdanceAgencyModel", name := "band", desc := "(I)I" } : Jvm.MethodName)) ∈ lw_all := lw_g (lw_at lw_m7 131 rfl) rfl
theorem q1671 : (Jvm.Cond.code ({ cls := "FirstdanceAgencyModel", name := "band", desc := "(I)I" } : Jvm.MethodName) prog_13_method_20_code (2 : Nat) (Option.some Jvm.ClassFile.FieldType.int)) ∈ lw_all := lw_g (lw_at lw_m7 132 rfl) rfl
theorem q1672 : (Jvm.Cond.methodLink "FirstdanceAgencyModel" (116 : Nat) ({ cls := "FirstdanceAgencyModel", name := "needed", desc := "(I)I" } : Jvm.MethodName)) ∈ lw_all := lw_g (lw_at lw_m7 133 rfl) rfl
theorem q1673 : (Jvm.Cond.static ({ cls := "FirstdanceAgencyModel", name := "needed", desc := "(I)I" } : Jvm.MethodName)) ∈ lw_all := lw_g (lw_at lw_m7 134 rfl) rfl
theorem q1674 : (Jvm.Cond.code ({ cls := "FirstdanceAgencyModel", name := "needed", desc := "(I)I" } : Jvm.MethodName) prog_13_method_19_code (3 : Nat) (Option.some Jvm.ClassFile.FieldType.int)) ∈ lw_all := lw_g (lw_at lw_m7 135 rfl) rfl
theorem q1675 : (Jvm.Cond.methodLink "FirstdanceAgencyModel" (113 : Nat) ({ cls := "FirstdanceAgencyModel", name := "needed", desc := "(II)I" } : Jvm.MethodName)) ∈ lw_all := lw_g (lw_at lw_m7 136 rfl) rfl
theorem q1676 : (Jvm.Cond.static ({ cls := "FirstdanceAgencyModel", name := "needed", desc := "(II)I" } : Jvm.MethodName)) ∈ lw_all := lw_g (lw_at lw_m7 137 rfl) rfl
theorem q1677 : (Jvm.Cond.code ({ cls := "FirstdanceAgencyModel", name := "needed", desc := "(II)I" } : Jvm.MethodName) prog_13_method_18_code (4 : Nat) (Option.some Jvm.ClassFile.FieldType.int)) ∈ lw_all := lw_g (lw_at lw_m7 138 rfl) rfl
theorem q1678 : (Jvm.Cond.methodLink "FirstdanceAgencyModel" (118 : Nat) ({ cls := "java/lang/Integer", name := "valueOf", desc := "(I)Ljava/lang/Integer;" } : Jvm.MethodName)) ∈ lw_all := lw_g (lw_at lw_m7 139 rfl) rfl
theorem q1680 : (Jvm.Cond.instanceMethod ({ cls := "FirstdanceAgencyModel", name := "ask", desc := "(IIIIII)I" } : Jvm.MethodName)) ∈ lw_all := lw_g (lw_at lw_m7 141 rfl) rfl
theorem q1681 : (Jvm.Cond.selects "FirstdanceAgencyModel" ({ cls := "FirstdanceAgencyModel", name := "ask", desc := "(IIIIII)I" } : Jvm.MethodName) ({ cls := "FirstdanceAgencyModel", name := "ask", desc := "(IIIIII)I" } : Jvm.MethodName)) ∈ lw_all := lw_g (lw_at lw_m7 142 rfl) rfl
theorem q1682 : (Jvm.Cond.code ({ cls := "FirstdanceAgencyModel", name := "ask", desc := "(IIIIII)I" } : Jvm.MethodName) prog_13_method_23_code (8 : Nat) (Option.some Jvm.ClassFile.FieldType.int)) ∈ lw_all := lw_g (lw_at lw_m7 143 rfl) rfl
theorem q1683 : (Jvm.Cond.methodLink "FirstdanceAgencyModel" (133 : Nat) ({ cls := "FirstdanceAgencyModel", name := "isBand", desc := "(I)Z" } : Jvm.MethodName)) ∈ lw_all := lw_g (lw_at lw_m7 144 rfl) rfl
theorem q1684 : (Jvm.Cond.privateMethod ({ cls := "FirstdanceAgencyModel", name := "isBand", desc := "(I)Z" } : Jvm.MethodName)) ∈ lw_tbl := lw_at lw_m7 145 rfl
theorem q1685 : (Jvm.Cond.instanceMethod ({ cls := "FirstdanceAgencyModel", name := "isBand", desc := "(I)Z" } : Jvm.MethodName)) ∈ lw_all := lw_g (lw_at lw_m7 146 rfl) rfl
theorem q1686 : (Jvm.Cond.code ({ cls := "FirstdanceAgencyModel", name := "isBand", desc := "(I)Z" } : Jvm.MethodName) prog_13_method_21_code (2 : Nat) (Option.some Jvm.ClassFile.FieldType.boolean)) ∈ lw_all := lw_g (lw_at lw_m7 147 rfl) rfl
theorem q1687 : (Jvm.Cond.methodLink "FirstdanceAgencyModel" (136 : Nat) ({ cls := "FirstdanceAgencyModel", name := "isDay", desc := "(I)Z" } : Jvm.MethodName)) ∈ lw_all := lw_g (lw_at lw_m7 148 rfl) rfl
theorem q1688 : (Jvm.Cond.privateMethod ({ cls := "FirstdanceAgencyModel", name := "isDay", desc := "(I)Z" } : Jvm.MethodName)) ∈ lw_tbl := lw_at lw_m7 149 rfl
theorem q1689 : (Jvm.Cond.instanceMethod ({ cls := "FirstdanceAgencyModel", name := "isDay", desc := "(I)Z" } : Jvm.MethodName)) ∈ lw_all := lw_g (lw_at lw_m7 150 rfl) rfl
theorem q1690 : (Jvm.Cond.code ({ cls := "FirstdanceAgencyModel", name := "isDay", desc := "(I)Z" } : Jvm.MethodName) prog_13_method_8_code (2 : Nat) (Option.some Jvm.ClassFile.FieldType.boolean)) ∈ lw_all := lw_g (lw_at lw_m7 151 rfl) rfl
theorem q1691 : (Jvm.Cond.methodLink "FirstdanceAgencyModel" (139 : Nat) ({ cls := "FirstdanceAgencyModel", name := "isFixed", desc := "(II)Z" } : Jvm.MethodName)) ∈ lw_all := lw_g (lw_at lw_m7 152 rfl) rfl
theorem q1692 : (Jvm.Cond.privateMethod ({ cls := "FirstdanceAgencyModel", name := "isFixed", desc := "(II)Z" } : Jvm.MethodName)) ∈ lw_tbl := lw_at lw_m7 153 rfl
theorem q1693 : (Jvm.Cond.instanceMethod ({ cls := "FirstdanceAgencyModel", name := "isFixed", desc := "(II)Z" } : Jvm.MethodName)) ∈ lw_all := lw_g (lw_at lw_m7 154 rfl) rfl
theorem q1694 : (Jvm.Cond.code ({ cls := "FirstdanceAgencyModel", name := "isFixed", desc := "(II)Z" } : Jvm.MethodName) prog_13_method_22_code (5 : Nat) (Option.some Jvm.ClassFile.FieldType.boolean)) ∈ lw_all := lw_g (lw_at lw_m7 155 rfl) rfl
theorem q1695 : (Jvm.Cond.classLink "FirstdanceAgencyModel" (122 : Nat) "FirstdanceAgencyModel$Wedding") ∈ lw_all := lw_g (lw_at lw_m7 156 rfl) rfl
theorem q1697 : (Jvm.Cond.methodLinkNest "FirstdanceAgencyModel" (142 : Nat) ({ cls := "FirstdanceAgencyModel$Wedding", name := "<init>", desc := "()V" } : Jvm.MethodName) "FirstdanceAgencyModel") ∈ lw_tbl := lw_at lw_m7 158 rfl
theorem q1701 : (Jvm.Cond.fieldLinkNest "FirstdanceAgencyModel" (127 : Nat) "FirstdanceAgencyModel$Wedding" "band" "I" "FirstdanceAgencyModel") ∈ lw_tbl := lw_at lw_m7 162 rfl
theorem q1702 : (Jvm.Cond.fieldLinkNest "FirstdanceAgencyModel" (130 : Nat) "FirstdanceAgencyModel$Wedding" "day" "I" "FirstdanceAgencyModel") ∈ lw_tbl := lw_at lw_m7 163 rfl
theorem q1703 : (Jvm.Cond.fieldLinkNest "FirstdanceAgencyModel" (143 : Nat) "FirstdanceAgencyModel$Wedding" "town" "I" "FirstdanceAgencyModel") ∈ lw_tbl := lw_at lw_m7 164 rfl
theorem q1705 : (Jvm.Cond.fieldLinkNest "FirstdanceAgencyModel" (146 : Nat) "FirstdanceAgencyModel$Wedding" "start" "I" "FirstdanceAgencyModel") ∈ lw_tbl := lw_at lw_m7 166 rfl
theorem q1707 : (Jvm.Cond.fieldLinkNest "FirstdanceAgencyModel" (149 : Nat) "FirstdanceAgencyModel$Wedding" "length" "I" "FirstdanceAgencyModel") ∈ lw_tbl := lw_at lw_m7 168 rfl
theorem q1708 : (Jvm.Cond.fieldLinkNest "FirstdanceAgencyModel" (152 : Nat) "FirstdanceAgencyModel$Wedding" "songs" "I" "FirstdanceAgencyModel") ∈ lw_tbl := lw_at lw_m7 169 rfl
theorem q1709 : (Jvm.Cond.fieldLinkNest "FirstdanceAgencyModel" (153 : Nat) "FirstdanceAgencyModel$Wedding" "told" "I" "FirstdanceAgencyModel") ∈ lw_tbl := lw_at lw_m7 170 rfl
theorem q1710 : (Jvm.Cond.fieldLinkNest "FirstdanceAgencyModel" (124 : Nat) "FirstdanceAgencyModel$Wedding" "state" "I" "FirstdanceAgencyModel") ∈ lw_tbl := lw_at lw_m7 171 rfl
theorem q1711 : (Jvm.Cond.fieldLinkNest "FirstdanceAgencyModel" (160 : Nat) "FirstdanceAgencyModel$Wedding" "set" "I" "FirstdanceAgencyModel") ∈ lw_tbl := lw_at lw_m7 172 rfl
theorem q1712 : (Jvm.Cond.fieldLinkNest "FirstdanceAgencyModel" (207 : Nat) "FirstdanceAgencyModel$Wedding" "price" "I" "FirstdanceAgencyModel") ∈ lw_tbl := lw_at lw_m7 173 rfl
theorem q1714 : (Jvm.Cond.fieldLinkNest "FirstdanceAgencyModel" (252 : Nat) "FirstdanceAgencyModel$Wedding" "late" "I" "FirstdanceAgencyModel") ∈ lw_tbl := lw_at lw_m7 175 rfl
theorem q1715 : (Jvm.Cond.fieldLinkNest "FirstdanceAgencyModel" (210 : Nat) "FirstdanceAgencyModel$Wedding" "paid" "I" "FirstdanceAgencyModel") ∈ lw_tbl := lw_at lw_m7 176 rfl
theorem q1742 : (Jvm.Cond.instanceMethod ({ cls := "FirstdanceAgencyModel", name := "fix", desc := "(I)I" } : Jvm.MethodName)) ∈ lw_all := lw_g (lw_at lw_m7 203 rfl) rfl
theorem q1743 : (Jvm.Cond.selects "FirstdanceAgencyModel" ({ cls := "FirstdanceAgencyModel", name := "fix", desc := "(I)I" } : Jvm.MethodName) ({ cls := "FirstdanceAgencyModel", name := "fix", desc := "(I)I" } : Jvm.MethodName)) ∈ lw_all := lw_g (lw_at lw_m7 204 rfl) rfl
theorem q1744 : (Jvm.Cond.code ({ cls := "FirstdanceAgencyModel", name := "fix", desc := "(I)I" } : Jvm.MethodName) prog_13_method_40_code (6 : Nat) (Option.some Jvm.ClassFile.FieldType.int)) ∈ lw_all := lw_g (lw_at lw_m7 205 rfl) rfl
theorem q1745 : (Jvm.Cond.methodLink "FirstdanceAgencyModel" (216 : Nat) ({ cls := "FirstdanceAgencyModel", name := "isWedding", desc := "(I)Z" } : Jvm.MethodName)) ∈ lw_all := lw_g (lw_at lw_m7 206 rfl) rfl
theorem q1746 : (Jvm.Cond.privateMethod ({ cls := "FirstdanceAgencyModel", name := "isWedding", desc := "(I)Z" } : Jvm.MethodName)) ∈ lw_tbl := lw_at lw_m7 207 rfl
theorem q1747 : (Jvm.Cond.instanceMethod ({ cls := "FirstdanceAgencyModel", name := "isWedding", desc := "(I)Z" } : Jvm.MethodName)) ∈ lw_all := lw_g (lw_at lw_m7 208 rfl) rfl
theorem q1748 : (Jvm.Cond.code ({ cls := "FirstdanceAgencyModel", name := "isWedding", desc := "(I)Z" } : Jvm.MethodName) prog_13_method_6_code (2 : Nat) (Option.some Jvm.ClassFile.FieldType.boolean)) ∈ lw_all := lw_g (lw_at lw_m7 209 rfl) rfl
theorem q1749 : (Jvm.Cond.methodLink "FirstdanceAgencyModel" (219 : Nat) ({ cls := "FirstdanceAgencyModel", name := "place", desc := "(I)I" } : Jvm.MethodName)) ∈ lw_all := lw_g (lw_at lw_m7 210 rfl) rfl
theorem q1750 : (Jvm.Cond.privateMethod ({ cls := "FirstdanceAgencyModel", name := "place", desc := "(I)I" } : Jvm.MethodName)) ∈ lw_tbl := lw_at lw_m7 211 rfl
theorem q1751 : (Jvm.Cond.instanceMethod ({ cls := "FirstdanceAgencyModel", name := "place", desc := "(I)I" } : Jvm.MethodName)) ∈ lw_all := lw_g (lw_at lw_m7 212 rfl) rfl
theorem q1752 : (Jvm.Cond.code ({ cls := "FirstdanceAgencyModel", name := "place", desc := "(I)I" } : Jvm.MethodName) prog_13_method_24_code (6 : Nat) (Option.some Jvm.ClassFile.FieldType.int)) ∈ lw_all := lw_g (lw_at lw_m7 213 rfl) rfl
theorem q1753 : (Jvm.Cond.methodLink "FirstdanceAgencyModel" (200 : Nat) ({ cls := "FirstdanceAgencyModel", name := "best", desc := "(III)I" } : Jvm.MethodName)) ∈ lw_all := lw_g (lw_at lw_m7 214 rfl) rfl
theorem q1754 : (Jvm.Cond.privateMethod ({ cls := "FirstdanceAgencyModel", name := "best", desc := "(III)I" } : Jvm.MethodName)) ∈ lw_tbl := lw_at lw_m7 215 rfl
theorem q1755 : (Jvm.Cond.instanceMethod ({ cls := "FirstdanceAgencyModel", name := "best", desc := "(III)I" } : Jvm.MethodName)) ∈ lw_all := lw_g (lw_at lw_m7 216 rfl) rfl
theorem q1756 : (Jvm.Cond.code ({ cls := "FirstdanceAgencyModel", name := "best", desc := "(III)I" } : Jvm.MethodName) prog_13_method_34_code (9 : Nat) (Option.some Jvm.ClassFile.FieldType.int)) ∈ lw_all := lw_g (lw_at lw_m7 217 rfl) rfl
theorem q1757 : (Jvm.Cond.methodLink "FirstdanceAgencyModel" (186 : Nat) ({ cls := "FirstdanceAgencyModel", name := "freeFor", desc := "(I)I" } : Jvm.MethodName)) ∈ lw_all := lw_g (lw_at lw_m7 218 rfl) rfl
theorem q1758 : (Jvm.Cond.privateMethod ({ cls := "FirstdanceAgencyModel", name := "freeFor", desc := "(I)I" } : Jvm.MethodName)) ∈ lw_tbl := lw_at lw_m7 219 rfl
theorem q1759 : (Jvm.Cond.instanceMethod ({ cls := "FirstdanceAgencyModel", name := "freeFor", desc := "(I)I" } : Jvm.MethodName)) ∈ lw_all := lw_g (lw_at lw_m7 220 rfl) rfl
theorem q1760 : (Jvm.Cond.code ({ cls := "FirstdanceAgencyModel", name := "freeFor", desc := "(I)I" } : Jvm.MethodName) prog_13_method_26_code (4 : Nat) (Option.some Jvm.ClassFile.FieldType.int)) ∈ lw_all := lw_g (lw_at lw_m7 221 rfl) rfl
theorem q1761 : (Jvm.Cond.methodLink "FirstdanceAgencyModel" (163 : Nat) ({ cls := "FirstdanceAgencyModel", name := "isFree", desc := "(II)Z" } : Jvm.MethodName)) ∈ lw_all := lw_g (lw_at lw_m7 222 rfl) rfl
theorem q1762 : (Jvm.Cond.privateMethod ({ cls := "FirstdanceAgencyModel", name := "isFree", desc := "(II)Z" } : Jvm.MethodName)) ∈ lw_tbl := lw_at lw_m7 223 rfl
theorem q1763 : (Jvm.Cond.instanceMethod ({ cls := "FirstdanceAgencyModel", name := "isFree", desc := "(II)Z" } : Jvm.MethodName)) ∈ lw_all := lw_g (lw_at lw_m7 224 rfl) rfl
theorem q1764 : (Jvm.Cond.code ({ cls := "FirstdanceAgencyModel", name := "isFree", desc := "(II)Z" } : Jvm.MethodName) prog_13_method_25_code (11 : Nat) (Option.some Jvm.ClassFile.FieldType.boolean)) ∈ lw_all := lw_g (lw_at lw_m7 225 rfl) rfl
theorem q1765 : (Jvm.Cond.methodLink "FirstdanceAgencyModel" (189 : Nat) ({ cls := "FirstdanceAgencyModel", name := "isFilling", desc := "(ILFirstdanceAgencyModel$Wedding;)Z" } : Jvm.MethodName)) ∈ lw_all := lw_g (lw_at lw_m7 226 rfl) rfl
theorem q1766 : (Jvm.Cond.privateMethod ({ cls := "FirstdanceAgencyModel", name := "isFilling", desc := "(ILFirstdanceAgencyModel$Wedding;)Z" } : Jvm.MethodName)) ∈ lw_tbl := lw_at lw_m7 227 rfl
theorem q1767 : (Jvm.Cond.instanceMethod ({ cls := "FirstdanceAgencyModel", name := "isFilling", desc := "(ILFirstdanceAgencyModel$Wedding;)Z" } : Jvm.MethodName)) ∈ lw_all := lw_g (lw_at lw_m7 228 rfl) rfl
theorem q1768 : (Jvm.Cond.code ({ cls := "FirstdanceAgencyModel", name := "isFilling", desc := "(ILFirstdanceAgencyModel$Wedding;)Z" } : Jvm.MethodName) prog_13_method_33_code (4 : Nat) (Option.some Jvm.ClassFile.FieldType.boolean)) ∈ lw_all := lw_g (lw_at lw_m7 229 rfl) rfl
theorem q1769 : (Jvm.Cond.classLink "FirstdanceAgencyModel" (95 : Nat) "java/lang/Integer") ∈ lw_all := lw_g (lw_at lw_m7 230 rfl) rfl
theorem q1770 : (Jvm.Cond.methodLink "FirstdanceAgencyModel" (177 : Nat) ({ cls := "java/lang/Integer", name := "intValue", desc := "()I" } : Jvm.MethodName)) ∈ lw_all := lw_g (lw_at lw_m7 231 rfl) rfl
theorem q1771 : (Jvm.Cond.methodLink "FirstdanceAgencyModel" (180 : Nat) ({ cls := "FirstdanceAgencyModel", name := "isPeaceful", desc := "(I)Z" } : Jvm.MethodName)) ∈ lw_all := lw_g (lw_at lw_m7 232 rfl) rfl
theorem q1772 : (Jvm.Cond.privateMethod ({ cls := "FirstdanceAgencyModel", name := "isPeaceful", desc := "(I)Z" } : Jvm.MethodName)) ∈ lw_tbl := lw_at lw_m7 233 rfl
theorem q1773 : (Jvm.Cond.instanceMethod ({ cls := "FirstdanceAgencyModel", name := "isPeaceful", desc := "(I)Z" } : Jvm.MethodName)) ∈ lw_all := lw_g (lw_at lw_m7 234 rfl) rfl
theorem q1774 : (Jvm.Cond.code ({ cls := "FirstdanceAgencyModel", name := "isPeaceful", desc := "(I)Z" } : Jvm.MethodName) prog_13_method_28_code (3 : Nat) (Option.some Jvm.ClassFile.FieldType.boolean)) ∈ lw_all := lw_g (lw_at lw_m7 235 rfl) rfl
theorem q1775 : (Jvm.Cond.methodLink "FirstdanceAgencyModel" (183 : Nat) ({ cls := "FirstdanceAgencyModel", name := "areKnown", desc := "(II)Z" } : Jvm.MethodName)) ∈ lw_all := lw_g (lw_at lw_m7 236 rfl) rfl
theorem q1776 : (Jvm.Cond.privateMethod ({ cls := "FirstdanceAgencyModel", name := "areKnown", desc := "(II)Z" } : Jvm.MethodName)) ∈ lw_tbl := lw_at lw_m7 237 rfl
theorem q1777 : (Jvm.Cond.instanceMethod ({ cls := "FirstdanceAgencyModel", name := "areKnown", desc := "(II)Z" } : Jvm.MethodName)) ∈ lw_all := lw_g (lw_at lw_m7 238 rfl) rfl
theorem q1778 : (Jvm.Cond.code ({ cls := "FirstdanceAgencyModel", name := "areKnown", desc := "(II)Z" } : Jvm.MethodName) prog_13_method_30_code (4 : Nat) (Option.some Jvm.ClassFile.FieldType.boolean)) ∈ lw_all := lw_g (lw_at lw_m7 239 rfl) rfl
theorem q1779 : (Jvm.Cond.methodLink "FirstdanceAgencyModel" (170 : Nat) ({ cls := "FirstdanceAgencyModel", name := "isKnown", desc := "(II)Z" } : Jvm.MethodName)) ∈ lw_all := lw_g (lw_at lw_m8 0 rfl) rfl
theorem q1780 : (Jvm.Cond.privateMethod ({ cls := "FirstdanceAgencyModel", name := "isKnown", desc := "(II)Z" } : Jvm.MethodName)) ∈ lw_tbl := lw_at lw_m8 1 rfl
theorem q1781 : (Jvm.Cond.instanceMethod ({ cls := "FirstdanceAgencyModel", name := "isKnown", desc := "(II)Z" } : Jvm.MethodName)) ∈ lw_all := lw_g (lw_at lw_m8 2 rfl) rfl
theorem q1782 : (Jvm.Cond.code ({ cls := "FirstdanceAgencyModel", name := "isKnown", desc := "(II)Z" } : Jvm.MethodName) prog_13_method_29_code (5 : Nat) (Option.some Jvm.ClassFile.FieldType.boolean)) ∈ lw_all := lw_g (lw_at lw_m8 3 rfl) rfl
theorem q1783 : (Jvm.Cond.methodLink "FirstdanceAgencyModel" (166 : Nat) ({ cls := "FirstdanceAgencyModel", name := "canPlay", desc := "(IIII)Z" } : Jvm.MethodName)) ∈ lw_all := lw_g (lw_at lw_m8 4 rfl) rfl
theorem q1784 : (Jvm.Cond.privateMethod ({ cls := "FirstdanceAgencyModel", name := "canPlay", desc := "(IIII)Z" } : Jvm.MethodName)) ∈ lw_tbl := lw_at lw_m8 5 rfl
theorem q1785 : (Jvm.Cond.instanceMethod ({ cls := "FirstdanceAgencyModel", name := "canPlay", desc := "(IIII)Z" } : Jvm.MethodName)) ∈ lw_all := lw_g (lw_at lw_m8 6 rfl) rfl
theorem q1786 : (Jvm.Cond.code ({ cls := "FirstdanceAgencyModel", name := "canPlay", desc := "(IIII)Z" } : Jvm.MethodName) prog_13_method_27_code (9 : Nat) (Option.some Jvm.ClassFile.FieldType.boolean)) ∈ lw_all := lw_g (lw_at lw_m8 7 rfl) rfl
theorem q1787 : (Jvm.Cond.methodLink "FirstdanceAgencyModel" (193 : Nat) ({ cls := "FirstdanceAgencyModel", name := "isBetter", desc := "(IIILFirstdanceAgencyModel$Wedding;)Z" } : Jvm.MethodName)) ∈ lw_all := lw_g (lw_at lw_m8 8 rfl) rfl
theorem q1788 : (Jvm.Cond.privateMethod ({ cls := "FirstdanceAgencyModel", name := "isBetter", desc := "(IIILFirstdanceAgencyModel$Wedding;)Z" } : Jvm.MethodName)) ∈ lw_tbl := lw_at lw_m8 9 rfl
theorem q1789 : (Jvm.Cond.instanceMethod ({ cls := "FirstdanceAgencyModel", name := "isBetter", desc := "(IIILFirstdanceAgencyModel$Wedding;)Z" } : Jvm.MethodName)) ∈ lw_all := lw_g (lw_at lw_m8 10 rfl) rfl
theorem q1790 : (Jvm.Cond.code ({ cls := "FirstdanceAgencyModel", name := "isBetter", desc := "(IIILFirstdanceAgencyModel$Wedding;)Z" } : Jvm.MethodName) prog_13_method_35_code (6 : Nat) (Option.some Jvm.ClassFile.FieldType.boolean)) ∈ lw_all := lw_g (lw_at lw_m8 11 rfl) rfl
theorem q1791 : (Jvm.Cond.methodLink "FirstdanceAgencyModel" (197 : Nat) ({ cls := "FirstdanceAgencyModel", name := "costOf", desc := "(ILFirstdanceAgencyModel$Wedding;)I" } : Jvm.MethodName)) ∈ lw_all := lw_g (lw_at lw_m8 12 rfl) rfl
theorem q1792 : (Jvm.Cond.privateMethod ({ cls := "FirstdanceAgencyModel", name := "costOf", desc := "(ILFirstdanceAgencyModel$Wedding;)I" } : Jvm.MethodName)) ∈ lw_tbl := lw_at lw_m8 13 rfl
theorem q1793 : (Jvm.Cond.instanceMethod ({ cls := "FirstdanceAgencyModel", name := "costOf", desc := "(ILFirstdanceAgencyModel$Wedding;)I" } : Jvm.MethodName)) ∈ lw_all := lw_g (lw_at lw_m8 14 rfl) rfl
theorem q1794 : (Jvm.Cond.code ({ cls := "FirstdanceAgencyModel", name := "costOf", desc := "(ILFirstdanceAgencyModel$Wedding;)I" } : Jvm.MethodName) prog_13_method_32_code (5 : Nat) (Option.some Jvm.ClassFile.FieldType.int)) ∈ lw_all := lw_g (lw_at lw_m8 15 rfl) rfl
theorem q1795 : (Jvm.Cond.methodLink "FirstdanceAgencyModel" (173 : Nat) ({ cls := "FirstdanceAgencyModel", name := "cost", desc := "(ILFirstdanceAgencyModel$Wedding;)I" } : Jvm.MethodName)) ∈ lw_all := lw_g (lw_at lw_m8 16 rfl) rfl
theorem q1796 : (Jvm.Cond.privateMethod ({ cls := "FirstdanceAgencyModel", name := "cost", desc := "(ILFirstdanceAgencyModel$Wedding;)I" } : Jvm.MethodName)) ∈ lw_tbl := lw_at lw_m8 17 rfl
theorem q1797 : (Jvm.Cond.instanceMethod ({ cls := "FirstdanceAgencyModel", name := "cost", desc := "(ILFirstdanceAgencyModel$Wedding;)I" } : Jvm.MethodName)) ∈ lw_all := lw_g (lw_at lw_m8 18 rfl) rfl
theorem q1798 : (Jvm.Cond.code ({ cls := "FirstdanceAgencyModel", name := "cost", desc := "(ILFirstdanceAgencyModel$Wedding;)I" } : Jvm.MethodName) prog_13_method_31_code (5 : Nat) (Option.some Jvm.ClassFile.FieldType.int)) ∈ lw_all := lw_g (lw_at lw_m8 19 rfl) rfl
theorem q1799 : (Jvm.Cond.methodLink "FirstdanceAgencyModel" (222 : Nat) ({ cls := "FirstdanceAgencyModel", name := "fixNow", desc := "(II)V" } : Jvm.MethodName)) ∈ lw_all := lw_g (lw_at lw_m8 20 rfl) rfl
theorem q1800 : (Jvm.Cond.privateMethod ({ cls := "FirstdanceAgencyModel", name := "fixNow", desc := "(II)V" } : Jvm.MethodName)) ∈ lw_tbl := lw_at lw_m8 21 rfl
theorem q1801 : (Jvm.Cond.instanceMethod ({ cls := "FirstdanceAgencyModel", name := "fixNow", desc := "(II)V" } : Jvm.MethodName)) ∈ lw_all := lw_g (lw_at lw_m8 22 rfl) rfl
theorem q1802 : (Jvm.Cond.code ({ cls := "FirstdanceAgencyModel", name := "fixNow", desc := "(II)V" } : Jvm.MethodName) prog_13_method_39_code (4 : Nat) (Option.none : Option Jvm.ClassFile.FieldType)) ∈ lw_all := lw_g (lw_at lw_m8 23 rfl) rfl
theorem q1803 : (Jvm.Cond.methodLink "FirstdanceAgencyModel" (204 : Nat) ({ cls := "FirstdanceAgencyModel", name := "priceOf", desc := "(I)I" } : Jvm.MethodName)) ∈ lw_all := lw_g (lw_at lw_m8 24 rfl) rfl
theorem q1804 : (Jvm.Cond.static ({ cls := "FirstdanceAgencyModel", name := "priceOf", desc := "(I)I" } : Jvm.MethodName)) ∈ lw_all := lw_g (lw_at lw_m8 25 rfl) rfl
theorem q1805 : (Jvm.Cond.code ({ cls := "FirstdanceAgencyModel", name := "priceOf", desc := "(I)I" } : Jvm.MethodName) prog_13_method_38_code (1 : Nat) (Option.some Jvm.ClassFile.FieldType.int)) ∈ lw_all := lw_g (lw_at lw_m8 26 rfl) rfl
theorem q1806 : (Jvm.Cond.methodLink "FirstdanceAgencyModel" (226 : Nat) ({ cls := "java/util/ArrayList", name := "iterator", desc := "()Ljava/util/Iterator;" } : Jvm.MethodName)) ∈ lw_all := lw_g (lw_at lw_m8 27 rfl) rfl
theorem q1829 : (Jvm.Cond.interfaceEntry "FirstdanceAgencyModel" (230 : Nat)) ∈ lw_tbl := lw_at lw_m8 50 rfl
theorem q1830 : (Jvm.Cond.methodLink "FirstdanceAgencyModel" (230 : Nat) ({ cls := "java/util/Iterator", name := "hasNext", desc := "()Z" } : Jvm.MethodName)) ∈ lw_all := lw_g (lw_at lw_m8 51 rfl) rfl
theorem q1839 : (Jvm.Cond.interfaceEntry "FirstdanceAgencyModel" (236 : Nat)) ∈ lw_tbl := lw_at lw_m8 60 rfl
theorem q1840 : (Jvm.Cond.methodLink "FirstdanceAgencyModel" (236 : Nat) ({ cls := "java/util/Iterator", name := "next", desc := "()Ljava/lang/Object;" } : Jvm.MethodName)) ∈ lw_all := lw_g (lw_at lw_m8 61 rfl) rfl
theorem q1853 : (Jvm.Cond.instanceMethod ({ cls := "FirstdanceAgencyModel", name := "cancel", desc := "(I)I" } : Jvm.MethodName)) ∈ lw_all := lw_g (lw_at lw_m8 74 rfl) rfl
theorem q1854 : (Jvm.Cond.selects "FirstdanceAgencyModel" ({ cls := "FirstdanceAgencyModel", name := "cancel", desc := "(I)I" } : Jvm.MethodName) ({ cls := "FirstdanceAgencyModel", name := "cancel", desc := "(I)I" } : Jvm.MethodName)) ∈ lw_all := lw_g (lw_at lw_m8 75 rfl) rfl
theorem q1855 : (Jvm.Cond.code ({ cls := "FirstdanceAgencyModel", name := "cancel", desc := "(I)I" } : Jvm.MethodName) prog_13_method_42_code (5 : Nat) (Option.some Jvm.ClassFile.FieldType.int)) ∈ lw_all := lw_g (lw_at lw_m8 76 rfl) rfl
theorem q1856 : (Jvm.Cond.methodLink "FirstdanceAgencyModel" (240 : Nat) ({ cls := "FirstdanceAgencyModel", name := "owed", desc := "(LFirstdanceAgencyModel$Wedding;)I" } : Jvm.MethodName)) ∈ lw_all := lw_g (lw_at lw_m8 77 rfl) rfl
theorem q1857 : (Jvm.Cond.privateMethod ({ cls := "FirstdanceAgencyModel", name := "owed", desc := "(LFirstdanceAgencyModel$Wedding;)I" } : Jvm.MethodName)) ∈ lw_tbl := lw_at lw_m8 78 rfl
theorem q1858 : (Jvm.Cond.instanceMethod ({ cls := "FirstdanceAgencyModel", name := "owed", desc := "(LFirstdanceAgencyModel$Wedding;)I" } : Jvm.MethodName)) ∈ lw_all := lw_g (lw_at lw_m8 79 rfl) rfl
theorem q1859 : (Jvm.Cond.code ({ cls := "FirstdanceAgencyModel", name := "owed", desc := "(LFirstdanceAgencyModel$Wedding;)I" } : Jvm.MethodName) prog_13_method_41_code (4 : Nat) (Option.some Jvm.ClassFile.FieldType.int)) ∈ lw_all := lw_g (lw_at lw_m8 80 rfl) rfl
theorem q1860 : (Jvm.Cond.methodLink "FirstdanceAgencyModel" (244 : Nat) ({ cls := "java/lang/Math", name := "max", desc := "(II)I" } : Jvm.MethodName)) ∈ lw_all := lw_g (lw_at lw_m8 81 rfl) rfl
theorem q1862 : (Jvm.Cond.instanceMethod ({ cls := "FirstdanceAgencyModel", name := "ill", desc := "(II)I" } : Jvm.MethodName)) ∈ lw_all := lw_g (lw_at lw_m8 83 rfl) rfl
theorem q1863 : (Jvm.Cond.selects "FirstdanceAgencyModel" ({ cls := "FirstdanceAgencyModel", name := "ill", desc := "(II)I" } : Jvm.MethodName) ({ cls := "FirstdanceAgencyModel", name := "ill", desc := "(II)I" } : Jvm.MethodName)) ∈ lw_all := lw_g (lw_at lw_m8 84 rfl) rfl
theorem q1864 : (Jvm.Cond.code ({ cls := "FirstdanceAgencyModel", name := "ill", desc := "(II)I" } : Jvm.MethodName) prog_13_method_44_code (3 : Nat) (Option.some Jvm.ClassFile.FieldType.int)) ∈ lw_all := lw_g (lw_at lw_m8 85 rfl) rfl
theorem q1865 : (Jvm.Cond.methodLink "FirstdanceAgencyModel" (249 : Nat) ({ cls := "FirstdanceAgencyModel", name := "illNow", desc := "(II)I" } : Jvm.MethodName)) ∈ lw_all := lw_g (lw_at lw_m8 86 rfl) rfl
theorem q1866 : (Jvm.Cond.privateMethod ({ cls := "FirstdanceAgencyModel", name := "illNow", desc := "(II)I" } : Jvm.MethodName)) ∈ lw_tbl := lw_at lw_m8 87 rfl
theorem q1867 : (Jvm.Cond.instanceMethod ({ cls := "FirstdanceAgencyModel", name := "illNow", desc := "(II)I" } : Jvm.MethodName)) ∈ lw_all := lw_g (lw_at lw_m8 88 rfl) rfl
theorem q1868 : (Jvm.Cond.code ({ cls := "FirstdanceAgencyModel", name := "illNow", desc := "(II)I" } : Jvm.MethodName) prog_13_method_43_code (7 : Nat) (Option.some Jvm.ClassFile.FieldType.int)) ∈ lw_all := lw_g (lw_at lw_m8 89 rfl) rfl
theorem q1870 : (Jvm.Cond.instanceMethod ({ cls := "FirstdanceAgencyModel", name := "late", desc := "(II)I" } : Jvm.MethodName)) ∈ lw_all := lw_g (lw_at lw_m8 91 rfl) rfl
theorem q1871 : (Jvm.Cond.selects "FirstdanceAgencyModel" ({ cls := "FirstdanceAgencyModel", name := "late", desc := "(II)I" } : Jvm.MethodName) ({ cls := "FirstdanceAgencyModel", name := "late", desc := "(II)I" } : Jvm.MethodName)) ∈ lw_all := lw_g (lw_at lw_m8 92 rfl) rfl
theorem q1872 : (Jvm.Cond.code ({ cls := "FirstdanceAgencyModel", name := "late", desc := "(II)I" } : Jvm.MethodName) prog_13_method_45_code (4 : Nat) (Option.some Jvm.ClassFile.FieldType.int)) ∈ lw_all := lw_g (lw_at lw_m8 93 rfl) rfl
theorem q1873 : (Jvm.Cond.methodLink "FirstdanceAgencyModel" (255 : Nat) ({ cls := "FirstdanceAgencyModel$Wedding", name := "quarters", desc := "()I" } : Jvm.MethodName)) ∈ lw_all := lw_g (lw_at lw_m8 94 rfl) rfl
theorem q1879 : (Jvm.Cond.instanceMethod ({ cls := "FirstdanceAgencyModel", name := "pass", desc := "(I)I" } : Jvm.MethodName)) ∈ lw_all := lw_g (lw_at lw_m8 100 rfl) rfl
theorem q1880 : (Jvm.Cond.selects "FirstdanceAgencyModel" ({ cls := "FirstdanceAgencyModel", name := "pass", desc := "(I)I" } : Jvm.MethodName) ({ cls := "FirstdanceAgencyModel", name := "pass", desc := "(I)I" } : Jvm.MethodName)) ∈ lw_all := lw_g (lw_at lw_m8 101 rfl) rfl
theorem q1881 : (Jvm.Cond.code ({ cls := "FirstdanceAgencyModel", name := "pass", desc := "(I)I" } : Jvm.MethodName) prog_13_method_50_code (5 : Nat) (Option.some Jvm.ClassFile.FieldType.int)) ∈ lw_all := lw_g (lw_at lw_m8 102 rfl) rfl
theorem q1882 : (Jvm.Cond.methodLink "FirstdanceAgencyModel" (274 : Nat) ({ cls := "FirstdanceAgencyModel", name := "playNow", desc := "(LFirstdanceAgencyModel$Wedding;)V" } : Jvm.MethodName)) ∈ lw_all := lw_g (lw_at lw_m8 103 rfl) rfl
theorem q1883 : (Jvm.Cond.privateMethod ({ cls := "FirstdanceAgencyModel", name := "playNow", desc := "(LFirstdanceAgencyModel$Wedding;)V" } : Jvm.MethodName)) ∈ lw_tbl := lw_at lw_m8 104 rfl
theorem q1884 : (Jvm.Cond.instanceMethod ({ cls := "FirstdanceAgencyModel", name := "playNow", desc := "(LFirstdanceAgencyModel$Wedding;)V" } : Jvm.MethodName)) ∈ lw_all := lw_g (lw_at lw_m8 105 rfl) rfl
theorem q1885 : (Jvm.Cond.code ({ cls := "FirstdanceAgencyModel", name := "playNow", desc := "(LFirstdanceAgencyModel$Wedding;)V" } : Jvm.MethodName) prog_13_method_49_code (6 : Nat) (Option.none : Option Jvm.ClassFile.FieldType)) ∈ lw_all := lw_g (lw_at lw_m8 106 rfl) rfl
theorem q1886 : (Jvm.Cond.methodLink "FirstdanceAgencyModel" (264 : Nat) ({ cls := "FirstdanceAgencyModel", name := "gain", desc := "(LFirstdanceAgencyModel$Wedding;)I" } : Jvm.MethodName)) ∈ lw_all := lw_g (lw_at lw_m8 107 rfl) rfl
theorem q1887 : (Jvm.Cond.privateMethod ({ cls := "FirstdanceAgencyModel", name := "gain", desc := "(LFirstdanceAgencyModel$Wedding;)I" } : Jvm.MethodName)) ∈ lw_tbl := lw_at lw_m8 108 rfl
theorem q1888 : (Jvm.Cond.instanceMethod ({ cls := "FirstdanceAgencyModel", name := "gain", desc := "(LFirstdanceAgencyModel$Wedding;)I" } : Jvm.MethodName)) ∈ lw_all := lw_g (lw_at lw_m8 109 rfl) rfl
theorem q1889 : (Jvm.Cond.code ({ cls := "FirstdanceAgencyModel", name := "gain", desc := "(LFirstdanceAgencyModel$Wedding;)I" } : Jvm.MethodName) prog_13_method_48_code (4 : Nat) (Option.some Jvm.ClassFile.FieldType.int)) ∈ lw_all := lw_g (lw_at lw_m8 110 rfl) rfl
theorem q1890 : (Jvm.Cond.methodLink "FirstdanceAgencyModel" (258 : Nat) ({ cls := "FirstdanceAgencyModel", name := "fees", desc := "(I)I" } : Jvm.MethodName)) ∈ lw_all := lw_g (lw_at lw_m8 111 rfl) rfl
theorem q1891 : (Jvm.Cond.privateMethod ({ cls := "FirstdanceAgencyModel", name := "fees", desc := "(I)I" } : Jvm.MethodName)) ∈ lw_tbl := lw_at lw_m8 112 rfl
theorem q1892 : (Jvm.Cond.instanceMethod ({ cls := "FirstdanceAgencyModel", name := "fees", desc := "(I)I" } : Jvm.MethodName)) ∈ lw_all := lw_g (lw_at lw_m8 113 rfl) rfl
theorem q1893 : (Jvm.Cond.code ({ cls := "FirstdanceAgencyModel", name := "fees", desc := "(I)I" } : Jvm.MethodName) prog_13_method_46_code (4 : Nat) (Option.some Jvm.ClassFile.FieldType.int)) ∈ lw_all := lw_g (lw_at lw_m8 114 rfl) rfl
theorem q1894 : (Jvm.Cond.methodLink "FirstdanceAgencyModel" (261 : Nat) ({ cls := "FirstdanceAgencyModel", name := "earnedAt", desc := "(ILFirstdanceAgencyModel$Wedding;)I" } : Jvm.MethodName)) ∈ lw_all := lw_g (lw_at lw_m8 115 rfl) rfl
theorem q1895 : (Jvm.Cond.privateMethod ({ cls := "FirstdanceAgencyModel", name := "earnedAt", desc := "(ILFirstdanceAgencyModel$Wedding;)I" } : Jvm.MethodName)) ∈ lw_tbl := lw_at lw_m8 116 rfl
theorem q1896 : (Jvm.Cond.instanceMethod ({ cls := "FirstdanceAgencyModel", name := "earnedAt", desc := "(ILFirstdanceAgencyModel$Wedding;)I" } : Jvm.MethodName)) ∈ lw_all := lw_g (lw_at lw_m8 117 rfl) rfl
theorem q1897 : (Jvm.Cond.code ({ cls := "FirstdanceAgencyModel", name := "earnedAt", desc := "(ILFirstdanceAgencyModel$Wedding;)I" } : Jvm.MethodName) prog_13_method_47_code (3 : Nat) (Option.some Jvm.ClassFile.FieldType.int)) ∈ lw_all := lw_g (lw_at lw_m8 118 rfl) rfl
theorem q1898 : (Jvm.Cond.methodLink "FirstdanceAgencyModel" (270 : Nat) ({ cls := "FirstdanceAgencyModel", name := "bestSet", desc := "(I)[I" } : Jvm.MethodName)) ∈ lw_all := lw_g (lw_at lw_m8 119 rfl) rfl
theorem q1899 : (Jvm.Cond.privateMethod ({ cls := "FirstdanceAgencyModel", name := "bestSet", desc := "(I)[I" } : Jvm.MethodName)) ∈ lw_tbl := lw_at lw_m8 120 rfl
theorem q1900 : (Jvm.Cond.instanceMethod ({ cls := "FirstdanceAgencyModel", name := "bestSet", desc := "(I)[I" } : Jvm.MethodName)) ∈ lw_all := lw_g (lw_at lw_m8 121 rfl) rfl
theorem q1901 : (Jvm.Cond.code ({ cls := "FirstdanceAgencyModel", name := "bestSet", desc := "(I)[I" } : Jvm.MethodName) prog_13_method_52_code (9 : Nat) (Option.some (Jvm.ClassFile.FieldType.array Jvm.ClassFile.FieldType.int))) ∈ lw_all := lw_g (lw_at lw_m8 122 rfl) rfl
theorem q1902 : (Jvm.Cond.methodLink "FirstdanceAgencyModel" (284 : Nat) ({ cls := "FirstdanceAgencyModel", name := "isBehind", desc := "(II)Z" } : Jvm.MethodName)) ∈ lw_all := lw_g (lw_at lw_m8 123 rfl) rfl
theorem q1903 : (Jvm.Cond.privateMethod ({ cls := "FirstdanceAgencyModel", name := "isBehind", desc := "(II)Z" } : Jvm.MethodName)) ∈ lw_tbl := lw_at lw_m8 124 rfl
theorem q1904 : (Jvm.Cond.instanceMethod ({ cls := "FirstdanceAgencyModel", name := "isBehind", desc := "(II)Z" } : Jvm.MethodName)) ∈ lw_all := lw_g (lw_at lw_m8 125 rfl) rfl
theorem q1905 : (Jvm.Cond.code ({ cls := "FirstdanceAgencyModel", name := "isBehind", desc := "(II)Z" } : Jvm.MethodName) prog_13_method_51_code (5 : Nat) (Option.some Jvm.ClassFile.FieldType.boolean)) ∈ lw_all := lw_g (lw_at lw_m8 126 rfl) rfl
theorem q1906 : (Jvm.Cond.methodLink "FirstdanceAgencyModel" (278 : Nat) ({ cls := "java/lang/Math", name := "abs", desc := "(I)I" } : Jvm.MethodName)) ∈ lw_all := lw_g (lw_at lw_m8 127 rfl) rfl
theorem q1907 : (Jvm.Cond.methodLink "FirstdanceAgencyModel" (281 : Nat) ({ cls := "java/lang/Math", name := "min", desc := "(II)I" } : Jvm.MethodName)) ∈ lw_all := lw_g (lw_at lw_m8 128 rfl) rfl
theorem q1908 : (Jvm.Cond.methodLink "FirstdanceAgencyModel" (287 : Nat) ({ cls := "java/lang/System", name := "arraycopy", desc := "(Ljava/lang/Object;ILjava/lang/Object;II)V" } : Jvm.MethodName)) ∈ lw_all := lw_g (lw_at lw_m8 129 rfl) rfl
theorem q1910 : (Jvm.Cond.instanceMethod ({ cls := "FirstdanceAgencyModel", name := "ofPlayer", desc := "(II)I" } : Jvm.MethodName)) ∈ lw_all := lw_g (lw_at lw_m8 131 rfl) rfl
theorem q1911 : (Jvm.Cond.selects "FirstdanceAgencyModel" ({ cls := "FirstdanceAgencyModel", name := "ofPlayer", desc := "(II)I" } : Jvm.MethodName) ({ cls := "FirstdanceAgencyModel", name := "ofPlayer", desc := "(II)I" } : Jvm.MethodName)) ∈ lw_all := lw_g (lw_at lw_m8 132 rfl) rfl
theorem q1912 : (Jvm.Cond.code ({ cls := "FirstdanceAgencyModel", name := "ofPlayer", desc := "(II)I" } : Jvm.MethodName) prog_13_method_57_code (3 : Nat) (Option.some Jvm.ClassFile.FieldType.int)) ∈ lw_all := lw_g (lw_at lw_m8 133 rfl) rfl
theorem q1913 : (Jvm.Cond.methodLink "FirstdanceAgencyModel" (296 : Nat) ({ cls := "FirstdanceAgencyModel", name := "ofPlayerNow", desc := "(II)I" } : Jvm.MethodName)) ∈ lw_all := lw_g (lw_at lw_m8 134 rfl) rfl
theorem q1914 : (Jvm.Cond.privateMethod ({ cls := "FirstdanceAgencyModel", name := "ofPlayerNow", desc := "(II)I" } : Jvm.MethodName)) ∈ lw_tbl := lw_at lw_m8 135 rfl
theorem q1915 : (Jvm.Cond.instanceMethod ({ cls := "FirstdanceAgencyModel", name := "ofPlayerNow", desc := "(II)I" } : Jvm.MethodName)) ∈ lw_all := lw_g (lw_at lw_m8 136 rfl) rfl
theorem q1916 : (Jvm.Cond.code ({ cls := "FirstdanceAgencyModel", name := "ofPlayerNow", desc := "(II)I" } : Jvm.MethodName) prog_13_method_56_code (4 : Nat) (Option.some Jvm.ClassFile.FieldType.int)) ∈ lw_all := lw_g (lw_at lw_m8 137 rfl) rfl
theorem q1917 : (Jvm.Cond.methodLink "FirstdanceAgencyModel" (293 : Nat) ({ cls := "FirstdanceAgencyModel", name := "weddingsOf", desc := "(I)[I" } : Jvm.MethodName)) ∈ lw_all := lw_g (lw_at lw_m8 138 rfl) rfl
theorem q1918 : (Jvm.Cond.privateMethod ({ cls := "FirstdanceAgencyModel", name := "weddingsOf", desc := "(I)[I" } : Jvm.MethodName)) ∈ lw_tbl := lw_at lw_m8 139 rfl
theorem q1919 : (Jvm.Cond.instanceMethod ({ cls := "FirstdanceAgencyModel", name := "weddingsOf", desc := "(I)[I" } : Jvm.MethodName)) ∈ lw_all := lw_g (lw_at lw_m8 140 rfl) rfl
theorem q1920 : (Jvm.Cond.code ({ cls := "FirstdanceAgencyModel", name := "weddingsOf", desc := "(I)[I" } : Jvm.MethodName) prog_13_method_55_code (5 : Nat) (Option.some (Jvm.ClassFile.FieldType.array Jvm.ClassFile.FieldType.int))) ∈ lw_all := lw_g (lw_at lw_m8 141 rfl) rfl
theorem q1922 : (Jvm.Cond.instanceMethod ({ cls := "FirstdanceAgencyModel", name := "ofSong", desc := "(II)I" } : Jvm.MethodName)) ∈ lw_all := lw_g (lw_at lw_m8 143 rfl) rfl
theorem q1923 : (Jvm.Cond.selects "FirstdanceAgencyModel" ({ cls := "FirstdanceAgencyModel", name := "ofSong", desc := "(II)I" } : Jvm.MethodName) ({ cls := "FirstdanceAgencyModel", name := "ofSong", desc := "(II)I" } : Jvm.MethodName)) ∈ lw_all := lw_g (lw_at lw_m8 144 rfl) rfl
theorem q1924 : (Jvm.Cond.code ({ cls := "FirstdanceAgencyModel", name := "ofSong", desc := "(II)I" } : Jvm.MethodName) prog_13_method_59_code (3 : Nat) (Option.some Jvm.ClassFile.FieldType.int)) ∈ lw_all := lw_g (lw_at lw_m8 145 rfl) rfl
theorem q1925 : (Jvm.Cond.methodLink "FirstdanceAgencyModel" (302 : Nat) ({ cls := "FirstdanceAgencyModel", name := "ofSongNow", desc := "(II)I" } : Jvm.MethodName)) ∈ lw_all := lw_g (lw_at lw_m8 146 rfl) rfl
theorem q1926 : (Jvm.Cond.privateMethod ({ cls := "FirstdanceAgencyModel", name := "ofSongNow", desc := "(II)I" } : Jvm.MethodName)) ∈ lw_tbl := lw_at lw_m8 147 rfl
theorem q1927 : (Jvm.Cond.instanceMethod ({ cls := "FirstdanceAgencyModel", name := "ofSongNow", desc := "(II)I" } : Jvm.MethodName)) ∈ lw_all := lw_g (lw_at lw_m8 148 rfl) rfl
theorem q1928 : (Jvm.Cond.code ({ cls := "FirstdanceAgencyModel", name := "ofSongNow", desc := "(II)I" } : Jvm.MethodName) prog_13_method_58_code (5 : Nat) (Option.some Jvm.ClassFile.FieldType.int)) ∈ lw_all := lw_g (lw_at lw_m8 149 rfl) rfl
theorem q1929 : (Jvm.Cond.methodLink "FirstdanceAgencyModel" (299 : Nat) ({ cls := "FirstdanceAgencyModel", name := "share", desc := "(I)I" } : Jvm.MethodName)) ∈ lw_all := lw_g (lw_at lw_m8 150 rfl) rfl
theorem q1930 : (Jvm.Cond.privateMethod ({ cls := "FirstdanceAgencyModel", name := "share", desc := "(I)I" } : Jvm.MethodName)) ∈ lw_tbl := lw_at lw_m8 151 rfl
theorem q1931 : (Jvm.Cond.instanceMethod ({ cls := "FirstdanceAgencyModel", name := "share", desc := "(I)I" } : Jvm.MethodName)) ∈ lw_all := lw_g (lw_at lw_m8 152 rfl) rfl
theorem q1932 : (Jvm.Cond.code ({ cls := "FirstdanceAgencyModel", name := "share", desc := "(I)I" } : Jvm.MethodName) prog_13_method_54_code (4 : Nat) (Option.some Jvm.ClassFile.FieldType.int)) ∈ lw_all := lw_g (lw_at lw_m8 153 rfl) rfl
theorem q1934 : (Jvm.Cond.instanceMethod ({ cls := "FirstdanceAgencyModel", name := "ofBand", desc := "(II)I" } : Jvm.MethodName)) ∈ lw_all := lw_g (lw_at lw_m8 155 rfl) rfl
theorem q1935 : (Jvm.Cond.selects "FirstdanceAgencyModel" ({ cls := "FirstdanceAgencyModel", name := "ofBand", desc := "(II)I" } : Jvm.MethodName) ({ cls := "FirstdanceAgencyModel", name := "ofBand", desc := "(II)I" } : Jvm.MethodName)) ∈ lw_all := lw_g (lw_at lw_m8 156 rfl) rfl
theorem q1936 : (Jvm.Cond.code ({ cls := "FirstdanceAgencyModel", name := "ofBand", desc := "(II)I" } : Jvm.MethodName) prog_13_method_61_code (3 : Nat) (Option.some Jvm.ClassFile.FieldType.int)) ∈ lw_all := lw_g (lw_at lw_m8 157 rfl) rfl
theorem q1937 : (Jvm.Cond.methodLink "FirstdanceAgencyModel" (305 : Nat) ({ cls := "FirstdanceAgencyModel", name := "ofBandNow", desc := "(II)I" } : Jvm.MethodName)) ∈ lw_all := lw_g (lw_at lw_m8 158 rfl) rfl
theorem q1938 : (Jvm.Cond.privateMethod ({ cls := "FirstdanceAgencyModel", name := "ofBandNow", desc := "(II)I" } : Jvm.MethodName)) ∈ lw_tbl := lw_at lw_m8 159 rfl
theorem q1939 : (Jvm.Cond.instanceMethod ({ cls := "FirstdanceAgencyModel", name := "ofBandNow", desc := "(II)I" } : Jvm.MethodName)) ∈ lw_all := lw_g (lw_at lw_m8 160 rfl) rfl
theorem q1940 : (Jvm.Cond.code ({ cls := "FirstdanceAgencyModel", name := "ofBandNow", desc := "(II)I" } : Jvm.MethodName) prog_13_method_60_code (5 : Nat) (Option.some Jvm.ClassFile.FieldType.int)) ∈ lw_all := lw_g (lw_at lw_m8 161 rfl) rfl
theorem q1942 : (Jvm.Cond.instanceMethod ({ cls := "FirstdanceAgencyModel", name := "ofWedding", desc := "(II)I" } : Jvm.MethodName)) ∈ lw_all := lw_g (lw_at lw_m8 163 rfl) rfl
theorem q1943 : (Jvm.Cond.selects "FirstdanceAgencyModel" ({ cls := "FirstdanceAgencyModel", name := "ofWedding", desc := "(II)I" } : Jvm.MethodName) ({ cls := "FirstdanceAgencyModel", name := "ofWedding", desc := "(II)I" } : Jvm.MethodName)) ∈ lw_all := lw_g (lw_at lw_m8 164 rfl) rfl
theorem q1944 : (Jvm.Cond.code ({ cls := "FirstdanceAgencyModel", name := "ofWedding", desc := "(II)I" } : Jvm.MethodName) prog_13_method_63_code (3 : Nat) (Option.some Jvm.ClassFile.FieldType.int)) ∈ lw_all := lw_g (lw_at lw_m8 165 rfl) rfl
theorem q1945 : (Jvm.Cond.methodLink "FirstdanceAgencyModel" (308 : Nat) ({ cls := "FirstdanceAgencyModel", name := "ofWeddingNow", desc := "(II)I" } : Jvm.MethodName)) ∈ lw_all := lw_g (lw_at lw_m8 166 rfl) rfl
theorem q1946 : (Jvm.Cond.privateMethod ({ cls := "FirstdanceAgencyModel", name := "ofWeddingNow", desc := "(II)I" } : Jvm.MethodName)) ∈ lw_tbl := lw_at lw_m8 167 rfl
theorem q1947 : (Jvm.Cond.instanceMethod ({ cls := "FirstdanceAgencyModel", name := "ofWeddingNow", desc := "(II)I" } : Jvm.MethodName)) ∈ lw_all := lw_g (lw_at lw_m8 168 rfl) rfl
theorem q1948 : (Jvm.Cond.code ({ cls := "FirstdanceAgencyModel", name := "ofWeddingNow", desc := "(II)I" } : Jvm.MethodName) prog_13_method_62_code (4 : Nat) (Option.some Jvm.ClassFile.FieldType.int)) ∈ lw_all := lw_g (lw_at lw_m8 169 rfl) rfl
theorem q1950 : (Jvm.Cond.instanceMethod ({ cls := "FirstdanceAgencyModel", name := "drive", desc := "(II)I" } : Jvm.MethodName)) ∈ lw_all := lw_g (lw_at lw_m8 171 rfl) rfl
theorem q1951 : (Jvm.Cond.selects "FirstdanceAgencyModel" ({ cls := "FirstdanceAgencyModel", name := "drive", desc := "(II)I" } : Jvm.MethodName) ({ cls := "FirstdanceAgencyModel", name := "drive", desc := "(II)I" } : Jvm.MethodName)) ∈ lw_all := lw_g (lw_at lw_m8 172 rfl) rfl
theorem q1952 : (Jvm.Cond.code ({ cls := "FirstdanceAgencyModel", name := "drive", desc := "(II)I" } : Jvm.MethodName) prog_13_method_64_code (3 : Nat) (Option.some Jvm.ClassFile.FieldType.int)) ∈ lw_all := lw_g (lw_at lw_m8 173 rfl) rfl
theorem q1954 : (Jvm.Cond.instanceMethod ({ cls := "FirstdanceAgencyModel", name := "free", desc := "(II)Z" } : Jvm.MethodName)) ∈ lw_all := lw_g (lw_at lw_m8 175 rfl) rfl
theorem q1955 : (Jvm.Cond.selects "FirstdanceAgencyModel" ({ cls := "FirstdanceAgencyModel", name := "free", desc := "(II)Z" } : Jvm.MethodName) ({ cls := "FirstdanceAgencyModel", name := "free", desc := "(II)Z" } : Jvm.MethodName)) ∈ lw_all := lw_g (lw_at lw_m8 176 rfl) rfl
theorem q1956 : (Jvm.Cond.code ({ cls := "FirstdanceAgencyModel", name := "free", desc := "(II)Z" } : Jvm.MethodName) prog_13_method_65_code (3 : Nat) (Option.some Jvm.ClassFile.FieldType.boolean)) ∈ lw_all := lw_g (lw_at lw_m8 177 rfl) rfl
theorem q1958 : (Jvm.Cond.instanceMethod ({ cls := "FirstdanceAgencyModel", name := "filling", desc := "(II)I" } : Jvm.MethodName)) ∈ lw_all := lw_g (lw_at lw_m8 179 rfl) rfl
theorem q1959 : (Jvm.Cond.selects "FirstdanceAgencyModel" ({ cls := "FirstdanceAgencyModel", name := "filling", desc := "(II)I" } : Jvm.MethodName) ({ cls := "FirstdanceAgencyModel", name := "filling", desc := "(II)I" } : Jvm.MethodName)) ∈ lw_all := lw_g (lw_at lw_m8 180 rfl) rfl
theorem q1960 : (Jvm.Cond.code ({ cls := "FirstdanceAgencyModel", name := "filling", desc := "(II)I" } : Jvm.MethodName) prog_13_method_67_code (3 : Nat) (Option.some Jvm.ClassFile.FieldType.int)) ∈ lw_all := lw_g (lw_at lw_m8 181 rfl) rfl
theorem q1961 : (Jvm.Cond.methodLink "FirstdanceAgencyModel" (317 : Nat) ({ cls := "FirstdanceAgencyModel", name := "fillingNow", desc := "(II)I" } : Jvm.MethodName)) ∈ lw_all := lw_g (lw_at lw_m8 182 rfl) rfl
theorem q1962 : (Jvm.Cond.privateMethod ({ cls := "FirstdanceAgencyModel", name := "fillingNow", desc := "(II)I" } : Jvm.MethodName)) ∈ lw_tbl := lw_at lw_m8 183 rfl
theorem q1963 : (Jvm.Cond.instanceMethod ({ cls := "FirstdanceAgencyModel", name := "fillingNow", desc := "(II)I" } : Jvm.MethodName)) ∈ lw_all := lw_g (lw_at lw_m8 184 rfl) rfl
theorem q1964 : (Jvm.Cond.code ({ cls := "FirstdanceAgencyModel", name := "fillingNow", desc := "(II)I" } : Jvm.MethodName) prog_13_method_66_code (4 : Nat) (Option.some Jvm.ClassFile.FieldType.int)) ∈ lw_all := lw_g (lw_at lw_m8 185 rfl) rfl
theorem q1965 : (Jvm.Cond.methodLink "FirstdanceAgencyModel" (311 : Nat) ({ cls := "FirstdanceAgencyModel", name := "fillings", desc := "(I)I" } : Jvm.MethodName)) ∈ lw_all := lw_g (lw_at lw_m8 186 rfl) rfl
theorem q1966 : (Jvm.Cond.privateMethod ({ cls := "FirstdanceAgencyModel", name := "fillings", desc := "(I)I" } : Jvm.MethodName)) ∈ lw_tbl := lw_at lw_m8 187 rfl
theorem q1967 : (Jvm.Cond.instanceMethod ({ cls := "FirstdanceAgencyModel", name := "fillings", desc := "(I)I" } : Jvm.MethodName)) ∈ lw_all := lw_g (lw_at lw_m8 188 rfl) rfl
theorem q1968 : (Jvm.Cond.code ({ cls := "FirstdanceAgencyModel", name := "fillings", desc := "(I)I" } : Jvm.MethodName) prog_13_method_36_code (6 : Nat) (Option.some Jvm.ClassFile.FieldType.int)) ∈ lw_all := lw_g (lw_at lw_m8 189 rfl) rfl
theorem q1969 : (Jvm.Cond.methodLink "FirstdanceAgencyModel" (314 : Nat) ({ cls := "FirstdanceAgencyModel", name := "why", desc := "(I)I" } : Jvm.MethodName)) ∈ lw_all := lw_g (lw_at lw_m8 190 rfl) rfl
theorem q1970 : (Jvm.Cond.privateMethod ({ cls := "FirstdanceAgencyModel", name := "why", desc := "(I)I" } : Jvm.MethodName)) ∈ lw_tbl := lw_at lw_m8 191 rfl
theorem q1971 : (Jvm.Cond.instanceMethod ({ cls := "FirstdanceAgencyModel", name := "why", desc := "(I)I" } : Jvm.MethodName)) ∈ lw_all := lw_g (lw_at lw_m8 192 rfl) rfl
theorem q1972 : (Jvm.Cond.code ({ cls := "FirstdanceAgencyModel", name := "why", desc := "(I)I" } : Jvm.MethodName) prog_13_method_37_code (7 : Nat) (Option.some Jvm.ClassFile.FieldType.int)) ∈ lw_all := lw_g (lw_at lw_m8 193 rfl) rfl
theorem q1974 : (Jvm.Cond.instanceMethod ({ cls := "FirstdanceAgencyModel", name := "set", desc := "(IZ)I" } : Jvm.MethodName)) ∈ lw_all := lw_g (lw_at lw_m8 195 rfl) rfl
theorem q1975 : (Jvm.Cond.selects "FirstdanceAgencyModel" ({ cls := "FirstdanceAgencyModel", name := "set", desc := "(IZ)I" } : Jvm.MethodName) ({ cls := "FirstdanceAgencyModel", name := "set", desc := "(IZ)I" } : Jvm.MethodName)) ∈ lw_all := lw_g (lw_at lw_m8 196 rfl) rfl
theorem q1976 : (Jvm.Cond.code ({ cls := "FirstdanceAgencyModel", name := "set", desc := "(IZ)I" } : Jvm.MethodName) prog_13_method_68_code (3 : Nat) (Option.some Jvm.ClassFile.FieldType.int)) ∈ lw_all := lw_g (lw_at lw_m8 197 rfl) rfl
theorem q1977 : (Jvm.Cond.methodLink "FirstdanceAgencyModel" (320 : Nat) ({ cls := "FirstdanceAgencyModel", name := "minutesOf", desc := "(I)I" } : Jvm.MethodName)) ∈ lw_all := lw_g (lw_at lw_m8 198 rfl) rfl
theorem q1978 : (Jvm.Cond.privateMethod ({ cls := "FirstdanceAgencyModel", name := "minutesOf", desc := "(I)I" } : Jvm.MethodName)) ∈ lw_tbl := lw_at lw_m8 199 rfl
theorem q1979 : (Jvm.Cond.instanceMethod ({ cls := "FirstdanceAgencyModel", name := "minutesOf", desc := "(I)I" } : Jvm.MethodName)) ∈ lw_all := lw_g (lw_at lw_m8 200 rfl) rfl
theorem q1980 : (Jvm.Cond.code ({ cls := "FirstdanceAgencyModel", name := "minutesOf", desc := "(I)I" } : Jvm.MethodName) prog_13_method_53_code (7 : Nat) (Option.some Jvm.ClassFile.FieldType.int)) ∈ lw_all := lw_g (lw_at lw_m8 201 rfl) rfl
theorem q1982 : (Jvm.Cond.instanceMethod ({ cls := "FirstdanceAgencyModel", name := "songs", desc := "(I)Ljava/lang/String;" } : Jvm.MethodName)) ∈ lw_all := lw_g (lw_at lw_m8 203 rfl) rfl
theorem q1983 : (Jvm.Cond.selects "FirstdanceAgencyModel" ({ cls := "FirstdanceAgencyModel", name := "songs", desc := "(I)Ljava/lang/String;" } : Jvm.MethodName) ({ cls := "FirstdanceAgencyModel", name := "songs", desc := "(I)Ljava/lang/String;" } : Jvm.MethodName)) ∈ lw_all := lw_g (lw_at lw_m8 204 rfl) rfl
theorem q1984 : (Jvm.Cond.code ({ cls := "FirstdanceAgencyModel", name := "songs", desc := "(I)Ljava/lang/String;" } : Jvm.MethodName) prog_13_method_69_code (7 : Nat) (Option.some (Jvm.ClassFile.FieldType.object "java/lang/String"))) ∈ lw_all := lw_g (lw_at lw_m8 205 rfl) rfl
theorem q1985 : (Jvm.Cond.stringRef "FirstdanceAgencyModel" (323 : Nat) "") ∈ lw_tbl := lw_at lw_m8 206 rfl
theorem q1986 : (Jvm.Cond.classLink "FirstdanceAgencyModel" (325 : Nat) "java/lang/StringBuilder") ∈ lw_all := lw_g (lw_at lw_m8 207 rfl) rfl
theorem q1987 : (Jvm.Cond.methodLink "FirstdanceAgencyModel" (327 : Nat) ({ cls := "java/lang/StringBuilder", name := "<init>", desc := "()V" } : Jvm.MethodName)) ∈ lw_all := lw_g (lw_at lw_m8 208 rfl) rfl
theorem q1988 : (Jvm.Cond.methodLink "FirstdanceAgencyModel" (328 : Nat) ({ cls := "java/lang/StringBuilder", name := "length", desc := "()I" } : Jvm.MethodName)) ∈ lw_all := lw_g (lw_at lw_m8 209 rfl) rfl
theorem q1989 : (Jvm.Cond.stringRef "FirstdanceAgencyModel" (330 : Nat) " ") ∈ lw_tbl := lw_at lw_m8 210 rfl
theorem q1990 : (Jvm.Cond.methodLink "FirstdanceAgencyModel" (332 : Nat) ({ cls := "java/lang/StringBuilder", name := "append", desc := "(Ljava/lang/String;)Ljava/lang/StringBuilder;" } : Jvm.MethodName)) ∈ lw_all := lw_g (lw_at lw_m8 211 rfl) rfl
theorem q1991 : (Jvm.Cond.methodLink "FirstdanceAgencyModel" (336 : Nat) ({ cls := "java/lang/StringBuilder", name := "append", desc := "(I)Ljava/lang/StringBuilder;" } : Jvm.MethodName)) ∈ lw_all := lw_g (lw_at lw_m8 212 rfl) rfl
theorem q1992 : (Jvm.Cond.stringRef "FirstdanceAgencyModel" (339 : Nat) "-") ∈ lw_tbl := lw_at lw_m8 213 rfl
theorem q1993 : (Jvm.Cond.methodLink "FirstdanceAgencyModel" (341 : Nat) ({ cls := "java/lang/StringBuilder", name := "toString", desc := "()Ljava/lang/String;" } : Jvm.MethodName)) ∈ lw_all := lw_g (lw_at lw_m8 214 rfl) rfl
theorem q1995 : (Jvm.Cond.instanceMethod ({ cls := "FirstdanceAgencyModel", name := "desk", desc := "(I)I" } : Jvm.MethodName)) ∈ lw_all := lw_g (lw_at lw_m8 216 rfl) rfl
theorem q1996 : (Jvm.Cond.selects "FirstdanceAgencyModel" ({ cls := "FirstdanceAgencyModel", name := "desk", desc := "(I)I" } : Jvm.MethodName) ({ cls := "FirstdanceAgencyModel", name := "desk", desc := "(I)I" } : Jvm.MethodName)) ∈ lw_all := lw_g (lw_at lw_m8 217 rfl) rfl
theorem q1997 : (Jvm.Cond.code ({ cls := "FirstdanceAgencyModel", name := "desk", desc := "(I)I" } : Jvm.MethodName) prog_13_method_72_code (2 : Nat) (Option.some Jvm.ClassFile.FieldType.int)) ∈ lw_all := lw_g (lw_at lw_m8 218 rfl) rfl
theorem q1998 : (Jvm.Cond.methodLink "FirstdanceAgencyModel" (351 : Nat) ({ cls := "FirstdanceAgencyModel", name := "deskNow", desc := "(I)I" } : Jvm.MethodName)) ∈ lw_all := lw_g (lw_at lw_m8 219 rfl) rfl
theorem q1999 : (Jvm.Cond.privateMethod ({ cls := "FirstdanceAgencyModel", name := "deskNow", desc := "(I)I" } : Jvm.MethodName)) ∈ lw_tbl := lw_at lw_m8 220 rfl
theorem q2000 : (Jvm.Cond.instanceMethod ({ cls := "FirstdanceAgencyModel", name := "deskNow", desc := "(I)I" } : Jvm.MethodName)) ∈ lw_all := lw_g (lw_at lw_m8 221 rfl) rfl
theorem q2001 : (Jvm.Cond.code ({ cls := "FirstdanceAgencyModel", name := "deskNow", desc := "(I)I" } : Jvm.MethodName) prog_13_method_70_code (8 : Nat) (Option.some Jvm.ClassFile.FieldType.int)) ∈ lw_all := lw_g (lw_at lw_m8 222 rfl) rfl
theorem q2002 : (Jvm.Cond.methodLink "FirstdanceAgencyModel" (345 : Nat) ({ cls := "FirstdanceAgencyModel", name := "apart", desc := "()I" } : Jvm.MethodName)) ∈ lw_all := lw_g (lw_at lw_m8 223 rfl) rfl
theorem q2003 : (Jvm.Cond.privateMethod ({ cls := "FirstdanceAgencyModel", name := "apart", desc := "()I" } : Jvm.MethodName)) ∈ lw_tbl := lw_at lw_m8 224 rfl
theorem q2004 : (Jvm.Cond.instanceMethod ({ cls := "FirstdanceAgencyModel", name := "apart", desc := "()I" } : Jvm.MethodName)) ∈ lw_all := lw_g (lw_at lw_m8 225 rfl) rfl
theorem q2005 : (Jvm.Cond.code ({ cls := "FirstdanceAgencyModel", name := "apart", desc := "()I" } : Jvm.MethodName) prog_13_method_71_code (5 : Nat) (Option.some Jvm.ClassFile.FieldType.int)) ∈ lw_all := lw_g (lw_at lw_m8 226 rfl) rfl
theorem q2006 : (Jvm.Cond.methodLink "FirstdanceAgencyModel" (348 : Nat) ({ cls := "java/util/ArrayList", name := "isEmpty", desc := "()Z" } : Jvm.MethodName)) ∈ lw_all := lw_g (lw_at lw_m8 227 rfl) rfl
theorem q2011 : (Jvm.Cond.instanceMethod ({ cls := "FirstdanceAgencyModel", name := "tell", desc := "(I)Ljava/lang/String;" } : Jvm.MethodName)) ∈ lw_all := lw_g (lw_at lw_m8 232 rfl) rfl
theorem q2012 : (Jvm.Cond.selects "FirstdanceAgencyModel" ({ cls := "FirstdanceAgencyModel", name := "tell", desc := "(I)Ljava/lang/String;" } : Jvm.MethodName) ({ cls := "FirstdanceAgencyModel", name := "tell", desc := "(I)Ljava/lang/String;" } : Jvm.MethodName)) ∈ lw_all := lw_g (lw_at lw_m8 233 rfl) rfl
theorem q2013 : (Jvm.Cond.code ({ cls := "FirstdanceAgencyModel", name := "tell", desc := "(I)Ljava/lang/String;" } : Jvm.MethodName) prog_13_method_73_code (7 : Nat) (Option.some (Jvm.ClassFile.FieldType.object "java/lang/String"))) ∈ lw_all := lw_g (lw_at lw_m8 234 rfl) rfl
theorem q2014 : (Jvm.Cond.stringRef "FirstdanceAgencyModel" (354 : Nat) "asked") ∈ lw_tbl := lw_at lw_m8 235 rfl
theorem q2015 : (Jvm.Cond.stringRef "FirstdanceAgencyModel" (356 : Nat) "fixed") ∈ lw_tbl := lw_at lw_m8 236 rfl
theorem q2016 : (Jvm.Cond.stringRef "FirstdanceAgencyModel" (358 : Nat) "played") ∈ lw_tbl := lw_at lw_m8 237 rfl
theorem q2017 : (Jvm.Cond.stringRef "FirstdanceAgencyModel" (360 : Nat) "lost") ∈ lw_tbl := lw_at lw_m8 238 rfl
theorem q2018 : (Jvm.Cond.stringRef "FirstdanceAgencyModel" (362 : Nat) " on day ") ∈ lw_tbl := lw_at lw_m8 239 rfl
theorem q2019 : (Jvm.Cond.stringRef "FirstdanceAgencyModel" (364 : Nat) " in ") ∈ lw_tbl := lw_at lw_m9 0 rfl
theorem q2020 : (Jvm.Cond.stringRef "FirstdanceAgencyModel" (366 : Nat) ", ") ∈ lw_tbl := lw_at lw_m9 1 rfl
theorem q2021 : (Jvm.Cond.stringRef "FirstdanceAgencyModel" (368 : Nat) ",") ∈ lw_tbl := lw_at lw_m9 2 rfl
theorem q2022 : (Jvm.Cond.stringRef "FirstdanceAgencyModel" (370 : Nat) ": ") ∈ lw_tbl := lw_at lw_m9 3 rfl
theorem q2024 : (Jvm.Cond.instanceMethod ({ cls := "FirstdanceAgencyModel", name := "wouldLose", desc := "(II)I" } : Jvm.MethodName)) ∈ lw_all := lw_g (lw_at lw_m9 5 rfl) rfl
theorem q2025 : (Jvm.Cond.selects "FirstdanceAgencyModel" ({ cls := "FirstdanceAgencyModel", name := "wouldLose", desc := "(II)I" } : Jvm.MethodName) ({ cls := "FirstdanceAgencyModel", name := "wouldLose", desc := "(II)I" } : Jvm.MethodName)) ∈ lw_all := lw_g (lw_at lw_m9 6 rfl) rfl
theorem q2026 : (Jvm.Cond.code ({ cls := "FirstdanceAgencyModel", name := "wouldLose", desc := "(II)I" } : Jvm.MethodName) prog_13_method_74_code (10 : Nat) (Option.some Jvm.ClassFile.FieldType.int)) ∈ lw_all := lw_g (lw_at lw_m9 7 rfl) rfl
theorem q2028 : (Jvm.Cond.instanceMethod ({ cls := "FirstdanceAgencyModel", name := "plan", desc := "(IZ)I" } : Jvm.MethodName)) ∈ lw_all := lw_g (lw_at lw_m9 9 rfl) rfl
theorem q2029 : (Jvm.Cond.selects "FirstdanceAgencyModel" ({ cls := "FirstdanceAgencyModel", name := "plan", desc := "(IZ)I" } : Jvm.MethodName) ({ cls := "FirstdanceAgencyModel", name := "plan", desc := "(IZ)I" } : Jvm.MethodName)) ∈ lw_all := lw_g (lw_at lw_m9 10 rfl) rfl
theorem q2030 : (Jvm.Cond.code ({ cls := "FirstdanceAgencyModel", name := "plan", desc := "(IZ)I" } : Jvm.MethodName) prog_13_method_75_code (9 : Nat) (Option.some Jvm.ClassFile.FieldType.int)) ∈ lw_all := lw_g (lw_at lw_m9 11 rfl) rfl
theorem q2031 : (Jvm.Cond.methodLink "FirstdanceAgencyModel" (372 : Nat) ({ cls := "FirstdanceAgencyModel", name := "tried", desc := "([III)I" } : Jvm.MethodName)) ∈ lw_all := lw_g (lw_at lw_m9 12 rfl) rfl
theorem q2032 : (Jvm.Cond.privateMethod ({ cls := "FirstdanceAgencyModel", name := "tried", desc := "([III)I" } : Jvm.MethodName)) ∈ lw_tbl := lw_at lw_m9 13 rfl
theorem q2033 : (Jvm.Cond.instanceMethod ({ cls := "FirstdanceAgencyModel", name := "tried", desc := "([III)I" } : Jvm.MethodName)) ∈ lw_all := lw_g (lw_at lw_m9 14 rfl) rfl
theorem q2034 : (Jvm.Cond.code ({ cls := "FirstdanceAgencyModel", name := "tried", desc := "([III)I" } : Jvm.MethodName) prog_13_method_76_code (9 : Nat) (Option.some Jvm.ClassFile.FieldType.int)) ∈ lw_all := lw_g (lw_at lw_m9 15 rfl) rfl
theorem q2035 : (Jvm.Cond.constant "FirstdanceAgencyModel" (376 : Nat) (-999999 : Int32)) ∈ lw_all := lw_g (lw_at lw_m9 16 rfl) rfl
theorem q2037 : (Jvm.Cond.instanceMethod ({ cls := "FirstdanceAgencyModel", name := "wouldCancel", desc := "(I)I" } : Jvm.MethodName)) ∈ lw_all := lw_g (lw_at lw_m9 18 rfl) rfl
theorem q2038 : (Jvm.Cond.selects "FirstdanceAgencyModel" ({ cls := "FirstdanceAgencyModel", name := "wouldCancel", desc := "(I)I" } : Jvm.MethodName) ({ cls := "FirstdanceAgencyModel", name := "wouldCancel", desc := "(I)I" } : Jvm.MethodName)) ∈ lw_all := lw_g (lw_at lw_m9 19 rfl) rfl
theorem q2039 : (Jvm.Cond.code ({ cls := "FirstdanceAgencyModel", name := "wouldCancel", desc := "(I)I" } : Jvm.MethodName) prog_13_method_77_code (3 : Nat) (Option.some Jvm.ClassFile.FieldType.int)) ∈ lw_all := lw_g (lw_at lw_m9 20 rfl) rfl
theorem q2041 : (Jvm.Cond.instanceMethod ({ cls := "FirstdanceAgencyModel", name := "key", desc := "(I)I" } : Jvm.MethodName)) ∈ lw_all := lw_g (lw_at lw_m9 22 rfl) rfl
theorem q2042 : (Jvm.Cond.selects "FirstdanceAgencyModel" ({ cls := "FirstdanceAgencyModel", name := "key", desc := "(I)I" } : Jvm.MethodName) ({ cls := "FirstdanceAgencyModel", name := "key", desc := "(I)I" } : Jvm.MethodName)) ∈ lw_all := lw_g (lw_at lw_m9 23 rfl) rfl
theorem q2043 : (Jvm.Cond.code ({ cls := "FirstdanceAgencyModel", name := "key", desc := "(I)I" } : Jvm.MethodName) prog_13_method_78_code (3 : Nat) (Option.some Jvm.ClassFile.FieldType.int)) ∈ lw_all := lw_g (lw_at lw_m9 24 rfl) rfl
theorem q2045 : (Jvm.Cond.instanceMethod ({ cls := "FirstdanceAgencyModel", name := "isSound", desc := "()Z" } : Jvm.MethodName)) ∈ lw_all := lw_g (lw_at lw_m9 26 rfl) rfl
theorem q2046 : (Jvm.Cond.selects "FirstdanceAgencyModel" ({ cls := "FirstdanceAgencyModel", name := "isSound", desc := "()Z" } : Jvm.MethodName) ({ cls := "FirstdanceAgencyModel", name := "isSound", desc := "()Z" } : Jvm.MethodName)) ∈ lw_all := lw_g (lw_at lw_m9 27 rfl) rfl
theorem q2047 : (Jvm.Cond.code ({ cls := "FirstdanceAgencyModel", name := "isSound", desc := "()Z" } : Jvm.MethodName) prog_13_method_80_code (1 : Nat) (Option.some Jvm.ClassFile.FieldType.boolean)) ∈ lw_all := lw_g (lw_at lw_m9 28 rfl) rfl
theorem q2048 : (Jvm.Cond.methodLink "FirstdanceAgencyModel" (377 : Nat) ({ cls := "FirstdanceAgencyModel", name := "isSoundNow", desc := "()Z" } : Jvm.MethodName)) ∈ lw_all := lw_g (lw_at lw_m9 29 rfl) rfl
theorem q2049 : (Jvm.Cond.privateMethod ({ cls := "FirstdanceAgencyModel", name := "isSoundNow", desc := "()Z" } : Jvm.MethodName)) ∈ lw_tbl := lw_at lw_m9 30 rfl
theorem q2050 : (Jvm.Cond.instanceMethod ({ cls := "FirstdanceAgencyModel", name := "isSoundNow", desc := "()Z" } : Jvm.MethodName)) ∈ lw_all := lw_g (lw_at lw_m9 31 rfl) rfl
theorem q2051 : (Jvm.Cond.code ({ cls := "FirstdanceAgencyModel", name := "isSoundNow", desc := "()Z" } : Jvm.MethodName) prog_13_method_79_code (7 : Nat) (Option.some Jvm.ClassFile.FieldType.boolean)) ∈ lw_all := lw_g (lw_at lw_m9 32 rfl) rfl
theorem q2053 : (Jvm.Cond.instanceMethod ({ cls := "FirstdanceAgencyModel", name := "digest", desc := "()J" } : Jvm.MethodName)) ∈ lw_all := lw_g (lw_at lw_m9 34 rfl) rfl
theorem q2054 : (Jvm.Cond.selects "FirstdanceAgencyModel" ({ cls := "FirstdanceAgencyModel", name := "digest", desc := "()J" } : Jvm.MethodName) ({ cls := "FirstdanceAgencyModel", name := "digest", desc := "()J" } : Jvm.MethodName)) ∈ lw_all := lw_g (lw_at lw_m9 35 rfl) rfl
theorem q2055 : (Jvm.Cond.code ({ cls := "FirstdanceAgencyModel", name := "digest", desc := "()J" } : Jvm.MethodName) prog_13_method_82_code (3 : Nat) (Option.some Jvm.ClassFile.FieldType.long)) ∈ lw_all := lw_g (lw_at lw_m9 36 rfl) rfl
theorem q2056 : (Jvm.Cond.constantLong "FirstdanceAgencyModel" (386 : Nat) (58278 : Int64)) ∈ lw_all := lw_g (lw_at lw_m9 37 rfl) rfl
theorem q2057 : (Jvm.Cond.methodLink "FirstdanceAgencyModel" (388 : Nat) ({ cls := "FirstdanceAgencyModel", name := "add", desc := "(J)V" } : Jvm.MethodName)) ∈ lw_all := lw_g (lw_at lw_m9 38 rfl) rfl
theorem q2058 : (Jvm.Cond.privateMethod ({ cls := "FirstdanceAgencyModel", name := "add", desc := "(J)V" } : Jvm.MethodName)) ∈ lw_tbl := lw_at lw_m9 39 rfl
theorem q2059 : (Jvm.Cond.instanceMethod ({ cls := "FirstdanceAgencyModel", name := "add", desc := "(J)V" } : Jvm.MethodName)) ∈ lw_all := lw_g (lw_at lw_m9 40 rfl) rfl
theorem q2060 : (Jvm.Cond.code ({ cls := "FirstdanceAgencyModel", name := "add", desc := "(J)V" } : Jvm.MethodName) prog_13_method_81_code (3 : Nat) (Option.none : Option Jvm.ClassFile.FieldType)) ∈ lw_all := lw_g (lw_at lw_m9 41 rfl) rfl
theorem q2061 : (Jvm.Cond.constantLong "FirstdanceAgencyModel" (384 : Nat) (31 : Int64)) ∈ lw_all := lw_g (lw_at lw_m9 42 rfl) rfl
theorem q2090 : (Jvm.Cond.castable "FirstdanceAgencyModel" "java/lang/Object") ∈ lw_tbl := lw_at lw_m9 71 rfl
theorem in_X4 : ∀ w ∈ wsX40, w ∈ lw_all := lw_in wsX40 [1553, 1555, 1557, 1559, 1561, 1563, 1565, 1567, 1569, 1571, 1573, 1575, 1577] (by decide +kernel) (by decide +kernel)

/-! FirstdanceAgencyModel$Player -/
set_option maxRecDepth 100000
def RX7 : String := "FirstdanceAgencyModel$Player"
def TX7 : u_T := fun k => match k with
  | 0 => ("FirstdanceAgencyModel$Player", "instruments", "I", false)
  | 1 => ("FirstdanceAgencyModel$Player", "songs", "I", false)
  | 2 => ("FirstdanceAgencyModel$Player", "home", "I", false)
  | 3 => ("FirstdanceAgencyModel$Player", "fee", "I", false)
  | 4 => ("FirstdanceAgencyModel$Player", "feuds", "I", false)
  | 5 => ("FirstdanceAgencyModel$Player", "earned", "I", false)
  | _ => ("FirstdanceAgencyModel$Player", "isOff", "[Z", true)
def tyX7 : Nat → FieldType := fun k => match k with
  | 0 => .int
  | 1 => .int
  | 2 => .int
  | 3 => .int
  | 4 => .int
  | 5 => .int
  | _ => .array .boolean
abbrev wsX70 : List Cond := u_ws RX7 TX7 7
theorem nmX7 : ∀ a, a < 7 → ∀ b, b < 7 → a ≠ b → (TX7 a).2.1 ≠ (TX7 b).2.1 := by decide +kernel
theorem tyX7_ok : ∀ k, k < 7 → parseFieldDescriptor (TX7 k).2.2.1 = some (tyX7 k) := by decide +kernel
abbrev cX7_init : ByteArray := prog_14_method_1_code
def yX7_init : MethodName := ⟨RX7, "<init>", "()V"⟩
def dkwX7_init_0 : List UInt8 := [42, 183, 0, 3, 42, 17, 1, 110, 188, 4, 181, 0, 9, 177]
abbrev dktX7_init_0 : List UInt8 := dkwX7_init_0 ++ []
theorem dksX7_init_0 : cX7_init.data.toList.drop 0 = dktX7_init_0 := by decide +kernel
theorem dX7_init_0 : decode cX7_init 0 = .ok (.aload_n 0, 1) := dk_42 (dk_at dksX7_init_0 0 rfl rfl)
theorem dX7_init_1 : decode cX7_init 1 = .ok (.invokespecial 3, 3) := dk_183 0 3 (dk_at dksX7_init_0 1 rfl rfl)
theorem dX7_init_4 : decode cX7_init 4 = .ok (.aload_n 0, 1) := dk_42 (dk_at dksX7_init_0 4 rfl rfl)
theorem dX7_init_5 : decode cX7_init 5 = .ok (.sipush 366, 3) := dk_17 1 110 (dk_at dksX7_init_0 5 rfl rfl)
theorem dX7_init_8 : decode cX7_init 8 = .ok (.newarray .boolean, 2) := dk_188_4 (dk_at dksX7_init_0 8 rfl rfl)
theorem dX7_init_10 : decode cX7_init 10 = .ok (.putfield 9, 3) := dk_181 0 9 (dk_at dksX7_init_0 10 rfl rfl)
theorem dX7_init_13 : decode cX7_init 13 = .ok (.return_, 1) := dk_177 (dk_at dksX7_init_0 13 rfl rfl)
theorem q121 : (Jvm.Cond.initialized "FirstdanceAgencyModel$Player") ∈ lw_all := lw_g (lw_at lw_m1 22 rfl) rfl
theorem q273 : (Jvm.Cond.selects "FirstdanceAgencyModel$Player" ({ cls := "java/lang/Object", name := "getClass", desc := "()Ljava/lang/Class;" } : Jvm.MethodName) ({ cls := "java/lang/Object", name := "getClass", desc := "()Ljava/lang/Class;" } : Jvm.MethodName)) ∈ lw_all := lw_g (lw_at lw_m1 174 rfl) rfl
theorem q1602 : (Jvm.Cond.instantiable "FirstdanceAgencyModel$Player" (7 : Nat)) ∈ lw_all := lw_g (lw_at lw_m7 63 rfl) rfl
theorem q1604 : (Jvm.Cond.instanceMethod ({ cls := "FirstdanceAgencyModel$Player", name := "<init>", desc := "()V" } : Jvm.MethodName)) ∈ lw_all := lw_g (lw_at lw_m7 65 rfl) rfl
theorem q1605 : (Jvm.Cond.code ({ cls := "FirstdanceAgencyModel$Player", name := "<init>", desc := "()V" } : Jvm.MethodName) prog_14_method_1_code (1 : Nat) (Option.none : Option Jvm.ClassFile.FieldType)) ∈ lw_all := lw_g (lw_at lw_m7 66 rfl) rfl
theorem q1606 : (Jvm.Cond.methodLink "FirstdanceAgencyModel$Player" (3 : Nat) ({ cls := "java/lang/Object", name := "<init>", desc := "()V" } : Jvm.MethodName)) ∈ lw_all := lw_g (lw_at lw_m7 67 rfl) rfl
theorem q1613 : (Jvm.Cond.fieldLink "FirstdanceAgencyModel$Player" (9 : Nat) "FirstdanceAgencyModel$Player" "isOff" "[Z") ∈ lw_all := lw_g (lw_at lw_m7 74 rfl) rfl
theorem q1615 : (Jvm.Cond.lays "FirstdanceAgencyModel$Player" "FirstdanceAgencyModel$Player" "instruments" "I") ∈ lw_all := lw_g (lw_at lw_m7 76 rfl) rfl
theorem q1616 : (Jvm.Cond.soleField "FirstdanceAgencyModel$Player" "instruments") ∈ lw_all := lw_g (lw_at lw_m7 77 rfl) rfl
theorem q1617 : (Jvm.Cond.lays "FirstdanceAgencyModel$Player" "FirstdanceAgencyModel$Player" "songs" "I") ∈ lw_all := lw_g (lw_at lw_m7 78 rfl) rfl
theorem q1618 : (Jvm.Cond.soleField "FirstdanceAgencyModel$Player" "songs") ∈ lw_all := lw_g (lw_at lw_m7 79 rfl) rfl
theorem q1619 : (Jvm.Cond.lays "FirstdanceAgencyModel$Player" "FirstdanceAgencyModel$Player" "home" "I") ∈ lw_all := lw_g (lw_at lw_m7 80 rfl) rfl
theorem q1620 : (Jvm.Cond.soleField "FirstdanceAgencyModel$Player" "home") ∈ lw_all := lw_g (lw_at lw_m7 81 rfl) rfl
theorem q1621 : (Jvm.Cond.lays "FirstdanceAgencyModel$Player" "FirstdanceAgencyModel$Player" "fee" "I") ∈ lw_all := lw_g (lw_at lw_m7 82 rfl) rfl
theorem q1622 : (Jvm.Cond.soleField "FirstdanceAgencyModel$Player" "fee") ∈ lw_all := lw_g (lw_at lw_m7 83 rfl) rfl
theorem q1623 : (Jvm.Cond.lays "FirstdanceAgencyModel$Player" "FirstdanceAgencyModel$Player" "feuds" "I") ∈ lw_all := lw_g (lw_at lw_m7 84 rfl) rfl
theorem q1624 : (Jvm.Cond.soleField "FirstdanceAgencyModel$Player" "feuds") ∈ lw_all := lw_g (lw_at lw_m7 85 rfl) rfl
theorem q1625 : (Jvm.Cond.lays "FirstdanceAgencyModel$Player" "FirstdanceAgencyModel$Player" "earned" "I") ∈ lw_all := lw_g (lw_at lw_m7 86 rfl) rfl
theorem q1626 : (Jvm.Cond.soleField "FirstdanceAgencyModel$Player" "earned") ∈ lw_all := lw_g (lw_at lw_m7 87 rfl) rfl
theorem q1627 : (Jvm.Cond.laysFinal "FirstdanceAgencyModel$Player" "FirstdanceAgencyModel$Player" "isOff" "[Z") ∈ lw_all := lw_g (lw_at lw_m7 88 rfl) rfl
theorem q1628 : (Jvm.Cond.soleField "FirstdanceAgencyModel$Player" "isOff") ∈ lw_all := lw_g (lw_at lw_m7 89 rfl) rfl
theorem q1629 : (Jvm.Cond.superclass "FirstdanceAgencyModel$Player" "java/lang/Object") ∈ lw_all := lw_g (lw_at lw_m7 90 rfl) rfl
theorem q2097 : (Jvm.Cond.castable "FirstdanceAgencyModel$Player" "java/lang/Object") ∈ lw_tbl := lw_at lw_m9 78 rfl
theorem in_X7 : ∀ w ∈ wsX70, w ∈ lw_all := lw_in wsX70 [1615, 1617, 1619, 1621, 1623, 1625, 1627] (by decide +kernel) (by decide +kernel)

