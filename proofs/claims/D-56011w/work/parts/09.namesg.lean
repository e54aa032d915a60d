/-! WindowExchange$Trader -/
set_option maxRecDepth 100000
def RX4 : String := "WindowExchange$Trader"
def TX4 : u_T := fun k => match k with
  | 0 => ("WindowExchange$Trader", "cash", "I", false)
  | _ => ("WindowExchange$Trader", "windows", "I", false)
def tyX4 : Nat → FieldType := fun k => match k with
  | 0 => .int
  | _ => .int
abbrev wsX40 : List Cond := u_ws RX4 TX4 2
theorem nmX4 : ∀ a, a < 2 → ∀ b, b < 2 → a ≠ b → (TX4 a).2.1 ≠ (TX4 b).2.1 := by decide +kernel
theorem tyX4_ok : ∀ k, k < 2 → parseFieldDescriptor (TX4 k).2.2.1 = some (tyX4 k) := by decide +kernel
abbrev cX4_init : ByteArray := prog_13_method_2_code
def yX4_init : MethodName := ⟨RX4, "<init>", "(LWindowExchange$Trader;)V"⟩
def dkwX4_init_0 : List UInt8 := [42, 43, 180, 0, 7, 43, 180, 0, 13, 183, 0, 16, 177]
abbrev dktX4_init_0 : List UInt8 := dkwX4_init_0 ++ []
theorem dksX4_init_0 : cX4_init.data.toList.drop 0 = dktX4_init_0 := by decide +kernel
theorem dX4_init_0 : decode cX4_init 0 = .ok (.aload_n 0, 1) := dk_42 (dk_at dksX4_init_0 0 rfl rfl)
theorem dX4_init_1 : decode cX4_init 1 = .ok (.aload_n 1, 1) := dk_43 (dk_at dksX4_init_0 1 rfl rfl)
theorem dX4_init_2 : decode cX4_init 2 = .ok (.getfield 7, 3) := dk_180 0 7 (dk_at dksX4_init_0 2 rfl rfl)
theorem dX4_init_5 : decode cX4_init 5 = .ok (.aload_n 1, 1) := dk_43 (dk_at dksX4_init_0 5 rfl rfl)
theorem dX4_init_6 : decode cX4_init 6 = .ok (.getfield 13, 3) := dk_180 0 13 (dk_at dksX4_init_0 6 rfl rfl)
theorem dX4_init_9 : decode cX4_init 9 = .ok (.invokespecial 16, 3) := dk_183 0 16 (dk_at dksX4_init_0 9 rfl rfl)
theorem dX4_init_12 : decode cX4_init 12 = .ok (.return_, 1) := dk_177 (dk_at dksX4_init_0 12 rfl rfl)
abbrev cX4_init_2 : ByteArray := prog_13_method_1_code
def yX4_init_2 : MethodName := ⟨RX4, "<init>", "(II)V"⟩
def dkwX4_init_2_0 : List UInt8 := [42, 183, 0, 1, 42, 27, 181, 0, 7, 42, 28, 181, 0, 13, 177]
abbrev dktX4_init_2_0 : List UInt8 := dkwX4_init_2_0 ++ []
theorem dksX4_init_2_0 : cX4_init_2.data.toList.drop 0 = dktX4_init_2_0 := by decide +kernel
theorem dX4_init_2_0 : decode cX4_init_2 0 = .ok (.aload_n 0, 1) := dk_42 (dk_at dksX4_init_2_0 0 rfl rfl)
theorem dX4_init_2_1 : decode cX4_init_2 1 = .ok (.invokespecial 1, 3) := dk_183 0 1 (dk_at dksX4_init_2_0 1 rfl rfl)
theorem dX4_init_2_4 : decode cX4_init_2 4 = .ok (.aload_n 0, 1) := dk_42 (dk_at dksX4_init_2_0 4 rfl rfl)
theorem dX4_init_2_5 : decode cX4_init_2 5 = .ok (.iload_n 1, 1) := dk_27 (dk_at dksX4_init_2_0 5 rfl rfl)
theorem dX4_init_2_6 : decode cX4_init_2 6 = .ok (.putfield 7, 3) := dk_181 0 7 (dk_at dksX4_init_2_0 6 rfl rfl)
theorem dX4_init_2_9 : decode cX4_init_2 9 = .ok (.aload_n 0, 1) := dk_42 (dk_at dksX4_init_2_0 9 rfl rfl)
theorem dX4_init_2_10 : decode cX4_init_2 10 = .ok (.iload_n 2, 1) := dk_28 (dk_at dksX4_init_2_0 10 rfl rfl)
theorem dX4_init_2_11 : decode cX4_init_2 11 = .ok (.putfield 13, 3) := dk_181 0 13 (dk_at dksX4_init_2_0 11 rfl rfl)
theorem dX4_init_2_14 : decode cX4_init_2 14 = .ok (.return_, 1) := dk_177 (dk_at dksX4_init_2_0 14 rfl rfl)
theorem q110 : (Jvm.Cond.initialized "WindowExchange$Trader") ∈ lw_all := lw_g (lw_at lw_m1 17 rfl) rfl
theorem q718 : (Jvm.Cond.selects "WindowExchange$Trader" ({ cls := "java/lang/Object", name := "getClass", desc := "()Ljava/lang/Class;" } : Jvm.MethodName) ({ cls := "java/lang/Object", name := "getClass", desc := "()Ljava/lang/Class;" } : Jvm.MethodName)) ∈ lw_all := lw_g (lw_at lw_m3 145 rfl) rfl
theorem q1651 : (Jvm.Cond.instantiable "WindowExchange$Trader" (2 : Nat)) ∈ lw_all := lw_g (lw_at lw_m7 118 rfl) rfl
theorem q1653 : (Jvm.Cond.instanceMethod ({ cls := "WindowExchange$Trader", name := "<init>", desc := "(LWindowExchange$Trader;)V" } : Jvm.MethodName)) ∈ lw_all := lw_g (lw_at lw_m7 120 rfl) rfl
theorem q1654 : (Jvm.Cond.code ({ cls := "WindowExchange$Trader", name := "<init>", desc := "(LWindowExchange$Trader;)V" } : Jvm.MethodName) prog_13_method_2_code (2 : Nat) (Option.none : Option Jvm.ClassFile.FieldType)) ∈ lw_all := lw_g (lw_at lw_m7 121 rfl) rfl
theorem q1655 : (Jvm.Cond.methodLink "WindowExchange$Trader" (16 : Nat) ({ cls := "WindowExchange$Trader", name := "<init>", desc := "(II)V" } : Jvm.MethodName)) ∈ lw_all := lw_g (lw_at lw_m7 122 rfl) rfl
theorem q1656 : (Jvm.Cond.instanceMethod ({ cls := "WindowExchange$Trader", name := "<init>", desc := "(II)V" } : Jvm.MethodName)) ∈ lw_all := lw_g (lw_at lw_m7 123 rfl) rfl
theorem q1657 : (Jvm.Cond.code ({ cls := "WindowExchange$Trader", name := "<init>", desc := "(II)V" } : Jvm.MethodName) prog_13_method_1_code (3 : Nat) (Option.none : Option Jvm.ClassFile.FieldType)) ∈ lw_all := lw_g (lw_at lw_m7 124 rfl) rfl
theorem q1658 : (Jvm.Cond.methodLink "WindowExchange$Trader" (1 : Nat) ({ cls := "java/lang/Object", name := "<init>", desc := "()V" } : Jvm.MethodName)) ∈ lw_all := lw_g (lw_at lw_m7 125 rfl) rfl
theorem q1659 : (Jvm.Cond.fieldLink "WindowExchange$Trader" (7 : Nat) "WindowExchange$Trader" "cash" "I") ∈ lw_all := lw_g (lw_at lw_m7 126 rfl) rfl
theorem q1662 : (Jvm.Cond.fieldLink "WindowExchange$Trader" (13 : Nat) "WindowExchange$Trader" "windows" "I") ∈ lw_all := lw_g (lw_at lw_m7 129 rfl) rfl
theorem q1665 : (Jvm.Cond.lays "WindowExchange$Trader" "WindowExchange$Trader" "cash" "I") ∈ lw_all := lw_g (lw_at lw_m7 132 rfl) rfl
theorem q1666 : (Jvm.Cond.soleField "WindowExchange$Trader" "cash") ∈ lw_all := lw_g (lw_at lw_m7 133 rfl) rfl
theorem q1667 : (Jvm.Cond.lays "WindowExchange$Trader" "WindowExchange$Trader" "windows" "I") ∈ lw_all := lw_g (lw_at lw_m7 134 rfl) rfl
theorem q1668 : (Jvm.Cond.soleField "WindowExchange$Trader" "windows") ∈ lw_all := lw_g (lw_at lw_m7 135 rfl) rfl
theorem q1669 : (Jvm.Cond.superclass "WindowExchange$Trader" "java/lang/Object") ∈ lw_all := lw_g (lw_at lw_m7 136 rfl) rfl
theorem q3229 : (Jvm.Cond.castable "WindowExchange$Trader" "java/lang/Object") ∈ lw_tbl := lw_at lw_m14 16 rfl
theorem in_X4 : ∀ w ∈ wsX40, w ∈ lw_all := lw_in wsX40 [1665, 1667] (by decide +kernel) (by decide +kernel)
/-! WindowExchange$Order -/
set_option maxRecDepth 100000
def RX5 : String := "WindowExchange$Order"
def TX5 : u_T := fun k => match k with
  | 0 => ("WindowExchange$Order", "number", "I", true)
  | 1 => ("WindowExchange$Order", "trader", "I", true)
  | 2 => ("WindowExchange$Order", "isBid", "Z", true)
  | 3 => ("WindowExchange$Order", "price", "I", true)
  | _ => ("WindowExchange$Order", "units", "I", false)
def tyX5 : Nat → FieldType := fun k => match k with
  | 0 => .int
  | 1 => .int
  | 2 => .boolean
  | 3 => .int
  | _ => .int
abbrev wsX50 : List Cond := u_ws RX5 TX5 5
theorem nmX5 : ∀ a, a < 5 → ∀ b, b < 5 → a ≠ b → (TX5 a).2.1 ≠ (TX5 b).2.1 := by decide +kernel
theorem tyX5_ok : ∀ k, k < 5 → parseFieldDescriptor (TX5 k).2.2.1 = some (tyX5 k) := by decide +kernel
abbrev cX5_matches : ByteArray := prog_8_method_3_code
def yX5_matches : MethodName := ⟨RX5, "matches", "(LWindowExchange$Order;)Z"⟩
def dkwX5_matches_2 : List UInt8 := [3, 172]
abbrev dktX5_matches_2 : List UInt8 := dkwX5_matches_2 ++ []
def dkwX5_matches_1 : List UInt8 := [180, 0, 20, 161, 0, 21, 167, 0, 14, 43, 180, 0, 20, 42, 180, 0, 20, 161, 0, 7, 4, 167, 0, 4]
abbrev dktX5_matches_1 : List UInt8 := dkwX5_matches_1 ++ dktX5_matches_2
def dkwX5_matches_0 : List UInt8 := [42, 180, 0, 16, 43, 180, 0, 16, 159, 0, 39, 42, 180, 0, 16, 153, 0, 17, 42, 180, 0, 20, 43]
abbrev dktX5_matches_0 : List UInt8 := dkwX5_matches_0 ++ dktX5_matches_1
theorem dksX5_matches_0 : cX5_matches.data.toList.drop 0 = dktX5_matches_0 := by decide +kernel
theorem dksX5_matches_1 : cX5_matches.data.toList.drop 23 = dktX5_matches_1 := dk_seg dksX5_matches_0 23 rfl rfl
theorem dksX5_matches_2 : cX5_matches.data.toList.drop 47 = dktX5_matches_2 := dk_seg dksX5_matches_1 24 rfl rfl
theorem dX5_matches_0 : decode cX5_matches 0 = .ok (.aload_n 0, 1) := dk_42 (dk_at dksX5_matches_0 0 rfl rfl)
theorem dX5_matches_1 : decode cX5_matches 1 = .ok (.getfield 16, 3) := dk_180 0 16 (dk_at dksX5_matches_0 1 rfl rfl)
theorem dX5_matches_4 : decode cX5_matches 4 = .ok (.aload_n 1, 1) := dk_43 (dk_at dksX5_matches_0 4 rfl rfl)
theorem dX5_matches_5 : decode cX5_matches 5 = .ok (.getfield 16, 3) := dk_180 0 16 (dk_at dksX5_matches_0 5 rfl rfl)
theorem dX5_matches_8 : decode cX5_matches 8 = .ok (.if_icmp .eq 39, 3) := dk_159 0 39 (dk_at dksX5_matches_0 8 rfl rfl)
theorem dX5_matches_11 : decode cX5_matches 11 = .ok (.aload_n 0, 1) := dk_42 (dk_at dksX5_matches_0 11 rfl rfl)
theorem dX5_matches_12 : decode cX5_matches 12 = .ok (.getfield 16, 3) := dk_180 0 16 (dk_at dksX5_matches_0 12 rfl rfl)
theorem dX5_matches_15 : decode cX5_matches 15 = .ok (.ifCond .eq 17, 3) := dk_153 0 17 (dk_at dksX5_matches_0 15 rfl rfl)
theorem dX5_matches_18 : decode cX5_matches 18 = .ok (.aload_n 0, 1) := dk_42 (dk_at dksX5_matches_0 18 rfl rfl)
theorem dX5_matches_19 : decode cX5_matches 19 = .ok (.getfield 20, 3) := dk_180 0 20 (dk_at dksX5_matches_0 19 rfl rfl)
theorem dX5_matches_22 : decode cX5_matches 22 = .ok (.aload_n 1, 1) := dk_43 (dk_at dksX5_matches_0 22 rfl rfl)
theorem dX5_matches_23 : decode cX5_matches 23 = .ok (.getfield 20, 3) := dk_180 0 20 (dk_at dksX5_matches_1 0 rfl rfl)
theorem dX5_matches_26 : decode cX5_matches 26 = .ok (.if_icmp .lt 21, 3) := dk_161 0 21 (dk_at dksX5_matches_1 3 rfl rfl)
theorem dX5_matches_29 : decode cX5_matches 29 = .ok (.goto 14, 3) := dk_167 0 14 (dk_at dksX5_matches_1 6 rfl rfl)
theorem dX5_matches_32 : decode cX5_matches 32 = .ok (.aload_n 1, 1) := dk_43 (dk_at dksX5_matches_1 9 rfl rfl)
theorem dX5_matches_33 : decode cX5_matches 33 = .ok (.getfield 20, 3) := dk_180 0 20 (dk_at dksX5_matches_1 10 rfl rfl)
theorem dX5_matches_36 : decode cX5_matches 36 = .ok (.aload_n 0, 1) := dk_42 (dk_at dksX5_matches_1 13 rfl rfl)
theorem dX5_matches_37 : decode cX5_matches 37 = .ok (.getfield 20, 3) := dk_180 0 20 (dk_at dksX5_matches_1 14 rfl rfl)
theorem dX5_matches_40 : decode cX5_matches 40 = .ok (.if_icmp .lt 7, 3) := dk_161 0 7 (dk_at dksX5_matches_1 17 rfl rfl)
theorem dX5_matches_43 : decode cX5_matches 43 = .ok (.iconst 1, 1) := dk_4 (dk_at dksX5_matches_1 20 rfl rfl)
theorem dX5_matches_44 : decode cX5_matches 44 = .ok (.goto 4, 3) := dk_167 0 4 (dk_at dksX5_matches_1 21 rfl rfl)
theorem dX5_matches_47 : decode cX5_matches 47 = .ok (.iconst 0, 1) := dk_3 (dk_at dksX5_matches_2 0 rfl rfl)
theorem dX5_matches_48 : decode cX5_matches 48 = .ok (.ireturn, 1) := dk_172 (dk_at dksX5_matches_2 1 rfl rfl)
abbrev cX5_init : ByteArray := prog_8_method_2_code
def yX5_init : MethodName := ⟨RX5, "<init>", "(LWindowExchange$Order;)V"⟩
def dkwX5_init_1 : List UInt8 := [177]
abbrev dktX5_init_1 : List UInt8 := dkwX5_init_1 ++ []
def dkwX5_init_0 : List UInt8 := [42, 43, 180, 0, 7, 43, 180, 0, 13, 43, 180, 0, 16, 43, 180, 0, 20, 43, 180, 0, 23, 183, 0, 26]
abbrev dktX5_init_0 : List UInt8 := dkwX5_init_0 ++ dktX5_init_1
theorem dksX5_init_0 : cX5_init.data.toList.drop 0 = dktX5_init_0 := by decide +kernel
theorem dksX5_init_1 : cX5_init.data.toList.drop 24 = dktX5_init_1 := dk_seg dksX5_init_0 24 rfl rfl
theorem dX5_init_0 : decode cX5_init 0 = .ok (.aload_n 0, 1) := dk_42 (dk_at dksX5_init_0 0 rfl rfl)
theorem dX5_init_1 : decode cX5_init 1 = .ok (.aload_n 1, 1) := dk_43 (dk_at dksX5_init_0 1 rfl rfl)
theorem dX5_init_2 : decode cX5_init 2 = .ok (.getfield 7, 3) := dk_180 0 7 (dk_at dksX5_init_0 2 rfl rfl)
theorem dX5_init_5 : decode cX5_init 5 = .ok (.aload_n 1, 1) := dk_43 (dk_at dksX5_init_0 5 rfl rfl)
theorem dX5_init_6 : decode cX5_init 6 = .ok (.getfield 13, 3) := dk_180 0 13 (dk_at dksX5_init_0 6 rfl rfl)
theorem dX5_init_9 : decode cX5_init 9 = .ok (.aload_n 1, 1) := dk_43 (dk_at dksX5_init_0 9 rfl rfl)
theorem dX5_init_10 : decode cX5_init 10 = .ok (.getfield 16, 3) := dk_180 0 16 (dk_at dksX5_init_0 10 rfl rfl)
theorem dX5_init_13 : decode cX5_init 13 = .ok (.aload_n 1, 1) := dk_43 (dk_at dksX5_init_0 13 rfl rfl)
theorem dX5_init_14 : decode cX5_init 14 = .ok (.getfield 20, 3) := dk_180 0 20 (dk_at dksX5_init_0 14 rfl rfl)
theorem dX5_init_17 : decode cX5_init 17 = .ok (.aload_n 1, 1) := dk_43 (dk_at dksX5_init_0 17 rfl rfl)
theorem dX5_init_18 : decode cX5_init 18 = .ok (.getfield 23, 3) := dk_180 0 23 (dk_at dksX5_init_0 18 rfl rfl)
theorem dX5_init_21 : decode cX5_init 21 = .ok (.invokespecial 26, 3) := dk_183 0 26 (dk_at dksX5_init_0 21 rfl rfl)
theorem dX5_init_24 : decode cX5_init 24 = .ok (.return_, 1) := dk_177 (dk_at dksX5_init_1 0 rfl rfl)
abbrev cX5_init_2 : ByteArray := prog_8_method_1_code
def yX5_init_2 : MethodName := ⟨RX5, "<init>", "(IIZII)V"⟩
def dkwX5_init_2_1 : List UInt8 := [181, 0, 20, 42, 21, 5, 181, 0, 23, 177]
abbrev dktX5_init_2_1 : List UInt8 := dkwX5_init_2_1 ++ []
def dkwX5_init_2_0 : List UInt8 := [42, 183, 0, 1, 42, 27, 181, 0, 7, 42, 28, 181, 0, 13, 42, 29, 181, 0, 16, 42, 21, 4]
abbrev dktX5_init_2_0 : List UInt8 := dkwX5_init_2_0 ++ dktX5_init_2_1
theorem dksX5_init_2_0 : cX5_init_2.data.toList.drop 0 = dktX5_init_2_0 := by decide +kernel
theorem dksX5_init_2_1 : cX5_init_2.data.toList.drop 22 = dktX5_init_2_1 := dk_seg dksX5_init_2_0 22 rfl rfl
theorem dX5_init_2_0 : decode cX5_init_2 0 = .ok (.aload_n 0, 1) := dk_42 (dk_at dksX5_init_2_0 0 rfl rfl)
theorem dX5_init_2_1 : decode cX5_init_2 1 = .ok (.invokespecial 1, 3) := dk_183 0 1 (dk_at dksX5_init_2_0 1 rfl rfl)
theorem dX5_init_2_4 : decode cX5_init_2 4 = .ok (.aload_n 0, 1) := dk_42 (dk_at dksX5_init_2_0 4 rfl rfl)
theorem dX5_init_2_5 : decode cX5_init_2 5 = .ok (.iload_n 1, 1) := dk_27 (dk_at dksX5_init_2_0 5 rfl rfl)
theorem dX5_init_2_6 : decode cX5_init_2 6 = .ok (.putfield 7, 3) := dk_181 0 7 (dk_at dksX5_init_2_0 6 rfl rfl)
theorem dX5_init_2_9 : decode cX5_init_2 9 = .ok (.aload_n 0, 1) := dk_42 (dk_at dksX5_init_2_0 9 rfl rfl)
theorem dX5_init_2_10 : decode cX5_init_2 10 = .ok (.iload_n 2, 1) := dk_28 (dk_at dksX5_init_2_0 10 rfl rfl)
theorem dX5_init_2_11 : decode cX5_init_2 11 = .ok (.putfield 13, 3) := dk_181 0 13 (dk_at dksX5_init_2_0 11 rfl rfl)
theorem dX5_init_2_14 : decode cX5_init_2 14 = .ok (.aload_n 0, 1) := dk_42 (dk_at dksX5_init_2_0 14 rfl rfl)
theorem dX5_init_2_15 : decode cX5_init_2 15 = .ok (.iload_n 3, 1) := dk_29 (dk_at dksX5_init_2_0 15 rfl rfl)
theorem dX5_init_2_16 : decode cX5_init_2 16 = .ok (.putfield 16, 3) := dk_181 0 16 (dk_at dksX5_init_2_0 16 rfl rfl)
theorem dX5_init_2_19 : decode cX5_init_2 19 = .ok (.aload_n 0, 1) := dk_42 (dk_at dksX5_init_2_0 19 rfl rfl)
theorem dX5_init_2_20 : decode cX5_init_2 20 = .ok (.iload 4, 2) := dk_21 4 (dk_at dksX5_init_2_0 20 rfl rfl)
theorem dX5_init_2_22 : decode cX5_init_2 22 = .ok (.putfield 20, 3) := dk_181 0 20 (dk_at dksX5_init_2_1 0 rfl rfl)
theorem dX5_init_2_25 : decode cX5_init_2 25 = .ok (.aload_n 0, 1) := dk_42 (dk_at dksX5_init_2_1 3 rfl rfl)
theorem dX5_init_2_26 : decode cX5_init_2 26 = .ok (.iload 5, 2) := dk_21 5 (dk_at dksX5_init_2_1 4 rfl rfl)
theorem dX5_init_2_28 : decode cX5_init_2 28 = .ok (.putfield 23, 3) := dk_181 0 23 (dk_at dksX5_init_2_1 6 rfl rfl)
theorem dX5_init_2_31 : decode cX5_init_2 31 = .ok (.return_, 1) := dk_177 (dk_at dksX5_init_2_1 9 rfl rfl)
theorem q119 : (Jvm.Cond.initialized "WindowExchange$Order") ∈ lw_all := lw_g (lw_at lw_m1 26 rfl) rfl
theorem q714 : (Jvm.Cond.selects "WindowExchange$Order" ({ cls := "java/lang/Object", name := "getClass", desc := "()Ljava/lang/Class;" } : Jvm.MethodName) ({ cls := "java/lang/Object", name := "getClass", desc := "()Ljava/lang/Class;" } : Jvm.MethodName)) ∈ lw_all := lw_g (lw_at lw_m3 141 rfl) rfl
theorem q1037 : (Jvm.Cond.instanceMethod ({ cls := "WindowExchange$Order", name := "matches", desc := "(LWindowExchange$Order;)Z" } : Jvm.MethodName)) ∈ lw_all := lw_g (lw_at lw_m4 224 rfl) rfl
theorem q1038 : (Jvm.Cond.selects "WindowExchange$Order" ({ cls := "WindowExchange$Order", name := "matches", desc := "(LWindowExchange$Order;)Z" } : Jvm.MethodName) ({ cls := "WindowExchange$Order", name := "matches", desc := "(LWindowExchange$Order;)Z" } : Jvm.MethodName)) ∈ lw_all := lw_g (lw_at lw_m4 225 rfl) rfl
theorem q1039 : (Jvm.Cond.code ({ cls := "WindowExchange$Order", name := "matches", desc := "(LWindowExchange$Order;)Z" } : Jvm.MethodName) prog_8_method_3_code (2 : Nat) (Option.some Jvm.ClassFile.FieldType.boolean)) ∈ lw_all := lw_g (lw_at lw_m4 226 rfl) rfl
theorem q1670 : (Jvm.Cond.instantiable "WindowExchange$Order" (5 : Nat)) ∈ lw_all := lw_g (lw_at lw_m7 137 rfl) rfl
theorem q1672 : (Jvm.Cond.instanceMethod ({ cls := "WindowExchange$Order", name := "<init>", desc := "(LWindowExchange$Order;)V" } : Jvm.MethodName)) ∈ lw_all := lw_g (lw_at lw_m7 139 rfl) rfl
theorem q1673 : (Jvm.Cond.code ({ cls := "WindowExchange$Order", name := "<init>", desc := "(LWindowExchange$Order;)V" } : Jvm.MethodName) prog_8_method_2_code (2 : Nat) (Option.none : Option Jvm.ClassFile.FieldType)) ∈ lw_all := lw_g (lw_at lw_m7 140 rfl) rfl
theorem q1674 : (Jvm.Cond.methodLink "WindowExchange$Order" (26 : Nat) ({ cls := "WindowExchange$Order", name := "<init>", desc := "(IIZII)V" } : Jvm.MethodName)) ∈ lw_all := lw_g (lw_at lw_m7 141 rfl) rfl
theorem q1675 : (Jvm.Cond.instanceMethod ({ cls := "WindowExchange$Order", name := "<init>", desc := "(IIZII)V" } : Jvm.MethodName)) ∈ lw_all := lw_g (lw_at lw_m7 142 rfl) rfl
theorem q1676 : (Jvm.Cond.code ({ cls := "WindowExchange$Order", name := "<init>", desc := "(IIZII)V" } : Jvm.MethodName) prog_8_method_1_code (6 : Nat) (Option.none : Option Jvm.ClassFile.FieldType)) ∈ lw_all := lw_g (lw_at lw_m7 143 rfl) rfl
theorem q1677 : (Jvm.Cond.methodLink "WindowExchange$Order" (1 : Nat) ({ cls := "java/lang/Object", name := "<init>", desc := "()V" } : Jvm.MethodName)) ∈ lw_all := lw_g (lw_at lw_m7 144 rfl) rfl
theorem q1678 : (Jvm.Cond.fieldLink "WindowExchange$Order" (7 : Nat) "WindowExchange$Order" "number" "I") ∈ lw_all := lw_g (lw_at lw_m7 145 rfl) rfl
theorem q1682 : (Jvm.Cond.fieldLink "WindowExchange$Order" (13 : Nat) "WindowExchange$Order" "trader" "I") ∈ lw_all := lw_g (lw_at lw_m7 149 rfl) rfl
theorem q1685 : (Jvm.Cond.fieldLink "WindowExchange$Order" (16 : Nat) "WindowExchange$Order" "isBid" "Z") ∈ lw_all := lw_g (lw_at lw_m7 152 rfl) rfl
theorem q1688 : (Jvm.Cond.fieldLink "WindowExchange$Order" (20 : Nat) "WindowExchange$Order" "price" "I") ∈ lw_all := lw_g (lw_at lw_m7 155 rfl) rfl
theorem q1692 : (Jvm.Cond.fieldLink "WindowExchange$Order" (23 : Nat) "WindowExchange$Order" "units" "I") ∈ lw_all := lw_g (lw_at lw_m7 159 rfl) rfl
theorem q1695 : (Jvm.Cond.laysFinal "WindowExchange$Order" "WindowExchange$Order" "number" "I") ∈ lw_all := lw_g (lw_at lw_m7 162 rfl) rfl
theorem q1696 : (Jvm.Cond.soleField "WindowExchange$Order" "number") ∈ lw_all := lw_g (lw_at lw_m7 163 rfl) rfl
theorem q1697 : (Jvm.Cond.laysFinal "WindowExchange$Order" "WindowExchange$Order" "trader" "I") ∈ lw_all := lw_g (lw_at lw_m7 164 rfl) rfl
theorem q1698 : (Jvm.Cond.soleField "WindowExchange$Order" "trader") ∈ lw_all := lw_g (lw_at lw_m7 165 rfl) rfl
theorem q1699 : (Jvm.Cond.laysFinal "WindowExchange$Order" "WindowExchange$Order" "isBid" "Z") ∈ lw_all := lw_g (lw_at lw_m7 166 rfl) rfl
theorem q1700 : (Jvm.Cond.soleField "WindowExchange$Order" "isBid") ∈ lw_all := lw_g (lw_at lw_m7 167 rfl) rfl
theorem q1701 : (Jvm.Cond.laysFinal "WindowExchange$Order" "WindowExchange$Order" "price" "I") ∈ lw_all := lw_g (lw_at lw_m7 168 rfl) rfl
theorem q1702 : (Jvm.Cond.soleField "WindowExchange$Order" "price") ∈ lw_all := lw_g (lw_at lw_m7 169 rfl) rfl
theorem q1703 : (Jvm.Cond.lays "WindowExchange$Order" "WindowExchange$Order" "units" "I") ∈ lw_all := lw_g (lw_at lw_m7 170 rfl) rfl
theorem q1704 : (Jvm.Cond.soleField "WindowExchange$Order" "units") ∈ lw_all := lw_g (lw_at lw_m7 171 rfl) rfl
theorem q1705 : (Jvm.Cond.superclass "WindowExchange$Order" "java/lang/Object") ∈ lw_all := lw_g (lw_at lw_m7 172 rfl) rfl
theorem q3232 : (Jvm.Cond.castable "WindowExchange$Order" "java/lang/Object") ∈ lw_tbl := lw_at lw_m14 19 rfl
theorem in_X5 : ∀ w ∈ wsX50, w ∈ lw_all := lw_in wsX50 [1695, 1697, 1699, 1701, 1703] (by decide +kernel) (by decide +kernel)
/-! WindowExchange$Auction -/
set_option maxRecDepth 100000
def RX6 : String := "WindowExchange$Auction"
def TX6 : u_T := fun k => match k with
  | 0 => ("WindowExchange$Auction", "room", "I", true)
  | 1 => ("WindowExchange$Auction", "reservePrice", "I", true)
  | _ => ("WindowExchange$Auction", "amounts", "[I", true)
def tyX6 : Nat → FieldType := fun k => match k with
  | 0 => .int
  | 1 => .int
  | _ => .array .int
abbrev wsX60 : List Cond := u_ws RX6 TX6 3
theorem nmX6 : ∀ a, a < 3 → ∀ b, b < 3 → a ≠ b → (TX6 a).2.1 ≠ (TX6 b).2.1 := by decide +kernel
theorem tyX6_ok : ∀ k, k < 3 → parseFieldDescriptor (TX6 k).2.2.1 = some (tyX6 k) := by decide +kernel
abbrev cX6_init : ByteArray := prog_2_method_2_code
def yX6_init : MethodName := ⟨RX6, "<init>", "(LWindowExchange$Auction;)V"⟩
def dkwX6_init_1 : List UInt8 := [184, 0, 25, 177]
abbrev dktX6_init_1 : List UInt8 := dkwX6_init_1 ++ []
def dkwX6_init_0 : List UInt8 := [42, 43, 180, 0, 15, 43, 180, 0, 19, 183, 0, 22, 43, 180, 0, 9, 3, 42, 180, 0, 9, 3, 16, 6]
abbrev dktX6_init_0 : List UInt8 := dkwX6_init_0 ++ dktX6_init_1
theorem dksX6_init_0 : cX6_init.data.toList.drop 0 = dktX6_init_0 := by decide +kernel
theorem dksX6_init_1 : cX6_init.data.toList.drop 24 = dktX6_init_1 := dk_seg dksX6_init_0 24 rfl rfl
theorem dX6_init_0 : decode cX6_init 0 = .ok (.aload_n 0, 1) := dk_42 (dk_at dksX6_init_0 0 rfl rfl)
theorem dX6_init_1 : decode cX6_init 1 = .ok (.aload_n 1, 1) := dk_43 (dk_at dksX6_init_0 1 rfl rfl)
theorem dX6_init_2 : decode cX6_init 2 = .ok (.getfield 15, 3) := dk_180 0 15 (dk_at dksX6_init_0 2 rfl rfl)
theorem dX6_init_5 : decode cX6_init 5 = .ok (.aload_n 1, 1) := dk_43 (dk_at dksX6_init_0 5 rfl rfl)
theorem dX6_init_6 : decode cX6_init 6 = .ok (.getfield 19, 3) := dk_180 0 19 (dk_at dksX6_init_0 6 rfl rfl)
theorem dX6_init_9 : decode cX6_init 9 = .ok (.invokespecial 22, 3) := dk_183 0 22 (dk_at dksX6_init_0 9 rfl rfl)
theorem dX6_init_12 : decode cX6_init 12 = .ok (.aload_n 1, 1) := dk_43 (dk_at dksX6_init_0 12 rfl rfl)
theorem dX6_init_13 : decode cX6_init 13 = .ok (.getfield 9, 3) := dk_180 0 9 (dk_at dksX6_init_0 13 rfl rfl)
theorem dX6_init_16 : decode cX6_init 16 = .ok (.iconst 0, 1) := dk_3 (dk_at dksX6_init_0 16 rfl rfl)
theorem dX6_init_17 : decode cX6_init 17 = .ok (.aload_n 0, 1) := dk_42 (dk_at dksX6_init_0 17 rfl rfl)
theorem dX6_init_18 : decode cX6_init 18 = .ok (.getfield 9, 3) := dk_180 0 9 (dk_at dksX6_init_0 18 rfl rfl)
theorem dX6_init_21 : decode cX6_init 21 = .ok (.iconst 0, 1) := dk_3 (dk_at dksX6_init_0 21 rfl rfl)
theorem dX6_init_22 : decode cX6_init 22 = .ok (.bipush 6, 2) := dk_16 6 (dk_at dksX6_init_0 22 rfl rfl)
theorem dX6_init_24 : decode cX6_init 24 = .ok (.invokestatic 25, 3) := dk_184 0 25 (dk_at dksX6_init_1 0 rfl rfl)
theorem dX6_init_27 : decode cX6_init 27 = .ok (.return_, 1) := dk_177 (dk_at dksX6_init_1 3 rfl rfl)
abbrev cX6_init_2 : ByteArray := prog_2_method_1_code
def yX6_init_2 : MethodName := ⟨RX6, "<init>", "(II)V"⟩
def dkwX6_init_2_0 : List UInt8 := [42, 183, 0, 3, 42, 16, 6, 188, 10, 181, 0, 9, 42, 27, 181, 0, 15, 42, 28, 181, 0, 19, 177]
abbrev dktX6_init_2_0 : List UInt8 := dkwX6_init_2_0 ++ []
theorem dksX6_init_2_0 : cX6_init_2.data.toList.drop 0 = dktX6_init_2_0 := by decide +kernel
theorem dX6_init_2_0 : decode cX6_init_2 0 = .ok (.aload_n 0, 1) := dk_42 (dk_at dksX6_init_2_0 0 rfl rfl)
theorem dX6_init_2_1 : decode cX6_init_2 1 = .ok (.invokespecial 3, 3) := dk_183 0 3 (dk_at dksX6_init_2_0 1 rfl rfl)
theorem dX6_init_2_4 : decode cX6_init_2 4 = .ok (.aload_n 0, 1) := dk_42 (dk_at dksX6_init_2_0 4 rfl rfl)
theorem dX6_init_2_5 : decode cX6_init_2 5 = .ok (.bipush 6, 2) := dk_16 6 (dk_at dksX6_init_2_0 5 rfl rfl)
theorem dX6_init_2_7 : decode cX6_init_2 7 = .ok (.newarray .int, 2) := dk_188_10 (dk_at dksX6_init_2_0 7 rfl rfl)
theorem dX6_init_2_9 : decode cX6_init_2 9 = .ok (.putfield 9, 3) := dk_181 0 9 (dk_at dksX6_init_2_0 9 rfl rfl)
theorem dX6_init_2_12 : decode cX6_init_2 12 = .ok (.aload_n 0, 1) := dk_42 (dk_at dksX6_init_2_0 12 rfl rfl)
theorem dX6_init_2_13 : decode cX6_init_2 13 = .ok (.iload_n 1, 1) := dk_27 (dk_at dksX6_init_2_0 13 rfl rfl)
theorem dX6_init_2_14 : decode cX6_init_2 14 = .ok (.putfield 15, 3) := dk_181 0 15 (dk_at dksX6_init_2_0 14 rfl rfl)
theorem dX6_init_2_17 : decode cX6_init_2 17 = .ok (.aload_n 0, 1) := dk_42 (dk_at dksX6_init_2_0 17 rfl rfl)
theorem dX6_init_2_18 : decode cX6_init_2 18 = .ok (.iload_n 2, 1) := dk_28 (dk_at dksX6_init_2_0 18 rfl rfl)
theorem dX6_init_2_19 : decode cX6_init_2 19 = .ok (.putfield 19, 3) := dk_181 0 19 (dk_at dksX6_init_2_0 19 rfl rfl)
theorem dX6_init_2_22 : decode cX6_init_2 22 = .ok (.return_, 1) := dk_177 (dk_at dksX6_init_2_0 22 rfl rfl)
abbrev cX6_countBids : ByteArray := prog_2_method_3_code
def yX6_countBids : MethodName := ⟨RX6, "countBids", "()I"⟩
def dkwX6_countBids_1 : List UInt8 := [54, 5, 27, 21, 5, 158, 0, 7, 4, 167, 0, 4, 3, 96, 60, 132, 4, 1, 167, 255, 228, 27, 172]
abbrev dktX6_countBids_1 : List UInt8 := dkwX6_countBids_1 ++ []
def dkwX6_countBids_0 : List UInt8 := [3, 60, 42, 180, 0, 9, 77, 44, 190, 62, 3, 54, 4, 21, 4, 29, 162, 0, 28, 44, 21, 4, 46]
abbrev dktX6_countBids_0 : List UInt8 := dkwX6_countBids_0 ++ dktX6_countBids_1
theorem dksX6_countBids_0 : cX6_countBids.data.toList.drop 0 = dktX6_countBids_0 := by decide +kernel
theorem dksX6_countBids_1 : cX6_countBids.data.toList.drop 23 = dktX6_countBids_1 := dk_seg dksX6_countBids_0 23 rfl rfl
theorem dX6_countBids_0 : decode cX6_countBids 0 = .ok (.iconst 0, 1) := dk_3 (dk_at dksX6_countBids_0 0 rfl rfl)
theorem dX6_countBids_1 : decode cX6_countBids 1 = .ok (.istore_n 1, 1) := dk_60 (dk_at dksX6_countBids_0 1 rfl rfl)
theorem dX6_countBids_2 : decode cX6_countBids 2 = .ok (.aload_n 0, 1) := dk_42 (dk_at dksX6_countBids_0 2 rfl rfl)
theorem dX6_countBids_3 : decode cX6_countBids 3 = .ok (.getfield 9, 3) := dk_180 0 9 (dk_at dksX6_countBids_0 3 rfl rfl)
theorem dX6_countBids_6 : decode cX6_countBids 6 = .ok (.astore_n 2, 1) := dk_77 (dk_at dksX6_countBids_0 6 rfl rfl)
theorem dX6_countBids_7 : decode cX6_countBids 7 = .ok (.aload_n 2, 1) := dk_44 (dk_at dksX6_countBids_0 7 rfl rfl)
theorem dX6_countBids_8 : decode cX6_countBids 8 = .ok (.arraylength, 1) := dk_190 (dk_at dksX6_countBids_0 8 rfl rfl)
theorem dX6_countBids_9 : decode cX6_countBids 9 = .ok (.istore_n 3, 1) := dk_62 (dk_at dksX6_countBids_0 9 rfl rfl)
theorem dX6_countBids_10 : decode cX6_countBids 10 = .ok (.iconst 0, 1) := dk_3 (dk_at dksX6_countBids_0 10 rfl rfl)
theorem dX6_countBids_11 : decode cX6_countBids 11 = .ok (.istore 4, 2) := dk_54 4 (dk_at dksX6_countBids_0 11 rfl rfl)
theorem dX6_countBids_13 : decode cX6_countBids 13 = .ok (.iload 4, 2) := dk_21 4 (dk_at dksX6_countBids_0 13 rfl rfl)
theorem dX6_countBids_15 : decode cX6_countBids 15 = .ok (.iload_n 3, 1) := dk_29 (dk_at dksX6_countBids_0 15 rfl rfl)
theorem dX6_countBids_16 : decode cX6_countBids 16 = .ok (.if_icmp .ge 28, 3) := dk_162 0 28 (dk_at dksX6_countBids_0 16 rfl rfl)
theorem dX6_countBids_19 : decode cX6_countBids 19 = .ok (.aload_n 2, 1) := dk_44 (dk_at dksX6_countBids_0 19 rfl rfl)
theorem dX6_countBids_20 : decode cX6_countBids 20 = .ok (.iload 4, 2) := dk_21 4 (dk_at dksX6_countBids_0 20 rfl rfl)
theorem dX6_countBids_22 : decode cX6_countBids 22 = .ok (.iaload, 1) := dk_46 (dk_at dksX6_countBids_0 22 rfl rfl)
theorem dX6_countBids_23 : decode cX6_countBids 23 = .ok (.istore 5, 2) := dk_54 5 (dk_at dksX6_countBids_1 0 rfl rfl)
theorem dX6_countBids_25 : decode cX6_countBids 25 = .ok (.iload_n 1, 1) := dk_27 (dk_at dksX6_countBids_1 2 rfl rfl)
theorem dX6_countBids_26 : decode cX6_countBids 26 = .ok (.iload 5, 2) := dk_21 5 (dk_at dksX6_countBids_1 3 rfl rfl)
theorem dX6_countBids_28 : decode cX6_countBids 28 = .ok (.ifCond .le 7, 3) := dk_158 0 7 (dk_at dksX6_countBids_1 5 rfl rfl)
theorem dX6_countBids_31 : decode cX6_countBids 31 = .ok (.iconst 1, 1) := dk_4 (dk_at dksX6_countBids_1 8 rfl rfl)
theorem dX6_countBids_32 : decode cX6_countBids 32 = .ok (.goto 4, 3) := dk_167 0 4 (dk_at dksX6_countBids_1 9 rfl rfl)
theorem dX6_countBids_35 : decode cX6_countBids 35 = .ok (.iconst 0, 1) := dk_3 (dk_at dksX6_countBids_1 12 rfl rfl)
theorem dX6_countBids_36 : decode cX6_countBids 36 = .ok (.iadd, 1) := dk_96 (dk_at dksX6_countBids_1 13 rfl rfl)
theorem dX6_countBids_37 : decode cX6_countBids 37 = .ok (.istore_n 1, 1) := dk_60 (dk_at dksX6_countBids_1 14 rfl rfl)
theorem dX6_countBids_38 : decode cX6_countBids 38 = .ok (.iinc 4 1, 3) := dk_132 4 1 (dk_at dksX6_countBids_1 15 rfl rfl)
theorem dX6_countBids_41 : decode cX6_countBids 41 = .ok (.goto (-28), 3) := dk_167 255 228 (dk_at dksX6_countBids_1 18 rfl rfl)
theorem dX6_countBids_44 : decode cX6_countBids 44 = .ok (.iload_n 1, 1) := dk_27 (dk_at dksX6_countBids_1 21 rfl rfl)
theorem dX6_countBids_45 : decode cX6_countBids 45 = .ok (.ireturn, 1) := dk_172 (dk_at dksX6_countBids_1 22 rfl rfl)
theorem q128 : (Jvm.Cond.initialized "WindowExchange$Auction") ∈ lw_all := lw_g (lw_at lw_m1 35 rfl) rfl
theorem q710 : (Jvm.Cond.selects "WindowExchange$Auction" ({ cls := "java/lang/Object", name := "getClass", desc := "()Ljava/lang/Class;" } : Jvm.MethodName) ({ cls := "java/lang/Object", name := "getClass", desc := "()Ljava/lang/Class;" } : Jvm.MethodName)) ∈ lw_all := lw_g (lw_at lw_m3 137 rfl) rfl
theorem q1815 : (Jvm.Cond.instantiable "WindowExchange$Auction" (3 : Nat)) ∈ lw_all := lw_g (lw_at lw_m8 42 rfl) rfl
theorem q1817 : (Jvm.Cond.instanceMethod ({ cls := "WindowExchange$Auction", name := "<init>", desc := "(LWindowExchange$Auction;)V" } : Jvm.MethodName)) ∈ lw_all := lw_g (lw_at lw_m8 44 rfl) rfl
theorem q1818 : (Jvm.Cond.code ({ cls := "WindowExchange$Auction", name := "<init>", desc := "(LWindowExchange$Auction;)V" } : Jvm.MethodName) prog_2_method_2_code (2 : Nat) (Option.none : Option Jvm.ClassFile.FieldType)) ∈ lw_all := lw_g (lw_at lw_m8 45 rfl) rfl
theorem q1819 : (Jvm.Cond.methodLink "WindowExchange$Auction" (22 : Nat) ({ cls := "WindowExchange$Auction", name := "<init>", desc := "(II)V" } : Jvm.MethodName)) ∈ lw_all := lw_g (lw_at lw_m8 46 rfl) rfl
theorem q1820 : (Jvm.Cond.instanceMethod ({ cls := "WindowExchange$Auction", name := "<init>", desc := "(II)V" } : Jvm.MethodName)) ∈ lw_all := lw_g (lw_at lw_m8 47 rfl) rfl
theorem q1821 : (Jvm.Cond.code ({ cls := "WindowExchange$Auction", name := "<init>", desc := "(II)V" } : Jvm.MethodName) prog_2_method_1_code (3 : Nat) (Option.none : Option Jvm.ClassFile.FieldType)) ∈ lw_all := lw_g (lw_at lw_m8 48 rfl) rfl
theorem q1822 : (Jvm.Cond.methodLink "WindowExchange$Auction" (3 : Nat) ({ cls := "java/lang/Object", name := "<init>", desc := "()V" } : Jvm.MethodName)) ∈ lw_all := lw_g (lw_at lw_m8 49 rfl) rfl
theorem q1823 : (Jvm.Cond.fieldLink "WindowExchange$Auction" (15 : Nat) "WindowExchange$Auction" "room" "I") ∈ lw_all := lw_g (lw_at lw_m8 50 rfl) rfl
theorem q1825 : (Jvm.Cond.fieldLink "WindowExchange$Auction" (19 : Nat) "WindowExchange$Auction" "reservePrice" "I") ∈ lw_all := lw_g (lw_at lw_m8 52 rfl) rfl
theorem q1827 : (Jvm.Cond.fieldLink "WindowExchange$Auction" (9 : Nat) "WindowExchange$Auction" "amounts" "[I") ∈ lw_all := lw_g (lw_at lw_m8 54 rfl) rfl
theorem q1829 : (Jvm.Cond.laysFinal "WindowExchange$Auction" "WindowExchange$Auction" "room" "I") ∈ lw_all := lw_g (lw_at lw_m8 56 rfl) rfl
theorem q1830 : (Jvm.Cond.soleField "WindowExchange$Auction" "room") ∈ lw_all := lw_g (lw_at lw_m8 57 rfl) rfl
theorem q1831 : (Jvm.Cond.laysFinal "WindowExchange$Auction" "WindowExchange$Auction" "reservePrice" "I") ∈ lw_all := lw_g (lw_at lw_m8 58 rfl) rfl
theorem q1832 : (Jvm.Cond.soleField "WindowExchange$Auction" "reservePrice") ∈ lw_all := lw_g (lw_at lw_m8 59 rfl) rfl
theorem q1833 : (Jvm.Cond.laysFinal "WindowExchange$Auction" "WindowExchange$Auction" "amounts" "[I") ∈ lw_all := lw_g (lw_at lw_m8 60 rfl) rfl
theorem q1834 : (Jvm.Cond.soleField "WindowExchange$Auction" "amounts") ∈ lw_all := lw_g (lw_at lw_m8 61 rfl) rfl
theorem q1835 : (Jvm.Cond.superclass "WindowExchange$Auction" "java/lang/Object") ∈ lw_all := lw_g (lw_at lw_m8 62 rfl) rfl
theorem q1836 : (Jvm.Cond.methodLink "WindowExchange$Auction" (25 : Nat) ({ cls := "java/lang/System", name := "arraycopy", desc := "(Ljava/lang/Object;ILjava/lang/Object;II)V" } : Jvm.MethodName)) ∈ lw_all := lw_g (lw_at lw_m8 63 rfl) rfl
theorem q2144 : (Jvm.Cond.instanceMethod ({ cls := "WindowExchange$Auction", name := "countBids", desc := "()I" } : Jvm.MethodName)) ∈ lw_all := lw_g (lw_at lw_m9 131 rfl) rfl
theorem q2145 : (Jvm.Cond.selects "WindowExchange$Auction" ({ cls := "WindowExchange$Auction", name := "countBids", desc := "()I" } : Jvm.MethodName) ({ cls := "WindowExchange$Auction", name := "countBids", desc := "()I" } : Jvm.MethodName)) ∈ lw_all := lw_g (lw_at lw_m9 132 rfl) rfl
theorem q2146 : (Jvm.Cond.code ({ cls := "WindowExchange$Auction", name := "countBids", desc := "()I" } : Jvm.MethodName) prog_2_method_3_code (6 : Nat) (Option.some Jvm.ClassFile.FieldType.int)) ∈ lw_all := lw_g (lw_at lw_m9 133 rfl) rfl
theorem q3234 : (Jvm.Cond.castable "WindowExchange$Auction" "java/lang/Object") ∈ lw_tbl := lw_at lw_m14 21 rfl
theorem in_X6 : ∀ w ∈ wsX60, w ∈ lw_all := lw_in wsX60 [1829, 1831, 1833] (by decide +kernel) (by decide +kernel)
/-! WindowExchange$ByPriority -/
set_option maxRecDepth 100000
def RX7 : String := "WindowExchange$ByPriority"
def TX7 : u_T := fun k => match k with
  | _ => ("WindowExchange$ByPriority", "areBids", "Z", true)
def tyX7 : Nat → FieldType := fun k => match k with
  | _ => .boolean
abbrev wsX70 : List Cond := u_ws RX7 TX7 1
theorem nmX7 : ∀ a, a < 1 → ∀ b, b < 1 → a ≠ b → (TX7 a).2.1 ≠ (TX7 b).2.1 := by decide +kernel
theorem tyX7_ok : ∀ k, k < 1 → parseFieldDescriptor (TX7 k).2.2.1 = some (tyX7 k) := by decide +kernel
abbrev cX7_init : ByteArray := prog_3_method_1_code
def yX7_init : MethodName := ⟨RX7, "<init>", "(Z)V"⟩
def dkwX7_init_0 : List UInt8 := [42, 183, 0, 1, 42, 27, 181, 0, 7, 177]
abbrev dktX7_init_0 : List UInt8 := dkwX7_init_0 ++ []
theorem dksX7_init_0 : cX7_init.data.toList.drop 0 = dktX7_init_0 := by decide +kernel
theorem dX7_init_0 : decode cX7_init 0 = .ok (.aload_n 0, 1) := dk_42 (dk_at dksX7_init_0 0 rfl rfl)
theorem dX7_init_1 : decode cX7_init 1 = .ok (.invokespecial 1, 3) := dk_183 0 1 (dk_at dksX7_init_0 1 rfl rfl)
theorem dX7_init_4 : decode cX7_init 4 = .ok (.aload_n 0, 1) := dk_42 (dk_at dksX7_init_0 4 rfl rfl)
theorem dX7_init_5 : decode cX7_init 5 = .ok (.iload_n 1, 1) := dk_27 (dk_at dksX7_init_0 5 rfl rfl)
theorem dX7_init_6 : decode cX7_init 6 = .ok (.putfield 7, 3) := dk_181 0 7 (dk_at dksX7_init_0 6 rfl rfl)
theorem dX7_init_9 : decode cX7_init 9 = .ok (.return_, 1) := dk_177 (dk_at dksX7_init_0 9 rfl rfl)
abbrev cX7_compare : ByteArray := prog_3_method_3_code
def yX7_compare : MethodName := ⟨RX7, "compare", "(Ljava/lang/Object;Ljava/lang/Object;)I"⟩
def dkwX7_compare_0 : List UInt8 := [42, 43, 192, 0, 14, 44, 192, 0, 14, 182, 0, 28, 172]
abbrev dktX7_compare_0 : List UInt8 := dkwX7_compare_0 ++ []
theorem dksX7_compare_0 : cX7_compare.data.toList.drop 0 = dktX7_compare_0 := by decide +kernel
theorem dX7_compare_0 : decode cX7_compare 0 = .ok (.aload_n 0, 1) := dk_42 (dk_at dksX7_compare_0 0 rfl rfl)
theorem dX7_compare_1 : decode cX7_compare 1 = .ok (.aload_n 1, 1) := dk_43 (dk_at dksX7_compare_0 1 rfl rfl)
theorem dX7_compare_2 : decode cX7_compare 2 = .ok (.checkcast 14, 3) := dk_192 0 14 (dk_at dksX7_compare_0 2 rfl rfl)
theorem dX7_compare_5 : decode cX7_compare 5 = .ok (.aload_n 2, 1) := dk_44 (dk_at dksX7_compare_0 5 rfl rfl)
theorem dX7_compare_6 : decode cX7_compare 6 = .ok (.checkcast 14, 3) := dk_192 0 14 (dk_at dksX7_compare_0 6 rfl rfl)
theorem dX7_compare_9 : decode cX7_compare 9 = .ok (.invokevirtual 28, 3) := dk_182 0 28 (dk_at dksX7_compare_0 9 rfl rfl)
theorem dX7_compare_12 : decode cX7_compare 12 = .ok (.ireturn, 1) := dk_172 (dk_at dksX7_compare_0 12 rfl rfl)
abbrev cX7_compare_2 : ByteArray := prog_3_method_2_code
def yX7_compare_2 : MethodName := ⟨RX7, "compare", "(LWindowExchange$Order;LWindowExchange$Order;)I"⟩
def dkwX7_compare_2_2 : List UInt8 := [180, 0, 25, 184, 0, 19, 172]
abbrev dktX7_compare_2_2 : List UInt8 := dkwX7_compare_2_2 ++ []
def dkwX7_compare_2_1 : List UInt8 := [180, 0, 13, 44, 180, 0, 13, 184, 0, 19, 62, 29, 153, 0, 7, 29, 167, 0, 14, 43, 180, 0, 25, 44]
abbrev dktX7_compare_2_1 : List UInt8 := dkwX7_compare_2_1 ++ dktX7_compare_2_2
def dkwX7_compare_2_0 : List UInt8 := [42, 180, 0, 7, 153, 0, 17, 44, 180, 0, 13, 43, 180, 0, 13, 184, 0, 19, 167, 0, 14, 43]
abbrev dktX7_compare_2_0 : List UInt8 := dkwX7_compare_2_0 ++ dktX7_compare_2_1
theorem dksX7_compare_2_0 : cX7_compare_2.data.toList.drop 0 = dktX7_compare_2_0 := by decide +kernel
theorem dksX7_compare_2_1 : cX7_compare_2.data.toList.drop 22 = dktX7_compare_2_1 := dk_seg dksX7_compare_2_0 22 rfl rfl
theorem dksX7_compare_2_2 : cX7_compare_2.data.toList.drop 46 = dktX7_compare_2_2 := dk_seg dksX7_compare_2_1 24 rfl rfl
theorem dX7_compare_2_0 : decode cX7_compare_2 0 = .ok (.aload_n 0, 1) := dk_42 (dk_at dksX7_compare_2_0 0 rfl rfl)
theorem dX7_compare_2_1 : decode cX7_compare_2 1 = .ok (.getfield 7, 3) := dk_180 0 7 (dk_at dksX7_compare_2_0 1 rfl rfl)
theorem dX7_compare_2_4 : decode cX7_compare_2 4 = .ok (.ifCond .eq 17, 3) := dk_153 0 17 (dk_at dksX7_compare_2_0 4 rfl rfl)
theorem dX7_compare_2_7 : decode cX7_compare_2 7 = .ok (.aload_n 2, 1) := dk_44 (dk_at dksX7_compare_2_0 7 rfl rfl)
theorem dX7_compare_2_8 : decode cX7_compare_2 8 = .ok (.getfield 13, 3) := dk_180 0 13 (dk_at dksX7_compare_2_0 8 rfl rfl)
theorem dX7_compare_2_11 : decode cX7_compare_2 11 = .ok (.aload_n 1, 1) := dk_43 (dk_at dksX7_compare_2_0 11 rfl rfl)
theorem dX7_compare_2_12 : decode cX7_compare_2 12 = .ok (.getfield 13, 3) := dk_180 0 13 (dk_at dksX7_compare_2_0 12 rfl rfl)
theorem dX7_compare_2_15 : decode cX7_compare_2 15 = .ok (.invokestatic 19, 3) := dk_184 0 19 (dk_at dksX7_compare_2_0 15 rfl rfl)
theorem dX7_compare_2_18 : decode cX7_compare_2 18 = .ok (.goto 14, 3) := dk_167 0 14 (dk_at dksX7_compare_2_0 18 rfl rfl)
theorem dX7_compare_2_21 : decode cX7_compare_2 21 = .ok (.aload_n 1, 1) := dk_43 (dk_at dksX7_compare_2_0 21 rfl rfl)
theorem dX7_compare_2_22 : decode cX7_compare_2 22 = .ok (.getfield 13, 3) := dk_180 0 13 (dk_at dksX7_compare_2_1 0 rfl rfl)
theorem dX7_compare_2_25 : decode cX7_compare_2 25 = .ok (.aload_n 2, 1) := dk_44 (dk_at dksX7_compare_2_1 3 rfl rfl)
theorem dX7_compare_2_26 : decode cX7_compare_2 26 = .ok (.getfield 13, 3) := dk_180 0 13 (dk_at dksX7_compare_2_1 4 rfl rfl)
theorem dX7_compare_2_29 : decode cX7_compare_2 29 = .ok (.invokestatic 19, 3) := dk_184 0 19 (dk_at dksX7_compare_2_1 7 rfl rfl)
theorem dX7_compare_2_32 : decode cX7_compare_2 32 = .ok (.istore_n 3, 1) := dk_62 (dk_at dksX7_compare_2_1 10 rfl rfl)
theorem dX7_compare_2_33 : decode cX7_compare_2 33 = .ok (.iload_n 3, 1) := dk_29 (dk_at dksX7_compare_2_1 11 rfl rfl)
theorem dX7_compare_2_34 : decode cX7_compare_2 34 = .ok (.ifCond .eq 7, 3) := dk_153 0 7 (dk_at dksX7_compare_2_1 12 rfl rfl)
theorem dX7_compare_2_37 : decode cX7_compare_2 37 = .ok (.iload_n 3, 1) := dk_29 (dk_at dksX7_compare_2_1 15 rfl rfl)
theorem dX7_compare_2_38 : decode cX7_compare_2 38 = .ok (.goto 14, 3) := dk_167 0 14 (dk_at dksX7_compare_2_1 16 rfl rfl)
theorem dX7_compare_2_41 : decode cX7_compare_2 41 = .ok (.aload_n 1, 1) := dk_43 (dk_at dksX7_compare_2_1 19 rfl rfl)
theorem dX7_compare_2_42 : decode cX7_compare_2 42 = .ok (.getfield 25, 3) := dk_180 0 25 (dk_at dksX7_compare_2_1 20 rfl rfl)
theorem dX7_compare_2_45 : decode cX7_compare_2 45 = .ok (.aload_n 2, 1) := dk_44 (dk_at dksX7_compare_2_1 23 rfl rfl)
theorem dX7_compare_2_46 : decode cX7_compare_2 46 = .ok (.getfield 25, 3) := dk_180 0 25 (dk_at dksX7_compare_2_2 0 rfl rfl)
theorem dX7_compare_2_49 : decode cX7_compare_2 49 = .ok (.invokestatic 19, 3) := dk_184 0 19 (dk_at dksX7_compare_2_2 3 rfl rfl)
theorem dX7_compare_2_52 : decode cX7_compare_2 52 = .ok (.ireturn, 1) := dk_172 (dk_at dksX7_compare_2_2 6 rfl rfl)
theorem q135 : (Jvm.Cond.initialized "WindowExchange$ByPriority") ∈ lw_all := lw_g (lw_at lw_m1 42 rfl) rfl
theorem q630 : (Jvm.Cond.instantiable "WindowExchange$ByPriority" (1 : Nat)) ∈ lw_all := lw_g (lw_at lw_m3 57 rfl) rfl
theorem q632 : (Jvm.Cond.instanceMethod ({ cls := "WindowExchange$ByPriority", name := "<init>", desc := "(Z)V" } : Jvm.MethodName)) ∈ lw_all := lw_g (lw_at lw_m3 59 rfl) rfl
theorem q633 : (Jvm.Cond.code ({ cls := "WindowExchange$ByPriority", name := "<init>", desc := "(Z)V" } : Jvm.MethodName) prog_3_method_1_code (2 : Nat) (Option.none : Option Jvm.ClassFile.FieldType)) ∈ lw_all := lw_g (lw_at lw_m3 60 rfl) rfl
theorem q634 : (Jvm.Cond.methodLink "WindowExchange$ByPriority" (1 : Nat) ({ cls := "java/lang/Object", name := "<init>", desc := "()V" } : Jvm.MethodName)) ∈ lw_all := lw_g (lw_at lw_m3 61 rfl) rfl
theorem q635 : (Jvm.Cond.fieldLink "WindowExchange$ByPriority" (7 : Nat) "WindowExchange$ByPriority" "areBids" "Z") ∈ lw_all := lw_g (lw_at lw_m3 62 rfl) rfl
theorem q636 : (Jvm.Cond.laysFinal "WindowExchange$ByPriority" "WindowExchange$ByPriority" "areBids" "Z") ∈ lw_all := lw_g (lw_at lw_m3 63 rfl) rfl
theorem q637 : (Jvm.Cond.soleField "WindowExchange$ByPriority" "areBids") ∈ lw_all := lw_g (lw_at lw_m3 64 rfl) rfl
theorem q638 : (Jvm.Cond.superclass "WindowExchange$ByPriority" "java/lang/Object") ∈ lw_all := lw_g (lw_at lw_m3 65 rfl) rfl
theorem q711 : (Jvm.Cond.selects "WindowExchange$ByPriority" ({ cls := "java/lang/Object", name := "getClass", desc := "()Ljava/lang/Class;" } : Jvm.MethodName) ({ cls := "java/lang/Object", name := "getClass", desc := "()Ljava/lang/Class;" } : Jvm.MethodName)) ∈ lw_all := lw_g (lw_at lw_m3 138 rfl) rfl
theorem q765 : (Jvm.Cond.castable "WindowExchange$ByPriority" "java/util/Comparator") ∈ lw_tbl := lw_at lw_m3 192 rfl
theorem q766 : (Jvm.Cond.selects "WindowExchange$ByPriority" ({ cls := "java/util/Comparator", name := "compare", desc := "(Ljava/lang/Object;Ljava/lang/Object;)I" } : Jvm.MethodName) ({ cls := "WindowExchange$ByPriority", name := "compare", desc := "(Ljava/lang/Object;Ljava/lang/Object;)I" } : Jvm.MethodName)) ∈ lw_all := lw_g (lw_at lw_m3 193 rfl) rfl
theorem q767 : (Jvm.Cond.unhidden "WindowExchange$ByPriority" "compare" "(Ljava/lang/Object;Ljava/lang/Object;)I") ∈ lw_tbl := lw_at lw_m3 194 rfl
theorem q768 : (Jvm.Cond.instanceMethod ({ cls := "WindowExchange$ByPriority", name := "compare", desc := "(Ljava/lang/Object;Ljava/lang/Object;)I" } : Jvm.MethodName)) ∈ lw_all := lw_g (lw_at lw_m3 195 rfl) rfl
theorem q769 : (Jvm.Cond.publicMethod ({ cls := "WindowExchange$ByPriority", name := "compare", desc := "(Ljava/lang/Object;Ljava/lang/Object;)I" } : Jvm.MethodName)) ∈ lw_tbl := lw_at lw_m3 196 rfl
theorem q770 : (Jvm.Cond.code ({ cls := "WindowExchange$ByPriority", name := "compare", desc := "(Ljava/lang/Object;Ljava/lang/Object;)I" } : Jvm.MethodName) prog_3_method_3_code (3 : Nat) (Option.some Jvm.ClassFile.FieldType.int)) ∈ lw_all := lw_g (lw_at lw_m3 197 rfl) rfl
theorem q771 : (Jvm.Cond.classLink "WindowExchange$ByPriority" (14 : Nat) "WindowExchange$Order") ∈ lw_all := lw_g (lw_at lw_m3 198 rfl) rfl
theorem q772 : (Jvm.Cond.methodLink "WindowExchange$ByPriority" (28 : Nat) ({ cls := "WindowExchange$ByPriority", name := "compare", desc := "(LWindowExchange$Order;LWindowExchange$Order;)I" } : Jvm.MethodName)) ∈ lw_all := lw_g (lw_at lw_m3 199 rfl) rfl
theorem q773 : (Jvm.Cond.instanceMethod ({ cls := "WindowExchange$ByPriority", name := "compare", desc := "(LWindowExchange$Order;LWindowExchange$Order;)I" } : Jvm.MethodName)) ∈ lw_all := lw_g (lw_at lw_m3 200 rfl) rfl
theorem q774 : (Jvm.Cond.selects "WindowExchange$ByPriority" ({ cls := "WindowExchange$ByPriority", name := "compare", desc := "(LWindowExchange$Order;LWindowExchange$Order;)I" } : Jvm.MethodName) ({ cls := "WindowExchange$ByPriority", name := "compare", desc := "(LWindowExchange$Order;LWindowExchange$Order;)I" } : Jvm.MethodName)) ∈ lw_all := lw_g (lw_at lw_m3 201 rfl) rfl
theorem q775 : (Jvm.Cond.code ({ cls := "WindowExchange$ByPriority", name := "compare", desc := "(LWindowExchange$Order;LWindowExchange$Order;)I" } : Jvm.MethodName) prog_3_method_2_code (4 : Nat) (Option.some Jvm.ClassFile.FieldType.int)) ∈ lw_all := lw_g (lw_at lw_m3 202 rfl) rfl
theorem q776 : (Jvm.Cond.methodLink "WindowExchange$ByPriority" (19 : Nat) ({ cls := "java/lang/Integer", name := "compare", desc := "(II)I" } : Jvm.MethodName)) ∈ lw_all := lw_g (lw_at lw_m3 203 rfl) rfl
theorem q1679 : (Jvm.Cond.fieldLinkNest "WindowExchange$ByPriority" (25 : Nat) "WindowExchange$Order" "number" "I" "WindowExchange") ∈ lw_tbl := lw_at lw_m7 146 rfl
theorem q1689 : (Jvm.Cond.fieldLinkNest "WindowExchange$ByPriority" (13 : Nat) "WindowExchange$Order" "price" "I" "WindowExchange") ∈ lw_tbl := lw_at lw_m7 156 rfl
theorem q3239 : (Jvm.Cond.castable "WindowExchange$ByPriority" "java/lang/Object") ∈ lw_tbl := lw_at lw_m14 26 rfl
theorem in_X7 : ∀ w ∈ wsX70, w ∈ lw_all := lw_in wsX70 [636] (by decide +kernel) (by decide +kernel)
/-! WindowExchange$Contract -/
set_option maxRecDepth 100000
def RX8 : String := "WindowExchange$Contract"
def TX8 : u_T := fun k => match k with
  | 0 => ("WindowExchange$Contract", "seller", "I", true)
  | 1 => ("WindowExchange$Contract", "buyer", "I", true)
  | 2 => ("WindowExchange$Contract", "units", "I", true)
  | 3 => ("WindowExchange$Contract", "price", "I", true)
  | _ => ("WindowExchange$Contract", "settlementDay", "I", true)
def tyX8 : Nat → FieldType := fun k => match k with
  | 0 => .int
  | 1 => .int
  | 2 => .int
  | 3 => .int
  | _ => .int
abbrev wsX80 : List Cond := u_ws RX8 TX8 5
theorem nmX8 : ∀ a, a < 5 → ∀ b, b < 5 → a ≠ b → (TX8 a).2.1 ≠ (TX8 b).2.1 := by decide +kernel
theorem tyX8_ok : ∀ k, k < 5 → parseFieldDescriptor (TX8 k).2.2.1 = some (tyX8 k) := by decide +kernel
abbrev cX8_signFor : ByteArray := prog_6_method_3_code
def yX8_signFor : MethodName := ⟨RX8, "signFor", "(I)I"⟩
def dkwX8_signFor_1 : List UInt8 := [3, 172]
abbrev dktX8_signFor_1 : List UInt8 := dkwX8_signFor_1 ++ []
def dkwX8_signFor_0 : List UInt8 := [27, 42, 180, 0, 13, 160, 0, 7, 4, 167, 0, 16, 27, 42, 180, 0, 7, 160, 0, 7, 2, 167, 0, 4]
abbrev dktX8_signFor_0 : List UInt8 := dkwX8_signFor_0 ++ dktX8_signFor_1
theorem dksX8_signFor_0 : cX8_signFor.data.toList.drop 0 = dktX8_signFor_0 := by decide +kernel
theorem dksX8_signFor_1 : cX8_signFor.data.toList.drop 24 = dktX8_signFor_1 := dk_seg dksX8_signFor_0 24 rfl rfl
theorem dX8_signFor_0 : decode cX8_signFor 0 = .ok (.iload_n 1, 1) := dk_27 (dk_at dksX8_signFor_0 0 rfl rfl)
theorem dX8_signFor_1 : decode cX8_signFor 1 = .ok (.aload_n 0, 1) := dk_42 (dk_at dksX8_signFor_0 1 rfl rfl)
theorem dX8_signFor_2 : decode cX8_signFor 2 = .ok (.getfield 13, 3) := dk_180 0 13 (dk_at dksX8_signFor_0 2 rfl rfl)
theorem dX8_signFor_5 : decode cX8_signFor 5 = .ok (.if_icmp .ne 7, 3) := dk_160 0 7 (dk_at dksX8_signFor_0 5 rfl rfl)
theorem dX8_signFor_8 : decode cX8_signFor 8 = .ok (.iconst 1, 1) := dk_4 (dk_at dksX8_signFor_0 8 rfl rfl)
theorem dX8_signFor_9 : decode cX8_signFor 9 = .ok (.goto 16, 3) := dk_167 0 16 (dk_at dksX8_signFor_0 9 rfl rfl)
theorem dX8_signFor_12 : decode cX8_signFor 12 = .ok (.iload_n 1, 1) := dk_27 (dk_at dksX8_signFor_0 12 rfl rfl)
theorem dX8_signFor_13 : decode cX8_signFor 13 = .ok (.aload_n 0, 1) := dk_42 (dk_at dksX8_signFor_0 13 rfl rfl)
theorem dX8_signFor_14 : decode cX8_signFor 14 = .ok (.getfield 7, 3) := dk_180 0 7 (dk_at dksX8_signFor_0 14 rfl rfl)
theorem dX8_signFor_17 : decode cX8_signFor 17 = .ok (.if_icmp .ne 7, 3) := dk_160 0 7 (dk_at dksX8_signFor_0 17 rfl rfl)
theorem dX8_signFor_20 : decode cX8_signFor 20 = .ok (.iconst (-1), 1) := dk_2 (dk_at dksX8_signFor_0 20 rfl rfl)
theorem dX8_signFor_21 : decode cX8_signFor 21 = .ok (.goto 4, 3) := dk_167 0 4 (dk_at dksX8_signFor_0 21 rfl rfl)
theorem dX8_signFor_24 : decode cX8_signFor 24 = .ok (.iconst 0, 1) := dk_3 (dk_at dksX8_signFor_1 0 rfl rfl)
theorem dX8_signFor_25 : decode cX8_signFor 25 = .ok (.ireturn, 1) := dk_172 (dk_at dksX8_signFor_1 1 rfl rfl)
abbrev cX8_gainAt : ByteArray := prog_6_method_2_code
def yX8_gainAt : MethodName := ⟨RX8, "gainAt", "(I)I"⟩
def dkwX8_gainAt_0 : List UInt8 := [27, 42, 180, 0, 19, 100, 42, 180, 0, 16, 104, 172]
abbrev dktX8_gainAt_0 : List UInt8 := dkwX8_gainAt_0 ++ []
theorem dksX8_gainAt_0 : cX8_gainAt.data.toList.drop 0 = dktX8_gainAt_0 := by decide +kernel
theorem dX8_gainAt_0 : decode cX8_gainAt 0 = .ok (.iload_n 1, 1) := dk_27 (dk_at dksX8_gainAt_0 0 rfl rfl)
theorem dX8_gainAt_1 : decode cX8_gainAt 1 = .ok (.aload_n 0, 1) := dk_42 (dk_at dksX8_gainAt_0 1 rfl rfl)
theorem dX8_gainAt_2 : decode cX8_gainAt 2 = .ok (.getfield 19, 3) := dk_180 0 19 (dk_at dksX8_gainAt_0 2 rfl rfl)
theorem dX8_gainAt_5 : decode cX8_gainAt 5 = .ok (.isub, 1) := dk_100 (dk_at dksX8_gainAt_0 5 rfl rfl)
theorem dX8_gainAt_6 : decode cX8_gainAt 6 = .ok (.aload_n 0, 1) := dk_42 (dk_at dksX8_gainAt_0 6 rfl rfl)
theorem dX8_gainAt_7 : decode cX8_gainAt 7 = .ok (.getfield 16, 3) := dk_180 0 16 (dk_at dksX8_gainAt_0 7 rfl rfl)
theorem dX8_gainAt_10 : decode cX8_gainAt 10 = .ok (.imul, 1) := dk_104 (dk_at dksX8_gainAt_0 10 rfl rfl)
theorem dX8_gainAt_11 : decode cX8_gainAt 11 = .ok (.ireturn, 1) := dk_172 (dk_at dksX8_gainAt_0 11 rfl rfl)
abbrev cX8_units : ByteArray := prog_6_method_9_code
def yX8_units : MethodName := ⟨RX8, "units", "()I"⟩
theorem dX8_units_0 : decode cX8_units 0 = .ok (.aload_n 0, 1) := by decide +kernel
theorem dX8_units_1 : decode cX8_units 1 = .ok (.getfield 16, 3) := by decide +kernel
theorem dX8_units_4 : decode cX8_units 4 = .ok (.ireturn, 1) := by decide +kernel
abbrev cX8_init : ByteArray := prog_6_method_1_code
def yX8_init : MethodName := ⟨RX8, "<init>", "(IIIII)V"⟩
def dkwX8_init_1 : List UInt8 := [181, 0, 19, 42, 21, 5, 181, 0, 22, 177]
abbrev dktX8_init_1 : List UInt8 := dkwX8_init_1 ++ []
def dkwX8_init_0 : List UInt8 := [42, 183, 0, 1, 42, 27, 181, 0, 7, 42, 28, 181, 0, 13, 42, 29, 181, 0, 16, 42, 21, 4]
abbrev dktX8_init_0 : List UInt8 := dkwX8_init_0 ++ dktX8_init_1
theorem dksX8_init_0 : cX8_init.data.toList.drop 0 = dktX8_init_0 := by decide +kernel
theorem dksX8_init_1 : cX8_init.data.toList.drop 22 = dktX8_init_1 := dk_seg dksX8_init_0 22 rfl rfl
theorem dX8_init_0 : decode cX8_init 0 = .ok (.aload_n 0, 1) := dk_42 (dk_at dksX8_init_0 0 rfl rfl)
theorem dX8_init_1 : decode cX8_init 1 = .ok (.invokespecial 1, 3) := dk_183 0 1 (dk_at dksX8_init_0 1 rfl rfl)
theorem dX8_init_4 : decode cX8_init 4 = .ok (.aload_n 0, 1) := dk_42 (dk_at dksX8_init_0 4 rfl rfl)
theorem dX8_init_5 : decode cX8_init 5 = .ok (.iload_n 1, 1) := dk_27 (dk_at dksX8_init_0 5 rfl rfl)
theorem dX8_init_6 : decode cX8_init 6 = .ok (.putfield 7, 3) := dk_181 0 7 (dk_at dksX8_init_0 6 rfl rfl)
theorem dX8_init_9 : decode cX8_init 9 = .ok (.aload_n 0, 1) := dk_42 (dk_at dksX8_init_0 9 rfl rfl)
theorem dX8_init_10 : decode cX8_init 10 = .ok (.iload_n 2, 1) := dk_28 (dk_at dksX8_init_0 10 rfl rfl)
theorem dX8_init_11 : decode cX8_init 11 = .ok (.putfield 13, 3) := dk_181 0 13 (dk_at dksX8_init_0 11 rfl rfl)
theorem dX8_init_14 : decode cX8_init 14 = .ok (.aload_n 0, 1) := dk_42 (dk_at dksX8_init_0 14 rfl rfl)
theorem dX8_init_15 : decode cX8_init 15 = .ok (.iload_n 3, 1) := dk_29 (dk_at dksX8_init_0 15 rfl rfl)
theorem dX8_init_16 : decode cX8_init 16 = .ok (.putfield 16, 3) := dk_181 0 16 (dk_at dksX8_init_0 16 rfl rfl)
theorem dX8_init_19 : decode cX8_init 19 = .ok (.aload_n 0, 1) := dk_42 (dk_at dksX8_init_0 19 rfl rfl)
theorem dX8_init_20 : decode cX8_init 20 = .ok (.iload 4, 2) := dk_21 4 (dk_at dksX8_init_0 20 rfl rfl)
theorem dX8_init_22 : decode cX8_init 22 = .ok (.putfield 19, 3) := dk_181 0 19 (dk_at dksX8_init_1 0 rfl rfl)
theorem dX8_init_25 : decode cX8_init 25 = .ok (.aload_n 0, 1) := dk_42 (dk_at dksX8_init_1 3 rfl rfl)
theorem dX8_init_26 : decode cX8_init 26 = .ok (.iload 5, 2) := dk_21 5 (dk_at dksX8_init_1 4 rfl rfl)
theorem dX8_init_28 : decode cX8_init 28 = .ok (.putfield 22, 3) := dk_181 0 22 (dk_at dksX8_init_1 6 rfl rfl)
theorem dX8_init_31 : decode cX8_init 31 = .ok (.return_, 1) := dk_177 (dk_at dksX8_init_1 9 rfl rfl)
abbrev cX8_settlementDay : ByteArray := prog_6_method_11_code
def yX8_settlementDay : MethodName := ⟨RX8, "settlementDay", "()I"⟩
theorem dX8_settlementDay_0 : decode cX8_settlementDay 0 = .ok (.aload_n 0, 1) := by decide +kernel
theorem dX8_settlementDay_1 : decode cX8_settlementDay 1 = .ok (.getfield 22, 3) := by decide +kernel
theorem dX8_settlementDay_4 : decode cX8_settlementDay 4 = .ok (.ireturn, 1) := by decide +kernel
abbrev cX8_seller : ByteArray := prog_6_method_7_code
def yX8_seller : MethodName := ⟨RX8, "seller", "()I"⟩
theorem dX8_seller_0 : decode cX8_seller 0 = .ok (.aload_n 0, 1) := by decide +kernel
theorem dX8_seller_1 : decode cX8_seller 1 = .ok (.getfield 7, 3) := by decide +kernel
theorem dX8_seller_4 : decode cX8_seller 4 = .ok (.ireturn, 1) := by decide +kernel
abbrev cX8_buyer : ByteArray := prog_6_method_8_code
def yX8_buyer : MethodName := ⟨RX8, "buyer", "()I"⟩
theorem dX8_buyer_0 : decode cX8_buyer 0 = .ok (.aload_n 0, 1) := by decide +kernel
theorem dX8_buyer_1 : decode cX8_buyer 1 = .ok (.getfield 13, 3) := by decide +kernel
theorem dX8_buyer_4 : decode cX8_buyer 4 = .ok (.ireturn, 1) := by decide +kernel
theorem q140 : (Jvm.Cond.initialized "WindowExchange$Contract") ∈ lw_all := lw_g (lw_at lw_m1 47 rfl) rfl
theorem q713 : (Jvm.Cond.selects "WindowExchange$Contract" ({ cls := "java/lang/Object", name := "getClass", desc := "()Ljava/lang/Class;" } : Jvm.MethodName) ({ cls := "java/lang/Object", name := "getClass", desc := "()Ljava/lang/Class;" } : Jvm.MethodName)) ∈ lw_all := lw_g (lw_at lw_m3 140 rfl) rfl
theorem q1301 : (Jvm.Cond.instanceMethod ({ cls := "WindowExchange$Contract", name := "signFor", desc := "(I)I" } : Jvm.MethodName)) ∈ lw_all := lw_g (lw_at lw_m6 8 rfl) rfl
theorem q1302 : (Jvm.Cond.selects "WindowExchange$Contract" ({ cls := "WindowExchange$Contract", name := "signFor", desc := "(I)I" } : Jvm.MethodName) ({ cls := "WindowExchange$Contract", name := "signFor", desc := "(I)I" } : Jvm.MethodName)) ∈ lw_all := lw_g (lw_at lw_m6 9 rfl) rfl
theorem q1303 : (Jvm.Cond.code ({ cls := "WindowExchange$Contract", name := "signFor", desc := "(I)I" } : Jvm.MethodName) prog_6_method_3_code (2 : Nat) (Option.some Jvm.ClassFile.FieldType.int)) ∈ lw_all := lw_g (lw_at lw_m6 10 rfl) rfl
theorem q1305 : (Jvm.Cond.instanceMethod ({ cls := "WindowExchange$Contract", name := "gainAt", desc := "(I)I" } : Jvm.MethodName)) ∈ lw_all := lw_g (lw_at lw_m6 12 rfl) rfl
theorem q1306 : (Jvm.Cond.selects "WindowExchange$Contract" ({ cls := "WindowExchange$Contract", name := "gainAt", desc := "(I)I" } : Jvm.MethodName) ({ cls := "WindowExchange$Contract", name := "gainAt", desc := "(I)I" } : Jvm.MethodName)) ∈ lw_all := lw_g (lw_at lw_m6 13 rfl) rfl
theorem q1307 : (Jvm.Cond.code ({ cls := "WindowExchange$Contract", name := "gainAt", desc := "(I)I" } : Jvm.MethodName) prog_6_method_2_code (2 : Nat) (Option.some Jvm.ClassFile.FieldType.int)) ∈ lw_all := lw_g (lw_at lw_m6 14 rfl) rfl
theorem q1331 : (Jvm.Cond.instanceMethod ({ cls := "WindowExchange$Contract", name := "units", desc := "()I" } : Jvm.MethodName)) ∈ lw_all := lw_g (lw_at lw_m6 38 rfl) rfl
theorem q1332 : (Jvm.Cond.selects "WindowExchange$Contract" ({ cls := "WindowExchange$Contract", name := "units", desc := "()I" } : Jvm.MethodName) ({ cls := "WindowExchange$Contract", name := "units", desc := "()I" } : Jvm.MethodName)) ∈ lw_all := lw_g (lw_at lw_m6 39 rfl) rfl
theorem q1333 : (Jvm.Cond.code ({ cls := "WindowExchange$Contract", name := "units", desc := "()I" } : Jvm.MethodName) prog_6_method_9_code (1 : Nat) (Option.some Jvm.ClassFile.FieldType.int)) ∈ lw_all := lw_g (lw_at lw_m6 40 rfl) rfl
theorem q2052 : (Jvm.Cond.instantiable "WindowExchange$Contract" (5 : Nat)) ∈ lw_all := lw_g (lw_at lw_m9 39 rfl) rfl
theorem q2054 : (Jvm.Cond.instanceMethod ({ cls := "WindowExchange$Contract", name := "<init>", desc := "(IIIII)V" } : Jvm.MethodName)) ∈ lw_all := lw_g (lw_at lw_m9 41 rfl) rfl
theorem q2055 : (Jvm.Cond.code ({ cls := "WindowExchange$Contract", name := "<init>", desc := "(IIIII)V" } : Jvm.MethodName) prog_6_method_1_code (6 : Nat) (Option.none : Option Jvm.ClassFile.FieldType)) ∈ lw_all := lw_g (lw_at lw_m9 42 rfl) rfl
theorem q2056 : (Jvm.Cond.methodLink "WindowExchange$Contract" (1 : Nat) ({ cls := "java/lang/Record", name := "<init>", desc := "()V" } : Jvm.MethodName)) ∈ lw_all := lw_g (lw_at lw_m9 43 rfl) rfl
theorem q2060 : (Jvm.Cond.fieldLink "WindowExchange$Contract" (7 : Nat) "WindowExchange$Contract" "seller" "I") ∈ lw_all := lw_g (lw_at lw_m9 47 rfl) rfl
theorem q2061 : (Jvm.Cond.fieldLink "WindowExchange$Contract" (13 : Nat) "WindowExchange$Contract" "buyer" "I") ∈ lw_all := lw_g (lw_at lw_m9 48 rfl) rfl
theorem q2062 : (Jvm.Cond.fieldLink "WindowExchange$Contract" (16 : Nat) "WindowExchange$Contract" "units" "I") ∈ lw_all := lw_g (lw_at lw_m9 49 rfl) rfl
theorem q2063 : (Jvm.Cond.fieldLink "WindowExchange$Contract" (19 : Nat) "WindowExchange$Contract" "price" "I") ∈ lw_all := lw_g (lw_at lw_m9 50 rfl) rfl
theorem q2064 : (Jvm.Cond.fieldLink "WindowExchange$Contract" (22 : Nat) "WindowExchange$Contract" "settlementDay" "I") ∈ lw_all := lw_g (lw_at lw_m9 51 rfl) rfl
theorem q2065 : (Jvm.Cond.laysFinal "WindowExchange$Contract" "WindowExchange$Contract" "seller" "I") ∈ lw_all := lw_g (lw_at lw_m9 52 rfl) rfl
theorem q2066 : (Jvm.Cond.soleField "WindowExchange$Contract" "seller") ∈ lw_all := lw_g (lw_at lw_m9 53 rfl) rfl
theorem q2067 : (Jvm.Cond.laysFinal "WindowExchange$Contract" "WindowExchange$Contract" "buyer" "I") ∈ lw_all := lw_g (lw_at lw_m9 54 rfl) rfl
theorem q2068 : (Jvm.Cond.soleField "WindowExchange$Contract" "buyer") ∈ lw_all := lw_g (lw_at lw_m9 55 rfl) rfl
theorem q2069 : (Jvm.Cond.laysFinal "WindowExchange$Contract" "WindowExchange$Contract" "units" "I") ∈ lw_all := lw_g (lw_at lw_m9 56 rfl) rfl
theorem q2070 : (Jvm.Cond.soleField "WindowExchange$Contract" "units") ∈ lw_all := lw_g (lw_at lw_m9 57 rfl) rfl
theorem q2071 : (Jvm.Cond.laysFinal "WindowExchange$Contract" "WindowExchange$Contract" "price" "I") ∈ lw_all := lw_g (lw_at lw_m9 58 rfl) rfl
theorem q2072 : (Jvm.Cond.soleField "WindowExchange$Contract" "price") ∈ lw_all := lw_g (lw_at lw_m9 59 rfl) rfl
theorem q2073 : (Jvm.Cond.laysFinal "WindowExchange$Contract" "WindowExchange$Contract" "settlementDay" "I") ∈ lw_all := lw_g (lw_at lw_m9 60 rfl) rfl
theorem q2074 : (Jvm.Cond.soleField "WindowExchange$Contract" "settlementDay") ∈ lw_all := lw_g (lw_at lw_m9 61 rfl) rfl
theorem q2075 : (Jvm.Cond.superclass "WindowExchange$Contract" "java/lang/Record") ∈ lw_all := lw_g (lw_at lw_m9 62 rfl) rfl
theorem q2094 : (Jvm.Cond.instanceMethod ({ cls := "WindowExchange$Contract", name := "settlementDay", desc := "()I" } : Jvm.MethodName)) ∈ lw_all := lw_g (lw_at lw_m9 81 rfl) rfl
theorem q2095 : (Jvm.Cond.selects "WindowExchange$Contract" ({ cls := "WindowExchange$Contract", name := "settlementDay", desc := "()I" } : Jvm.MethodName) ({ cls := "WindowExchange$Contract", name := "settlementDay", desc := "()I" } : Jvm.MethodName)) ∈ lw_all := lw_g (lw_at lw_m9 82 rfl) rfl
theorem q2096 : (Jvm.Cond.code ({ cls := "WindowExchange$Contract", name := "settlementDay", desc := "()I" } : Jvm.MethodName) prog_6_method_11_code (1 : Nat) (Option.some Jvm.ClassFile.FieldType.int)) ∈ lw_all := lw_g (lw_at lw_m9 83 rfl) rfl
theorem q2102 : (Jvm.Cond.instanceMethod ({ cls := "WindowExchange$Contract", name := "seller", desc := "()I" } : Jvm.MethodName)) ∈ lw_all := lw_g (lw_at lw_m9 89 rfl) rfl
theorem q2103 : (Jvm.Cond.selects "WindowExchange$Contract" ({ cls := "WindowExchange$Contract", name := "seller", desc := "()I" } : Jvm.MethodName) ({ cls := "WindowExchange$Contract", name := "seller", desc := "()I" } : Jvm.MethodName)) ∈ lw_all := lw_g (lw_at lw_m9 90 rfl) rfl
theorem q2104 : (Jvm.Cond.code ({ cls := "WindowExchange$Contract", name := "seller", desc := "()I" } : Jvm.MethodName) prog_6_method_7_code (1 : Nat) (Option.some Jvm.ClassFile.FieldType.int)) ∈ lw_all := lw_g (lw_at lw_m9 91 rfl) rfl
theorem q2106 : (Jvm.Cond.instanceMethod ({ cls := "WindowExchange$Contract", name := "buyer", desc := "()I" } : Jvm.MethodName)) ∈ lw_all := lw_g (lw_at lw_m9 93 rfl) rfl
theorem q2107 : (Jvm.Cond.selects "WindowExchange$Contract" ({ cls := "WindowExchange$Contract", name := "buyer", desc := "()I" } : Jvm.MethodName) ({ cls := "WindowExchange$Contract", name := "buyer", desc := "()I" } : Jvm.MethodName)) ∈ lw_all := lw_g (lw_at lw_m9 94 rfl) rfl
theorem q2108 : (Jvm.Cond.code ({ cls := "WindowExchange$Contract", name := "buyer", desc := "()I" } : Jvm.MethodName) prog_6_method_8_code (1 : Nat) (Option.some Jvm.ClassFile.FieldType.int)) ∈ lw_all := lw_g (lw_at lw_m9 95 rfl) rfl
theorem q3241 : (Jvm.Cond.castable "WindowExchange$Contract" "java/lang/Object") ∈ lw_tbl := lw_at lw_m14 28 rfl
theorem in_X8 : ∀ w ∈ wsX80, w ∈ lw_all := lw_in wsX80 [2065, 2067, 2069, 2071, 2073] (by decide +kernel) (by decide +kernel)
/-! WindowExchange$Parser -/
set_option maxRecDepth 100000
def RX9 : String := "WindowExchange$Parser"
def TX9 : u_T := fun k => match k with
  | 0 => ("WindowExchange$Parser", "position", "I", false)
  | _ => ("WindowExchange$Parser", "this$0", "LWindowExchange;", true)
def tyX9 : Nat → FieldType := fun k => match k with
  | 0 => .int
  | _ => .object "WindowExchange"
abbrev wsX90 : List Cond := u_ws RX9 TX9 2
theorem nmX9 : ∀ a, a < 2 → ∀ b, b < 2 → a ≠ b → (TX9 a).2.1 ≠ (TX9 b).2.1 := by decide +kernel
theorem tyX9_ok : ∀ k, k < 2 → parseFieldDescriptor (TX9 k).2.2.1 = some (tyX9 k) := by decide +kernel
abbrev cX9_init : ByteArray := prog_10_method_1_code
def yX9_init : MethodName := ⟨RX9, "<init>", "(LWindowExchange;)V"⟩
def dkwX9_init_0 : List UInt8 := [42, 43, 181, 0, 3, 42, 183, 0, 9, 177]
abbrev dktX9_init_0 : List UInt8 := dkwX9_init_0 ++ []
theorem dksX9_init_0 : cX9_init.data.toList.drop 0 = dktX9_init_0 := by decide +kernel
theorem dX9_init_0 : decode cX9_init 0 = .ok (.aload_n 0, 1) := dk_42 (dk_at dksX9_init_0 0 rfl rfl)
theorem dX9_init_1 : decode cX9_init 1 = .ok (.aload_n 1, 1) := dk_43 (dk_at dksX9_init_0 1 rfl rfl)
theorem dX9_init_2 : decode cX9_init 2 = .ok (.putfield 3, 3) := dk_181 0 3 (dk_at dksX9_init_0 2 rfl rfl)
theorem dX9_init_5 : decode cX9_init 5 = .ok (.aload_n 0, 1) := dk_42 (dk_at dksX9_init_0 5 rfl rfl)
theorem dX9_init_6 : decode cX9_init 6 = .ok (.invokespecial 9, 3) := dk_183 0 9 (dk_at dksX9_init_0 6 rfl rfl)
theorem dX9_init_9 : decode cX9_init 9 = .ok (.return_, 1) := dk_177 (dk_at dksX9_init_0 9 rfl rfl)
abbrev cX9_program : ByteArray := prog_10_method_20_code
def yX9_program : MethodName := ⟨RX9, "program", "()Ljava/util/ArrayList;"⟩
def dkwX9_program_2 : List UInt8 := [180, 0, 24, 160, 0, 7, 4, 167, 0, 4, 3, 182, 0, 48, 43, 176]
abbrev dktX9_program_2 : List UInt8 := dkwX9_program_2 ++ []
def dkwX9_program_1 : List UInt8 := [153, 0, 15, 43, 42, 182, 0, 168, 182, 0, 171, 61, 167, 255, 238, 42, 42, 180, 0, 17, 42, 180, 0, 3]
abbrev dktX9_program_1 : List UInt8 := dkwX9_program_1 ++ dktX9_program_2
def dkwX9_program_0 : List UInt8 := [187, 0, 165, 89, 183, 0, 167, 76, 43, 42, 182, 0, 168, 182, 0, 171, 61, 42, 16, 59, 182, 0, 44]
abbrev dktX9_program_0 : List UInt8 := dkwX9_program_0 ++ dktX9_program_1
theorem dksX9_program_0 : cX9_program.data.toList.drop 0 = dktX9_program_0 := by decide +kernel
theorem dksX9_program_1 : cX9_program.data.toList.drop 23 = dktX9_program_1 := dk_seg dksX9_program_0 23 rfl rfl
theorem dksX9_program_2 : cX9_program.data.toList.drop 47 = dktX9_program_2 := dk_seg dksX9_program_1 24 rfl rfl
theorem dX9_program_0 : decode cX9_program 0 = .ok (.new 165, 3) := dk_187 0 165 (dk_at dksX9_program_0 0 rfl rfl)
theorem dX9_program_3 : decode cX9_program 3 = .ok (.dup, 1) := dk_89 (dk_at dksX9_program_0 3 rfl rfl)
theorem dX9_program_4 : decode cX9_program 4 = .ok (.invokespecial 167, 3) := dk_183 0 167 (dk_at dksX9_program_0 4 rfl rfl)
theorem dX9_program_7 : decode cX9_program 7 = .ok (.astore_n 1, 1) := dk_76 (dk_at dksX9_program_0 7 rfl rfl)
theorem dX9_program_8 : decode cX9_program 8 = .ok (.aload_n 1, 1) := dk_43 (dk_at dksX9_program_0 8 rfl rfl)
theorem dX9_program_9 : decode cX9_program 9 = .ok (.aload_n 0, 1) := dk_42 (dk_at dksX9_program_0 9 rfl rfl)
theorem dX9_program_10 : decode cX9_program 10 = .ok (.invokevirtual 168, 3) := dk_182 0 168 (dk_at dksX9_program_0 10 rfl rfl)
theorem dX9_program_13 : decode cX9_program 13 = .ok (.invokevirtual 171, 3) := dk_182 0 171 (dk_at dksX9_program_0 13 rfl rfl)
theorem dX9_program_16 : decode cX9_program 16 = .ok (.istore_n 2, 1) := dk_61 (dk_at dksX9_program_0 16 rfl rfl)
theorem dX9_program_17 : decode cX9_program 17 = .ok (.aload_n 0, 1) := dk_42 (dk_at dksX9_program_0 17 rfl rfl)
theorem dX9_program_18 : decode cX9_program 18 = .ok (.bipush 59, 2) := dk_16 59 (dk_at dksX9_program_0 18 rfl rfl)
theorem dX9_program_20 : decode cX9_program 20 = .ok (.invokevirtual 44, 3) := dk_182 0 44 (dk_at dksX9_program_0 20 rfl rfl)
theorem dX9_program_23 : decode cX9_program 23 = .ok (.ifCond .eq 15, 3) := dk_153 0 15 (dk_at dksX9_program_1 0 rfl rfl)
theorem dX9_program_26 : decode cX9_program 26 = .ok (.aload_n 1, 1) := dk_43 (dk_at dksX9_program_1 3 rfl rfl)
theorem dX9_program_27 : decode cX9_program 27 = .ok (.aload_n 0, 1) := dk_42 (dk_at dksX9_program_1 4 rfl rfl)
theorem dX9_program_28 : decode cX9_program 28 = .ok (.invokevirtual 168, 3) := dk_182 0 168 (dk_at dksX9_program_1 5 rfl rfl)
theorem dX9_program_31 : decode cX9_program 31 = .ok (.invokevirtual 171, 3) := dk_182 0 171 (dk_at dksX9_program_1 8 rfl rfl)
theorem dX9_program_34 : decode cX9_program 34 = .ok (.istore_n 2, 1) := dk_61 (dk_at dksX9_program_1 11 rfl rfl)
theorem dX9_program_35 : decode cX9_program 35 = .ok (.goto (-18), 3) := dk_167 255 238 (dk_at dksX9_program_1 12 rfl rfl)
theorem dX9_program_38 : decode cX9_program 38 = .ok (.aload_n 0, 1) := dk_42 (dk_at dksX9_program_1 15 rfl rfl)
theorem dX9_program_39 : decode cX9_program 39 = .ok (.aload_n 0, 1) := dk_42 (dk_at dksX9_program_1 16 rfl rfl)
theorem dX9_program_40 : decode cX9_program 40 = .ok (.getfield 17, 3) := dk_180 0 17 (dk_at dksX9_program_1 17 rfl rfl)
theorem dX9_program_43 : decode cX9_program 43 = .ok (.aload_n 0, 1) := dk_42 (dk_at dksX9_program_1 20 rfl rfl)
theorem dX9_program_44 : decode cX9_program 44 = .ok (.getfield 3, 3) := dk_180 0 3 (dk_at dksX9_program_1 21 rfl rfl)
theorem dX9_program_47 : decode cX9_program 47 = .ok (.getfield 24, 3) := dk_180 0 24 (dk_at dksX9_program_2 0 rfl rfl)
theorem dX9_program_50 : decode cX9_program 50 = .ok (.if_icmp .ne 7, 3) := dk_160 0 7 (dk_at dksX9_program_2 3 rfl rfl)
theorem dX9_program_53 : decode cX9_program 53 = .ok (.iconst 1, 1) := dk_4 (dk_at dksX9_program_2 6 rfl rfl)
theorem dX9_program_54 : decode cX9_program 54 = .ok (.goto 4, 3) := dk_167 0 4 (dk_at dksX9_program_2 7 rfl rfl)
theorem dX9_program_57 : decode cX9_program 57 = .ok (.iconst 0, 1) := dk_3 (dk_at dksX9_program_2 10 rfl rfl)
theorem dX9_program_58 : decode cX9_program 58 = .ok (.invokevirtual 48, 3) := dk_182 0 48 (dk_at dksX9_program_2 11 rfl rfl)
theorem dX9_program_61 : decode cX9_program 61 = .ok (.aload_n 1, 1) := dk_43 (dk_at dksX9_program_2 14 rfl rfl)
theorem dX9_program_62 : decode cX9_program 62 = .ok (.areturn, 1) := dk_176 (dk_at dksX9_program_2 15 rfl rfl)
abbrev cX9_command : ByteArray := prog_10_method_19_code
def yX9_command : MethodName := ⟨RX9, "command", "()LWindowExchange$Command;"⟩
def dkwX9_command_5 : List UInt8 := [176]
abbrev dktX9_command_5 : List UInt8 := dkwX9_command_5 ++ []
def dkwX9_command_4 : List UInt8 := [182, 0, 153, 167, 0, 21, 42, 182, 0, 156, 167, 0, 14, 42, 182, 0, 159, 167, 0, 7, 42, 182, 0, 162]
abbrev dktX9_command_4 : List UInt8 := dkwX9_command_4 ++ dktX9_command_5
def dkwX9_command_3 : List UInt8 := [42, 182, 0, 143, 167, 0, 42, 42, 182, 0, 147, 167, 0, 35, 42, 182, 0, 150, 167, 0, 28, 42]
abbrev dktX9_command_3 : List UInt8 := dkwX9_command_3 ++ dktX9_command_4
def dkwX9_command_2 : List UInt8 := [170, 0, 0, 0, 135, 0, 0, 0, 97, 0, 0, 0, 116, 0, 0, 0, 121, 0, 0, 0, 100, 0, 0, 0, 114, 0, 0, 0, 135, 0, 0, 0, 135, 0, 0, 0, 135, 0, 0, 0, 135, 0, 0, 0, 135, 0, 0, 0, 135, 0, 0, 0, 135, 0, 0, 0, 135, 0, 0, 0, 135, 0, 0, 0, 135, 0, 0, 0, 135, 0, 0, 0, 128, 0, 0, 0, 135, 0, 0, 0, 135, 0, 0, 0, 135, 0, 0, 0, 107, 0, 0, 0, 93]
abbrev dktX9_command_2 : List UInt8 := dkwX9_command_2 ++ dktX9_command_3
def dkwX9_command_1 : List UInt8 := [3, 182, 0, 48, 42, 89, 180, 0, 17, 4, 96, 181, 0, 17, 27]
abbrev dktX9_command_1 : List UInt8 := dkwX9_command_1 ++ dktX9_command_2
def dkwX9_command_0 : List UInt8 := [42, 182, 0, 31, 60, 42, 27, 2, 159, 0, 16, 18, 137, 27, 182, 0, 139, 155, 0, 7, 4, 167, 0, 4]
abbrev dktX9_command_0 : List UInt8 := dkwX9_command_0 ++ dktX9_command_1
theorem dksX9_command_0 : cX9_command.data.toList.drop 0 = dktX9_command_0 := by decide +kernel
theorem dksX9_command_1 : cX9_command.data.toList.drop 24 = dktX9_command_1 := dk_seg dksX9_command_0 24 rfl rfl
theorem dksX9_command_2 : cX9_command.data.toList.drop 39 = dktX9_command_2 := dk_seg dksX9_command_1 15 rfl rfl
theorem dksX9_command_3 : cX9_command.data.toList.drop 132 = dktX9_command_3 := dk_seg dksX9_command_2 93 rfl rfl
theorem dksX9_command_4 : cX9_command.data.toList.drop 154 = dktX9_command_4 := dk_seg dksX9_command_3 22 rfl rfl
theorem dksX9_command_5 : cX9_command.data.toList.drop 178 = dktX9_command_5 := dk_seg dksX9_command_4 24 rfl rfl
theorem dX9_command_0 : decode cX9_command 0 = .ok (.aload_n 0, 1) := dk_42 (dk_at dksX9_command_0 0 rfl rfl)
theorem dX9_command_1 : decode cX9_command 1 = .ok (.invokevirtual 31, 3) := dk_182 0 31 (dk_at dksX9_command_0 1 rfl rfl)
theorem dX9_command_4 : decode cX9_command 4 = .ok (.istore_n 1, 1) := dk_60 (dk_at dksX9_command_0 4 rfl rfl)
theorem dX9_command_5 : decode cX9_command 5 = .ok (.aload_n 0, 1) := dk_42 (dk_at dksX9_command_0 5 rfl rfl)
theorem dX9_command_6 : decode cX9_command 6 = .ok (.iload_n 1, 1) := dk_27 (dk_at dksX9_command_0 6 rfl rfl)
theorem dX9_command_7 : decode cX9_command 7 = .ok (.iconst (-1), 1) := dk_2 (dk_at dksX9_command_0 7 rfl rfl)
theorem dX9_command_8 : decode cX9_command 8 = .ok (.if_icmp .eq 16, 3) := dk_159 0 16 (dk_at dksX9_command_0 8 rfl rfl)
theorem dX9_command_11 : decode cX9_command 11 = .ok (.ldc 137, 2) := dk_18 137 (dk_at dksX9_command_0 11 rfl rfl)
theorem dX9_command_13 : decode cX9_command 13 = .ok (.iload_n 1, 1) := dk_27 (dk_at dksX9_command_0 13 rfl rfl)
theorem dX9_command_14 : decode cX9_command 14 = .ok (.invokevirtual 139, 3) := dk_182 0 139 (dk_at dksX9_command_0 14 rfl rfl)
theorem dX9_command_17 : decode cX9_command 17 = .ok (.ifCond .lt 7, 3) := dk_155 0 7 (dk_at dksX9_command_0 17 rfl rfl)
theorem dX9_command_20 : decode cX9_command 20 = .ok (.iconst 1, 1) := dk_4 (dk_at dksX9_command_0 20 rfl rfl)
theorem dX9_command_21 : decode cX9_command 21 = .ok (.goto 4, 3) := dk_167 0 4 (dk_at dksX9_command_0 21 rfl rfl)
theorem dX9_command_24 : decode cX9_command 24 = .ok (.iconst 0, 1) := dk_3 (dk_at dksX9_command_1 0 rfl rfl)
theorem dX9_command_25 : decode cX9_command 25 = .ok (.invokevirtual 48, 3) := dk_182 0 48 (dk_at dksX9_command_1 1 rfl rfl)
theorem dX9_command_28 : decode cX9_command 28 = .ok (.aload_n 0, 1) := dk_42 (dk_at dksX9_command_1 4 rfl rfl)
theorem dX9_command_29 : decode cX9_command 29 = .ok (.dup, 1) := dk_89 (dk_at dksX9_command_1 5 rfl rfl)
theorem dX9_command_30 : decode cX9_command 30 = .ok (.getfield 17, 3) := dk_180 0 17 (dk_at dksX9_command_1 6 rfl rfl)
theorem dX9_command_33 : decode cX9_command 33 = .ok (.iconst 1, 1) := dk_4 (dk_at dksX9_command_1 9 rfl rfl)
theorem dX9_command_34 : decode cX9_command 34 = .ok (.iadd, 1) := dk_96 (dk_at dksX9_command_1 10 rfl rfl)
theorem dX9_command_35 : decode cX9_command 35 = .ok (.putfield 17, 3) := dk_181 0 17 (dk_at dksX9_command_1 11 rfl rfl)
theorem dX9_command_38 : decode cX9_command 38 = .ok (.iload_n 1, 1) := dk_27 (dk_at dksX9_command_1 14 rfl rfl)
theorem dX9_command_39 : decode cX9_command 39 = .ok (.tableswitch 135 97 116 #[121, 100, 114, 135, 135, 135, 135, 135, 135, 135, 135, 135, 135, 135, 128, 135, 135, 135, 107, 93], 93) := by decide +kernel
theorem dX9_command_132 : decode cX9_command 132 = .ok (.aload_n 0, 1) := dk_42 (dk_at dksX9_command_3 0 rfl rfl)
theorem dX9_command_133 : decode cX9_command 133 = .ok (.invokevirtual 143, 3) := dk_182 0 143 (dk_at dksX9_command_3 1 rfl rfl)
theorem dX9_command_136 : decode cX9_command 136 = .ok (.goto 42, 3) := dk_167 0 42 (dk_at dksX9_command_3 4 rfl rfl)
theorem dX9_command_139 : decode cX9_command 139 = .ok (.aload_n 0, 1) := dk_42 (dk_at dksX9_command_3 7 rfl rfl)
theorem dX9_command_140 : decode cX9_command 140 = .ok (.invokevirtual 147, 3) := dk_182 0 147 (dk_at dksX9_command_3 8 rfl rfl)
theorem dX9_command_143 : decode cX9_command 143 = .ok (.goto 35, 3) := dk_167 0 35 (dk_at dksX9_command_3 11 rfl rfl)
theorem dX9_command_146 : decode cX9_command 146 = .ok (.aload_n 0, 1) := dk_42 (dk_at dksX9_command_3 14 rfl rfl)
theorem dX9_command_147 : decode cX9_command 147 = .ok (.invokevirtual 150, 3) := dk_182 0 150 (dk_at dksX9_command_3 15 rfl rfl)
theorem dX9_command_150 : decode cX9_command 150 = .ok (.goto 28, 3) := dk_167 0 28 (dk_at dksX9_command_3 18 rfl rfl)
theorem dX9_command_153 : decode cX9_command 153 = .ok (.aload_n 0, 1) := dk_42 (dk_at dksX9_command_3 21 rfl rfl)
theorem dX9_command_154 : decode cX9_command 154 = .ok (.invokevirtual 153, 3) := dk_182 0 153 (dk_at dksX9_command_4 0 rfl rfl)
theorem dX9_command_157 : decode cX9_command 157 = .ok (.goto 21, 3) := dk_167 0 21 (dk_at dksX9_command_4 3 rfl rfl)
theorem dX9_command_160 : decode cX9_command 160 = .ok (.aload_n 0, 1) := dk_42 (dk_at dksX9_command_4 6 rfl rfl)
theorem dX9_command_161 : decode cX9_command 161 = .ok (.invokevirtual 156, 3) := dk_182 0 156 (dk_at dksX9_command_4 7 rfl rfl)
theorem dX9_command_164 : decode cX9_command 164 = .ok (.goto 14, 3) := dk_167 0 14 (dk_at dksX9_command_4 10 rfl rfl)
theorem dX9_command_167 : decode cX9_command 167 = .ok (.aload_n 0, 1) := dk_42 (dk_at dksX9_command_4 13 rfl rfl)
theorem dX9_command_168 : decode cX9_command 168 = .ok (.invokevirtual 159, 3) := dk_182 0 159 (dk_at dksX9_command_4 14 rfl rfl)
theorem dX9_command_171 : decode cX9_command 171 = .ok (.goto 7, 3) := dk_167 0 7 (dk_at dksX9_command_4 17 rfl rfl)
theorem dX9_command_174 : decode cX9_command 174 = .ok (.aload_n 0, 1) := dk_42 (dk_at dksX9_command_4 20 rfl rfl)
theorem dX9_command_175 : decode cX9_command 175 = .ok (.invokevirtual 162, 3) := dk_182 0 162 (dk_at dksX9_command_4 21 rfl rfl)
theorem dX9_command_178 : decode cX9_command 178 = .ok (.areturn, 1) := dk_176 (dk_at dksX9_command_5 0 rfl rfl)
abbrev cX9_peek : ByteArray := prog_10_method_3_code
def yX9_peek : MethodName := ⟨RX9, "peek", "()I"⟩
def dkwX9_peek_1 : List UInt8 := [180, 0, 17, 52, 167, 0, 4, 2, 172]
abbrev dktX9_peek_1 : List UInt8 := dkwX9_peek_1 ++ []
def dkwX9_peek_0 : List UInt8 := [42, 180, 0, 17, 42, 180, 0, 3, 180, 0, 24, 162, 0, 18, 42, 180, 0, 3, 180, 0, 27, 42]
abbrev dktX9_peek_0 : List UInt8 := dkwX9_peek_0 ++ dktX9_peek_1
theorem dksX9_peek_0 : cX9_peek.data.toList.drop 0 = dktX9_peek_0 := by decide +kernel
theorem dksX9_peek_1 : cX9_peek.data.toList.drop 22 = dktX9_peek_1 := dk_seg dksX9_peek_0 22 rfl rfl
theorem dX9_peek_0 : decode cX9_peek 0 = .ok (.aload_n 0, 1) := dk_42 (dk_at dksX9_peek_0 0 rfl rfl)
theorem dX9_peek_1 : decode cX9_peek 1 = .ok (.getfield 17, 3) := dk_180 0 17 (dk_at dksX9_peek_0 1 rfl rfl)
theorem dX9_peek_4 : decode cX9_peek 4 = .ok (.aload_n 0, 1) := dk_42 (dk_at dksX9_peek_0 4 rfl rfl)
theorem dX9_peek_5 : decode cX9_peek 5 = .ok (.getfield 3, 3) := dk_180 0 3 (dk_at dksX9_peek_0 5 rfl rfl)
theorem dX9_peek_8 : decode cX9_peek 8 = .ok (.getfield 24, 3) := dk_180 0 24 (dk_at dksX9_peek_0 8 rfl rfl)
theorem dX9_peek_11 : decode cX9_peek 11 = .ok (.if_icmp .ge 18, 3) := dk_162 0 18 (dk_at dksX9_peek_0 11 rfl rfl)
theorem dX9_peek_14 : decode cX9_peek 14 = .ok (.aload_n 0, 1) := dk_42 (dk_at dksX9_peek_0 14 rfl rfl)
theorem dX9_peek_15 : decode cX9_peek 15 = .ok (.getfield 3, 3) := dk_180 0 3 (dk_at dksX9_peek_0 15 rfl rfl)
theorem dX9_peek_18 : decode cX9_peek 18 = .ok (.getfield 27, 3) := dk_180 0 27 (dk_at dksX9_peek_0 18 rfl rfl)
theorem dX9_peek_21 : decode cX9_peek 21 = .ok (.aload_n 0, 1) := dk_42 (dk_at dksX9_peek_0 21 rfl rfl)
theorem dX9_peek_22 : decode cX9_peek 22 = .ok (.getfield 17, 3) := dk_180 0 17 (dk_at dksX9_peek_1 0 rfl rfl)
theorem dX9_peek_25 : decode cX9_peek 25 = .ok (.caload, 1) := dk_52 (dk_at dksX9_peek_1 3 rfl rfl)
theorem dX9_peek_26 : decode cX9_peek 26 = .ok (.goto 4, 3) := dk_167 0 4 (dk_at dksX9_peek_1 4 rfl rfl)
theorem dX9_peek_29 : decode cX9_peek 29 = .ok (.iconst (-1), 1) := dk_2 (dk_at dksX9_peek_1 7 rfl rfl)
theorem dX9_peek_30 : decode cX9_peek 30 = .ok (.ireturn, 1) := dk_172 (dk_at dksX9_peek_1 8 rfl rfl)
abbrev cX9_require : ByteArray := prog_10_method_2_code
def yX9_require : MethodName := ⟨RX9, "require", "(Z)V"⟩
def dkwX9_require_0 : List UInt8 := [27, 154, 0, 15, 187, 0, 15, 89, 42, 180, 0, 17, 183, 0, 21, 191, 177]
abbrev dktX9_require_0 : List UInt8 := dkwX9_require_0 ++ []
theorem dksX9_require_0 : cX9_require.data.toList.drop 0 = dktX9_require_0 := by decide +kernel
theorem dX9_require_0 : decode cX9_require 0 = .ok (.iload_n 1, 1) := dk_27 (dk_at dksX9_require_0 0 rfl rfl)
theorem dX9_require_1 : decode cX9_require 1 = .ok (.ifCond .ne 15, 3) := dk_154 0 15 (dk_at dksX9_require_0 1 rfl rfl)
theorem dX9_require_4 : decode cX9_require 4 = .ok (.new 15, 3) := dk_187 0 15 (dk_at dksX9_require_0 4 rfl rfl)
theorem dX9_require_7 : decode cX9_require 7 = .ok (.dup, 1) := dk_89 (dk_at dksX9_require_0 7 rfl rfl)
theorem dX9_require_8 : decode cX9_require 8 = .ok (.aload_n 0, 1) := dk_42 (dk_at dksX9_require_0 8 rfl rfl)
theorem dX9_require_9 : decode cX9_require 9 = .ok (.getfield 17, 3) := dk_180 0 17 (dk_at dksX9_require_0 9 rfl rfl)
theorem dX9_require_12 : decode cX9_require 12 = .ok (.invokespecial 21, 3) := dk_183 0 21 (dk_at dksX9_require_0 12 rfl rfl)
theorem dX9_require_15 : decode cX9_require 15 = .ok (.athrow, 1) := dk_191 (dk_at dksX9_require_0 15 rfl rfl)
theorem dX9_require_16 : decode cX9_require 16 = .ok (.return_, 1) := dk_177 (dk_at dksX9_require_0 16 rfl rfl)
abbrev cX9_trader : ByteArray := prog_10_method_11_code
def yX9_trader : MethodName := ⟨RX9, "trader", "()LWindowExchange$Command;"⟩
def dkwX9_trader_1 : List UInt8 := [186, 0, 80, 0, 0, 183, 0, 84, 176]
abbrev dktX9_trader_1 : List UInt8 := dkwX9_trader_1 ++ []
def dkwX9_trader_0 : List UInt8 := [42, 18, 70, 182, 0, 72, 60, 42, 18, 76, 182, 0, 72, 61, 187, 0, 78, 89, 27, 28]
abbrev dktX9_trader_0 : List UInt8 := dkwX9_trader_0 ++ dktX9_trader_1
theorem dksX9_trader_0 : cX9_trader.data.toList.drop 0 = dktX9_trader_0 := by decide +kernel
theorem dksX9_trader_1 : cX9_trader.data.toList.drop 20 = dktX9_trader_1 := dk_seg dksX9_trader_0 20 rfl rfl
theorem dX9_trader_0 : decode cX9_trader 0 = .ok (.aload_n 0, 1) := dk_42 (dk_at dksX9_trader_0 0 rfl rfl)
theorem dX9_trader_1 : decode cX9_trader 1 = .ok (.ldc 70, 2) := dk_18 70 (dk_at dksX9_trader_0 1 rfl rfl)
theorem dX9_trader_3 : decode cX9_trader 3 = .ok (.invokevirtual 72, 3) := dk_182 0 72 (dk_at dksX9_trader_0 3 rfl rfl)
theorem dX9_trader_6 : decode cX9_trader 6 = .ok (.istore_n 1, 1) := dk_60 (dk_at dksX9_trader_0 6 rfl rfl)
theorem dX9_trader_7 : decode cX9_trader 7 = .ok (.aload_n 0, 1) := dk_42 (dk_at dksX9_trader_0 7 rfl rfl)
theorem dX9_trader_8 : decode cX9_trader 8 = .ok (.ldc 76, 2) := dk_18 76 (dk_at dksX9_trader_0 8 rfl rfl)
theorem dX9_trader_10 : decode cX9_trader 10 = .ok (.invokevirtual 72, 3) := dk_182 0 72 (dk_at dksX9_trader_0 10 rfl rfl)
theorem dX9_trader_13 : decode cX9_trader 13 = .ok (.istore_n 2, 1) := dk_61 (dk_at dksX9_trader_0 13 rfl rfl)
theorem dX9_trader_14 : decode cX9_trader 14 = .ok (.new 78, 3) := dk_187 0 78 (dk_at dksX9_trader_0 14 rfl rfl)
theorem dX9_trader_17 : decode cX9_trader 17 = .ok (.dup, 1) := dk_89 (dk_at dksX9_trader_0 17 rfl rfl)
theorem dX9_trader_18 : decode cX9_trader 18 = .ok (.iload_n 1, 1) := dk_27 (dk_at dksX9_trader_0 18 rfl rfl)
theorem dX9_trader_19 : decode cX9_trader 19 = .ok (.iload_n 2, 1) := dk_28 (dk_at dksX9_trader_0 19 rfl rfl)
theorem dX9_trader_20 : decode cX9_trader 20 = .ok (.invokedynamic 80, 5) := by decide +kernel
theorem dX9_trader_25 : decode cX9_trader 25 = .ok (.invokespecial 84, 3) := dk_183 0 84 (dk_at dksX9_trader_1 5 rfl rfl)
theorem dX9_trader_28 : decode cX9_trader 28 = .ok (.areturn, 1) := dk_176 (dk_at dksX9_trader_1 8 rfl rfl)
abbrev cX9_numberAfter : ByteArray := prog_10_method_9_code
def yX9_numberAfter : MethodName := ⟨RX9, "numberAfter", "(Ljava/lang/String;)I"⟩
def dkwX9_numberAfter_0 : List UInt8 := [42, 43, 182, 0, 63, 42, 182, 0, 67, 172]
abbrev dktX9_numberAfter_0 : List UInt8 := dkwX9_numberAfter_0 ++ []
theorem dksX9_numberAfter_0 : cX9_numberAfter.data.toList.drop 0 = dktX9_numberAfter_0 := by decide +kernel
theorem dX9_numberAfter_0 : decode cX9_numberAfter 0 = .ok (.aload_n 0, 1) := dk_42 (dk_at dksX9_numberAfter_0 0 rfl rfl)
theorem dX9_numberAfter_1 : decode cX9_numberAfter 1 = .ok (.aload_n 1, 1) := dk_43 (dk_at dksX9_numberAfter_0 1 rfl rfl)
theorem dX9_numberAfter_2 : decode cX9_numberAfter 2 = .ok (.invokevirtual 63, 3) := dk_182 0 63 (dk_at dksX9_numberAfter_0 2 rfl rfl)
theorem dX9_numberAfter_5 : decode cX9_numberAfter 5 = .ok (.aload_n 0, 1) := dk_42 (dk_at dksX9_numberAfter_0 5 rfl rfl)
theorem dX9_numberAfter_6 : decode cX9_numberAfter 6 = .ok (.invokevirtual 67, 3) := dk_182 0 67 (dk_at dksX9_numberAfter_0 6 rfl rfl)
theorem dX9_numberAfter_9 : decode cX9_numberAfter 9 = .ok (.ireturn, 1) := dk_172 (dk_at dksX9_numberAfter_0 9 rfl rfl)
abbrev cX9_expect : ByteArray := prog_10_method_5_code
def yX9_expect : MethodName := ⟨RX9, "expect", "(Ljava/lang/String;)V"⟩
def dkwX9_expect_1 : List UInt8 := [132, 2, 1, 167, 255, 232, 177]
abbrev dktX9_expect_1 : List UInt8 := dkwX9_expect_1 ++ []
def dkwX9_expect_0 : List UInt8 := [3, 61, 28, 43, 182, 0, 35, 162, 0, 22, 42, 42, 43, 28, 182, 0, 40, 182, 0, 44, 182, 0, 48]
abbrev dktX9_expect_0 : List UInt8 := dkwX9_expect_0 ++ dktX9_expect_1
theorem dksX9_expect_0 : cX9_expect.data.toList.drop 0 = dktX9_expect_0 := by decide +kernel
theorem dksX9_expect_1 : cX9_expect.data.toList.drop 23 = dktX9_expect_1 := dk_seg dksX9_expect_0 23 rfl rfl
theorem dX9_expect_0 : decode cX9_expect 0 = .ok (.iconst 0, 1) := dk_3 (dk_at dksX9_expect_0 0 rfl rfl)
theorem dX9_expect_1 : decode cX9_expect 1 = .ok (.istore_n 2, 1) := dk_61 (dk_at dksX9_expect_0 1 rfl rfl)
theorem dX9_expect_2 : decode cX9_expect 2 = .ok (.iload_n 2, 1) := dk_28 (dk_at dksX9_expect_0 2 rfl rfl)
theorem dX9_expect_3 : decode cX9_expect 3 = .ok (.aload_n 1, 1) := dk_43 (dk_at dksX9_expect_0 3 rfl rfl)
theorem dX9_expect_4 : decode cX9_expect 4 = .ok (.invokevirtual 35, 3) := dk_182 0 35 (dk_at dksX9_expect_0 4 rfl rfl)
theorem dX9_expect_7 : decode cX9_expect 7 = .ok (.if_icmp .ge 22, 3) := dk_162 0 22 (dk_at dksX9_expect_0 7 rfl rfl)
theorem dX9_expect_10 : decode cX9_expect 10 = .ok (.aload_n 0, 1) := dk_42 (dk_at dksX9_expect_0 10 rfl rfl)
theorem dX9_expect_11 : decode cX9_expect 11 = .ok (.aload_n 0, 1) := dk_42 (dk_at dksX9_expect_0 11 rfl rfl)
theorem dX9_expect_12 : decode cX9_expect 12 = .ok (.aload_n 1, 1) := dk_43 (dk_at dksX9_expect_0 12 rfl rfl)
theorem dX9_expect_13 : decode cX9_expect 13 = .ok (.iload_n 2, 1) := dk_28 (dk_at dksX9_expect_0 13 rfl rfl)
theorem dX9_expect_14 : decode cX9_expect 14 = .ok (.invokevirtual 40, 3) := dk_182 0 40 (dk_at dksX9_expect_0 14 rfl rfl)
theorem dX9_expect_17 : decode cX9_expect 17 = .ok (.invokevirtual 44, 3) := dk_182 0 44 (dk_at dksX9_expect_0 17 rfl rfl)
theorem dX9_expect_20 : decode cX9_expect 20 = .ok (.invokevirtual 48, 3) := dk_182 0 48 (dk_at dksX9_expect_0 20 rfl rfl)
theorem dX9_expect_23 : decode cX9_expect 23 = .ok (.iinc 2 1, 3) := dk_132 2 1 (dk_at dksX9_expect_1 0 rfl rfl)
theorem dX9_expect_26 : decode cX9_expect 26 = .ok (.goto (-24), 3) := dk_167 255 232 (dk_at dksX9_expect_1 3 rfl rfl)
theorem dX9_expect_29 : decode cX9_expect 29 = .ok (.return_, 1) := dk_177 (dk_at dksX9_expect_1 6 rfl rfl)
abbrev cX9_accept : ByteArray := prog_10_method_4_code
def yX9_accept : MethodName := ⟨RX9, "accept", "(C)Z"⟩
def dkwX9_accept_1 : List UInt8 := [167, 0, 4, 3, 96, 181, 0, 17, 28, 172]
abbrev dktX9_accept_1 : List UInt8 := dkwX9_accept_1 ++ []
def dkwX9_accept_0 : List UInt8 := [42, 182, 0, 31, 27, 160, 0, 7, 4, 167, 0, 4, 3, 61, 42, 89, 180, 0, 17, 28, 153, 0, 7, 4]
abbrev dktX9_accept_0 : List UInt8 := dkwX9_accept_0 ++ dktX9_accept_1
theorem dksX9_accept_0 : cX9_accept.data.toList.drop 0 = dktX9_accept_0 := by decide +kernel
theorem dksX9_accept_1 : cX9_accept.data.toList.drop 24 = dktX9_accept_1 := dk_seg dksX9_accept_0 24 rfl rfl
theorem dX9_accept_0 : decode cX9_accept 0 = .ok (.aload_n 0, 1) := dk_42 (dk_at dksX9_accept_0 0 rfl rfl)
theorem dX9_accept_1 : decode cX9_accept 1 = .ok (.invokevirtual 31, 3) := dk_182 0 31 (dk_at dksX9_accept_0 1 rfl rfl)
theorem dX9_accept_4 : decode cX9_accept 4 = .ok (.iload_n 1, 1) := dk_27 (dk_at dksX9_accept_0 4 rfl rfl)
theorem dX9_accept_5 : decode cX9_accept 5 = .ok (.if_icmp .ne 7, 3) := dk_160 0 7 (dk_at dksX9_accept_0 5 rfl rfl)
theorem dX9_accept_8 : decode cX9_accept 8 = .ok (.iconst 1, 1) := dk_4 (dk_at dksX9_accept_0 8 rfl rfl)
theorem dX9_accept_9 : decode cX9_accept 9 = .ok (.goto 4, 3) := dk_167 0 4 (dk_at dksX9_accept_0 9 rfl rfl)
theorem dX9_accept_12 : decode cX9_accept 12 = .ok (.iconst 0, 1) := dk_3 (dk_at dksX9_accept_0 12 rfl rfl)
theorem dX9_accept_13 : decode cX9_accept 13 = .ok (.istore_n 2, 1) := dk_61 (dk_at dksX9_accept_0 13 rfl rfl)
theorem dX9_accept_14 : decode cX9_accept 14 = .ok (.aload_n 0, 1) := dk_42 (dk_at dksX9_accept_0 14 rfl rfl)
theorem dX9_accept_15 : decode cX9_accept 15 = .ok (.dup, 1) := dk_89 (dk_at dksX9_accept_0 15 rfl rfl)
theorem dX9_accept_16 : decode cX9_accept 16 = .ok (.getfield 17, 3) := dk_180 0 17 (dk_at dksX9_accept_0 16 rfl rfl)
theorem dX9_accept_19 : decode cX9_accept 19 = .ok (.iload_n 2, 1) := dk_28 (dk_at dksX9_accept_0 19 rfl rfl)
theorem dX9_accept_20 : decode cX9_accept 20 = .ok (.ifCond .eq 7, 3) := dk_153 0 7 (dk_at dksX9_accept_0 20 rfl rfl)
theorem dX9_accept_23 : decode cX9_accept 23 = .ok (.iconst 1, 1) := dk_4 (dk_at dksX9_accept_0 23 rfl rfl)
theorem dX9_accept_24 : decode cX9_accept 24 = .ok (.goto 4, 3) := dk_167 0 4 (dk_at dksX9_accept_1 0 rfl rfl)
theorem dX9_accept_27 : decode cX9_accept 27 = .ok (.iconst 0, 1) := dk_3 (dk_at dksX9_accept_1 3 rfl rfl)
theorem dX9_accept_28 : decode cX9_accept 28 = .ok (.iadd, 1) := dk_96 (dk_at dksX9_accept_1 4 rfl rfl)
theorem dX9_accept_29 : decode cX9_accept 29 = .ok (.putfield 17, 3) := dk_181 0 17 (dk_at dksX9_accept_1 5 rfl rfl)
theorem dX9_accept_32 : decode cX9_accept 32 = .ok (.iload_n 2, 1) := dk_28 (dk_at dksX9_accept_1 8 rfl rfl)
theorem dX9_accept_33 : decode cX9_accept 33 = .ok (.ireturn, 1) := dk_172 (dk_at dksX9_accept_1 9 rfl rfl)
abbrev cX9_number : ByteArray := prog_10_method_8_code
def yX9_number : MethodName := ⟨RX9, "number", "()I"⟩
def dkwX9_number_1 : List UInt8 := [182, 0, 60, 96, 60, 132, 2, 1, 167, 255, 231, 27, 172]
abbrev dktX9_number_1 : List UInt8 := dkwX9_number_1 ++ []
def dkwX9_number_0 : List UInt8 := [42, 182, 0, 60, 60, 4, 61, 28, 6, 162, 0, 26, 42, 182, 0, 56, 153, 0, 19, 16, 10, 27, 104, 42]
abbrev dktX9_number_0 : List UInt8 := dkwX9_number_0 ++ dktX9_number_1
theorem dksX9_number_0 : cX9_number.data.toList.drop 0 = dktX9_number_0 := by decide +kernel
theorem dksX9_number_1 : cX9_number.data.toList.drop 24 = dktX9_number_1 := dk_seg dksX9_number_0 24 rfl rfl
theorem dX9_number_0 : decode cX9_number 0 = .ok (.aload_n 0, 1) := dk_42 (dk_at dksX9_number_0 0 rfl rfl)
theorem dX9_number_1 : decode cX9_number 1 = .ok (.invokevirtual 60, 3) := dk_182 0 60 (dk_at dksX9_number_0 1 rfl rfl)
theorem dX9_number_4 : decode cX9_number 4 = .ok (.istore_n 1, 1) := dk_60 (dk_at dksX9_number_0 4 rfl rfl)
theorem dX9_number_5 : decode cX9_number 5 = .ok (.iconst 1, 1) := dk_4 (dk_at dksX9_number_0 5 rfl rfl)
theorem dX9_number_6 : decode cX9_number 6 = .ok (.istore_n 2, 1) := dk_61 (dk_at dksX9_number_0 6 rfl rfl)
theorem dX9_number_7 : decode cX9_number 7 = .ok (.iload_n 2, 1) := dk_28 (dk_at dksX9_number_0 7 rfl rfl)
theorem dX9_number_8 : decode cX9_number 8 = .ok (.iconst 3, 1) := dk_6 (dk_at dksX9_number_0 8 rfl rfl)
theorem dX9_number_9 : decode cX9_number 9 = .ok (.if_icmp .ge 26, 3) := dk_162 0 26 (dk_at dksX9_number_0 9 rfl rfl)
theorem dX9_number_12 : decode cX9_number 12 = .ok (.aload_n 0, 1) := dk_42 (dk_at dksX9_number_0 12 rfl rfl)
theorem dX9_number_13 : decode cX9_number 13 = .ok (.invokevirtual 56, 3) := dk_182 0 56 (dk_at dksX9_number_0 13 rfl rfl)
theorem dX9_number_16 : decode cX9_number 16 = .ok (.ifCond .eq 19, 3) := dk_153 0 19 (dk_at dksX9_number_0 16 rfl rfl)
theorem dX9_number_19 : decode cX9_number 19 = .ok (.bipush 10, 2) := dk_16 10 (dk_at dksX9_number_0 19 rfl rfl)
theorem dX9_number_21 : decode cX9_number 21 = .ok (.iload_n 1, 1) := dk_27 (dk_at dksX9_number_0 21 rfl rfl)
theorem dX9_number_22 : decode cX9_number 22 = .ok (.imul, 1) := dk_104 (dk_at dksX9_number_0 22 rfl rfl)
theorem dX9_number_23 : decode cX9_number 23 = .ok (.aload_n 0, 1) := dk_42 (dk_at dksX9_number_0 23 rfl rfl)
theorem dX9_number_24 : decode cX9_number 24 = .ok (.invokevirtual 60, 3) := dk_182 0 60 (dk_at dksX9_number_1 0 rfl rfl)
theorem dX9_number_27 : decode cX9_number 27 = .ok (.iadd, 1) := dk_96 (dk_at dksX9_number_1 3 rfl rfl)
theorem dX9_number_28 : decode cX9_number 28 = .ok (.istore_n 1, 1) := dk_60 (dk_at dksX9_number_1 4 rfl rfl)
theorem dX9_number_29 : decode cX9_number 29 = .ok (.iinc 2 1, 3) := dk_132 2 1 (dk_at dksX9_number_1 5 rfl rfl)
theorem dX9_number_32 : decode cX9_number 32 = .ok (.goto (-25), 3) := dk_167 255 231 (dk_at dksX9_number_1 8 rfl rfl)
theorem dX9_number_35 : decode cX9_number 35 = .ok (.iload_n 1, 1) := dk_27 (dk_at dksX9_number_1 11 rfl rfl)
theorem dX9_number_36 : decode cX9_number 36 = .ok (.ireturn, 1) := dk_172 (dk_at dksX9_number_1 12 rfl rfl)
abbrev cX9_digit : ByteArray := prog_10_method_7_code
def yX9_digit : MethodName := ⟨RX9, "digit", "()I"⟩
def dkwX9_digit_1 : List UInt8 := [180, 0, 27, 42, 180, 0, 17, 4, 100, 52, 16, 48, 100, 172]
abbrev dktX9_digit_1 : List UInt8 := dkwX9_digit_1 ++ []
def dkwX9_digit_0 : List UInt8 := [42, 42, 182, 0, 56, 182, 0, 48, 42, 89, 180, 0, 17, 4, 96, 181, 0, 17, 42, 180, 0, 3]
abbrev dktX9_digit_0 : List UInt8 := dkwX9_digit_0 ++ dktX9_digit_1
theorem dksX9_digit_0 : cX9_digit.data.toList.drop 0 = dktX9_digit_0 := by decide +kernel
theorem dksX9_digit_1 : cX9_digit.data.toList.drop 22 = dktX9_digit_1 := dk_seg dksX9_digit_0 22 rfl rfl
theorem dX9_digit_0 : decode cX9_digit 0 = .ok (.aload_n 0, 1) := dk_42 (dk_at dksX9_digit_0 0 rfl rfl)
theorem dX9_digit_1 : decode cX9_digit 1 = .ok (.aload_n 0, 1) := dk_42 (dk_at dksX9_digit_0 1 rfl rfl)
theorem dX9_digit_2 : decode cX9_digit 2 = .ok (.invokevirtual 56, 3) := dk_182 0 56 (dk_at dksX9_digit_0 2 rfl rfl)
theorem dX9_digit_5 : decode cX9_digit 5 = .ok (.invokevirtual 48, 3) := dk_182 0 48 (dk_at dksX9_digit_0 5 rfl rfl)
theorem dX9_digit_8 : decode cX9_digit 8 = .ok (.aload_n 0, 1) := dk_42 (dk_at dksX9_digit_0 8 rfl rfl)
theorem dX9_digit_9 : decode cX9_digit 9 = .ok (.dup, 1) := dk_89 (dk_at dksX9_digit_0 9 rfl rfl)
theorem dX9_digit_10 : decode cX9_digit 10 = .ok (.getfield 17, 3) := dk_180 0 17 (dk_at dksX9_digit_0 10 rfl rfl)
theorem dX9_digit_13 : decode cX9_digit 13 = .ok (.iconst 1, 1) := dk_4 (dk_at dksX9_digit_0 13 rfl rfl)
theorem dX9_digit_14 : decode cX9_digit 14 = .ok (.iadd, 1) := dk_96 (dk_at dksX9_digit_0 14 rfl rfl)
theorem dX9_digit_15 : decode cX9_digit 15 = .ok (.putfield 17, 3) := dk_181 0 17 (dk_at dksX9_digit_0 15 rfl rfl)
theorem dX9_digit_18 : decode cX9_digit 18 = .ok (.aload_n 0, 1) := dk_42 (dk_at dksX9_digit_0 18 rfl rfl)
theorem dX9_digit_19 : decode cX9_digit 19 = .ok (.getfield 3, 3) := dk_180 0 3 (dk_at dksX9_digit_0 19 rfl rfl)
theorem dX9_digit_22 : decode cX9_digit 22 = .ok (.getfield 27, 3) := dk_180 0 27 (dk_at dksX9_digit_1 0 rfl rfl)
theorem dX9_digit_25 : decode cX9_digit 25 = .ok (.aload_n 0, 1) := dk_42 (dk_at dksX9_digit_1 3 rfl rfl)
theorem dX9_digit_26 : decode cX9_digit 26 = .ok (.getfield 17, 3) := dk_180 0 17 (dk_at dksX9_digit_1 4 rfl rfl)
theorem dX9_digit_29 : decode cX9_digit 29 = .ok (.iconst 1, 1) := dk_4 (dk_at dksX9_digit_1 7 rfl rfl)
theorem dX9_digit_30 : decode cX9_digit 30 = .ok (.isub, 1) := dk_100 (dk_at dksX9_digit_1 8 rfl rfl)
theorem dX9_digit_31 : decode cX9_digit 31 = .ok (.caload, 1) := dk_52 (dk_at dksX9_digit_1 9 rfl rfl)
theorem dX9_digit_32 : decode cX9_digit 32 = .ok (.bipush 48, 2) := dk_16 48 (dk_at dksX9_digit_1 10 rfl rfl)
theorem dX9_digit_34 : decode cX9_digit 34 = .ok (.isub, 1) := dk_100 (dk_at dksX9_digit_1 12 rfl rfl)
theorem dX9_digit_35 : decode cX9_digit 35 = .ok (.ireturn, 1) := dk_172 (dk_at dksX9_digit_1 13 rfl rfl)
abbrev cX9_isDigit : ByteArray := prog_10_method_6_code
def yX9_isDigit : MethodName := ⟨RX9, "isDigit", "()Z"⟩
def dkwX9_isDigit_0 : List UInt8 := [42, 182, 0, 31, 16, 48, 16, 57, 184, 0, 52, 172]
abbrev dktX9_isDigit_0 : List UInt8 := dkwX9_isDigit_0 ++ []
theorem dksX9_isDigit_0 : cX9_isDigit.data.toList.drop 0 = dktX9_isDigit_0 := by decide +kernel
theorem dX9_isDigit_0 : decode cX9_isDigit 0 = .ok (.aload_n 0, 1) := dk_42 (dk_at dksX9_isDigit_0 0 rfl rfl)
theorem dX9_isDigit_1 : decode cX9_isDigit 1 = .ok (.invokevirtual 31, 3) := dk_182 0 31 (dk_at dksX9_isDigit_0 1 rfl rfl)
theorem dX9_isDigit_4 : decode cX9_isDigit 4 = .ok (.bipush 48, 2) := dk_16 48 (dk_at dksX9_isDigit_0 4 rfl rfl)
theorem dX9_isDigit_6 : decode cX9_isDigit 6 = .ok (.bipush 57, 2) := dk_16 57 (dk_at dksX9_isDigit_0 6 rfl rfl)
theorem dX9_isDigit_8 : decode cX9_isDigit 8 = .ok (.invokestatic 52, 3) := dk_184 0 52 (dk_at dksX9_isDigit_0 8 rfl rfl)
theorem dX9_isDigit_11 : decode cX9_isDigit 11 = .ok (.ireturn, 1) := dk_172 (dk_at dksX9_isDigit_0 11 rfl rfl)
abbrev cX9_lambda_trader_0 : ByteArray := prog_10_method_28_code
def yX9_lambda_trader_0 : MethodName := ⟨RX9, "lambda$trader$0", "(IILWindowExchange$State;)I"⟩
def dkwX9_lambda_trader_0_0 : List UInt8 := [44, 26, 27, 182, 0, 201, 172]
abbrev dktX9_lambda_trader_0_0 : List UInt8 := dkwX9_lambda_trader_0_0 ++ []
theorem dksX9_lambda_trader_0_0 : cX9_lambda_trader_0.data.toList.drop 0 = dktX9_lambda_trader_0_0 := by decide +kernel
theorem dX9_lambda_trader_0_0 : decode cX9_lambda_trader_0 0 = .ok (.aload_n 2, 1) := dk_44 (dk_at dksX9_lambda_trader_0_0 0 rfl rfl)
theorem dX9_lambda_trader_0_1 : decode cX9_lambda_trader_0 1 = .ok (.iload_n 0, 1) := dk_26 (dk_at dksX9_lambda_trader_0_0 1 rfl rfl)
theorem dX9_lambda_trader_0_2 : decode cX9_lambda_trader_0 2 = .ok (.iload_n 1, 1) := dk_27 (dk_at dksX9_lambda_trader_0_0 2 rfl rfl)
theorem dX9_lambda_trader_0_3 : decode cX9_lambda_trader_0 3 = .ok (.invokevirtual 201, 3) := dk_182 0 201 (dk_at dksX9_lambda_trader_0_0 3 rfl rfl)
theorem dX9_lambda_trader_0_6 : decode cX9_lambda_trader_0 6 = .ok (.ireturn, 1) := dk_172 (dk_at dksX9_lambda_trader_0_0 6 rfl rfl)
abbrev cX9_bought : ByteArray := prog_10_method_18_code
def yX9_bought : MethodName := ⟨RX9, "bought", "()LWindowExchange$Command;"⟩
def dkwX9_bought_0 : List UInt8 := [42, 18, 135, 182, 0, 63, 42, 4, 182, 0, 115, 176]
abbrev dktX9_bought_0 : List UInt8 := dkwX9_bought_0 ++ []
theorem dksX9_bought_0 : cX9_bought.data.toList.drop 0 = dktX9_bought_0 := by decide +kernel
theorem dX9_bought_0 : decode cX9_bought 0 = .ok (.aload_n 0, 1) := dk_42 (dk_at dksX9_bought_0 0 rfl rfl)
theorem dX9_bought_1 : decode cX9_bought 1 = .ok (.ldc 135, 2) := dk_18 135 (dk_at dksX9_bought_0 1 rfl rfl)
theorem dX9_bought_3 : decode cX9_bought 3 = .ok (.invokevirtual 63, 3) := dk_182 0 63 (dk_at dksX9_bought_0 3 rfl rfl)
theorem dX9_bought_6 : decode cX9_bought 6 = .ok (.aload_n 0, 1) := dk_42 (dk_at dksX9_bought_0 6 rfl rfl)
theorem dX9_bought_7 : decode cX9_bought 7 = .ok (.iconst 1, 1) := dk_4 (dk_at dksX9_bought_0 7 rfl rfl)
theorem dX9_bought_8 : decode cX9_bought 8 = .ok (.invokevirtual 115, 3) := dk_182 0 115 (dk_at dksX9_bought_0 8 rfl rfl)
theorem dX9_bought_11 : decode cX9_bought 11 = .ok (.areturn, 1) := dk_176 (dk_at dksX9_bought_0 11 rfl rfl)
abbrev cX9_placed : ByteArray := prog_10_method_12_code
def yX9_placed : MethodName := ⟨RX9, "placed", "(Z)LWindowExchange$Command;"⟩
def dkwX9_placed_1 : List UInt8 := [187, 0, 78, 89, 28, 27, 29, 21, 4, 186, 0, 94, 0, 0, 183, 0, 84, 176]
abbrev dktX9_placed_1 : List UInt8 := dkwX9_placed_1 ++ []
def dkwX9_placed_0 : List UInt8 := [42, 18, 87, 182, 0, 89, 61, 42, 18, 87, 182, 0, 72, 62, 42, 18, 92, 182, 0, 72, 54, 4]
abbrev dktX9_placed_0 : List UInt8 := dkwX9_placed_0 ++ dktX9_placed_1
theorem dksX9_placed_0 : cX9_placed.data.toList.drop 0 = dktX9_placed_0 := by decide +kernel
theorem dksX9_placed_1 : cX9_placed.data.toList.drop 22 = dktX9_placed_1 := dk_seg dksX9_placed_0 22 rfl rfl
theorem dX9_placed_0 : decode cX9_placed 0 = .ok (.aload_n 0, 1) := dk_42 (dk_at dksX9_placed_0 0 rfl rfl)
theorem dX9_placed_1 : decode cX9_placed 1 = .ok (.ldc 87, 2) := dk_18 87 (dk_at dksX9_placed_0 1 rfl rfl)
theorem dX9_placed_3 : decode cX9_placed 3 = .ok (.invokevirtual 89, 3) := dk_182 0 89 (dk_at dksX9_placed_0 3 rfl rfl)
theorem dX9_placed_6 : decode cX9_placed 6 = .ok (.istore_n 2, 1) := dk_61 (dk_at dksX9_placed_0 6 rfl rfl)
theorem dX9_placed_7 : decode cX9_placed 7 = .ok (.aload_n 0, 1) := dk_42 (dk_at dksX9_placed_0 7 rfl rfl)
theorem dX9_placed_8 : decode cX9_placed 8 = .ok (.ldc 87, 2) := dk_18 87 (dk_at dksX9_placed_0 8 rfl rfl)
theorem dX9_placed_10 : decode cX9_placed 10 = .ok (.invokevirtual 72, 3) := dk_182 0 72 (dk_at dksX9_placed_0 10 rfl rfl)
theorem dX9_placed_13 : decode cX9_placed 13 = .ok (.istore_n 3, 1) := dk_62 (dk_at dksX9_placed_0 13 rfl rfl)
theorem dX9_placed_14 : decode cX9_placed 14 = .ok (.aload_n 0, 1) := dk_42 (dk_at dksX9_placed_0 14 rfl rfl)
theorem dX9_placed_15 : decode cX9_placed 15 = .ok (.ldc 92, 2) := dk_18 92 (dk_at dksX9_placed_0 15 rfl rfl)
theorem dX9_placed_17 : decode cX9_placed 17 = .ok (.invokevirtual 72, 3) := dk_182 0 72 (dk_at dksX9_placed_0 17 rfl rfl)
theorem dX9_placed_20 : decode cX9_placed 20 = .ok (.istore 4, 2) := dk_54 4 (dk_at dksX9_placed_0 20 rfl rfl)
theorem dX9_placed_22 : decode cX9_placed 22 = .ok (.new 78, 3) := dk_187 0 78 (dk_at dksX9_placed_1 0 rfl rfl)
theorem dX9_placed_25 : decode cX9_placed 25 = .ok (.dup, 1) := dk_89 (dk_at dksX9_placed_1 3 rfl rfl)
theorem dX9_placed_26 : decode cX9_placed 26 = .ok (.iload_n 2, 1) := dk_28 (dk_at dksX9_placed_1 4 rfl rfl)
theorem dX9_placed_27 : decode cX9_placed 27 = .ok (.iload_n 1, 1) := dk_27 (dk_at dksX9_placed_1 5 rfl rfl)
theorem dX9_placed_28 : decode cX9_placed 28 = .ok (.iload_n 3, 1) := dk_29 (dk_at dksX9_placed_1 6 rfl rfl)
theorem dX9_placed_29 : decode cX9_placed 29 = .ok (.iload 4, 2) := dk_21 4 (dk_at dksX9_placed_1 7 rfl rfl)
theorem dX9_placed_31 : decode cX9_placed 31 = .ok (.invokedynamic 94, 5) := by decide +kernel
theorem dX9_placed_36 : decode cX9_placed 36 = .ok (.invokespecial 84, 3) := dk_183 0 84 (dk_at dksX9_placed_1 14 rfl rfl)
theorem dX9_placed_39 : decode cX9_placed 39 = .ok (.areturn, 1) := dk_176 (dk_at dksX9_placed_1 17 rfl rfl)
abbrev cX9_digitAfter : ByteArray := prog_10_method_10_code
def yX9_digitAfter : MethodName := ⟨RX9, "digitAfter", "(Ljava/lang/String;)I"⟩
def dkwX9_digitAfter_0 : List UInt8 := [42, 43, 182, 0, 63, 42, 182, 0, 60, 172]
abbrev dktX9_digitAfter_0 : List UInt8 := dkwX9_digitAfter_0 ++ []
theorem dksX9_digitAfter_0 : cX9_digitAfter.data.toList.drop 0 = dktX9_digitAfter_0 := by decide +kernel
theorem dX9_digitAfter_0 : decode cX9_digitAfter 0 = .ok (.aload_n 0, 1) := dk_42 (dk_at dksX9_digitAfter_0 0 rfl rfl)
theorem dX9_digitAfter_1 : decode cX9_digitAfter 1 = .ok (.aload_n 1, 1) := dk_43 (dk_at dksX9_digitAfter_0 1 rfl rfl)
theorem dX9_digitAfter_2 : decode cX9_digitAfter 2 = .ok (.invokevirtual 63, 3) := dk_182 0 63 (dk_at dksX9_digitAfter_0 2 rfl rfl)
theorem dX9_digitAfter_5 : decode cX9_digitAfter 5 = .ok (.aload_n 0, 1) := dk_42 (dk_at dksX9_digitAfter_0 5 rfl rfl)
theorem dX9_digitAfter_6 : decode cX9_digitAfter 6 = .ok (.invokevirtual 60, 3) := dk_182 0 60 (dk_at dksX9_digitAfter_0 6 rfl rfl)
theorem dX9_digitAfter_9 : decode cX9_digitAfter 9 = .ok (.ireturn, 1) := dk_172 (dk_at dksX9_digitAfter_0 9 rfl rfl)
abbrev cX9_lambda_placed_1 : ByteArray := prog_10_method_27_code
def yX9_lambda_placed_1 : MethodName := ⟨RX9, "lambda$placed$1", "(IZIILWindowExchange$State;)I"⟩
def dkwX9_lambda_placed_1_0 : List UInt8 := [25, 4, 26, 27, 28, 29, 182, 0, 197, 172]
abbrev dktX9_lambda_placed_1_0 : List UInt8 := dkwX9_lambda_placed_1_0 ++ []
theorem dksX9_lambda_placed_1_0 : cX9_lambda_placed_1.data.toList.drop 0 = dktX9_lambda_placed_1_0 := by decide +kernel
theorem dX9_lambda_placed_1_0 : decode cX9_lambda_placed_1 0 = .ok (.aload 4, 2) := dk_25 4 (dk_at dksX9_lambda_placed_1_0 0 rfl rfl)
theorem dX9_lambda_placed_1_2 : decode cX9_lambda_placed_1 2 = .ok (.iload_n 0, 1) := dk_26 (dk_at dksX9_lambda_placed_1_0 2 rfl rfl)
theorem dX9_lambda_placed_1_3 : decode cX9_lambda_placed_1 3 = .ok (.iload_n 1, 1) := dk_27 (dk_at dksX9_lambda_placed_1_0 3 rfl rfl)
theorem dX9_lambda_placed_1_4 : decode cX9_lambda_placed_1 4 = .ok (.iload_n 2, 1) := dk_28 (dk_at dksX9_lambda_placed_1_0 4 rfl rfl)
theorem dX9_lambda_placed_1_5 : decode cX9_lambda_placed_1 5 = .ok (.iload_n 3, 1) := dk_29 (dk_at dksX9_lambda_placed_1_0 5 rfl rfl)
theorem dX9_lambda_placed_1_6 : decode cX9_lambda_placed_1 6 = .ok (.invokevirtual 197, 3) := dk_182 0 197 (dk_at dksX9_lambda_placed_1_0 6 rfl rfl)
theorem dX9_lambda_placed_1_9 : decode cX9_lambda_placed_1 9 = .ok (.ireturn, 1) := dk_172 (dk_at dksX9_lambda_placed_1_0 9 rfl rfl)
abbrev cX9_sellOrSeal : ByteArray := prog_10_method_15_code
def yX9_sellOrSeal : MethodName := ⟨RX9, "sellOrSeal", "()LWindowExchange$Command;"⟩
def dkwX9_sellOrSeal_2 : List UInt8 := [186, 0, 121, 0, 0, 183, 0, 84, 176]
abbrev dktX9_sellOrSeal_2 : List UInt8 := dkwX9_sellOrSeal_2 ++ []
def dkwX9_sellOrSeal_1 : List UInt8 := [182, 0, 115, 176, 42, 18, 119, 182, 0, 89, 60, 42, 18, 108, 182, 0, 72, 61, 187, 0, 78, 89, 27, 28]
abbrev dktX9_sellOrSeal_1 : List UInt8 := dkwX9_sellOrSeal_1 ++ dktX9_sellOrSeal_2
def dkwX9_sellOrSeal_0 : List UInt8 := [42, 18, 111, 182, 0, 63, 42, 16, 108, 182, 0, 44, 153, 0, 15, 42, 18, 113, 182, 0, 63, 42, 3]
abbrev dktX9_sellOrSeal_0 : List UInt8 := dkwX9_sellOrSeal_0 ++ dktX9_sellOrSeal_1
theorem dksX9_sellOrSeal_0 : cX9_sellOrSeal.data.toList.drop 0 = dktX9_sellOrSeal_0 := by decide +kernel
theorem dksX9_sellOrSeal_1 : cX9_sellOrSeal.data.toList.drop 23 = dktX9_sellOrSeal_1 := dk_seg dksX9_sellOrSeal_0 23 rfl rfl
theorem dksX9_sellOrSeal_2 : cX9_sellOrSeal.data.toList.drop 47 = dktX9_sellOrSeal_2 := dk_seg dksX9_sellOrSeal_1 24 rfl rfl
theorem dX9_sellOrSeal_0 : decode cX9_sellOrSeal 0 = .ok (.aload_n 0, 1) := dk_42 (dk_at dksX9_sellOrSeal_0 0 rfl rfl)
theorem dX9_sellOrSeal_1 : decode cX9_sellOrSeal 1 = .ok (.ldc 111, 2) := dk_18 111 (dk_at dksX9_sellOrSeal_0 1 rfl rfl)
theorem dX9_sellOrSeal_3 : decode cX9_sellOrSeal 3 = .ok (.invokevirtual 63, 3) := dk_182 0 63 (dk_at dksX9_sellOrSeal_0 3 rfl rfl)
theorem dX9_sellOrSeal_6 : decode cX9_sellOrSeal 6 = .ok (.aload_n 0, 1) := dk_42 (dk_at dksX9_sellOrSeal_0 6 rfl rfl)
theorem dX9_sellOrSeal_7 : decode cX9_sellOrSeal 7 = .ok (.bipush 108, 2) := dk_16 108 (dk_at dksX9_sellOrSeal_0 7 rfl rfl)
theorem dX9_sellOrSeal_9 : decode cX9_sellOrSeal 9 = .ok (.invokevirtual 44, 3) := dk_182 0 44 (dk_at dksX9_sellOrSeal_0 9 rfl rfl)
theorem dX9_sellOrSeal_12 : decode cX9_sellOrSeal 12 = .ok (.ifCond .eq 15, 3) := dk_153 0 15 (dk_at dksX9_sellOrSeal_0 12 rfl rfl)
theorem dX9_sellOrSeal_15 : decode cX9_sellOrSeal 15 = .ok (.aload_n 0, 1) := dk_42 (dk_at dksX9_sellOrSeal_0 15 rfl rfl)
theorem dX9_sellOrSeal_16 : decode cX9_sellOrSeal 16 = .ok (.ldc 113, 2) := dk_18 113 (dk_at dksX9_sellOrSeal_0 16 rfl rfl)
theorem dX9_sellOrSeal_18 : decode cX9_sellOrSeal 18 = .ok (.invokevirtual 63, 3) := dk_182 0 63 (dk_at dksX9_sellOrSeal_0 18 rfl rfl)
theorem dX9_sellOrSeal_21 : decode cX9_sellOrSeal 21 = .ok (.aload_n 0, 1) := dk_42 (dk_at dksX9_sellOrSeal_0 21 rfl rfl)
theorem dX9_sellOrSeal_22 : decode cX9_sellOrSeal 22 = .ok (.iconst 0, 1) := dk_3 (dk_at dksX9_sellOrSeal_0 22 rfl rfl)
theorem dX9_sellOrSeal_23 : decode cX9_sellOrSeal 23 = .ok (.invokevirtual 115, 3) := dk_182 0 115 (dk_at dksX9_sellOrSeal_1 0 rfl rfl)
theorem dX9_sellOrSeal_26 : decode cX9_sellOrSeal 26 = .ok (.areturn, 1) := dk_176 (dk_at dksX9_sellOrSeal_1 3 rfl rfl)
theorem dX9_sellOrSeal_27 : decode cX9_sellOrSeal 27 = .ok (.aload_n 0, 1) := dk_42 (dk_at dksX9_sellOrSeal_1 4 rfl rfl)
theorem dX9_sellOrSeal_28 : decode cX9_sellOrSeal 28 = .ok (.ldc 119, 2) := dk_18 119 (dk_at dksX9_sellOrSeal_1 5 rfl rfl)
theorem dX9_sellOrSeal_30 : decode cX9_sellOrSeal 30 = .ok (.invokevirtual 89, 3) := dk_182 0 89 (dk_at dksX9_sellOrSeal_1 7 rfl rfl)
theorem dX9_sellOrSeal_33 : decode cX9_sellOrSeal 33 = .ok (.istore_n 1, 1) := dk_60 (dk_at dksX9_sellOrSeal_1 10 rfl rfl)
theorem dX9_sellOrSeal_34 : decode cX9_sellOrSeal 34 = .ok (.aload_n 0, 1) := dk_42 (dk_at dksX9_sellOrSeal_1 11 rfl rfl)
theorem dX9_sellOrSeal_35 : decode cX9_sellOrSeal 35 = .ok (.ldc 108, 2) := dk_18 108 (dk_at dksX9_sellOrSeal_1 12 rfl rfl)
theorem dX9_sellOrSeal_37 : decode cX9_sellOrSeal 37 = .ok (.invokevirtual 72, 3) := dk_182 0 72 (dk_at dksX9_sellOrSeal_1 14 rfl rfl)
theorem dX9_sellOrSeal_40 : decode cX9_sellOrSeal 40 = .ok (.istore_n 2, 1) := dk_61 (dk_at dksX9_sellOrSeal_1 17 rfl rfl)
theorem dX9_sellOrSeal_41 : decode cX9_sellOrSeal 41 = .ok (.new 78, 3) := dk_187 0 78 (dk_at dksX9_sellOrSeal_1 18 rfl rfl)
theorem dX9_sellOrSeal_44 : decode cX9_sellOrSeal 44 = .ok (.dup, 1) := dk_89 (dk_at dksX9_sellOrSeal_1 21 rfl rfl)
theorem dX9_sellOrSeal_45 : decode cX9_sellOrSeal 45 = .ok (.iload_n 1, 1) := dk_27 (dk_at dksX9_sellOrSeal_1 22 rfl rfl)
theorem dX9_sellOrSeal_46 : decode cX9_sellOrSeal 46 = .ok (.iload_n 2, 1) := dk_28 (dk_at dksX9_sellOrSeal_1 23 rfl rfl)
theorem dX9_sellOrSeal_47 : decode cX9_sellOrSeal 47 = .ok (.invokedynamic 121, 5) := by decide +kernel
theorem dX9_sellOrSeal_52 : decode cX9_sellOrSeal 52 = .ok (.invokespecial 84, 3) := dk_183 0 84 (dk_at dksX9_sellOrSeal_2 5 rfl rfl)
theorem dX9_sellOrSeal_55 : decode cX9_sellOrSeal 55 = .ok (.areturn, 1) := dk_176 (dk_at dksX9_sellOrSeal_2 8 rfl rfl)
abbrev cX9_lambda_sellOrSeal_4 : ByteArray := prog_10_method_24_code
def yX9_lambda_sellOrSeal_4 : MethodName := ⟨RX9, "lambda$sellOrSeal$4", "(IILWindowExchange$State;)I"⟩
def dkwX9_lambda_sellOrSeal_4_0 : List UInt8 := [44, 26, 27, 182, 0, 186, 172]
abbrev dktX9_lambda_sellOrSeal_4_0 : List UInt8 := dkwX9_lambda_sellOrSeal_4_0 ++ []
theorem dksX9_lambda_sellOrSeal_4_0 : cX9_lambda_sellOrSeal_4.data.toList.drop 0 = dktX9_lambda_sellOrSeal_4_0 := by decide +kernel
theorem dX9_lambda_sellOrSeal_4_0 : decode cX9_lambda_sellOrSeal_4 0 = .ok (.aload_n 2, 1) := dk_44 (dk_at dksX9_lambda_sellOrSeal_4_0 0 rfl rfl)
theorem dX9_lambda_sellOrSeal_4_1 : decode cX9_lambda_sellOrSeal_4 1 = .ok (.iload_n 0, 1) := dk_26 (dk_at dksX9_lambda_sellOrSeal_4_0 1 rfl rfl)
theorem dX9_lambda_sellOrSeal_4_2 : decode cX9_lambda_sellOrSeal_4 2 = .ok (.iload_n 1, 1) := dk_27 (dk_at dksX9_lambda_sellOrSeal_4_0 2 rfl rfl)
theorem dX9_lambda_sellOrSeal_4_3 : decode cX9_lambda_sellOrSeal_4 3 = .ok (.invokevirtual 186, 3) := dk_182 0 186 (dk_at dksX9_lambda_sellOrSeal_4_0 3 rfl rfl)
theorem dX9_lambda_sellOrSeal_4_6 : decode cX9_lambda_sellOrSeal_4 6 = .ok (.ireturn, 1) := dk_172 (dk_at dksX9_lambda_sellOrSeal_4_0 6 rfl rfl)
abbrev cX9_cancelOrClose : ByteArray := prog_10_method_16_code
def yX9_cancelOrClose : MethodName := ⟨RX9, "cancelOrClose", "()LWindowExchange$Command;"⟩
def dkwX9_cancelOrClose_2 : List UInt8 := [176]
abbrev dktX9_cancelOrClose_2 : List UInt8 := dkwX9_cancelOrClose_2 ++ []
def dkwX9_cancelOrClose_1 : List UInt8 := [183, 0, 84, 176, 42, 18, 127, 182, 0, 72, 60, 187, 0, 78, 89, 27, 186, 0, 129, 0, 0, 183, 0, 84]
abbrev dktX9_cancelOrClose_1 : List UInt8 := dkwX9_cancelOrClose_1 ++ dktX9_cancelOrClose_2
def dkwX9_cancelOrClose_0 : List UInt8 := [42, 16, 108, 182, 0, 44, 153, 0, 22, 42, 18, 122, 182, 0, 63, 187, 0, 78, 89, 186, 0, 124, 0, 0]
abbrev dktX9_cancelOrClose_0 : List UInt8 := dkwX9_cancelOrClose_0 ++ dktX9_cancelOrClose_1
theorem dksX9_cancelOrClose_0 : cX9_cancelOrClose.data.toList.drop 0 = dktX9_cancelOrClose_0 := by decide +kernel
theorem dksX9_cancelOrClose_1 : cX9_cancelOrClose.data.toList.drop 24 = dktX9_cancelOrClose_1 := dk_seg dksX9_cancelOrClose_0 24 rfl rfl
theorem dksX9_cancelOrClose_2 : cX9_cancelOrClose.data.toList.drop 48 = dktX9_cancelOrClose_2 := dk_seg dksX9_cancelOrClose_1 24 rfl rfl
theorem dX9_cancelOrClose_0 : decode cX9_cancelOrClose 0 = .ok (.aload_n 0, 1) := dk_42 (dk_at dksX9_cancelOrClose_0 0 rfl rfl)
theorem dX9_cancelOrClose_1 : decode cX9_cancelOrClose 1 = .ok (.bipush 108, 2) := dk_16 108 (dk_at dksX9_cancelOrClose_0 1 rfl rfl)
theorem dX9_cancelOrClose_3 : decode cX9_cancelOrClose 3 = .ok (.invokevirtual 44, 3) := dk_182 0 44 (dk_at dksX9_cancelOrClose_0 3 rfl rfl)
theorem dX9_cancelOrClose_6 : decode cX9_cancelOrClose 6 = .ok (.ifCond .eq 22, 3) := dk_153 0 22 (dk_at dksX9_cancelOrClose_0 6 rfl rfl)
theorem dX9_cancelOrClose_9 : decode cX9_cancelOrClose 9 = .ok (.aload_n 0, 1) := dk_42 (dk_at dksX9_cancelOrClose_0 9 rfl rfl)
theorem dX9_cancelOrClose_10 : decode cX9_cancelOrClose 10 = .ok (.ldc 122, 2) := dk_18 122 (dk_at dksX9_cancelOrClose_0 10 rfl rfl)
theorem dX9_cancelOrClose_12 : decode cX9_cancelOrClose 12 = .ok (.invokevirtual 63, 3) := dk_182 0 63 (dk_at dksX9_cancelOrClose_0 12 rfl rfl)
theorem dX9_cancelOrClose_15 : decode cX9_cancelOrClose 15 = .ok (.new 78, 3) := dk_187 0 78 (dk_at dksX9_cancelOrClose_0 15 rfl rfl)
theorem dX9_cancelOrClose_18 : decode cX9_cancelOrClose 18 = .ok (.dup, 1) := dk_89 (dk_at dksX9_cancelOrClose_0 18 rfl rfl)
theorem dX9_cancelOrClose_19 : decode cX9_cancelOrClose 19 = .ok (.invokedynamic 124, 5) := by decide +kernel
theorem dX9_cancelOrClose_24 : decode cX9_cancelOrClose 24 = .ok (.invokespecial 84, 3) := dk_183 0 84 (dk_at dksX9_cancelOrClose_1 0 rfl rfl)
theorem dX9_cancelOrClose_27 : decode cX9_cancelOrClose 27 = .ok (.areturn, 1) := dk_176 (dk_at dksX9_cancelOrClose_1 3 rfl rfl)
theorem dX9_cancelOrClose_28 : decode cX9_cancelOrClose 28 = .ok (.aload_n 0, 1) := dk_42 (dk_at dksX9_cancelOrClose_1 4 rfl rfl)
theorem dX9_cancelOrClose_29 : decode cX9_cancelOrClose 29 = .ok (.ldc 127, 2) := dk_18 127 (dk_at dksX9_cancelOrClose_1 5 rfl rfl)
theorem dX9_cancelOrClose_31 : decode cX9_cancelOrClose 31 = .ok (.invokevirtual 72, 3) := dk_182 0 72 (dk_at dksX9_cancelOrClose_1 7 rfl rfl)
theorem dX9_cancelOrClose_34 : decode cX9_cancelOrClose 34 = .ok (.istore_n 1, 1) := dk_60 (dk_at dksX9_cancelOrClose_1 10 rfl rfl)
theorem dX9_cancelOrClose_35 : decode cX9_cancelOrClose 35 = .ok (.new 78, 3) := dk_187 0 78 (dk_at dksX9_cancelOrClose_1 11 rfl rfl)
theorem dX9_cancelOrClose_38 : decode cX9_cancelOrClose 38 = .ok (.dup, 1) := dk_89 (dk_at dksX9_cancelOrClose_1 14 rfl rfl)
theorem dX9_cancelOrClose_39 : decode cX9_cancelOrClose 39 = .ok (.iload_n 1, 1) := dk_27 (dk_at dksX9_cancelOrClose_1 15 rfl rfl)
theorem dX9_cancelOrClose_40 : decode cX9_cancelOrClose 40 = .ok (.invokedynamic 129, 5) := by decide +kernel
theorem dX9_cancelOrClose_45 : decode cX9_cancelOrClose 45 = .ok (.invokespecial 84, 3) := dk_183 0 84 (dk_at dksX9_cancelOrClose_1 21 rfl rfl)
theorem dX9_cancelOrClose_48 : decode cX9_cancelOrClose 48 = .ok (.areturn, 1) := dk_176 (dk_at dksX9_cancelOrClose_2 0 rfl rfl)
abbrev cX9_lambda_cancelOrClose_5 : ByteArray := prog_10_method_23_code
def yX9_lambda_cancelOrClose_5 : MethodName := ⟨RX9, "lambda$cancelOrClose$5", "(LWindowExchange$State;)I"⟩
theorem dX9_lambda_cancelOrClose_5_0 : decode cX9_lambda_cancelOrClose_5 0 = .ok (.aload_n 0, 1) := by decide +kernel
theorem dX9_lambda_cancelOrClose_5_1 : decode cX9_lambda_cancelOrClose_5 1 = .ok (.invokevirtual 183, 3) := by decide +kernel
theorem dX9_lambda_cancelOrClose_5_4 : decode cX9_lambda_cancelOrClose_5 4 = .ok (.ireturn, 1) := by decide +kernel
abbrev cX9_lambda_cancelOrClose_6 : ByteArray := prog_10_method_22_code
def yX9_lambda_cancelOrClose_6 : MethodName := ⟨RX9, "lambda$cancelOrClose$6", "(ILWindowExchange$State;)I"⟩
def dkwX9_lambda_cancelOrClose_6_0 : List UInt8 := [43, 26, 182, 0, 180, 172]
abbrev dktX9_lambda_cancelOrClose_6_0 : List UInt8 := dkwX9_lambda_cancelOrClose_6_0 ++ []
theorem dksX9_lambda_cancelOrClose_6_0 : cX9_lambda_cancelOrClose_6.data.toList.drop 0 = dktX9_lambda_cancelOrClose_6_0 := by decide +kernel
theorem dX9_lambda_cancelOrClose_6_0 : decode cX9_lambda_cancelOrClose_6 0 = .ok (.aload_n 1, 1) := dk_43 (dk_at dksX9_lambda_cancelOrClose_6_0 0 rfl rfl)
theorem dX9_lambda_cancelOrClose_6_1 : decode cX9_lambda_cancelOrClose_6 1 = .ok (.iload_n 0, 1) := dk_26 (dk_at dksX9_lambda_cancelOrClose_6_0 1 rfl rfl)
theorem dX9_lambda_cancelOrClose_6_2 : decode cX9_lambda_cancelOrClose_6 2 = .ok (.invokevirtual 180, 3) := dk_182 0 180 (dk_at dksX9_lambda_cancelOrClose_6_0 2 rfl rfl)
theorem dX9_lambda_cancelOrClose_6_5 : decode cX9_lambda_cancelOrClose_6 5 = .ok (.ireturn, 1) := dk_172 (dk_at dksX9_lambda_cancelOrClose_6_0 5 rfl rfl)
abbrev cX9_agreed : ByteArray := prog_10_method_13_code
def yX9_agreed : MethodName := ⟨RX9, "agreed", "()LWindowExchange$Command;"⟩
def dkwX9_agreed_2 : List UInt8 := [186, 0, 103, 0, 0, 183, 0, 84, 176]
abbrev dktX9_agreed_2 : List UInt8 := dkwX9_agreed_2 ++ []
def dkwX9_agreed_1 : List UInt8 := [182, 0, 72, 54, 4, 42, 18, 101, 182, 0, 72, 54, 5, 187, 0, 78, 89, 27, 28, 29, 21, 4, 21, 5]
abbrev dktX9_agreed_1 : List UInt8 := dkwX9_agreed_1 ++ dktX9_agreed_2
def dkwX9_agreed_0 : List UInt8 := [42, 18, 97, 182, 0, 89, 60, 42, 18, 99, 182, 0, 89, 61, 42, 18, 87, 182, 0, 72, 62, 42, 18, 92]
abbrev dktX9_agreed_0 : List UInt8 := dkwX9_agreed_0 ++ dktX9_agreed_1
theorem dksX9_agreed_0 : cX9_agreed.data.toList.drop 0 = dktX9_agreed_0 := by decide +kernel
theorem dksX9_agreed_1 : cX9_agreed.data.toList.drop 24 = dktX9_agreed_1 := dk_seg dksX9_agreed_0 24 rfl rfl
theorem dksX9_agreed_2 : cX9_agreed.data.toList.drop 48 = dktX9_agreed_2 := dk_seg dksX9_agreed_1 24 rfl rfl
theorem dX9_agreed_0 : decode cX9_agreed 0 = .ok (.aload_n 0, 1) := dk_42 (dk_at dksX9_agreed_0 0 rfl rfl)
theorem dX9_agreed_1 : decode cX9_agreed 1 = .ok (.ldc 97, 2) := dk_18 97 (dk_at dksX9_agreed_0 1 rfl rfl)
theorem dX9_agreed_3 : decode cX9_agreed 3 = .ok (.invokevirtual 89, 3) := dk_182 0 89 (dk_at dksX9_agreed_0 3 rfl rfl)
theorem dX9_agreed_6 : decode cX9_agreed 6 = .ok (.istore_n 1, 1) := dk_60 (dk_at dksX9_agreed_0 6 rfl rfl)
theorem dX9_agreed_7 : decode cX9_agreed 7 = .ok (.aload_n 0, 1) := dk_42 (dk_at dksX9_agreed_0 7 rfl rfl)
theorem dX9_agreed_8 : decode cX9_agreed 8 = .ok (.ldc 99, 2) := dk_18 99 (dk_at dksX9_agreed_0 8 rfl rfl)
theorem dX9_agreed_10 : decode cX9_agreed 10 = .ok (.invokevirtual 89, 3) := dk_182 0 89 (dk_at dksX9_agreed_0 10 rfl rfl)
theorem dX9_agreed_13 : decode cX9_agreed 13 = .ok (.istore_n 2, 1) := dk_61 (dk_at dksX9_agreed_0 13 rfl rfl)
theorem dX9_agreed_14 : decode cX9_agreed 14 = .ok (.aload_n 0, 1) := dk_42 (dk_at dksX9_agreed_0 14 rfl rfl)
theorem dX9_agreed_15 : decode cX9_agreed 15 = .ok (.ldc 87, 2) := dk_18 87 (dk_at dksX9_agreed_0 15 rfl rfl)
theorem dX9_agreed_17 : decode cX9_agreed 17 = .ok (.invokevirtual 72, 3) := dk_182 0 72 (dk_at dksX9_agreed_0 17 rfl rfl)
theorem dX9_agreed_20 : decode cX9_agreed 20 = .ok (.istore_n 3, 1) := dk_62 (dk_at dksX9_agreed_0 20 rfl rfl)
theorem dX9_agreed_21 : decode cX9_agreed 21 = .ok (.aload_n 0, 1) := dk_42 (dk_at dksX9_agreed_0 21 rfl rfl)
theorem dX9_agreed_22 : decode cX9_agreed 22 = .ok (.ldc 92, 2) := dk_18 92 (dk_at dksX9_agreed_0 22 rfl rfl)
theorem dX9_agreed_24 : decode cX9_agreed 24 = .ok (.invokevirtual 72, 3) := dk_182 0 72 (dk_at dksX9_agreed_1 0 rfl rfl)
theorem dX9_agreed_27 : decode cX9_agreed 27 = .ok (.istore 4, 2) := dk_54 4 (dk_at dksX9_agreed_1 3 rfl rfl)
theorem dX9_agreed_29 : decode cX9_agreed 29 = .ok (.aload_n 0, 1) := dk_42 (dk_at dksX9_agreed_1 5 rfl rfl)
theorem dX9_agreed_30 : decode cX9_agreed 30 = .ok (.ldc 101, 2) := dk_18 101 (dk_at dksX9_agreed_1 6 rfl rfl)
theorem dX9_agreed_32 : decode cX9_agreed 32 = .ok (.invokevirtual 72, 3) := dk_182 0 72 (dk_at dksX9_agreed_1 8 rfl rfl)
theorem dX9_agreed_35 : decode cX9_agreed 35 = .ok (.istore 5, 2) := dk_54 5 (dk_at dksX9_agreed_1 11 rfl rfl)
theorem dX9_agreed_37 : decode cX9_agreed 37 = .ok (.new 78, 3) := dk_187 0 78 (dk_at dksX9_agreed_1 13 rfl rfl)
theorem dX9_agreed_40 : decode cX9_agreed 40 = .ok (.dup, 1) := dk_89 (dk_at dksX9_agreed_1 16 rfl rfl)
theorem dX9_agreed_41 : decode cX9_agreed 41 = .ok (.iload_n 1, 1) := dk_27 (dk_at dksX9_agreed_1 17 rfl rfl)
theorem dX9_agreed_42 : decode cX9_agreed 42 = .ok (.iload_n 2, 1) := dk_28 (dk_at dksX9_agreed_1 18 rfl rfl)
theorem dX9_agreed_43 : decode cX9_agreed 43 = .ok (.iload_n 3, 1) := dk_29 (dk_at dksX9_agreed_1 19 rfl rfl)
theorem dX9_agreed_44 : decode cX9_agreed 44 = .ok (.iload 4, 2) := dk_21 4 (dk_at dksX9_agreed_1 20 rfl rfl)
theorem dX9_agreed_46 : decode cX9_agreed 46 = .ok (.iload 5, 2) := dk_21 5 (dk_at dksX9_agreed_1 22 rfl rfl)
theorem dX9_agreed_48 : decode cX9_agreed 48 = .ok (.invokedynamic 103, 5) := by decide +kernel
theorem dX9_agreed_53 : decode cX9_agreed 53 = .ok (.invokespecial 84, 3) := dk_183 0 84 (dk_at dksX9_agreed_2 5 rfl rfl)
theorem dX9_agreed_56 : decode cX9_agreed 56 = .ok (.areturn, 1) := dk_176 (dk_at dksX9_agreed_2 8 rfl rfl)
abbrev cX9_lambda_agreed_2 : ByteArray := prog_10_method_26_code
def yX9_lambda_agreed_2 : MethodName := ⟨RX9, "lambda$agreed$2", "(IIIIILWindowExchange$State;)I"⟩
def dkwX9_lambda_agreed_2_0 : List UInt8 := [25, 5, 26, 27, 28, 29, 21, 4, 182, 0, 193, 172]
abbrev dktX9_lambda_agreed_2_0 : List UInt8 := dkwX9_lambda_agreed_2_0 ++ []
theorem dksX9_lambda_agreed_2_0 : cX9_lambda_agreed_2.data.toList.drop 0 = dktX9_lambda_agreed_2_0 := by decide +kernel
theorem dX9_lambda_agreed_2_0 : decode cX9_lambda_agreed_2 0 = .ok (.aload 5, 2) := dk_25 5 (dk_at dksX9_lambda_agreed_2_0 0 rfl rfl)
theorem dX9_lambda_agreed_2_2 : decode cX9_lambda_agreed_2 2 = .ok (.iload_n 0, 1) := dk_26 (dk_at dksX9_lambda_agreed_2_0 2 rfl rfl)
theorem dX9_lambda_agreed_2_3 : decode cX9_lambda_agreed_2 3 = .ok (.iload_n 1, 1) := dk_27 (dk_at dksX9_lambda_agreed_2_0 3 rfl rfl)
theorem dX9_lambda_agreed_2_4 : decode cX9_lambda_agreed_2 4 = .ok (.iload_n 2, 1) := dk_28 (dk_at dksX9_lambda_agreed_2_0 4 rfl rfl)
theorem dX9_lambda_agreed_2_5 : decode cX9_lambda_agreed_2 5 = .ok (.iload_n 3, 1) := dk_29 (dk_at dksX9_lambda_agreed_2_0 5 rfl rfl)
theorem dX9_lambda_agreed_2_6 : decode cX9_lambda_agreed_2 6 = .ok (.iload 4, 2) := dk_21 4 (dk_at dksX9_lambda_agreed_2_0 6 rfl rfl)
theorem dX9_lambda_agreed_2_8 : decode cX9_lambda_agreed_2 8 = .ok (.invokevirtual 193, 3) := dk_182 0 193 (dk_at dksX9_lambda_agreed_2_0 8 rfl rfl)
theorem dX9_lambda_agreed_2_11 : decode cX9_lambda_agreed_2 11 = .ok (.ireturn, 1) := dk_172 (dk_at dksX9_lambda_agreed_2_0 11 rfl rfl)
abbrev cX9_opened : ByteArray := prog_10_method_14_code
def yX9_opened : MethodName := ⟨RX9, "opened", "()LWindowExchange$Command;"⟩
def dkwX9_opened_1 : List UInt8 := [186, 0, 110, 0, 0, 183, 0, 84, 176]
abbrev dktX9_opened_1 : List UInt8 := dkwX9_opened_1 ++ []
def dkwX9_opened_0 : List UInt8 := [42, 18, 106, 182, 0, 89, 60, 42, 18, 108, 182, 0, 72, 61, 187, 0, 78, 89, 27, 28]
abbrev dktX9_opened_0 : List UInt8 := dkwX9_opened_0 ++ dktX9_opened_1
theorem dksX9_opened_0 : cX9_opened.data.toList.drop 0 = dktX9_opened_0 := by decide +kernel
theorem dksX9_opened_1 : cX9_opened.data.toList.drop 20 = dktX9_opened_1 := dk_seg dksX9_opened_0 20 rfl rfl
theorem dX9_opened_0 : decode cX9_opened 0 = .ok (.aload_n 0, 1) := dk_42 (dk_at dksX9_opened_0 0 rfl rfl)
theorem dX9_opened_1 : decode cX9_opened 1 = .ok (.ldc 106, 2) := dk_18 106 (dk_at dksX9_opened_0 1 rfl rfl)
theorem dX9_opened_3 : decode cX9_opened 3 = .ok (.invokevirtual 89, 3) := dk_182 0 89 (dk_at dksX9_opened_0 3 rfl rfl)
theorem dX9_opened_6 : decode cX9_opened 6 = .ok (.istore_n 1, 1) := dk_60 (dk_at dksX9_opened_0 6 rfl rfl)
theorem dX9_opened_7 : decode cX9_opened 7 = .ok (.aload_n 0, 1) := dk_42 (dk_at dksX9_opened_0 7 rfl rfl)
theorem dX9_opened_8 : decode cX9_opened 8 = .ok (.ldc 108, 2) := dk_18 108 (dk_at dksX9_opened_0 8 rfl rfl)
theorem dX9_opened_10 : decode cX9_opened 10 = .ok (.invokevirtual 72, 3) := dk_182 0 72 (dk_at dksX9_opened_0 10 rfl rfl)
theorem dX9_opened_13 : decode cX9_opened 13 = .ok (.istore_n 2, 1) := dk_61 (dk_at dksX9_opened_0 13 rfl rfl)
theorem dX9_opened_14 : decode cX9_opened 14 = .ok (.new 78, 3) := dk_187 0 78 (dk_at dksX9_opened_0 14 rfl rfl)
theorem dX9_opened_17 : decode cX9_opened 17 = .ok (.dup, 1) := dk_89 (dk_at dksX9_opened_0 17 rfl rfl)
theorem dX9_opened_18 : decode cX9_opened 18 = .ok (.iload_n 1, 1) := dk_27 (dk_at dksX9_opened_0 18 rfl rfl)
theorem dX9_opened_19 : decode cX9_opened 19 = .ok (.iload_n 2, 1) := dk_28 (dk_at dksX9_opened_0 19 rfl rfl)
theorem dX9_opened_20 : decode cX9_opened 20 = .ok (.invokedynamic 110, 5) := by decide +kernel
theorem dX9_opened_25 : decode cX9_opened 25 = .ok (.invokespecial 84, 3) := dk_183 0 84 (dk_at dksX9_opened_1 5 rfl rfl)
theorem dX9_opened_28 : decode cX9_opened 28 = .ok (.areturn, 1) := dk_176 (dk_at dksX9_opened_1 8 rfl rfl)
abbrev cX9_lambda_opened_3 : ByteArray := prog_10_method_25_code
def yX9_lambda_opened_3 : MethodName := ⟨RX9, "lambda$opened$3", "(IILWindowExchange$State;)I"⟩
def dkwX9_lambda_opened_3_0 : List UInt8 := [44, 26, 27, 182, 0, 190, 172]
abbrev dktX9_lambda_opened_3_0 : List UInt8 := dkwX9_lambda_opened_3_0 ++ []
theorem dksX9_lambda_opened_3_0 : cX9_lambda_opened_3.data.toList.drop 0 = dktX9_lambda_opened_3_0 := by decide +kernel
theorem dX9_lambda_opened_3_0 : decode cX9_lambda_opened_3 0 = .ok (.aload_n 2, 1) := dk_44 (dk_at dksX9_lambda_opened_3_0 0 rfl rfl)
theorem dX9_lambda_opened_3_1 : decode cX9_lambda_opened_3 1 = .ok (.iload_n 0, 1) := dk_26 (dk_at dksX9_lambda_opened_3_0 1 rfl rfl)
theorem dX9_lambda_opened_3_2 : decode cX9_lambda_opened_3 2 = .ok (.iload_n 1, 1) := dk_27 (dk_at dksX9_lambda_opened_3_0 2 rfl rfl)
theorem dX9_lambda_opened_3_3 : decode cX9_lambda_opened_3 3 = .ok (.invokevirtual 190, 3) := dk_182 0 190 (dk_at dksX9_lambda_opened_3_0 3 rfl rfl)
theorem dX9_lambda_opened_3_6 : decode cX9_lambda_opened_3 6 = .ok (.ireturn, 1) := dk_172 (dk_at dksX9_lambda_opened_3_0 6 rfl rfl)
abbrev cX9_passed : ByteArray := prog_10_method_17_code
def yX9_passed : MethodName := ⟨RX9, "passed", "()LWindowExchange$Command;"⟩
def dkwX9_passed_1 : List UInt8 := [187, 0, 78, 89, 27, 186, 0, 134, 0, 0, 183, 0, 84, 176]
abbrev dktX9_passed_1 : List UInt8 := dkwX9_passed_1 ++ []
def dkwX9_passed_0 : List UInt8 := [42, 18, 132, 182, 0, 63, 42, 16, 32, 182, 0, 44, 153, 0, 10, 42, 182, 0, 67, 167, 0, 4, 4, 60]
abbrev dktX9_passed_0 : List UInt8 := dkwX9_passed_0 ++ dktX9_passed_1
theorem dksX9_passed_0 : cX9_passed.data.toList.drop 0 = dktX9_passed_0 := by decide +kernel
theorem dksX9_passed_1 : cX9_passed.data.toList.drop 24 = dktX9_passed_1 := dk_seg dksX9_passed_0 24 rfl rfl
theorem dX9_passed_0 : decode cX9_passed 0 = .ok (.aload_n 0, 1) := dk_42 (dk_at dksX9_passed_0 0 rfl rfl)
theorem dX9_passed_1 : decode cX9_passed 1 = .ok (.ldc 132, 2) := dk_18 132 (dk_at dksX9_passed_0 1 rfl rfl)
theorem dX9_passed_3 : decode cX9_passed 3 = .ok (.invokevirtual 63, 3) := dk_182 0 63 (dk_at dksX9_passed_0 3 rfl rfl)
theorem dX9_passed_6 : decode cX9_passed 6 = .ok (.aload_n 0, 1) := dk_42 (dk_at dksX9_passed_0 6 rfl rfl)
theorem dX9_passed_7 : decode cX9_passed 7 = .ok (.bipush 32, 2) := dk_16 32 (dk_at dksX9_passed_0 7 rfl rfl)
theorem dX9_passed_9 : decode cX9_passed 9 = .ok (.invokevirtual 44, 3) := dk_182 0 44 (dk_at dksX9_passed_0 9 rfl rfl)
theorem dX9_passed_12 : decode cX9_passed 12 = .ok (.ifCond .eq 10, 3) := dk_153 0 10 (dk_at dksX9_passed_0 12 rfl rfl)
theorem dX9_passed_15 : decode cX9_passed 15 = .ok (.aload_n 0, 1) := dk_42 (dk_at dksX9_passed_0 15 rfl rfl)
theorem dX9_passed_16 : decode cX9_passed 16 = .ok (.invokevirtual 67, 3) := dk_182 0 67 (dk_at dksX9_passed_0 16 rfl rfl)
theorem dX9_passed_19 : decode cX9_passed 19 = .ok (.goto 4, 3) := dk_167 0 4 (dk_at dksX9_passed_0 19 rfl rfl)
theorem dX9_passed_22 : decode cX9_passed 22 = .ok (.iconst 1, 1) := dk_4 (dk_at dksX9_passed_0 22 rfl rfl)
theorem dX9_passed_23 : decode cX9_passed 23 = .ok (.istore_n 1, 1) := dk_60 (dk_at dksX9_passed_0 23 rfl rfl)
theorem dX9_passed_24 : decode cX9_passed 24 = .ok (.new 78, 3) := dk_187 0 78 (dk_at dksX9_passed_1 0 rfl rfl)
theorem dX9_passed_27 : decode cX9_passed 27 = .ok (.dup, 1) := dk_89 (dk_at dksX9_passed_1 3 rfl rfl)
theorem dX9_passed_28 : decode cX9_passed 28 = .ok (.iload_n 1, 1) := dk_27 (dk_at dksX9_passed_1 4 rfl rfl)
theorem dX9_passed_29 : decode cX9_passed 29 = .ok (.invokedynamic 134, 5) := by decide +kernel
theorem dX9_passed_34 : decode cX9_passed 34 = .ok (.invokespecial 84, 3) := dk_183 0 84 (dk_at dksX9_passed_1 10 rfl rfl)
theorem dX9_passed_37 : decode cX9_passed 37 = .ok (.areturn, 1) := dk_176 (dk_at dksX9_passed_1 13 rfl rfl)
abbrev cX9_lambda_passed_7 : ByteArray := prog_10_method_21_code
def yX9_lambda_passed_7 : MethodName := ⟨RX9, "lambda$passed$7", "(ILWindowExchange$State;)I"⟩
def dkwX9_lambda_passed_7_0 : List UInt8 := [43, 26, 182, 0, 175, 172]
abbrev dktX9_lambda_passed_7_0 : List UInt8 := dkwX9_lambda_passed_7_0 ++ []
theorem dksX9_lambda_passed_7_0 : cX9_lambda_passed_7.data.toList.drop 0 = dktX9_lambda_passed_7_0 := by decide +kernel
theorem dX9_lambda_passed_7_0 : decode cX9_lambda_passed_7 0 = .ok (.aload_n 1, 1) := dk_43 (dk_at dksX9_lambda_passed_7_0 0 rfl rfl)
theorem dX9_lambda_passed_7_1 : decode cX9_lambda_passed_7 1 = .ok (.iload_n 0, 1) := dk_26 (dk_at dksX9_lambda_passed_7_0 1 rfl rfl)
theorem dX9_lambda_passed_7_2 : decode cX9_lambda_passed_7 2 = .ok (.invokevirtual 175, 3) := dk_182 0 175 (dk_at dksX9_lambda_passed_7_0 2 rfl rfl)
theorem dX9_lambda_passed_7_5 : decode cX9_lambda_passed_7 5 = .ok (.ireturn, 1) := dk_172 (dk_at dksX9_lambda_passed_7_0 5 rfl rfl)
theorem q147 : (Jvm.Cond.initialized "WindowExchange$Parser") ∈ lw_all := lw_g (lw_at lw_m1 54 rfl) rfl
theorem q313 : (Jvm.Cond.fieldLinkNest "WindowExchange$Parser" (27 : Nat) "WindowExchange" "text" "[C" "WindowExchange") ∈ lw_tbl := lw_at lw_m1 220 rfl
theorem q315 : (Jvm.Cond.fieldLinkNest "WindowExchange$Parser" (24 : Nat) "WindowExchange" "textLength" "I" "WindowExchange") ∈ lw_tbl := lw_at lw_m1 222 rfl
theorem q715 : (Jvm.Cond.selects "WindowExchange$Parser" ({ cls := "java/lang/Object", name := "getClass", desc := "()Ljava/lang/Class;" } : Jvm.MethodName) ({ cls := "java/lang/Object", name := "getClass", desc := "()Ljava/lang/Class;" } : Jvm.MethodName)) ∈ lw_all := lw_g (lw_at lw_m3 142 rfl) rfl
theorem q2437 : (Jvm.Cond.instantiable "WindowExchange$Parser" (2 : Nat)) ∈ lw_all := lw_g (lw_at lw_m10 184 rfl) rfl
theorem q2439 : (Jvm.Cond.instanceMethod ({ cls := "WindowExchange$Parser", name := "<init>", desc := "(LWindowExchange;)V" } : Jvm.MethodName)) ∈ lw_all := lw_g (lw_at lw_m10 186 rfl) rfl
theorem q2440 : (Jvm.Cond.code ({ cls := "WindowExchange$Parser", name := "<init>", desc := "(LWindowExchange;)V" } : Jvm.MethodName) prog_10_method_1_code (2 : Nat) (Option.none : Option Jvm.ClassFile.FieldType)) ∈ lw_all := lw_g (lw_at lw_m10 187 rfl) rfl
theorem q2441 : (Jvm.Cond.methodLink "WindowExchange$Parser" (9 : Nat) ({ cls := "java/lang/Object", name := "<init>", desc := "()V" } : Jvm.MethodName)) ∈ lw_all := lw_g (lw_at lw_m10 188 rfl) rfl
theorem q2442 : (Jvm.Cond.fieldLink "WindowExchange$Parser" (17 : Nat) "WindowExchange$Parser" "position" "I") ∈ lw_all := lw_g (lw_at lw_m10 189 rfl) rfl
theorem q2443 : (Jvm.Cond.fieldLink "WindowExchange$Parser" (3 : Nat) "WindowExchange$Parser" "this$0" "LWindowExchange;") ∈ lw_all := lw_g (lw_at lw_m10 190 rfl) rfl
theorem q2444 : (Jvm.Cond.lays "WindowExchange$Parser" "WindowExchange$Parser" "position" "I") ∈ lw_all := lw_g (lw_at lw_m10 191 rfl) rfl
theorem q2445 : (Jvm.Cond.soleField "WindowExchange$Parser" "position") ∈ lw_all := lw_g (lw_at lw_m10 192 rfl) rfl
theorem q2446 : (Jvm.Cond.laysFinal "WindowExchange$Parser" "WindowExchange$Parser" "this$0" "LWindowExchange;") ∈ lw_all := lw_g (lw_at lw_m10 193 rfl) rfl
theorem q2447 : (Jvm.Cond.soleField "WindowExchange$Parser" "this$0") ∈ lw_all := lw_g (lw_at lw_m10 194 rfl) rfl
theorem q2448 : (Jvm.Cond.superclass "WindowExchange$Parser" "java/lang/Object") ∈ lw_all := lw_g (lw_at lw_m10 195 rfl) rfl
theorem q2450 : (Jvm.Cond.instanceMethod ({ cls := "WindowExchange$Parser", name := "program", desc := "()Ljava/util/ArrayList;" } : Jvm.MethodName)) ∈ lw_all := lw_g (lw_at lw_m10 197 rfl) rfl
theorem q2451 : (Jvm.Cond.selects "WindowExchange$Parser" ({ cls := "WindowExchange$Parser", name := "program", desc := "()Ljava/util/ArrayList;" } : Jvm.MethodName) ({ cls := "WindowExchange$Parser", name := "program", desc := "()Ljava/util/ArrayList;" } : Jvm.MethodName)) ∈ lw_all := lw_g (lw_at lw_m10 198 rfl) rfl
theorem q2452 : (Jvm.Cond.code ({ cls := "WindowExchange$Parser", name := "program", desc := "()Ljava/util/ArrayList;" } : Jvm.MethodName) prog_10_method_20_code (3 : Nat) (Option.some (Jvm.ClassFile.FieldType.object "java/util/ArrayList"))) ∈ lw_all := lw_g (lw_at lw_m10 199 rfl) rfl
theorem q2453 : (Jvm.Cond.classLink "WindowExchange$Parser" (165 : Nat) "java/util/ArrayList") ∈ lw_all := lw_g (lw_at lw_m10 200 rfl) rfl
theorem q2454 : (Jvm.Cond.methodLink "WindowExchange$Parser" (167 : Nat) ({ cls := "java/util/ArrayList", name := "<init>", desc := "()V" } : Jvm.MethodName)) ∈ lw_all := lw_g (lw_at lw_m10 201 rfl) rfl
theorem q2455 : (Jvm.Cond.methodLink "WindowExchange$Parser" (168 : Nat) ({ cls := "WindowExchange$Parser", name := "command", desc := "()LWindowExchange$Command;" } : Jvm.MethodName)) ∈ lw_all := lw_g (lw_at lw_m10 202 rfl) rfl
theorem q2456 : (Jvm.Cond.privateMethod ({ cls := "WindowExchange$Parser", name := "command", desc := "()LWindowExchange$Command;" } : Jvm.MethodName)) ∈ lw_tbl := lw_at lw_m10 203 rfl
theorem q2457 : (Jvm.Cond.instanceMethod ({ cls := "WindowExchange$Parser", name := "command", desc := "()LWindowExchange$Command;" } : Jvm.MethodName)) ∈ lw_all := lw_g (lw_at lw_m10 204 rfl) rfl
theorem q2458 : (Jvm.Cond.code ({ cls := "WindowExchange$Parser", name := "command", desc := "()LWindowExchange$Command;" } : Jvm.MethodName) prog_10_method_19_code (2 : Nat) (Option.some (Jvm.ClassFile.FieldType.object "WindowExchange$Command"))) ∈ lw_all := lw_g (lw_at lw_m10 205 rfl) rfl
theorem q2459 : (Jvm.Cond.methodLink "WindowExchange$Parser" (31 : Nat) ({ cls := "WindowExchange$Parser", name := "peek", desc := "()I" } : Jvm.MethodName)) ∈ lw_all := lw_g (lw_at lw_m10 206 rfl) rfl
theorem q2460 : (Jvm.Cond.privateMethod ({ cls := "WindowExchange$Parser", name := "peek", desc := "()I" } : Jvm.MethodName)) ∈ lw_tbl := lw_at lw_m10 207 rfl
theorem q2461 : (Jvm.Cond.instanceMethod ({ cls := "WindowExchange$Parser", name := "peek", desc := "()I" } : Jvm.MethodName)) ∈ lw_all := lw_g (lw_at lw_m10 208 rfl) rfl
theorem q2462 : (Jvm.Cond.code ({ cls := "WindowExchange$Parser", name := "peek", desc := "()I" } : Jvm.MethodName) prog_10_method_3_code (1 : Nat) (Option.some Jvm.ClassFile.FieldType.int)) ∈ lw_all := lw_g (lw_at lw_m10 209 rfl) rfl
theorem q2463 : (Jvm.Cond.stringRef "WindowExchange$Parser" (137 : Nat) "tbscaod") ∈ lw_tbl := lw_at lw_m10 210 rfl
theorem q2464 : (Jvm.Cond.methodLink "WindowExchange$Parser" (139 : Nat) ({ cls := "java/lang/String", name := "indexOf", desc := "(I)I" } : Jvm.MethodName)) ∈ lw_all := lw_g (lw_at lw_m10 211 rfl) rfl
theorem q2512 : (Jvm.Cond.methodLink "WindowExchange$Parser" (48 : Nat) ({ cls := "WindowExchange$Parser", name := "require", desc := "(Z)V" } : Jvm.MethodName)) ∈ lw_all := lw_g (lw_at lw_m11 19 rfl) rfl
theorem q2513 : (Jvm.Cond.privateMethod ({ cls := "WindowExchange$Parser", name := "require", desc := "(Z)V" } : Jvm.MethodName)) ∈ lw_tbl := lw_at lw_m11 20 rfl
theorem q2514 : (Jvm.Cond.instanceMethod ({ cls := "WindowExchange$Parser", name := "require", desc := "(Z)V" } : Jvm.MethodName)) ∈ lw_all := lw_g (lw_at lw_m11 21 rfl) rfl
theorem q2515 : (Jvm.Cond.code ({ cls := "WindowExchange$Parser", name := "require", desc := "(Z)V" } : Jvm.MethodName) prog_10_method_2_code (2 : Nat) (Option.none : Option Jvm.ClassFile.FieldType)) ∈ lw_all := lw_g (lw_at lw_m11 22 rfl) rfl
theorem q2516 : (Jvm.Cond.classLink "WindowExchange$Parser" (15 : Nat) "WindowExchange$SyntaxException") ∈ lw_all := lw_g (lw_at lw_m11 23 rfl) rfl
theorem q2525 : (Jvm.Cond.methodLink "WindowExchange$Parser" (21 : Nat) ({ cls := "WindowExchange$SyntaxException", name := "<init>", desc := "(I)V" } : Jvm.MethodName)) ∈ lw_all := lw_g (lw_at lw_m11 32 rfl) rfl
theorem q2540 : (Jvm.Cond.methodLink "WindowExchange$Parser" (143 : Nat) ({ cls := "WindowExchange$Parser", name := "trader", desc := "()LWindowExchange$Command;" } : Jvm.MethodName)) ∈ lw_all := lw_g (lw_at lw_m11 47 rfl) rfl
theorem q2541 : (Jvm.Cond.privateMethod ({ cls := "WindowExchange$Parser", name := "trader", desc := "()LWindowExchange$Command;" } : Jvm.MethodName)) ∈ lw_tbl := lw_at lw_m11 48 rfl
theorem q2542 : (Jvm.Cond.instanceMethod ({ cls := "WindowExchange$Parser", name := "trader", desc := "()LWindowExchange$Command;" } : Jvm.MethodName)) ∈ lw_all := lw_g (lw_at lw_m11 49 rfl) rfl
theorem q2543 : (Jvm.Cond.code ({ cls := "WindowExchange$Parser", name := "trader", desc := "()LWindowExchange$Command;" } : Jvm.MethodName) prog_10_method_11_code (3 : Nat) (Option.some (Jvm.ClassFile.FieldType.object "WindowExchange$Command"))) ∈ lw_all := lw_g (lw_at lw_m11 50 rfl) rfl
theorem q2544 : (Jvm.Cond.stringRef "WindowExchange$Parser" (70 : Nat) "rader ") ∈ lw_tbl := lw_at lw_m11 51 rfl
theorem q2545 : (Jvm.Cond.methodLink "WindowExchange$Parser" (72 : Nat) ({ cls := "WindowExchange$Parser", name := "numberAfter", desc := "(Ljava/lang/String;)I" } : Jvm.MethodName)) ∈ lw_all := lw_g (lw_at lw_m11 52 rfl) rfl
theorem q2546 : (Jvm.Cond.privateMethod ({ cls := "WindowExchange$Parser", name := "numberAfter", desc := "(Ljava/lang/String;)I" } : Jvm.MethodName)) ∈ lw_tbl := lw_at lw_m11 53 rfl
theorem q2547 : (Jvm.Cond.instanceMethod ({ cls := "WindowExchange$Parser", name := "numberAfter", desc := "(Ljava/lang/String;)I" } : Jvm.MethodName)) ∈ lw_all := lw_g (lw_at lw_m11 54 rfl) rfl
theorem q2548 : (Jvm.Cond.code ({ cls := "WindowExchange$Parser", name := "numberAfter", desc := "(Ljava/lang/String;)I" } : Jvm.MethodName) prog_10_method_9_code (2 : Nat) (Option.some Jvm.ClassFile.FieldType.int)) ∈ lw_all := lw_g (lw_at lw_m11 55 rfl) rfl
theorem q2549 : (Jvm.Cond.methodLink "WindowExchange$Parser" (63 : Nat) ({ cls := "WindowExchange$Parser", name := "expect", desc := "(Ljava/lang/String;)V" } : Jvm.MethodName)) ∈ lw_all := lw_g (lw_at lw_m11 56 rfl) rfl
theorem q2550 : (Jvm.Cond.privateMethod ({ cls := "WindowExchange$Parser", name := "expect", desc := "(Ljava/lang/String;)V" } : Jvm.MethodName)) ∈ lw_tbl := lw_at lw_m11 57 rfl
theorem q2551 : (Jvm.Cond.instanceMethod ({ cls := "WindowExchange$Parser", name := "expect", desc := "(Ljava/lang/String;)V" } : Jvm.MethodName)) ∈ lw_all := lw_g (lw_at lw_m11 58 rfl) rfl
theorem q2552 : (Jvm.Cond.code ({ cls := "WindowExchange$Parser", name := "expect", desc := "(Ljava/lang/String;)V" } : Jvm.MethodName) prog_10_method_5_code (3 : Nat) (Option.none : Option Jvm.ClassFile.FieldType)) ∈ lw_all := lw_g (lw_at lw_m11 59 rfl) rfl
theorem q2553 : (Jvm.Cond.methodLink "WindowExchange$Parser" (35 : Nat) ({ cls := "java/lang/String", name := "length", desc := "()I" } : Jvm.MethodName)) ∈ lw_all := lw_g (lw_at lw_m11 60 rfl) rfl
theorem q2554 : (Jvm.Cond.methodLink "WindowExchange$Parser" (40 : Nat) ({ cls := "java/lang/String", name := "charAt", desc := "(I)C" } : Jvm.MethodName)) ∈ lw_all := lw_g (lw_at lw_m11 61 rfl) rfl
theorem q2565 : (Jvm.Cond.methodLink "WindowExchange$Parser" (44 : Nat) ({ cls := "WindowExchange$Parser", name := "accept", desc := "(C)Z" } : Jvm.MethodName)) ∈ lw_all := lw_g (lw_at lw_m11 72 rfl) rfl
theorem q2566 : (Jvm.Cond.privateMethod ({ cls := "WindowExchange$Parser", name := "accept", desc := "(C)Z" } : Jvm.MethodName)) ∈ lw_tbl := lw_at lw_m11 73 rfl
theorem q2567 : (Jvm.Cond.instanceMethod ({ cls := "WindowExchange$Parser", name := "accept", desc := "(C)Z" } : Jvm.MethodName)) ∈ lw_all := lw_g (lw_at lw_m11 74 rfl) rfl
theorem q2568 : (Jvm.Cond.code ({ cls := "WindowExchange$Parser", name := "accept", desc := "(C)Z" } : Jvm.MethodName) prog_10_method_4_code (3 : Nat) (Option.some Jvm.ClassFile.FieldType.boolean)) ∈ lw_all := lw_g (lw_at lw_m11 75 rfl) rfl
theorem q2569 : (Jvm.Cond.methodLink "WindowExchange$Parser" (67 : Nat) ({ cls := "WindowExchange$Parser", name := "number", desc := "()I" } : Jvm.MethodName)) ∈ lw_all := lw_g (lw_at lw_m11 76 rfl) rfl
theorem q2570 : (Jvm.Cond.privateMethod ({ cls := "WindowExchange$Parser", name := "number", desc := "()I" } : Jvm.MethodName)) ∈ lw_tbl := lw_at lw_m11 77 rfl
theorem q2571 : (Jvm.Cond.instanceMethod ({ cls := "WindowExchange$Parser", name := "number", desc := "()I" } : Jvm.MethodName)) ∈ lw_all := lw_g (lw_at lw_m11 78 rfl) rfl
theorem q2572 : (Jvm.Cond.code ({ cls := "WindowExchange$Parser", name := "number", desc := "()I" } : Jvm.MethodName) prog_10_method_8_code (3 : Nat) (Option.some Jvm.ClassFile.FieldType.int)) ∈ lw_all := lw_g (lw_at lw_m11 79 rfl) rfl
theorem q2573 : (Jvm.Cond.methodLink "WindowExchange$Parser" (60 : Nat) ({ cls := "WindowExchange$Parser", name := "digit", desc := "()I" } : Jvm.MethodName)) ∈ lw_all := lw_g (lw_at lw_m11 80 rfl) rfl
theorem q2574 : (Jvm.Cond.privateMethod ({ cls := "WindowExchange$Parser", name := "digit", desc := "()I" } : Jvm.MethodName)) ∈ lw_tbl := lw_at lw_m11 81 rfl
theorem q2575 : (Jvm.Cond.instanceMethod ({ cls := "WindowExchange$Parser", name := "digit", desc := "()I" } : Jvm.MethodName)) ∈ lw_all := lw_g (lw_at lw_m11 82 rfl) rfl
theorem q2576 : (Jvm.Cond.code ({ cls := "WindowExchange$Parser", name := "digit", desc := "()I" } : Jvm.MethodName) prog_10_method_7_code (1 : Nat) (Option.some Jvm.ClassFile.FieldType.int)) ∈ lw_all := lw_g (lw_at lw_m11 83 rfl) rfl
theorem q2577 : (Jvm.Cond.methodLink "WindowExchange$Parser" (56 : Nat) ({ cls := "WindowExchange$Parser", name := "isDigit", desc := "()Z" } : Jvm.MethodName)) ∈ lw_all := lw_g (lw_at lw_m11 84 rfl) rfl
theorem q2578 : (Jvm.Cond.privateMethod ({ cls := "WindowExchange$Parser", name := "isDigit", desc := "()Z" } : Jvm.MethodName)) ∈ lw_tbl := lw_at lw_m11 85 rfl
theorem q2579 : (Jvm.Cond.instanceMethod ({ cls := "WindowExchange$Parser", name := "isDigit", desc := "()Z" } : Jvm.MethodName)) ∈ lw_all := lw_g (lw_at lw_m11 86 rfl) rfl
theorem q2580 : (Jvm.Cond.code ({ cls := "WindowExchange$Parser", name := "isDigit", desc := "()Z" } : Jvm.MethodName) prog_10_method_6_code (1 : Nat) (Option.some Jvm.ClassFile.FieldType.boolean)) ∈ lw_all := lw_g (lw_at lw_m11 87 rfl) rfl
theorem q2581 : (Jvm.Cond.methodLinkNest "WindowExchange$Parser" (52 : Nat) ({ cls := "WindowExchange", name := "inRange", desc := "(III)Z" } : Jvm.MethodName) "WindowExchange") ∈ lw_tbl := lw_at lw_m11 88 rfl
theorem q2582 : (Jvm.Cond.stringRef "WindowExchange$Parser" (76 : Nat) ",") ∈ lw_tbl := lw_at lw_m11 89 rfl
theorem q2583 : (Jvm.Cond.classLink "WindowExchange$Parser" (78 : Nat) "WindowExchange$Command") ∈ lw_all := lw_g (lw_at lw_m11 90 rfl) rfl
theorem q2585 : (Jvm.Cond.static ({ cls := "WindowExchange$Parser", name := "lambda$trader$0", desc := "(IILWindowExchange$State;)I" } : Jvm.MethodName)) ∈ lw_all := lw_g (lw_at lw_m11 92 rfl) rfl
theorem q2586 : (Jvm.Cond.code ({ cls := "WindowExchange$Parser", name := "lambda$trader$0", desc := "(IILWindowExchange$State;)I" } : Jvm.MethodName) prog_10_method_28_code (3 : Nat) (Option.some Jvm.ClassFile.FieldType.int)) ∈ lw_all := lw_g (lw_at lw_m11 93 rfl) rfl
theorem q2587 : (Jvm.Cond.methodLink "WindowExchange$Parser" (201 : Nat) ({ cls := "WindowExchange$State", name := "addTrader", desc := "(II)I" } : Jvm.MethodName)) ∈ lw_all := lw_g (lw_at lw_m11 94 rfl) rfl
theorem q2588 : (Jvm.Cond.methodLink "WindowExchange$Parser" (84 : Nat) ({ cls := "WindowExchange$Command", name := "<init>", desc := "(LWindowExchange$Change;)V" } : Jvm.MethodName)) ∈ lw_all := lw_g (lw_at lw_m11 95 rfl) rfl
theorem q2597 : (Jvm.Cond.methodLink "WindowExchange$Parser" (147 : Nat) ({ cls := "WindowExchange$Parser", name := "bought", desc := "()LWindowExchange$Command;" } : Jvm.MethodName)) ∈ lw_all := lw_g (lw_at lw_m11 104 rfl) rfl
theorem q2598 : (Jvm.Cond.privateMethod ({ cls := "WindowExchange$Parser", name := "bought", desc := "()LWindowExchange$Command;" } : Jvm.MethodName)) ∈ lw_tbl := lw_at lw_m11 105 rfl
theorem q2599 : (Jvm.Cond.instanceMethod ({ cls := "WindowExchange$Parser", name := "bought", desc := "()LWindowExchange$Command;" } : Jvm.MethodName)) ∈ lw_all := lw_g (lw_at lw_m11 106 rfl) rfl
theorem q2600 : (Jvm.Cond.code ({ cls := "WindowExchange$Parser", name := "bought", desc := "()LWindowExchange$Command;" } : Jvm.MethodName) prog_10_method_18_code (1 : Nat) (Option.some (Jvm.ClassFile.FieldType.object "WindowExchange$Command"))) ∈ lw_all := lw_g (lw_at lw_m11 107 rfl) rfl
theorem q2601 : (Jvm.Cond.stringRef "WindowExchange$Parser" (135 : Nat) "uy") ∈ lw_tbl := lw_at lw_m11 108 rfl
theorem q2602 : (Jvm.Cond.methodLink "WindowExchange$Parser" (115 : Nat) ({ cls := "WindowExchange$Parser", name := "placed", desc := "(Z)LWindowExchange$Command;" } : Jvm.MethodName)) ∈ lw_all := lw_g (lw_at lw_m11 109 rfl) rfl
theorem q2603 : (Jvm.Cond.privateMethod ({ cls := "WindowExchange$Parser", name := "placed", desc := "(Z)LWindowExchange$Command;" } : Jvm.MethodName)) ∈ lw_tbl := lw_at lw_m11 110 rfl
theorem q2604 : (Jvm.Cond.instanceMethod ({ cls := "WindowExchange$Parser", name := "placed", desc := "(Z)LWindowExchange$Command;" } : Jvm.MethodName)) ∈ lw_all := lw_g (lw_at lw_m11 111 rfl) rfl
theorem q2605 : (Jvm.Cond.code ({ cls := "WindowExchange$Parser", name := "placed", desc := "(Z)LWindowExchange$Command;" } : Jvm.MethodName) prog_10_method_12_code (5 : Nat) (Option.some (Jvm.ClassFile.FieldType.object "WindowExchange$Command"))) ∈ lw_all := lw_g (lw_at lw_m11 112 rfl) rfl
theorem q2606 : (Jvm.Cond.stringRef "WindowExchange$Parser" (87 : Nat) " ") ∈ lw_tbl := lw_at lw_m11 113 rfl
theorem q2607 : (Jvm.Cond.methodLink "WindowExchange$Parser" (89 : Nat) ({ cls := "WindowExchange$Parser", name := "digitAfter", desc := "(Ljava/lang/String;)I" } : Jvm.MethodName)) ∈ lw_all := lw_g (lw_at lw_m11 114 rfl) rfl
theorem q2608 : (Jvm.Cond.privateMethod ({ cls := "WindowExchange$Parser", name := "digitAfter", desc := "(Ljava/lang/String;)I" } : Jvm.MethodName)) ∈ lw_tbl := lw_at lw_m11 115 rfl
theorem q2609 : (Jvm.Cond.instanceMethod ({ cls := "WindowExchange$Parser", name := "digitAfter", desc := "(Ljava/lang/String;)I" } : Jvm.MethodName)) ∈ lw_all := lw_g (lw_at lw_m11 116 rfl) rfl
theorem q2610 : (Jvm.Cond.code ({ cls := "WindowExchange$Parser", name := "digitAfter", desc := "(Ljava/lang/String;)I" } : Jvm.MethodName) prog_10_method_10_code (2 : Nat) (Option.some Jvm.ClassFile.FieldType.int)) ∈ lw_all := lw_g (lw_at lw_m11 117 rfl) rfl
theorem q2611 : (Jvm.Cond.stringRef "WindowExchange$Parser" (92 : Nat) "@") ∈ lw_tbl := lw_at lw_m11 118 rfl
theorem q2612 : (Jvm.Cond.static ({ cls := "WindowExchange$Parser", name := "lambda$placed$1", desc := "(IZIILWindowExchange$State;)I" } : Jvm.MethodName)) ∈ lw_all := lw_g (lw_at lw_m11 119 rfl) rfl
theorem q2613 : (Jvm.Cond.code ({ cls := "WindowExchange$Parser", name := "lambda$placed$1", desc := "(IZIILWindowExchange$State;)I" } : Jvm.MethodName) prog_10_method_27_code (5 : Nat) (Option.some Jvm.ClassFile.FieldType.int)) ∈ lw_all := lw_g (lw_at lw_m11 120 rfl) rfl
theorem q2614 : (Jvm.Cond.methodLink "WindowExchange$Parser" (197 : Nat) ({ cls := "WindowExchange$State", name := "place", desc := "(IZII)I" } : Jvm.MethodName)) ∈ lw_all := lw_g (lw_at lw_m11 121 rfl) rfl
theorem q2615 : (Jvm.Cond.methodLink "WindowExchange$Parser" (150 : Nat) ({ cls := "WindowExchange$Parser", name := "sellOrSeal", desc := "()LWindowExchange$Command;" } : Jvm.MethodName)) ∈ lw_all := lw_g (lw_at lw_m11 122 rfl) rfl
theorem q2616 : (Jvm.Cond.privateMethod ({ cls := "WindowExchange$Parser", name := "sellOrSeal", desc := "()LWindowExchange$Command;" } : Jvm.MethodName)) ∈ lw_tbl := lw_at lw_m11 123 rfl
theorem q2617 : (Jvm.Cond.instanceMethod ({ cls := "WindowExchange$Parser", name := "sellOrSeal", desc := "()LWindowExchange$Command;" } : Jvm.MethodName)) ∈ lw_all := lw_g (lw_at lw_m11 124 rfl) rfl
theorem q2618 : (Jvm.Cond.code ({ cls := "WindowExchange$Parser", name := "sellOrSeal", desc := "()LWindowExchange$Command;" } : Jvm.MethodName) prog_10_method_15_code (3 : Nat) (Option.some (Jvm.ClassFile.FieldType.object "WindowExchange$Command"))) ∈ lw_all := lw_g (lw_at lw_m11 125 rfl) rfl
theorem q2619 : (Jvm.Cond.stringRef "WindowExchange$Parser" (111 : Nat) "e") ∈ lw_tbl := lw_at lw_m11 126 rfl
theorem q2620 : (Jvm.Cond.stringRef "WindowExchange$Parser" (113 : Nat) "l") ∈ lw_tbl := lw_at lw_m11 127 rfl
theorem q2621 : (Jvm.Cond.stringRef "WindowExchange$Parser" (119 : Nat) "al ") ∈ lw_tbl := lw_at lw_m11 128 rfl
theorem q2622 : (Jvm.Cond.stringRef "WindowExchange$Parser" (108 : Nat) "=") ∈ lw_tbl := lw_at lw_m11 129 rfl
theorem q2623 : (Jvm.Cond.static ({ cls := "WindowExchange$Parser", name := "lambda$sellOrSeal$4", desc := "(IILWindowExchange$State;)I" } : Jvm.MethodName)) ∈ lw_all := lw_g (lw_at lw_m11 130 rfl) rfl
theorem q2624 : (Jvm.Cond.code ({ cls := "WindowExchange$Parser", name := "lambda$sellOrSeal$4", desc := "(IILWindowExchange$State;)I" } : Jvm.MethodName) prog_10_method_24_code (3 : Nat) (Option.some Jvm.ClassFile.FieldType.int)) ∈ lw_all := lw_g (lw_at lw_m11 131 rfl) rfl
theorem q2625 : (Jvm.Cond.methodLink "WindowExchange$Parser" (186 : Nat) ({ cls := "WindowExchange$State", name := "sealBid", desc := "(II)I" } : Jvm.MethodName)) ∈ lw_all := lw_g (lw_at lw_m11 132 rfl) rfl
theorem q2626 : (Jvm.Cond.methodLink "WindowExchange$Parser" (153 : Nat) ({ cls := "WindowExchange$Parser", name := "cancelOrClose", desc := "()LWindowExchange$Command;" } : Jvm.MethodName)) ∈ lw_all := lw_g (lw_at lw_m11 133 rfl) rfl
theorem q2627 : (Jvm.Cond.privateMethod ({ cls := "WindowExchange$Parser", name := "cancelOrClose", desc := "()LWindowExchange$Command;" } : Jvm.MethodName)) ∈ lw_tbl := lw_at lw_m11 134 rfl
theorem q2628 : (Jvm.Cond.instanceMethod ({ cls := "WindowExchange$Parser", name := "cancelOrClose", desc := "()LWindowExchange$Command;" } : Jvm.MethodName)) ∈ lw_all := lw_g (lw_at lw_m11 135 rfl) rfl
theorem q2629 : (Jvm.Cond.code ({ cls := "WindowExchange$Parser", name := "cancelOrClose", desc := "()LWindowExchange$Command;" } : Jvm.MethodName) prog_10_method_16_code (2 : Nat) (Option.some (Jvm.ClassFile.FieldType.object "WindowExchange$Command"))) ∈ lw_all := lw_g (lw_at lw_m11 136 rfl) rfl
theorem q2630 : (Jvm.Cond.stringRef "WindowExchange$Parser" (122 : Nat) "ose") ∈ lw_tbl := lw_at lw_m11 137 rfl
theorem q2631 : (Jvm.Cond.static ({ cls := "WindowExchange$Parser", name := "lambda$cancelOrClose$5", desc := "(LWindowExchange$State;)I" } : Jvm.MethodName)) ∈ lw_all := lw_g (lw_at lw_m11 138 rfl) rfl
theorem q2632 : (Jvm.Cond.code ({ cls := "WindowExchange$Parser", name := "lambda$cancelOrClose$5", desc := "(LWindowExchange$State;)I" } : Jvm.MethodName) prog_10_method_23_code (1 : Nat) (Option.some Jvm.ClassFile.FieldType.int)) ∈ lw_all := lw_g (lw_at lw_m11 139 rfl) rfl
theorem q2633 : (Jvm.Cond.methodLink "WindowExchange$Parser" (183 : Nat) ({ cls := "WindowExchange$State", name := "closeAuction", desc := "()I" } : Jvm.MethodName)) ∈ lw_all := lw_g (lw_at lw_m11 140 rfl) rfl
theorem q2634 : (Jvm.Cond.stringRef "WindowExchange$Parser" (127 : Nat) "ancel ") ∈ lw_tbl := lw_at lw_m11 141 rfl
theorem q2635 : (Jvm.Cond.static ({ cls := "WindowExchange$Parser", name := "lambda$cancelOrClose$6", desc := "(ILWindowExchange$State;)I" } : Jvm.MethodName)) ∈ lw_all := lw_g (lw_at lw_m11 142 rfl) rfl
theorem q2636 : (Jvm.Cond.code ({ cls := "WindowExchange$Parser", name := "lambda$cancelOrClose$6", desc := "(ILWindowExchange$State;)I" } : Jvm.MethodName) prog_10_method_22_code (2 : Nat) (Option.some Jvm.ClassFile.FieldType.int)) ∈ lw_all := lw_g (lw_at lw_m11 143 rfl) rfl
theorem q2637 : (Jvm.Cond.methodLink "WindowExchange$Parser" (180 : Nat) ({ cls := "WindowExchange$State", name := "cancelOrder", desc := "(I)I" } : Jvm.MethodName)) ∈ lw_all := lw_g (lw_at lw_m11 144 rfl) rfl
theorem q2638 : (Jvm.Cond.methodLink "WindowExchange$Parser" (156 : Nat) ({ cls := "WindowExchange$Parser", name := "agreed", desc := "()LWindowExchange$Command;" } : Jvm.MethodName)) ∈ lw_all := lw_g (lw_at lw_m11 145 rfl) rfl
theorem q2639 : (Jvm.Cond.privateMethod ({ cls := "WindowExchange$Parser", name := "agreed", desc := "()LWindowExchange$Command;" } : Jvm.MethodName)) ∈ lw_tbl := lw_at lw_m11 146 rfl
theorem q2640 : (Jvm.Cond.instanceMethod ({ cls := "WindowExchange$Parser", name := "agreed", desc := "()LWindowExchange$Command;" } : Jvm.MethodName)) ∈ lw_all := lw_g (lw_at lw_m11 147 rfl) rfl
theorem q2641 : (Jvm.Cond.code ({ cls := "WindowExchange$Parser", name := "agreed", desc := "()LWindowExchange$Command;" } : Jvm.MethodName) prog_10_method_13_code (6 : Nat) (Option.some (Jvm.ClassFile.FieldType.object "WindowExchange$Command"))) ∈ lw_all := lw_g (lw_at lw_m11 148 rfl) rfl
theorem q2642 : (Jvm.Cond.stringRef "WindowExchange$Parser" (97 : Nat) "gree ") ∈ lw_tbl := lw_at lw_m11 149 rfl
theorem q2643 : (Jvm.Cond.stringRef "WindowExchange$Parser" (99 : Nat) ">") ∈ lw_tbl := lw_at lw_m11 150 rfl
theorem q2644 : (Jvm.Cond.stringRef "WindowExchange$Parser" (101 : Nat) "+") ∈ lw_tbl := lw_at lw_m11 151 rfl
theorem q2645 : (Jvm.Cond.static ({ cls := "WindowExchange$Parser", name := "lambda$agreed$2", desc := "(IIIIILWindowExchange$State;)I" } : Jvm.MethodName)) ∈ lw_all := lw_g (lw_at lw_m11 152 rfl) rfl
theorem q2646 : (Jvm.Cond.code ({ cls := "WindowExchange$Parser", name := "lambda$agreed$2", desc := "(IIIIILWindowExchange$State;)I" } : Jvm.MethodName) prog_10_method_26_code (6 : Nat) (Option.some Jvm.ClassFile.FieldType.int)) ∈ lw_all := lw_g (lw_at lw_m11 153 rfl) rfl
theorem q2647 : (Jvm.Cond.methodLink "WindowExchange$Parser" (193 : Nat) ({ cls := "WindowExchange$State", name := "agree", desc := "(IIIII)I" } : Jvm.MethodName)) ∈ lw_all := lw_g (lw_at lw_m11 154 rfl) rfl
theorem q2648 : (Jvm.Cond.methodLink "WindowExchange$Parser" (159 : Nat) ({ cls := "WindowExchange$Parser", name := "opened", desc := "()LWindowExchange$Command;" } : Jvm.MethodName)) ∈ lw_all := lw_g (lw_at lw_m11 155 rfl) rfl
theorem q2649 : (Jvm.Cond.privateMethod ({ cls := "WindowExchange$Parser", name := "opened", desc := "()LWindowExchange$Command;" } : Jvm.MethodName)) ∈ lw_tbl := lw_at lw_m11 156 rfl
theorem q2650 : (Jvm.Cond.instanceMethod ({ cls := "WindowExchange$Parser", name := "opened", desc := "()LWindowExchange$Command;" } : Jvm.MethodName)) ∈ lw_all := lw_g (lw_at lw_m11 157 rfl) rfl
theorem q2651 : (Jvm.Cond.code ({ cls := "WindowExchange$Parser", name := "opened", desc := "()LWindowExchange$Command;" } : Jvm.MethodName) prog_10_method_14_code (3 : Nat) (Option.some (Jvm.ClassFile.FieldType.object "WindowExchange$Command"))) ∈ lw_all := lw_g (lw_at lw_m11 158 rfl) rfl
theorem q2652 : (Jvm.Cond.stringRef "WindowExchange$Parser" (106 : Nat) "pen ") ∈ lw_tbl := lw_at lw_m11 159 rfl
theorem q2653 : (Jvm.Cond.static ({ cls := "WindowExchange$Parser", name := "lambda$opened$3", desc := "(IILWindowExchange$State;)I" } : Jvm.MethodName)) ∈ lw_all := lw_g (lw_at lw_m11 160 rfl) rfl
theorem q2654 : (Jvm.Cond.code ({ cls := "WindowExchange$Parser", name := "lambda$opened$3", desc := "(IILWindowExchange$State;)I" } : Jvm.MethodName) prog_10_method_25_code (3 : Nat) (Option.some Jvm.ClassFile.FieldType.int)) ∈ lw_all := lw_g (lw_at lw_m11 161 rfl) rfl
theorem q2655 : (Jvm.Cond.methodLink "WindowExchange$Parser" (190 : Nat) ({ cls := "WindowExchange$State", name := "openAuction", desc := "(II)I" } : Jvm.MethodName)) ∈ lw_all := lw_g (lw_at lw_m11 162 rfl) rfl
theorem q2656 : (Jvm.Cond.methodLink "WindowExchange$Parser" (162 : Nat) ({ cls := "WindowExchange$Parser", name := "passed", desc := "()LWindowExchange$Command;" } : Jvm.MethodName)) ∈ lw_all := lw_g (lw_at lw_m11 163 rfl) rfl
theorem q2657 : (Jvm.Cond.privateMethod ({ cls := "WindowExchange$Parser", name := "passed", desc := "()LWindowExchange$Command;" } : Jvm.MethodName)) ∈ lw_tbl := lw_at lw_m11 164 rfl
theorem q2658 : (Jvm.Cond.instanceMethod ({ cls := "WindowExchange$Parser", name := "passed", desc := "()LWindowExchange$Command;" } : Jvm.MethodName)) ∈ lw_all := lw_g (lw_at lw_m11 165 rfl) rfl
theorem q2659 : (Jvm.Cond.code ({ cls := "WindowExchange$Parser", name := "passed", desc := "()LWindowExchange$Command;" } : Jvm.MethodName) prog_10_method_17_code (2 : Nat) (Option.some (Jvm.ClassFile.FieldType.object "WindowExchange$Command"))) ∈ lw_all := lw_g (lw_at lw_m11 166 rfl) rfl
theorem q2660 : (Jvm.Cond.stringRef "WindowExchange$Parser" (132 : Nat) "ay") ∈ lw_tbl := lw_at lw_m11 167 rfl
theorem q2661 : (Jvm.Cond.static ({ cls := "WindowExchange$Parser", name := "lambda$passed$7", desc := "(ILWindowExchange$State;)I" } : Jvm.MethodName)) ∈ lw_all := lw_g (lw_at lw_m11 168 rfl) rfl
theorem q2662 : (Jvm.Cond.code ({ cls := "WindowExchange$Parser", name := "lambda$passed$7", desc := "(ILWindowExchange$State;)I" } : Jvm.MethodName) prog_10_method_21_code (2 : Nat) (Option.some Jvm.ClassFile.FieldType.int)) ∈ lw_all := lw_g (lw_at lw_m11 169 rfl) rfl
theorem q2663 : (Jvm.Cond.methodLink "WindowExchange$Parser" (175 : Nat) ({ cls := "WindowExchange$State", name := "advance", desc := "(I)I" } : Jvm.MethodName)) ∈ lw_all := lw_g (lw_at lw_m11 170 rfl) rfl
theorem q2664 : (Jvm.Cond.methodLink "WindowExchange$Parser" (171 : Nat) ({ cls := "java/util/ArrayList", name := "add", desc := "(Ljava/lang/Object;)Z" } : Jvm.MethodName)) ∈ lw_all := lw_g (lw_at lw_m11 171 rfl) rfl
theorem q3249 : (Jvm.Cond.castable "WindowExchange$Parser" "java/lang/Object") ∈ lw_tbl := lw_at lw_m14 36 rfl
theorem in_X9 : ∀ w ∈ wsX90, w ∈ lw_all := lw_in wsX90 [2444, 2446] (by decide +kernel) (by decide +kernel)
/-! WindowExchange$SyntaxException -/
set_option maxRecDepth 100000
def RX10 : String := "WindowExchange$SyntaxException"
def TX10 : u_T := fun k => match k with
  | 0 => ("java/lang/Throwable", "cause", "Ljava/lang/Throwable;", false)
  | 1 => ("java/lang/Throwable", "stackTrace", "[Ljava/lang/StackTraceElement;", false)
  | 2 => ("java/lang/Throwable", "suppressedExceptions", "Ljava/util/List;", false)
  | 3 => ("java/lang/Throwable", "detailMessage", "Ljava/lang/String;", false)
  | 4 => ("java/lang/Throwable", "backtrace", "Ljava/lang/Object;", false)
  | 5 => ("java/lang/Throwable", "depth", "I", false)
  | _ => ("WindowExchange$SyntaxException", "position", "I", true)
def tyX10 : Nat → FieldType := fun k => match k with
  | 0 => .object "java/lang/Throwable"
  | 1 => .array (.object "java/lang/StackTraceElement")
  | 2 => .object "java/util/List"
  | 3 => .object "java/lang/String"
  | 4 => .object "java/lang/Object"
  | 5 => .int
  | _ => .int
abbrev wsX100 : List Cond := u_ws RX10 TX10 7
theorem nmX10 : ∀ a, a < 7 → ∀ b, b < 7 → a ≠ b → (TX10 a).2.1 ≠ (TX10 b).2.1 := by decide +kernel
theorem tyX10_ok : ∀ k, k < 7 → parseFieldDescriptor (TX10 k).2.2.1 = some (tyX10 k) := by decide +kernel
abbrev cX10_init : ByteArray := prog_12_method_1_code
def yX10_init : MethodName := ⟨RX10, "<init>", "(I)V"⟩
def dkwX10_init_0 : List UInt8 := [42, 1, 1, 3, 3, 183, 0, 1, 42, 27, 181, 0, 7, 177]
abbrev dktX10_init_0 : List UInt8 := dkwX10_init_0 ++ []
theorem dksX10_init_0 : cX10_init.data.toList.drop 0 = dktX10_init_0 := by decide +kernel
theorem dX10_init_0 : decode cX10_init 0 = .ok (.aload_n 0, 1) := dk_42 (dk_at dksX10_init_0 0 rfl rfl)
theorem dX10_init_1 : decode cX10_init 1 = .ok (.aconst_null, 1) := dk_1 (dk_at dksX10_init_0 1 rfl rfl)
theorem dX10_init_2 : decode cX10_init 2 = .ok (.aconst_null, 1) := dk_1 (dk_at dksX10_init_0 2 rfl rfl)
theorem dX10_init_3 : decode cX10_init 3 = .ok (.iconst 0, 1) := dk_3 (dk_at dksX10_init_0 3 rfl rfl)
theorem dX10_init_4 : decode cX10_init 4 = .ok (.iconst 0, 1) := dk_3 (dk_at dksX10_init_0 4 rfl rfl)
theorem dX10_init_5 : decode cX10_init 5 = .ok (.invokespecial 1, 3) := dk_183 0 1 (dk_at dksX10_init_0 5 rfl rfl)
theorem dX10_init_8 : decode cX10_init 8 = .ok (.aload_n 0, 1) := dk_42 (dk_at dksX10_init_0 8 rfl rfl)
theorem dX10_init_9 : decode cX10_init 9 = .ok (.iload_n 1, 1) := dk_27 (dk_at dksX10_init_0 9 rfl rfl)
theorem dX10_init_10 : decode cX10_init 10 = .ok (.putfield 7, 3) := dk_181 0 7 (dk_at dksX10_init_0 10 rfl rfl)
theorem dX10_init_13 : decode cX10_init 13 = .ok (.return_, 1) := dk_177 (dk_at dksX10_init_0 13 rfl rfl)
theorem q149 : (Jvm.Cond.initialized "WindowExchange$SyntaxException") ∈ lw_all := lw_g (lw_at lw_m1 56 rfl) rfl
theorem q462 : (Jvm.Cond.selects "WindowExchange$SyntaxException" ({ cls := "java/lang/Throwable", name := "fillInStackTrace", desc := "()Ljava/lang/Throwable;" } : Jvm.MethodName) ({ cls := "java/lang/Throwable", name := "fillInStackTrace", desc := "()Ljava/lang/Throwable;" } : Jvm.MethodName)) ∈ lw_all := lw_g (lw_at lw_m2 129 rfl) rfl
theorem q717 : (Jvm.Cond.selects "WindowExchange$SyntaxException" ({ cls := "java/lang/Object", name := "getClass", desc := "()Ljava/lang/Class;" } : Jvm.MethodName) ({ cls := "java/lang/Object", name := "getClass", desc := "()Ljava/lang/Class;" } : Jvm.MethodName)) ∈ lw_all := lw_g (lw_at lw_m3 144 rfl) rfl
theorem q2517 : (Jvm.Cond.instantiable "WindowExchange$SyntaxException" (7 : Nat)) ∈ lw_all := lw_g (lw_at lw_m11 24 rfl) rfl
theorem q2518 : (Jvm.Cond.castable "WindowExchange$SyntaxException" "WindowExchange$SyntaxException") ∈ lw_tbl := lw_at lw_m11 25 rfl
theorem q2519 : (Jvm.Cond.selects "WindowExchange$SyntaxException" ({ cls := "java/lang/Throwable", name := "fillInStackTrace", desc := "(I)Ljava/lang/Throwable;" } : Jvm.MethodName) ({ cls := "java/lang/Throwable", name := "fillInStackTrace", desc := "(I)Ljava/lang/Throwable;" } : Jvm.MethodName)) ∈ lw_all := lw_g (lw_at lw_m11 26 rfl) rfl
theorem q2520 : (Jvm.Cond.lays "WindowExchange$SyntaxException" "java/lang/Throwable" "cause" "Ljava/lang/Throwable;") ∈ lw_all := lw_g (lw_at lw_m11 27 rfl) rfl
theorem q2521 : (Jvm.Cond.lays "WindowExchange$SyntaxException" "java/lang/Throwable" "stackTrace" "[Ljava/lang/StackTraceElement;") ∈ lw_all := lw_g (lw_at lw_m11 28 rfl) rfl
theorem q2522 : (Jvm.Cond.lays "WindowExchange$SyntaxException" "java/lang/Throwable" "suppressedExceptions" "Ljava/util/List;") ∈ lw_all := lw_g (lw_at lw_m11 29 rfl) rfl
theorem q2523 : (Jvm.Cond.lays "WindowExchange$SyntaxException" "java/lang/Throwable" "detailMessage" "Ljava/lang/String;") ∈ lw_all := lw_g (lw_at lw_m11 30 rfl) rfl
theorem q2524 : (Jvm.Cond.lays "WindowExchange$SyntaxException" "java/lang/Throwable" "backtrace" "Ljava/lang/Object;") ∈ lw_all := lw_g (lw_at lw_m11 31 rfl) rfl
theorem q2526 : (Jvm.Cond.instanceMethod ({ cls := "WindowExchange$SyntaxException", name := "<init>", desc := "(I)V" } : Jvm.MethodName)) ∈ lw_all := lw_g (lw_at lw_m11 33 rfl) rfl
theorem q2527 : (Jvm.Cond.code ({ cls := "WindowExchange$SyntaxException", name := "<init>", desc := "(I)V" } : Jvm.MethodName) prog_12_method_1_code (2 : Nat) (Option.none : Option Jvm.ClassFile.FieldType)) ∈ lw_all := lw_g (lw_at lw_m11 34 rfl) rfl
theorem q2528 : (Jvm.Cond.methodLink "WindowExchange$SyntaxException" (1 : Nat) ({ cls := "java/lang/Exception", name := "<init>", desc := "(Ljava/lang/String;Ljava/lang/Throwable;ZZ)V" } : Jvm.MethodName)) ∈ lw_all := lw_g (lw_at lw_m11 35 rfl) rfl
theorem q2534 : (Jvm.Cond.fieldLink "WindowExchange$SyntaxException" (7 : Nat) "WindowExchange$SyntaxException" "position" "I") ∈ lw_all := lw_g (lw_at lw_m11 41 rfl) rfl
theorem q2536 : (Jvm.Cond.laysFinal "WindowExchange$SyntaxException" "WindowExchange$SyntaxException" "position" "I") ∈ lw_all := lw_g (lw_at lw_m11 43 rfl) rfl
theorem q2537 : (Jvm.Cond.soleField "WindowExchange$SyntaxException" "position") ∈ lw_all := lw_g (lw_at lw_m11 44 rfl) rfl
theorem q2538 : (Jvm.Cond.lays "WindowExchange$SyntaxException" "java/lang/Throwable" "depth" "I") ∈ lw_all := lw_g (lw_at lw_m11 45 rfl) rfl
theorem q2539 : (Jvm.Cond.superclass "WindowExchange$SyntaxException" "java/lang/Exception") ∈ lw_all := lw_g (lw_at lw_m11 46 rfl) rfl
theorem q3250 : (Jvm.Cond.castable "WindowExchange$SyntaxException" "java/lang/Object") ∈ lw_tbl := lw_at lw_m14 37 rfl
theorem in_X10 : ∀ w ∈ wsX100, w ∈ lw_all := lw_in wsX100 [2520, 2521, 2522, 2523, 2524, 2538, 2536] (by decide +kernel) (by decide +kernel)
/-! WindowExchange$Command -/
set_option maxRecDepth 100000
def RX11 : String := "WindowExchange$Command"
def TX11 : u_T := fun k => match k with
  | _ => ("WindowExchange$Command", "change", "LWindowExchange$Change;", true)
def tyX11 : Nat → FieldType := fun k => match k with
  | _ => .object "WindowExchange$Change"
abbrev wsX110 : List Cond := u_ws RX11 TX11 1
theorem nmX11 : ∀ a, a < 1 → ∀ b, b < 1 → a ≠ b → (TX11 a).2.1 ≠ (TX11 b).2.1 := by decide +kernel
theorem tyX11_ok : ∀ k, k < 1 → parseFieldDescriptor (TX11 k).2.2.1 = some (tyX11 k) := by decide +kernel
abbrev cX11_init : ByteArray := prog_5_method_1_code
def yX11_init : MethodName := ⟨RX11, "<init>", "(LWindowExchange$Change;)V"⟩
def dkwX11_init_0 : List UInt8 := [42, 183, 0, 1, 42, 43, 181, 0, 7, 177]
abbrev dktX11_init_0 : List UInt8 := dkwX11_init_0 ++ []
theorem dksX11_init_0 : cX11_init.data.toList.drop 0 = dktX11_init_0 := by decide +kernel
theorem dX11_init_0 : decode cX11_init 0 = .ok (.aload_n 0, 1) := dk_42 (dk_at dksX11_init_0 0 rfl rfl)
theorem dX11_init_1 : decode cX11_init 1 = .ok (.invokespecial 1, 3) := dk_183 0 1 (dk_at dksX11_init_0 1 rfl rfl)
theorem dX11_init_4 : decode cX11_init 4 = .ok (.aload_n 0, 1) := dk_42 (dk_at dksX11_init_0 4 rfl rfl)
theorem dX11_init_5 : decode cX11_init 5 = .ok (.aload_n 1, 1) := dk_43 (dk_at dksX11_init_0 5 rfl rfl)
theorem dX11_init_6 : decode cX11_init 6 = .ok (.putfield 7, 3) := dk_181 0 7 (dk_at dksX11_init_0 6 rfl rfl)
theorem dX11_init_9 : decode cX11_init 9 = .ok (.return_, 1) := dk_177 (dk_at dksX11_init_0 9 rfl rfl)
theorem q150 : (Jvm.Cond.initialized "WindowExchange$Command") ∈ lw_all := lw_g (lw_at lw_m1 57 rfl) rfl
theorem q712 : (Jvm.Cond.selects "WindowExchange$Command" ({ cls := "java/lang/Object", name := "getClass", desc := "()Ljava/lang/Class;" } : Jvm.MethodName) ({ cls := "java/lang/Object", name := "getClass", desc := "()Ljava/lang/Class;" } : Jvm.MethodName)) ∈ lw_all := lw_g (lw_at lw_m3 139 rfl) rfl
theorem q2584 : (Jvm.Cond.instantiable "WindowExchange$Command" (1 : Nat)) ∈ lw_all := lw_g (lw_at lw_m11 91 rfl) rfl
theorem q2589 : (Jvm.Cond.instanceMethod ({ cls := "WindowExchange$Command", name := "<init>", desc := "(LWindowExchange$Change;)V" } : Jvm.MethodName)) ∈ lw_all := lw_g (lw_at lw_m11 96 rfl) rfl
theorem q2590 : (Jvm.Cond.code ({ cls := "WindowExchange$Command", name := "<init>", desc := "(LWindowExchange$Change;)V" } : Jvm.MethodName) prog_5_method_1_code (2 : Nat) (Option.none : Option Jvm.ClassFile.FieldType)) ∈ lw_all := lw_g (lw_at lw_m11 97 rfl) rfl
theorem q2591 : (Jvm.Cond.methodLink "WindowExchange$Command" (1 : Nat) ({ cls := "java/lang/Object", name := "<init>", desc := "()V" } : Jvm.MethodName)) ∈ lw_all := lw_g (lw_at lw_m11 98 rfl) rfl
theorem q2592 : (Jvm.Cond.fieldLink "WindowExchange$Command" (7 : Nat) "WindowExchange$Command" "change" "LWindowExchange$Change;") ∈ lw_all := lw_g (lw_at lw_m11 99 rfl) rfl
theorem q2594 : (Jvm.Cond.laysFinal "WindowExchange$Command" "WindowExchange$Command" "change" "LWindowExchange$Change;") ∈ lw_all := lw_g (lw_at lw_m11 101 rfl) rfl
theorem q2595 : (Jvm.Cond.soleField "WindowExchange$Command" "change") ∈ lw_all := lw_g (lw_at lw_m11 102 rfl) rfl
theorem q2596 : (Jvm.Cond.superclass "WindowExchange$Command" "java/lang/Object") ∈ lw_all := lw_g (lw_at lw_m11 103 rfl) rfl
theorem q3251 : (Jvm.Cond.castable "WindowExchange$Command" "java/lang/Object") ∈ lw_tbl := lw_at lw_m14 38 rfl
theorem in_X11 : ∀ w ∈ wsX110, w ∈ lw_all := lw_in wsX110 [2594] (by decide +kernel) (by decide +kernel)
theorem q1886 : (Jvm.Cond.interfaceMethod "WindowExchange$Change" "WindowExchange$Change" "applyTo" "(LWindowExchange$State;)I") ∈ lw_tbl := lw_at lw_m8 113 rfl
set_option maxRecDepth 100000
theorem q1887 : (Jvm.Cond.declares ({ cls := "WindowExchange$Change", name := "applyTo", desc := "(LWindowExchange$State;)I" } : Jvm.MethodName)) ∈ lw_tbl := lw_at lw_m8 114 rfl
theorem q1315 : (Jvm.Cond.interfaceMethod "WindowExchange$ContractMeasure" "WindowExchange$ContractMeasure" "of" "(LWindowExchange$Contract;)I") ∈ lw_tbl := lw_at lw_m6 22 rfl
set_option maxRecDepth 100000
theorem q1316 : (Jvm.Cond.declares ({ cls := "WindowExchange$ContractMeasure", name := "of", desc := "(LWindowExchange$Contract;)I" } : Jvm.MethodName)) ∈ lw_tbl := lw_at lw_m6 23 rfl
theorem q558 : (Jvm.Cond.interfaceMethod "WindowExchange$OrderMeasure" "WindowExchange$OrderMeasure" "of" "(LWindowExchange$Order;)I") ∈ lw_tbl := lw_at lw_m2 225 rfl
set_option maxRecDepth 100000
theorem q559 : (Jvm.Cond.declares ({ cls := "WindowExchange$OrderMeasure", name := "of", desc := "(LWindowExchange$Order;)I" } : Jvm.MethodName)) ∈ lw_tbl := lw_at lw_m2 226 rfl
theorem q1378 : (Jvm.Cond.sameMethod "[B" "java/lang/Object" "clone" "()Ljava/lang/Object;") ∈ lw_all := lw_g (lw_at lw_m6 85 rfl) rfl
set_option maxRecDepth 100000
theorem q1381 : (Jvm.Cond.selects "[B" ({ cls := "[B", name := "clone", desc := "()Ljava/lang/Object;" } : Jvm.MethodName) ({ cls := "java/lang/Object", name := "clone", desc := "()Ljava/lang/Object;" } : Jvm.MethodName)) ∈ lw_all := lw_g (lw_at lw_m6 88 rfl) rfl
theorem q1382 : (Jvm.Cond.castable "[B" "java/lang/Cloneable") ∈ lw_tbl := lw_at lw_m6 89 rfl
theorem q3260 : (Jvm.Cond.castable "[B" "java/lang/Object") ∈ lw_tbl := lw_at lw_m14 47 rfl
theorem q3261 : (Jvm.Cond.castable "[C" "java/lang/Object") ∈ lw_tbl := lw_at lw_m14 48 rfl
set_option maxRecDepth 100000
theorem q3263 : (Jvm.Cond.castable "[D" "java/lang/Object") ∈ lw_tbl := lw_at lw_m14 50 rfl
set_option maxRecDepth 100000
theorem q3258 : (Jvm.Cond.castable "[I" "java/lang/Object") ∈ lw_tbl := lw_at lw_m14 45 rfl
set_option maxRecDepth 100000
theorem q3262 : (Jvm.Cond.castable "[J" "java/lang/Object") ∈ lw_tbl := lw_at lw_m14 49 rfl
set_option maxRecDepth 100000
theorem q3255 : (Jvm.Cond.sameMethod "[Ljava/lang/Object;" "java/lang/Object" "getClass" "()Ljava/lang/Class;") ∈ lw_all := lw_g (lw_at lw_m14 42 rfl) rfl
set_option maxRecDepth 100000
theorem q3256 : (Jvm.Cond.selects "[Ljava/lang/Object;" ({ cls := "java/lang/Object", name := "getClass", desc := "()Ljava/lang/Class;" } : Jvm.MethodName) ({ cls := "java/lang/Object", name := "getClass", desc := "()Ljava/lang/Class;" } : Jvm.MethodName)) ∈ lw_all := lw_g (lw_at lw_m14 43 rfl) rfl
theorem q3259 : (Jvm.Cond.castable "[Ljava/lang/Object;" "java/lang/Object") ∈ lw_tbl := lw_at lw_m14 46 rfl
theorem q785 : (Jvm.Cond.interfaceMethod "java/lang/Comparable" "java/lang/Comparable" "compareTo" "(Ljava/lang/Object;)I") ∈ lw_tbl := lw_at lw_m3 212 rfl
set_option maxRecDepth 100000
theorem q786 : (Jvm.Cond.declares ({ cls := "java/lang/Comparable", name := "compareTo", desc := "(Ljava/lang/Object;)I" } : Jvm.MethodName)) ∈ lw_tbl := lw_at lw_m3 213 rfl
theorem q141 : (Jvm.Cond.initialized "java/lang/Integer$IntegerCache") ∈ lw_all := lw_g (lw_at lw_m1 48 rfl) rfl
set_option maxRecDepth 100000
theorem q1099 : (Jvm.Cond.laysStatic "java/lang/Integer$IntegerCache" "high" "I") ∈ lw_tbl := lw_at lw_m5 46 rfl
theorem q1101 : (Jvm.Cond.laysStatic "java/lang/Integer$IntegerCache" "cache" "[Ljava/lang/Integer;") ∈ lw_tbl := lw_at lw_m5 48 rfl
theorem q114 : (Jvm.Cond.initialized "java/lang/System") ∈ lw_all := lw_g (lw_at lw_m1 21 rfl) rfl
set_option maxRecDepth 100000
theorem q752 : (Jvm.Cond.static ({ cls := "java/lang/System", name := "arraycopy", desc := "(Ljava/lang/Object;ILjava/lang/Object;II)V" } : Jvm.MethodName)) ∈ lw_all := lw_g (lw_at lw_m3 179 rfl) rfl
theorem q753 : (Jvm.Cond.native ({ cls := "java/lang/System", name := "arraycopy", desc := "(Ljava/lang/Object;ILjava/lang/Object;II)V" } : Jvm.MethodName)) ∈ lw_all := lw_g (lw_at lw_m3 180 rfl) rfl
theorem q1712 : (Jvm.Cond.interfaceMethod "java/util/Collection" "java/util/Collection" "toArray" "()[Ljava/lang/Object;") ∈ lw_tbl := lw_at lw_m7 179 rfl
set_option maxRecDepth 100000
theorem q1713 : (Jvm.Cond.declares ({ cls := "java/util/Collection", name := "toArray", desc := "()[Ljava/lang/Object;" } : Jvm.MethodName)) ∈ lw_tbl := lw_at lw_m7 180 rfl
theorem q763 : (Jvm.Cond.interfaceMethod "java/util/Comparator" "java/util/Comparator" "compare" "(Ljava/lang/Object;Ljava/lang/Object;)I") ∈ lw_tbl := lw_at lw_m3 190 rfl
set_option maxRecDepth 100000
theorem q764 : (Jvm.Cond.declares ({ cls := "java/util/Comparator", name := "compare", desc := "(Ljava/lang/Object;Ljava/lang/Object;)I" } : Jvm.MethodName)) ∈ lw_tbl := lw_at lw_m3 191 rfl
theorem q390 : (Jvm.Cond.interfaceMethod "java/util/Iterator" "java/util/Iterator" "hasNext" "()Z") ∈ lw_tbl := lw_at lw_m2 57 rfl
set_option maxRecDepth 100000
theorem q391 : (Jvm.Cond.declares ({ cls := "java/util/Iterator", name := "hasNext", desc := "()Z" } : Jvm.MethodName)) ∈ lw_tbl := lw_at lw_m2 58 rfl
theorem q422 : (Jvm.Cond.interfaceMethod "java/util/Iterator" "java/util/Iterator" "next" "()Ljava/lang/Object;") ∈ lw_tbl := lw_at lw_m2 89 rfl
theorem q423 : (Jvm.Cond.declares ({ cls := "java/util/Iterator", name := "next", desc := "()Ljava/lang/Object;" } : Jvm.MethodName)) ∈ lw_tbl := lw_at lw_m2 90 rfl
theorem q1275 : (Jvm.Cond.interfaceMethod "java/util/Map$Entry" "java/util/Map$Entry" "getValue" "()Ljava/lang/Object;") ∈ lw_tbl := lw_at lw_m5 222 rfl
set_option maxRecDepth 100000
theorem q1276 : (Jvm.Cond.declares ({ cls := "java/util/Map$Entry", name := "getValue", desc := "()Ljava/lang/Object;" } : Jvm.MethodName)) ∈ lw_tbl := lw_at lw_m5 223 rfl
theorem q1285 : (Jvm.Cond.interfaceMethod "java/util/Map$Entry" "java/util/Map$Entry" "getKey" "()Ljava/lang/Object;") ∈ lw_tbl := lw_at lw_m5 232 rfl
theorem q1286 : (Jvm.Cond.declares ({ cls := "java/util/Map$Entry", name := "getKey", desc := "()Ljava/lang/Object;" } : Jvm.MethodName)) ∈ lw_tbl := lw_at lw_m5 233 rfl
theorem q1238 : (Jvm.Cond.interfaceMethod "java/util/Set" "java/util/Set" "iterator" "()Ljava/util/Iterator;") ∈ lw_tbl := lw_at lw_m5 185 rfl
set_option maxRecDepth 100000
theorem q1239 : (Jvm.Cond.declares ({ cls := "java/util/Set", name := "iterator", desc := "()Ljava/util/Iterator;" } : Jvm.MethodName)) ∈ lw_tbl := lw_at lw_m5 186 rfl
theorem q137 : (Jvm.Cond.initialized "jdk/internal/misc/UnsafeConstants") ∈ lw_all := lw_g (lw_at lw_m1 44 rfl) rfl
set_option maxRecDepth 100000
theorem q862 : (Jvm.Cond.laysStatic "jdk/internal/misc/UnsafeConstants" "BIG_ENDIAN" "Z") ∈ lw_tbl := lw_at lw_m4 49 rfl
theorem q194 : (Jvm.Cond.arrayClass Jvm.ClassFile.FieldType.int) ∈ lw_all := lw_g (lw_at lw_m1 101 rfl) rfl
set_option maxRecDepth 100000
theorem q262 : (Jvm.Cond.arrayOver (Jvm.ClassFile.FieldType.object "java/lang/Object")) ∈ lw_tbl := lw_at lw_m1 169 rfl
theorem q307 : (Jvm.Cond.arrayClass Jvm.ClassFile.FieldType.byte) ∈ lw_all := lw_g (lw_at lw_m1 214 rfl) rfl
theorem q338 : (Jvm.Cond.arrayClass Jvm.ClassFile.FieldType.char) ∈ lw_all := lw_g (lw_at lw_m2 5 rfl) rfl
theorem q3201 : (Jvm.Cond.arrayClass Jvm.ClassFile.FieldType.long) ∈ lw_all := lw_g (lw_at lw_m13 228 rfl) rfl
theorem q3202 : (Jvm.Cond.arrayClass Jvm.ClassFile.FieldType.double) ∈ lw_all := lw_g (lw_at lw_m13 229 rfl) rfl
