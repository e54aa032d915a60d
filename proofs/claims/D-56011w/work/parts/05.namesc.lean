/-! java/util/PriorityQueue$Itr -/
set_option maxRecDepth 100000
def RJ25 : String := "java/util/PriorityQueue$Itr"
def TJ25 : u_T := fun k => match k with
  | 0 => ("java/util/PriorityQueue$Itr", "cursor", "I", false)
  | 1 => ("java/util/PriorityQueue$Itr", "lastRet", "I", false)
  | 2 => ("java/util/PriorityQueue$Itr", "forgetMeNot", "Ljava/util/ArrayDeque;", false)
  | 3 => ("java/util/PriorityQueue$Itr", "lastRetElt", "Ljava/lang/Object;", false)
  | 4 => ("java/util/PriorityQueue$Itr", "expectedModCount", "I", false)
  | _ => ("java/util/PriorityQueue$Itr", "this$0", "Ljava/util/PriorityQueue;", true)
def tyJ25 : Nat → FieldType := fun k => match k with
  | 0 => .int
  | 1 => .int
  | 2 => .object "java/util/ArrayDeque"
  | 3 => .object "java/lang/Object"
  | 4 => .int
  | _ => .object "java/util/PriorityQueue"
abbrev wsJ250 : List Cond := u_ws RJ25 TJ25 6
theorem nmJ25 : ∀ a, a < 6 → ∀ b, b < 6 → a ≠ b → (TJ25 a).2.1 ≠ (TJ25 b).2.1 := by decide +kernel
theorem tyJ25_ok : ∀ k, k < 6 → parseFieldDescriptor (TJ25 k).2.2.1 = some (tyJ25 k) := by decide +kernel
abbrev cJ25_hasNext : ByteArray := prog_68_method_2_code
def yJ25_hasNext : MethodName := ⟨RJ25, "hasNext", "()Z"⟩
def dkwJ25_hasNext_1 : List UInt8 := [180, 0, 31, 182, 0, 35, 154, 0, 7, 4, 167, 0, 4, 3, 172]
abbrev dktJ25_hasNext_1 : List UInt8 := dkwJ25_hasNext_1 ++ []
def dkwJ25_hasNext_0 : List UInt8 := [42, 180, 0, 25, 42, 180, 0, 1, 180, 0, 28, 161, 0, 20, 42, 180, 0, 31, 198, 0, 17, 42]
abbrev dktJ25_hasNext_0 : List UInt8 := dkwJ25_hasNext_0 ++ dktJ25_hasNext_1
theorem dksJ25_hasNext_0 : cJ25_hasNext.data.toList.drop 0 = dktJ25_hasNext_0 := by decide +kernel
theorem dksJ25_hasNext_1 : cJ25_hasNext.data.toList.drop 22 = dktJ25_hasNext_1 := dk_seg dksJ25_hasNext_0 22 rfl rfl
theorem dJ25_hasNext_0 : decode cJ25_hasNext 0 = .ok (.aload_n 0, 1) := dk_42 (dk_at dksJ25_hasNext_0 0 rfl rfl)
theorem dJ25_hasNext_1 : decode cJ25_hasNext 1 = .ok (.getfield 25, 3) := dk_180 0 25 (dk_at dksJ25_hasNext_0 1 rfl rfl)
theorem dJ25_hasNext_4 : decode cJ25_hasNext 4 = .ok (.aload_n 0, 1) := dk_42 (dk_at dksJ25_hasNext_0 4 rfl rfl)
theorem dJ25_hasNext_5 : decode cJ25_hasNext 5 = .ok (.getfield 1, 3) := dk_180 0 1 (dk_at dksJ25_hasNext_0 5 rfl rfl)
theorem dJ25_hasNext_8 : decode cJ25_hasNext 8 = .ok (.getfield 28, 3) := dk_180 0 28 (dk_at dksJ25_hasNext_0 8 rfl rfl)
theorem dJ25_hasNext_11 : decode cJ25_hasNext 11 = .ok (.if_icmp .lt 20, 3) := dk_161 0 20 (dk_at dksJ25_hasNext_0 11 rfl rfl)
theorem dJ25_hasNext_14 : decode cJ25_hasNext 14 = .ok (.aload_n 0, 1) := dk_42 (dk_at dksJ25_hasNext_0 14 rfl rfl)
theorem dJ25_hasNext_15 : decode cJ25_hasNext 15 = .ok (.getfield 31, 3) := dk_180 0 31 (dk_at dksJ25_hasNext_0 15 rfl rfl)
theorem dJ25_hasNext_18 : decode cJ25_hasNext 18 = .ok (.ifnull 17, 3) := dk_198 0 17 (dk_at dksJ25_hasNext_0 18 rfl rfl)
theorem dJ25_hasNext_21 : decode cJ25_hasNext 21 = .ok (.aload_n 0, 1) := dk_42 (dk_at dksJ25_hasNext_0 21 rfl rfl)
theorem dJ25_hasNext_22 : decode cJ25_hasNext 22 = .ok (.getfield 31, 3) := dk_180 0 31 (dk_at dksJ25_hasNext_1 0 rfl rfl)
theorem dJ25_hasNext_25 : decode cJ25_hasNext 25 = .ok (.invokevirtual 35, 3) := dk_182 0 35 (dk_at dksJ25_hasNext_1 3 rfl rfl)
theorem dJ25_hasNext_28 : decode cJ25_hasNext 28 = .ok (.ifCond .ne 7, 3) := dk_154 0 7 (dk_at dksJ25_hasNext_1 6 rfl rfl)
theorem dJ25_hasNext_31 : decode cJ25_hasNext 31 = .ok (.iconst 1, 1) := dk_4 (dk_at dksJ25_hasNext_1 9 rfl rfl)
theorem dJ25_hasNext_32 : decode cJ25_hasNext 32 = .ok (.goto 4, 3) := dk_167 0 4 (dk_at dksJ25_hasNext_1 10 rfl rfl)
theorem dJ25_hasNext_35 : decode cJ25_hasNext 35 = .ok (.iconst 0, 1) := dk_3 (dk_at dksJ25_hasNext_1 13 rfl rfl)
theorem dJ25_hasNext_36 : decode cJ25_hasNext 36 = .ok (.ireturn, 1) := dk_172 (dk_at dksJ25_hasNext_1 14 rfl rfl)
abbrev cJ25_next : ByteArray := prog_68_method_3_code
def yJ25_next : MethodName := ⟨RJ25, "next", "()Ljava/lang/Object;"⟩
def dkwJ25_next_4 : List UInt8 := [180, 0, 52, 176, 187, 0, 56, 89, 183, 0, 58, 191]
abbrev dktJ25_next_4 : List UInt8 := dkwJ25_next_4 ++ []
def dkwJ25_next_3 : List UInt8 := [181, 0, 13, 42, 42, 180, 0, 31, 182, 0, 48, 181, 0, 52, 42, 180, 0, 52, 198, 0, 8, 42]
abbrev dktJ25_next_3 : List UInt8 := dkwJ25_next_3 ++ dktJ25_next_4
def dkwJ25_next_2 : List UInt8 := [180, 0, 25, 90, 4, 96, 181, 0, 25, 90, 181, 0, 13, 50, 176, 42, 180, 0, 31, 198, 0, 31, 42, 2]
abbrev dktJ25_next_2 : List UInt8 := dkwJ25_next_2 ++ dktJ25_next_3
def dkwJ25_next_1 : List UInt8 := [180, 0, 25, 42, 180, 0, 1, 180, 0, 28, 162, 0, 28, 42, 180, 0, 1, 180, 0, 44, 42, 42, 89]
abbrev dktJ25_next_1 : List UInt8 := dkwJ25_next_1 ++ dktJ25_next_2
def dkwJ25_next_0 : List UInt8 := [42, 180, 0, 22, 42, 180, 0, 1, 180, 0, 17, 159, 0, 11, 187, 0, 41, 89, 183, 0, 43, 191, 42]
abbrev dktJ25_next_0 : List UInt8 := dkwJ25_next_0 ++ dktJ25_next_1
theorem dksJ25_next_0 : cJ25_next.data.toList.drop 0 = dktJ25_next_0 := by decide +kernel
theorem dksJ25_next_1 : cJ25_next.data.toList.drop 23 = dktJ25_next_1 := dk_seg dksJ25_next_0 23 rfl rfl
theorem dksJ25_next_2 : cJ25_next.data.toList.drop 46 = dktJ25_next_2 := dk_seg dksJ25_next_1 23 rfl rfl
theorem dksJ25_next_3 : cJ25_next.data.toList.drop 70 = dktJ25_next_3 := dk_seg dksJ25_next_2 24 rfl rfl
theorem dksJ25_next_4 : cJ25_next.data.toList.drop 92 = dktJ25_next_4 := dk_seg dksJ25_next_3 22 rfl rfl
theorem dJ25_next_0 : decode cJ25_next 0 = .ok (.aload_n 0, 1) := dk_42 (dk_at dksJ25_next_0 0 rfl rfl)
theorem dJ25_next_1 : decode cJ25_next 1 = .ok (.getfield 22, 3) := dk_180 0 22 (dk_at dksJ25_next_0 1 rfl rfl)
theorem dJ25_next_4 : decode cJ25_next 4 = .ok (.aload_n 0, 1) := dk_42 (dk_at dksJ25_next_0 4 rfl rfl)
theorem dJ25_next_5 : decode cJ25_next 5 = .ok (.getfield 1, 3) := dk_180 0 1 (dk_at dksJ25_next_0 5 rfl rfl)
theorem dJ25_next_8 : decode cJ25_next 8 = .ok (.getfield 17, 3) := dk_180 0 17 (dk_at dksJ25_next_0 8 rfl rfl)
theorem dJ25_next_11 : decode cJ25_next 11 = .ok (.if_icmp .eq 11, 3) := dk_159 0 11 (dk_at dksJ25_next_0 11 rfl rfl)
theorem dJ25_next_14 : decode cJ25_next 14 = .ok (.new 41, 3) := dk_187 0 41 (dk_at dksJ25_next_0 14 rfl rfl)
theorem dJ25_next_17 : decode cJ25_next 17 = .ok (.dup, 1) := dk_89 (dk_at dksJ25_next_0 17 rfl rfl)
theorem dJ25_next_18 : decode cJ25_next 18 = .ok (.invokespecial 43, 3) := dk_183 0 43 (dk_at dksJ25_next_0 18 rfl rfl)
theorem dJ25_next_21 : decode cJ25_next 21 = .ok (.athrow, 1) := dk_191 (dk_at dksJ25_next_0 21 rfl rfl)
theorem dJ25_next_22 : decode cJ25_next 22 = .ok (.aload_n 0, 1) := dk_42 (dk_at dksJ25_next_0 22 rfl rfl)
theorem dJ25_next_23 : decode cJ25_next 23 = .ok (.getfield 25, 3) := dk_180 0 25 (dk_at dksJ25_next_1 0 rfl rfl)
theorem dJ25_next_26 : decode cJ25_next 26 = .ok (.aload_n 0, 1) := dk_42 (dk_at dksJ25_next_1 3 rfl rfl)
theorem dJ25_next_27 : decode cJ25_next 27 = .ok (.getfield 1, 3) := dk_180 0 1 (dk_at dksJ25_next_1 4 rfl rfl)
theorem dJ25_next_30 : decode cJ25_next 30 = .ok (.getfield 28, 3) := dk_180 0 28 (dk_at dksJ25_next_1 7 rfl rfl)
theorem dJ25_next_33 : decode cJ25_next 33 = .ok (.if_icmp .ge 28, 3) := dk_162 0 28 (dk_at dksJ25_next_1 10 rfl rfl)
theorem dJ25_next_36 : decode cJ25_next 36 = .ok (.aload_n 0, 1) := dk_42 (dk_at dksJ25_next_1 13 rfl rfl)
theorem dJ25_next_37 : decode cJ25_next 37 = .ok (.getfield 1, 3) := dk_180 0 1 (dk_at dksJ25_next_1 14 rfl rfl)
theorem dJ25_next_40 : decode cJ25_next 40 = .ok (.getfield 44, 3) := dk_180 0 44 (dk_at dksJ25_next_1 17 rfl rfl)
theorem dJ25_next_43 : decode cJ25_next 43 = .ok (.aload_n 0, 1) := dk_42 (dk_at dksJ25_next_1 20 rfl rfl)
theorem dJ25_next_44 : decode cJ25_next 44 = .ok (.aload_n 0, 1) := dk_42 (dk_at dksJ25_next_1 21 rfl rfl)
theorem dJ25_next_45 : decode cJ25_next 45 = .ok (.dup, 1) := dk_89 (dk_at dksJ25_next_1 22 rfl rfl)
theorem dJ25_next_46 : decode cJ25_next 46 = .ok (.getfield 25, 3) := dk_180 0 25 (dk_at dksJ25_next_2 0 rfl rfl)
theorem dJ25_next_49 : decode cJ25_next 49 = .ok (.dup_x1, 1) := dk_90 (dk_at dksJ25_next_2 3 rfl rfl)
theorem dJ25_next_50 : decode cJ25_next 50 = .ok (.iconst 1, 1) := dk_4 (dk_at dksJ25_next_2 4 rfl rfl)
theorem dJ25_next_51 : decode cJ25_next 51 = .ok (.iadd, 1) := dk_96 (dk_at dksJ25_next_2 5 rfl rfl)
theorem dJ25_next_52 : decode cJ25_next 52 = .ok (.putfield 25, 3) := dk_181 0 25 (dk_at dksJ25_next_2 6 rfl rfl)
theorem dJ25_next_55 : decode cJ25_next 55 = .ok (.dup_x1, 1) := dk_90 (dk_at dksJ25_next_2 9 rfl rfl)
theorem dJ25_next_56 : decode cJ25_next 56 = .ok (.putfield 13, 3) := dk_181 0 13 (dk_at dksJ25_next_2 10 rfl rfl)
theorem dJ25_next_59 : decode cJ25_next 59 = .ok (.aaload, 1) := dk_50 (dk_at dksJ25_next_2 13 rfl rfl)
theorem dJ25_next_60 : decode cJ25_next 60 = .ok (.areturn, 1) := dk_176 (dk_at dksJ25_next_2 14 rfl rfl)
theorem dJ25_next_61 : decode cJ25_next 61 = .ok (.aload_n 0, 1) := dk_42 (dk_at dksJ25_next_2 15 rfl rfl)
theorem dJ25_next_62 : decode cJ25_next 62 = .ok (.getfield 31, 3) := dk_180 0 31 (dk_at dksJ25_next_2 16 rfl rfl)
theorem dJ25_next_65 : decode cJ25_next 65 = .ok (.ifnull 31, 3) := dk_198 0 31 (dk_at dksJ25_next_2 19 rfl rfl)
theorem dJ25_next_68 : decode cJ25_next 68 = .ok (.aload_n 0, 1) := dk_42 (dk_at dksJ25_next_2 22 rfl rfl)
theorem dJ25_next_69 : decode cJ25_next 69 = .ok (.iconst (-1), 1) := dk_2 (dk_at dksJ25_next_2 23 rfl rfl)
theorem dJ25_next_70 : decode cJ25_next 70 = .ok (.putfield 13, 3) := dk_181 0 13 (dk_at dksJ25_next_3 0 rfl rfl)
theorem dJ25_next_73 : decode cJ25_next 73 = .ok (.aload_n 0, 1) := dk_42 (dk_at dksJ25_next_3 3 rfl rfl)
theorem dJ25_next_74 : decode cJ25_next 74 = .ok (.aload_n 0, 1) := dk_42 (dk_at dksJ25_next_3 4 rfl rfl)
theorem dJ25_next_75 : decode cJ25_next 75 = .ok (.getfield 31, 3) := dk_180 0 31 (dk_at dksJ25_next_3 5 rfl rfl)
theorem dJ25_next_78 : decode cJ25_next 78 = .ok (.invokevirtual 48, 3) := dk_182 0 48 (dk_at dksJ25_next_3 8 rfl rfl)
theorem dJ25_next_81 : decode cJ25_next 81 = .ok (.putfield 52, 3) := dk_181 0 52 (dk_at dksJ25_next_3 11 rfl rfl)
theorem dJ25_next_84 : decode cJ25_next 84 = .ok (.aload_n 0, 1) := dk_42 (dk_at dksJ25_next_3 14 rfl rfl)
theorem dJ25_next_85 : decode cJ25_next 85 = .ok (.getfield 52, 3) := dk_180 0 52 (dk_at dksJ25_next_3 15 rfl rfl)
theorem dJ25_next_88 : decode cJ25_next 88 = .ok (.ifnull 8, 3) := dk_198 0 8 (dk_at dksJ25_next_3 18 rfl rfl)
theorem dJ25_next_91 : decode cJ25_next 91 = .ok (.aload_n 0, 1) := dk_42 (dk_at dksJ25_next_3 21 rfl rfl)
theorem dJ25_next_92 : decode cJ25_next 92 = .ok (.getfield 52, 3) := dk_180 0 52 (dk_at dksJ25_next_4 0 rfl rfl)
theorem dJ25_next_95 : decode cJ25_next 95 = .ok (.areturn, 1) := dk_176 (dk_at dksJ25_next_4 3 rfl rfl)
theorem dJ25_next_96 : decode cJ25_next 96 = .ok (.new 56, 3) := dk_187 0 56 (dk_at dksJ25_next_4 4 rfl rfl)
theorem dJ25_next_99 : decode cJ25_next 99 = .ok (.dup, 1) := dk_89 (dk_at dksJ25_next_4 7 rfl rfl)
theorem dJ25_next_100 : decode cJ25_next 100 = .ok (.invokespecial 58, 3) := dk_183 0 58 (dk_at dksJ25_next_4 8 rfl rfl)
theorem dJ25_next_103 : decode cJ25_next 103 = .ok (.athrow, 1) := dk_191 (dk_at dksJ25_next_4 11 rfl rfl)
abbrev cJ25_init : ByteArray := prog_68_method_1_code
def yJ25_init : MethodName := ⟨RJ25, "<init>", "(Ljava/util/PriorityQueue;)V"⟩
def dkwJ25_init_1 : List UInt8 := [181, 0, 22, 177]
abbrev dktJ25_init_1 : List UInt8 := dkwJ25_init_1 ++ []
def dkwJ25_init_0 : List UInt8 := [42, 43, 181, 0, 1, 42, 183, 0, 7, 42, 2, 181, 0, 13, 42, 42, 180, 0, 1, 180, 0, 17]
abbrev dktJ25_init_0 : List UInt8 := dkwJ25_init_0 ++ dktJ25_init_1
theorem dksJ25_init_0 : cJ25_init.data.toList.drop 0 = dktJ25_init_0 := by decide +kernel
theorem dksJ25_init_1 : cJ25_init.data.toList.drop 22 = dktJ25_init_1 := dk_seg dksJ25_init_0 22 rfl rfl
theorem dJ25_init_0 : decode cJ25_init 0 = .ok (.aload_n 0, 1) := dk_42 (dk_at dksJ25_init_0 0 rfl rfl)
theorem dJ25_init_1 : decode cJ25_init 1 = .ok (.aload_n 1, 1) := dk_43 (dk_at dksJ25_init_0 1 rfl rfl)
theorem dJ25_init_2 : decode cJ25_init 2 = .ok (.putfield 1, 3) := dk_181 0 1 (dk_at dksJ25_init_0 2 rfl rfl)
theorem dJ25_init_5 : decode cJ25_init 5 = .ok (.aload_n 0, 1) := dk_42 (dk_at dksJ25_init_0 5 rfl rfl)
theorem dJ25_init_6 : decode cJ25_init 6 = .ok (.invokespecial 7, 3) := dk_183 0 7 (dk_at dksJ25_init_0 6 rfl rfl)
theorem dJ25_init_9 : decode cJ25_init 9 = .ok (.aload_n 0, 1) := dk_42 (dk_at dksJ25_init_0 9 rfl rfl)
theorem dJ25_init_10 : decode cJ25_init 10 = .ok (.iconst (-1), 1) := dk_2 (dk_at dksJ25_init_0 10 rfl rfl)
theorem dJ25_init_11 : decode cJ25_init 11 = .ok (.putfield 13, 3) := dk_181 0 13 (dk_at dksJ25_init_0 11 rfl rfl)
theorem dJ25_init_14 : decode cJ25_init 14 = .ok (.aload_n 0, 1) := dk_42 (dk_at dksJ25_init_0 14 rfl rfl)
theorem dJ25_init_15 : decode cJ25_init 15 = .ok (.aload_n 0, 1) := dk_42 (dk_at dksJ25_init_0 15 rfl rfl)
theorem dJ25_init_16 : decode cJ25_init 16 = .ok (.getfield 1, 3) := dk_180 0 1 (dk_at dksJ25_init_0 16 rfl rfl)
theorem dJ25_init_19 : decode cJ25_init 19 = .ok (.getfield 17, 3) := dk_180 0 17 (dk_at dksJ25_init_0 19 rfl rfl)
theorem dJ25_init_22 : decode cJ25_init 22 = .ok (.putfield 22, 3) := dk_181 0 22 (dk_at dksJ25_init_1 0 rfl rfl)
theorem dJ25_init_25 : decode cJ25_init 25 = .ok (.return_, 1) := dk_177 (dk_at dksJ25_init_1 3 rfl rfl)
theorem q125 : (Jvm.Cond.initialized "java/util/PriorityQueue$Itr") ∈ lw_all := lw_g (lw_at lw_m1 32 rfl) rfl
theorem q404 : (Jvm.Cond.castable "java/util/PriorityQueue$Itr" "java/util/Iterator") ∈ lw_tbl := lw_at lw_m2 71 rfl
theorem q405 : (Jvm.Cond.selects "java/util/PriorityQueue$Itr" ({ cls := "java/util/Iterator", name := "hasNext", desc := "()Z" } : Jvm.MethodName) ({ cls := "java/util/PriorityQueue$Itr", name := "hasNext", desc := "()Z" } : Jvm.MethodName)) ∈ lw_all := lw_g (lw_at lw_m2 72 rfl) rfl
theorem q406 : (Jvm.Cond.unhidden "java/util/PriorityQueue$Itr" "hasNext" "()Z") ∈ lw_tbl := lw_at lw_m2 73 rfl
theorem q407 : (Jvm.Cond.instanceMethod ({ cls := "java/util/PriorityQueue$Itr", name := "hasNext", desc := "()Z" } : Jvm.MethodName)) ∈ lw_all := lw_g (lw_at lw_m2 74 rfl) rfl
theorem q408 : (Jvm.Cond.publicMethod ({ cls := "java/util/PriorityQueue$Itr", name := "hasNext", desc := "()Z" } : Jvm.MethodName)) ∈ lw_tbl := lw_at lw_m2 75 rfl
theorem q409 : (Jvm.Cond.code ({ cls := "java/util/PriorityQueue$Itr", name := "hasNext", desc := "()Z" } : Jvm.MethodName) prog_68_method_2_code (1 : Nat) (Option.some Jvm.ClassFile.FieldType.boolean)) ∈ lw_all := lw_g (lw_at lw_m2 76 rfl) rfl
theorem q410 : (Jvm.Cond.methodLink "java/util/PriorityQueue$Itr" (35 : Nat) ({ cls := "java/util/ArrayDeque", name := "isEmpty", desc := "()Z" } : Jvm.MethodName)) ∈ lw_all := lw_g (lw_at lw_m2 77 rfl) rfl
theorem q516 : (Jvm.Cond.selects "java/util/PriorityQueue$Itr" ({ cls := "java/util/Iterator", name := "next", desc := "()Ljava/lang/Object;" } : Jvm.MethodName) ({ cls := "java/util/PriorityQueue$Itr", name := "next", desc := "()Ljava/lang/Object;" } : Jvm.MethodName)) ∈ lw_all := lw_g (lw_at lw_m2 183 rfl) rfl
theorem q517 : (Jvm.Cond.unhidden "java/util/PriorityQueue$Itr" "next" "()Ljava/lang/Object;") ∈ lw_tbl := lw_at lw_m2 184 rfl
theorem q518 : (Jvm.Cond.instanceMethod ({ cls := "java/util/PriorityQueue$Itr", name := "next", desc := "()Ljava/lang/Object;" } : Jvm.MethodName)) ∈ lw_all := lw_g (lw_at lw_m2 185 rfl) rfl
theorem q519 : (Jvm.Cond.publicMethod ({ cls := "java/util/PriorityQueue$Itr", name := "next", desc := "()Ljava/lang/Object;" } : Jvm.MethodName)) ∈ lw_tbl := lw_at lw_m2 186 rfl
theorem q520 : (Jvm.Cond.code ({ cls := "java/util/PriorityQueue$Itr", name := "next", desc := "()Ljava/lang/Object;" } : Jvm.MethodName) prog_68_method_3_code (1 : Nat) (Option.some (Jvm.ClassFile.FieldType.object "java/lang/Object"))) ∈ lw_all := lw_g (lw_at lw_m2 187 rfl) rfl
theorem q521 : (Jvm.Cond.methodLink "java/util/PriorityQueue$Itr" (48 : Nat) ({ cls := "java/util/ArrayDeque", name := "poll", desc := "()Ljava/lang/Object;" } : Jvm.MethodName)) ∈ lw_all := lw_g (lw_at lw_m2 188 rfl) rfl
theorem q533 : (Jvm.Cond.classLink "java/util/PriorityQueue$Itr" (56 : Nat) "java/util/NoSuchElementException") ∈ lw_all := lw_g (lw_at lw_m2 200 rfl) rfl
theorem q534 : (Jvm.Cond.methodLink "java/util/PriorityQueue$Itr" (58 : Nat) ({ cls := "java/util/NoSuchElementException", name := "<init>", desc := "()V" } : Jvm.MethodName)) ∈ lw_all := lw_g (lw_at lw_m2 201 rfl) rfl
theorem q665 : (Jvm.Cond.fieldLink "java/util/PriorityQueue$Itr" (44 : Nat) "java/util/PriorityQueue" "queue" "[Ljava/lang/Object;") ∈ lw_all := lw_g (lw_at lw_m3 92 rfl) rfl
theorem q667 : (Jvm.Cond.fieldLink "java/util/PriorityQueue$Itr" (28 : Nat) "java/util/PriorityQueue" "size" "I") ∈ lw_all := lw_g (lw_at lw_m3 94 rfl) rfl
theorem q670 : (Jvm.Cond.fieldLink "java/util/PriorityQueue$Itr" (17 : Nat) "java/util/PriorityQueue" "modCount" "I") ∈ lw_all := lw_g (lw_at lw_m3 97 rfl) rfl
theorem q736 : (Jvm.Cond.selects "java/util/PriorityQueue$Itr" ({ cls := "java/lang/Object", name := "getClass", desc := "()Ljava/lang/Class;" } : Jvm.MethodName) ({ cls := "java/lang/Object", name := "getClass", desc := "()Ljava/lang/Class;" } : Jvm.MethodName)) ∈ lw_all := lw_g (lw_at lw_m3 163 rfl) rfl
theorem q1779 : (Jvm.Cond.instantiable "java/util/PriorityQueue$Itr" (6 : Nat)) ∈ lw_all := lw_g (lw_at lw_m8 6 rfl) rfl
theorem q1781 : (Jvm.Cond.instanceMethod ({ cls := "java/util/PriorityQueue$Itr", name := "<init>", desc := "(Ljava/util/PriorityQueue;)V" } : Jvm.MethodName)) ∈ lw_all := lw_g (lw_at lw_m8 8 rfl) rfl
theorem q1782 : (Jvm.Cond.code ({ cls := "java/util/PriorityQueue$Itr", name := "<init>", desc := "(Ljava/util/PriorityQueue;)V" } : Jvm.MethodName) prog_68_method_1_code (2 : Nat) (Option.none : Option Jvm.ClassFile.FieldType)) ∈ lw_all := lw_g (lw_at lw_m8 9 rfl) rfl
theorem q1783 : (Jvm.Cond.methodLink "java/util/PriorityQueue$Itr" (7 : Nat) ({ cls := "java/lang/Object", name := "<init>", desc := "()V" } : Jvm.MethodName)) ∈ lw_all := lw_g (lw_at lw_m8 10 rfl) rfl
theorem q1784 : (Jvm.Cond.fieldLink "java/util/PriorityQueue$Itr" (25 : Nat) "java/util/PriorityQueue$Itr" "cursor" "I") ∈ lw_all := lw_g (lw_at lw_m8 11 rfl) rfl
theorem q1785 : (Jvm.Cond.fieldLink "java/util/PriorityQueue$Itr" (13 : Nat) "java/util/PriorityQueue$Itr" "lastRet" "I") ∈ lw_all := lw_g (lw_at lw_m8 12 rfl) rfl
theorem q1786 : (Jvm.Cond.fieldLink "java/util/PriorityQueue$Itr" (31 : Nat) "java/util/PriorityQueue$Itr" "forgetMeNot" "Ljava/util/ArrayDeque;") ∈ lw_all := lw_g (lw_at lw_m8 13 rfl) rfl
theorem q1787 : (Jvm.Cond.fieldLink "java/util/PriorityQueue$Itr" (52 : Nat) "java/util/PriorityQueue$Itr" "lastRetElt" "Ljava/lang/Object;") ∈ lw_all := lw_g (lw_at lw_m8 14 rfl) rfl
theorem q1788 : (Jvm.Cond.fieldLink "java/util/PriorityQueue$Itr" (22 : Nat) "java/util/PriorityQueue$Itr" "expectedModCount" "I") ∈ lw_all := lw_g (lw_at lw_m8 15 rfl) rfl
theorem q1789 : (Jvm.Cond.fieldLink "java/util/PriorityQueue$Itr" (1 : Nat) "java/util/PriorityQueue$Itr" "this$0" "Ljava/util/PriorityQueue;") ∈ lw_all := lw_g (lw_at lw_m8 16 rfl) rfl
theorem q1790 : (Jvm.Cond.lays "java/util/PriorityQueue$Itr" "java/util/PriorityQueue$Itr" "cursor" "I") ∈ lw_all := lw_g (lw_at lw_m8 17 rfl) rfl
theorem q1791 : (Jvm.Cond.soleField "java/util/PriorityQueue$Itr" "cursor") ∈ lw_all := lw_g (lw_at lw_m8 18 rfl) rfl
theorem q1792 : (Jvm.Cond.lays "java/util/PriorityQueue$Itr" "java/util/PriorityQueue$Itr" "lastRet" "I") ∈ lw_all := lw_g (lw_at lw_m8 19 rfl) rfl
theorem q1793 : (Jvm.Cond.soleField "java/util/PriorityQueue$Itr" "lastRet") ∈ lw_all := lw_g (lw_at lw_m8 20 rfl) rfl
theorem q1794 : (Jvm.Cond.lays "java/util/PriorityQueue$Itr" "java/util/PriorityQueue$Itr" "forgetMeNot" "Ljava/util/ArrayDeque;") ∈ lw_all := lw_g (lw_at lw_m8 21 rfl) rfl
theorem q1795 : (Jvm.Cond.soleField "java/util/PriorityQueue$Itr" "forgetMeNot") ∈ lw_all := lw_g (lw_at lw_m8 22 rfl) rfl
theorem q1796 : (Jvm.Cond.lays "java/util/PriorityQueue$Itr" "java/util/PriorityQueue$Itr" "lastRetElt" "Ljava/lang/Object;") ∈ lw_all := lw_g (lw_at lw_m8 23 rfl) rfl
theorem q1797 : (Jvm.Cond.soleField "java/util/PriorityQueue$Itr" "lastRetElt") ∈ lw_all := lw_g (lw_at lw_m8 24 rfl) rfl
theorem q1798 : (Jvm.Cond.lays "java/util/PriorityQueue$Itr" "java/util/PriorityQueue$Itr" "expectedModCount" "I") ∈ lw_all := lw_g (lw_at lw_m8 25 rfl) rfl
theorem q1799 : (Jvm.Cond.soleField "java/util/PriorityQueue$Itr" "expectedModCount") ∈ lw_all := lw_g (lw_at lw_m8 26 rfl) rfl
theorem q1800 : (Jvm.Cond.laysFinal "java/util/PriorityQueue$Itr" "java/util/PriorityQueue$Itr" "this$0" "Ljava/util/PriorityQueue;") ∈ lw_all := lw_g (lw_at lw_m8 27 rfl) rfl
theorem q1801 : (Jvm.Cond.soleField "java/util/PriorityQueue$Itr" "this$0") ∈ lw_all := lw_g (lw_at lw_m8 28 rfl) rfl
theorem q1802 : (Jvm.Cond.superclass "java/util/PriorityQueue$Itr" "java/lang/Object") ∈ lw_all := lw_g (lw_at lw_m8 29 rfl) rfl
theorem q3253 : (Jvm.Cond.castable "java/util/PriorityQueue$Itr" "java/lang/Object") ∈ lw_tbl := lw_at lw_m14 40 rfl
theorem in_J25 : ∀ w ∈ wsJ250, w ∈ lw_all := lw_in wsJ250 [1790, 1792, 1794, 1796, 1798, 1800] (by decide +kernel) (by decide +kernel)
/-! java/util/TreeMap$PrivateEntryIterator -/
set_option maxRecDepth 100000
def RJ26 : String := "java/util/TreeMap$PrivateEntryIterator"
abbrev cJ26_hasNext : ByteArray := prog_79_method_2_code
def yJ26_hasNext : MethodName := ⟨RJ26, "hasNext", "()Z"⟩
def dkwJ26_hasNext_0 : List UInt8 := [42, 180, 0, 26, 198, 0, 7, 4, 167, 0, 4, 3, 172]
abbrev dktJ26_hasNext_0 : List UInt8 := dkwJ26_hasNext_0 ++ []
theorem dksJ26_hasNext_0 : cJ26_hasNext.data.toList.drop 0 = dktJ26_hasNext_0 := by decide +kernel
theorem dJ26_hasNext_0 : decode cJ26_hasNext 0 = .ok (.aload_n 0, 1) := dk_42 (dk_at dksJ26_hasNext_0 0 rfl rfl)
theorem dJ26_hasNext_1 : decode cJ26_hasNext 1 = .ok (.getfield 26, 3) := dk_180 0 26 (dk_at dksJ26_hasNext_0 1 rfl rfl)
theorem dJ26_hasNext_4 : decode cJ26_hasNext 4 = .ok (.ifnull 7, 3) := dk_198 0 7 (dk_at dksJ26_hasNext_0 4 rfl rfl)
theorem dJ26_hasNext_7 : decode cJ26_hasNext 7 = .ok (.iconst 1, 1) := dk_4 (dk_at dksJ26_hasNext_0 7 rfl rfl)
theorem dJ26_hasNext_8 : decode cJ26_hasNext 8 = .ok (.goto 4, 3) := dk_167 0 4 (dk_at dksJ26_hasNext_0 8 rfl rfl)
theorem dJ26_hasNext_11 : decode cJ26_hasNext 11 = .ok (.iconst 0, 1) := dk_3 (dk_at dksJ26_hasNext_0 11 rfl rfl)
theorem dJ26_hasNext_12 : decode cJ26_hasNext 12 = .ok (.ireturn, 1) := dk_172 (dk_at dksJ26_hasNext_0 12 rfl rfl)
abbrev cJ26_nextEntry : ByteArray := prog_79_method_3_code
def yJ26_nextEntry : MethodName := ⟨RJ26, "nextEntry", "()Ljava/util/TreeMap$Entry;"⟩
def dkwJ26_nextEntry_2 : List UInt8 := [43, 181, 0, 22, 43, 176]
abbrev dktJ26_nextEntry_2 : List UInt8 := dkwJ26_nextEntry_2 ++ []
def dkwJ26_nextEntry_1 : List UInt8 := [42, 180, 0, 19, 159, 0, 11, 187, 0, 32, 89, 183, 0, 34, 191, 42, 43, 184, 0, 35, 181, 0, 26, 42]
abbrev dktJ26_nextEntry_1 : List UInt8 := dkwJ26_nextEntry_1 ++ dktJ26_nextEntry_2
def dkwJ26_nextEntry_0 : List UInt8 := [42, 180, 0, 26, 76, 43, 199, 0, 11, 187, 0, 29, 89, 183, 0, 31, 191, 42, 180, 0, 1, 180, 0, 13]
abbrev dktJ26_nextEntry_0 : List UInt8 := dkwJ26_nextEntry_0 ++ dktJ26_nextEntry_1
theorem dksJ26_nextEntry_0 : cJ26_nextEntry.data.toList.drop 0 = dktJ26_nextEntry_0 := by decide +kernel
theorem dksJ26_nextEntry_1 : cJ26_nextEntry.data.toList.drop 24 = dktJ26_nextEntry_1 := dk_seg dksJ26_nextEntry_0 24 rfl rfl
theorem dksJ26_nextEntry_2 : cJ26_nextEntry.data.toList.drop 48 = dktJ26_nextEntry_2 := dk_seg dksJ26_nextEntry_1 24 rfl rfl
theorem dJ26_nextEntry_0 : decode cJ26_nextEntry 0 = .ok (.aload_n 0, 1) := dk_42 (dk_at dksJ26_nextEntry_0 0 rfl rfl)
theorem dJ26_nextEntry_1 : decode cJ26_nextEntry 1 = .ok (.getfield 26, 3) := dk_180 0 26 (dk_at dksJ26_nextEntry_0 1 rfl rfl)
theorem dJ26_nextEntry_4 : decode cJ26_nextEntry 4 = .ok (.astore_n 1, 1) := dk_76 (dk_at dksJ26_nextEntry_0 4 rfl rfl)
theorem dJ26_nextEntry_5 : decode cJ26_nextEntry 5 = .ok (.aload_n 1, 1) := dk_43 (dk_at dksJ26_nextEntry_0 5 rfl rfl)
theorem dJ26_nextEntry_6 : decode cJ26_nextEntry 6 = .ok (.ifnonnull 11, 3) := dk_199 0 11 (dk_at dksJ26_nextEntry_0 6 rfl rfl)
theorem dJ26_nextEntry_9 : decode cJ26_nextEntry 9 = .ok (.new 29, 3) := dk_187 0 29 (dk_at dksJ26_nextEntry_0 9 rfl rfl)
theorem dJ26_nextEntry_12 : decode cJ26_nextEntry 12 = .ok (.dup, 1) := dk_89 (dk_at dksJ26_nextEntry_0 12 rfl rfl)
theorem dJ26_nextEntry_13 : decode cJ26_nextEntry 13 = .ok (.invokespecial 31, 3) := dk_183 0 31 (dk_at dksJ26_nextEntry_0 13 rfl rfl)
theorem dJ26_nextEntry_16 : decode cJ26_nextEntry 16 = .ok (.athrow, 1) := dk_191 (dk_at dksJ26_nextEntry_0 16 rfl rfl)
theorem dJ26_nextEntry_17 : decode cJ26_nextEntry 17 = .ok (.aload_n 0, 1) := dk_42 (dk_at dksJ26_nextEntry_0 17 rfl rfl)
theorem dJ26_nextEntry_18 : decode cJ26_nextEntry 18 = .ok (.getfield 1, 3) := dk_180 0 1 (dk_at dksJ26_nextEntry_0 18 rfl rfl)
theorem dJ26_nextEntry_21 : decode cJ26_nextEntry 21 = .ok (.getfield 13, 3) := dk_180 0 13 (dk_at dksJ26_nextEntry_0 21 rfl rfl)
theorem dJ26_nextEntry_24 : decode cJ26_nextEntry 24 = .ok (.aload_n 0, 1) := dk_42 (dk_at dksJ26_nextEntry_1 0 rfl rfl)
theorem dJ26_nextEntry_25 : decode cJ26_nextEntry 25 = .ok (.getfield 19, 3) := dk_180 0 19 (dk_at dksJ26_nextEntry_1 1 rfl rfl)
theorem dJ26_nextEntry_28 : decode cJ26_nextEntry 28 = .ok (.if_icmp .eq 11, 3) := dk_159 0 11 (dk_at dksJ26_nextEntry_1 4 rfl rfl)
theorem dJ26_nextEntry_31 : decode cJ26_nextEntry 31 = .ok (.new 32, 3) := dk_187 0 32 (dk_at dksJ26_nextEntry_1 7 rfl rfl)
theorem dJ26_nextEntry_34 : decode cJ26_nextEntry 34 = .ok (.dup, 1) := dk_89 (dk_at dksJ26_nextEntry_1 10 rfl rfl)
theorem dJ26_nextEntry_35 : decode cJ26_nextEntry 35 = .ok (.invokespecial 34, 3) := dk_183 0 34 (dk_at dksJ26_nextEntry_1 11 rfl rfl)
theorem dJ26_nextEntry_38 : decode cJ26_nextEntry 38 = .ok (.athrow, 1) := dk_191 (dk_at dksJ26_nextEntry_1 14 rfl rfl)
theorem dJ26_nextEntry_39 : decode cJ26_nextEntry 39 = .ok (.aload_n 0, 1) := dk_42 (dk_at dksJ26_nextEntry_1 15 rfl rfl)
theorem dJ26_nextEntry_40 : decode cJ26_nextEntry 40 = .ok (.aload_n 1, 1) := dk_43 (dk_at dksJ26_nextEntry_1 16 rfl rfl)
theorem dJ26_nextEntry_41 : decode cJ26_nextEntry 41 = .ok (.invokestatic 35, 3) := dk_184 0 35 (dk_at dksJ26_nextEntry_1 17 rfl rfl)
theorem dJ26_nextEntry_44 : decode cJ26_nextEntry 44 = .ok (.putfield 26, 3) := dk_181 0 26 (dk_at dksJ26_nextEntry_1 20 rfl rfl)
theorem dJ26_nextEntry_47 : decode cJ26_nextEntry 47 = .ok (.aload_n 0, 1) := dk_42 (dk_at dksJ26_nextEntry_1 23 rfl rfl)
theorem dJ26_nextEntry_48 : decode cJ26_nextEntry 48 = .ok (.aload_n 1, 1) := dk_43 (dk_at dksJ26_nextEntry_2 0 rfl rfl)
theorem dJ26_nextEntry_49 : decode cJ26_nextEntry 49 = .ok (.putfield 22, 3) := dk_181 0 22 (dk_at dksJ26_nextEntry_2 1 rfl rfl)
theorem dJ26_nextEntry_52 : decode cJ26_nextEntry 52 = .ok (.aload_n 1, 1) := dk_43 (dk_at dksJ26_nextEntry_2 4 rfl rfl)
theorem dJ26_nextEntry_53 : decode cJ26_nextEntry 53 = .ok (.areturn, 1) := dk_176 (dk_at dksJ26_nextEntry_2 5 rfl rfl)
abbrev cJ26_init : ByteArray := prog_79_method_1_code
def yJ26_init : MethodName := ⟨RJ26, "<init>", "(Ljava/util/TreeMap;Ljava/util/TreeMap$Entry;)V"⟩
def dkwJ26_init_1 : List UInt8 := [181, 0, 26, 177]
abbrev dktJ26_init_1 : List UInt8 := dkwJ26_init_1 ++ []
def dkwJ26_init_0 : List UInt8 := [42, 43, 181, 0, 1, 42, 183, 0, 7, 42, 43, 180, 0, 13, 181, 0, 19, 42, 1, 181, 0, 22, 42, 44]
abbrev dktJ26_init_0 : List UInt8 := dkwJ26_init_0 ++ dktJ26_init_1
theorem dksJ26_init_0 : cJ26_init.data.toList.drop 0 = dktJ26_init_0 := by decide +kernel
theorem dksJ26_init_1 : cJ26_init.data.toList.drop 24 = dktJ26_init_1 := dk_seg dksJ26_init_0 24 rfl rfl
theorem dJ26_init_0 : decode cJ26_init 0 = .ok (.aload_n 0, 1) := dk_42 (dk_at dksJ26_init_0 0 rfl rfl)
theorem dJ26_init_1 : decode cJ26_init 1 = .ok (.aload_n 1, 1) := dk_43 (dk_at dksJ26_init_0 1 rfl rfl)
theorem dJ26_init_2 : decode cJ26_init 2 = .ok (.putfield 1, 3) := dk_181 0 1 (dk_at dksJ26_init_0 2 rfl rfl)
theorem dJ26_init_5 : decode cJ26_init 5 = .ok (.aload_n 0, 1) := dk_42 (dk_at dksJ26_init_0 5 rfl rfl)
theorem dJ26_init_6 : decode cJ26_init 6 = .ok (.invokespecial 7, 3) := dk_183 0 7 (dk_at dksJ26_init_0 6 rfl rfl)
theorem dJ26_init_9 : decode cJ26_init 9 = .ok (.aload_n 0, 1) := dk_42 (dk_at dksJ26_init_0 9 rfl rfl)
theorem dJ26_init_10 : decode cJ26_init 10 = .ok (.aload_n 1, 1) := dk_43 (dk_at dksJ26_init_0 10 rfl rfl)
theorem dJ26_init_11 : decode cJ26_init 11 = .ok (.getfield 13, 3) := dk_180 0 13 (dk_at dksJ26_init_0 11 rfl rfl)
theorem dJ26_init_14 : decode cJ26_init 14 = .ok (.putfield 19, 3) := dk_181 0 19 (dk_at dksJ26_init_0 14 rfl rfl)
theorem dJ26_init_17 : decode cJ26_init 17 = .ok (.aload_n 0, 1) := dk_42 (dk_at dksJ26_init_0 17 rfl rfl)
theorem dJ26_init_18 : decode cJ26_init 18 = .ok (.aconst_null, 1) := dk_1 (dk_at dksJ26_init_0 18 rfl rfl)
theorem dJ26_init_19 : decode cJ26_init 19 = .ok (.putfield 22, 3) := dk_181 0 22 (dk_at dksJ26_init_0 19 rfl rfl)
theorem dJ26_init_22 : decode cJ26_init 22 = .ok (.aload_n 0, 1) := dk_42 (dk_at dksJ26_init_0 22 rfl rfl)
theorem dJ26_init_23 : decode cJ26_init 23 = .ok (.aload_n 2, 1) := dk_44 (dk_at dksJ26_init_0 23 rfl rfl)
theorem dJ26_init_24 : decode cJ26_init 24 = .ok (.putfield 26, 3) := dk_181 0 26 (dk_at dksJ26_init_1 0 rfl rfl)
theorem dJ26_init_27 : decode cJ26_init 27 = .ok (.return_, 1) := dk_177 (dk_at dksJ26_init_1 3 rfl rfl)
theorem q126 : (Jvm.Cond.initialized "java/util/TreeMap$PrivateEntryIterator") ∈ lw_all := lw_g (lw_at lw_m1 33 rfl) rfl
theorem q417 : (Jvm.Cond.instanceMethod ({ cls := "java/util/TreeMap$PrivateEntryIterator", name := "hasNext", desc := "()Z" } : Jvm.MethodName)) ∈ lw_all := lw_g (lw_at lw_m2 84 rfl) rfl
theorem q418 : (Jvm.Cond.publicMethod ({ cls := "java/util/TreeMap$PrivateEntryIterator", name := "hasNext", desc := "()Z" } : Jvm.MethodName)) ∈ lw_tbl := lw_at lw_m2 85 rfl
theorem q419 : (Jvm.Cond.code ({ cls := "java/util/TreeMap$PrivateEntryIterator", name := "hasNext", desc := "()Z" } : Jvm.MethodName) prog_79_method_2_code (1 : Nat) (Option.some Jvm.ClassFile.FieldType.boolean)) ∈ lw_all := lw_g (lw_at lw_m2 86 rfl) rfl
theorem q546 : (Jvm.Cond.declares ({ cls := "java/util/TreeMap$PrivateEntryIterator", name := "nextEntry", desc := "()Ljava/util/TreeMap$Entry;" } : Jvm.MethodName)) ∈ lw_tbl := lw_at lw_m2 213 rfl
theorem q548 : (Jvm.Cond.instanceMethod ({ cls := "java/util/TreeMap$PrivateEntryIterator", name := "nextEntry", desc := "()Ljava/util/TreeMap$Entry;" } : Jvm.MethodName)) ∈ lw_all := lw_g (lw_at lw_m2 215 rfl) rfl
theorem q549 : (Jvm.Cond.code ({ cls := "java/util/TreeMap$PrivateEntryIterator", name := "nextEntry", desc := "()Ljava/util/TreeMap$Entry;" } : Jvm.MethodName) prog_79_method_3_code (2 : Nat) (Option.some (Jvm.ClassFile.FieldType.object "java/util/TreeMap$Entry"))) ∈ lw_all := lw_g (lw_at lw_m2 216 rfl) rfl
theorem q550 : (Jvm.Cond.classLink "java/util/TreeMap$PrivateEntryIterator" (29 : Nat) "java/util/NoSuchElementException") ∈ lw_all := lw_g (lw_at lw_m2 217 rfl) rfl
theorem q551 : (Jvm.Cond.methodLink "java/util/TreeMap$PrivateEntryIterator" (31 : Nat) ({ cls := "java/util/NoSuchElementException", name := "<init>", desc := "()V" } : Jvm.MethodName)) ∈ lw_all := lw_g (lw_at lw_m2 218 rfl) rfl
theorem q552 : (Jvm.Cond.methodLink "java/util/TreeMap$PrivateEntryIterator" (35 : Nat) ({ cls := "java/util/TreeMap", name := "successor", desc := "(Ljava/util/TreeMap$Entry;)Ljava/util/TreeMap$Entry;" } : Jvm.MethodName)) ∈ lw_all := lw_g (lw_at lw_m2 219 rfl) rfl
theorem q1073 : (Jvm.Cond.fieldLinkNest "java/util/TreeMap$PrivateEntryIterator" (13 : Nat) "java/util/TreeMap" "modCount" "I" "java/util/TreeMap") ∈ lw_tbl := lw_at lw_m5 20 rfl
theorem q1256 : (Jvm.Cond.instanceMethod ({ cls := "java/util/TreeMap$PrivateEntryIterator", name := "<init>", desc := "(Ljava/util/TreeMap;Ljava/util/TreeMap$Entry;)V" } : Jvm.MethodName)) ∈ lw_all := lw_g (lw_at lw_m5 203 rfl) rfl
theorem q1257 : (Jvm.Cond.code ({ cls := "java/util/TreeMap$PrivateEntryIterator", name := "<init>", desc := "(Ljava/util/TreeMap;Ljava/util/TreeMap$Entry;)V" } : Jvm.MethodName) prog_79_method_1_code (3 : Nat) (Option.none : Option Jvm.ClassFile.FieldType)) ∈ lw_all := lw_g (lw_at lw_m5 204 rfl) rfl
theorem q1258 : (Jvm.Cond.methodLink "java/util/TreeMap$PrivateEntryIterator" (7 : Nat) ({ cls := "java/lang/Object", name := "<init>", desc := "()V" } : Jvm.MethodName)) ∈ lw_all := lw_g (lw_at lw_m5 205 rfl) rfl
theorem q1259 : (Jvm.Cond.fieldLink "java/util/TreeMap$PrivateEntryIterator" (26 : Nat) "java/util/TreeMap$PrivateEntryIterator" "next" "Ljava/util/TreeMap$Entry;") ∈ lw_all := lw_g (lw_at lw_m5 206 rfl) rfl
theorem q1260 : (Jvm.Cond.fieldLink "java/util/TreeMap$PrivateEntryIterator" (22 : Nat) "java/util/TreeMap$PrivateEntryIterator" "lastReturned" "Ljava/util/TreeMap$Entry;") ∈ lw_all := lw_g (lw_at lw_m5 207 rfl) rfl
theorem q1261 : (Jvm.Cond.fieldLink "java/util/TreeMap$PrivateEntryIterator" (19 : Nat) "java/util/TreeMap$PrivateEntryIterator" "expectedModCount" "I") ∈ lw_all := lw_g (lw_at lw_m5 208 rfl) rfl
theorem q1262 : (Jvm.Cond.fieldLink "java/util/TreeMap$PrivateEntryIterator" (1 : Nat) "java/util/TreeMap$PrivateEntryIterator" "this$0" "Ljava/util/TreeMap;") ∈ lw_all := lw_g (lw_at lw_m5 209 rfl) rfl
theorem q1264 : (Jvm.Cond.soleField "java/util/TreeMap$PrivateEntryIterator" "next") ∈ lw_all := lw_g (lw_at lw_m5 211 rfl) rfl
theorem q1266 : (Jvm.Cond.soleField "java/util/TreeMap$PrivateEntryIterator" "lastReturned") ∈ lw_all := lw_g (lw_at lw_m5 213 rfl) rfl
theorem q1268 : (Jvm.Cond.soleField "java/util/TreeMap$PrivateEntryIterator" "expectedModCount") ∈ lw_all := lw_g (lw_at lw_m5 215 rfl) rfl
theorem q1270 : (Jvm.Cond.soleField "java/util/TreeMap$PrivateEntryIterator" "this$0") ∈ lw_all := lw_g (lw_at lw_m5 217 rfl) rfl
/-! java/util/TreeMap$EntryIterator -/
set_option maxRecDepth 100000
def RJ27 : String := "java/util/TreeMap$EntryIterator"
def TJ27 : u_T := fun k => match k with
  | 0 => ("java/util/TreeMap$PrivateEntryIterator", "next", "Ljava/util/TreeMap$Entry;", false)
  | 1 => ("java/util/TreeMap$PrivateEntryIterator", "lastReturned", "Ljava/util/TreeMap$Entry;", false)
  | 2 => ("java/util/TreeMap$PrivateEntryIterator", "expectedModCount", "I", false)
  | _ => ("java/util/TreeMap$PrivateEntryIterator", "this$0", "Ljava/util/TreeMap;", true)
def tyJ27 : Nat → FieldType := fun k => match k with
  | 0 => .object "java/util/TreeMap$Entry"
  | 1 => .object "java/util/TreeMap$Entry"
  | 2 => .int
  | _ => .object "java/util/TreeMap"
abbrev wsJ270 : List Cond := u_ws RJ27 TJ27 4
theorem nmJ27 : ∀ a, a < 4 → ∀ b, b < 4 → a ≠ b → (TJ27 a).2.1 ≠ (TJ27 b).2.1 := by decide +kernel
theorem tyJ27_ok : ∀ k, k < 4 → parseFieldDescriptor (TJ27 k).2.2.1 = some (tyJ27 k) := by decide +kernel
abbrev cJ27_next : ByteArray := prog_77_method_3_code
def yJ27_next : MethodName := ⟨RJ27, "next", "()Ljava/lang/Object;"⟩
theorem dJ27_next_0 : decode cJ27_next 0 = .ok (.aload_n 0, 1) := by decide +kernel
theorem dJ27_next_1 : decode cJ27_next 1 = .ok (.invokevirtual 13, 3) := by decide +kernel
theorem dJ27_next_4 : decode cJ27_next 4 = .ok (.areturn, 1) := by decide +kernel
abbrev cJ27_next_2 : ByteArray := prog_77_method_2_code
def yJ27_next_2 : MethodName := ⟨RJ27, "next", "()Ljava/util/Map$Entry;"⟩
theorem dJ27_next_2_0 : decode cJ27_next_2 0 = .ok (.aload_n 0, 1) := by decide +kernel
theorem dJ27_next_2_1 : decode cJ27_next_2 1 = .ok (.invokevirtual 7, 3) := by decide +kernel
theorem dJ27_next_2_4 : decode cJ27_next_2 4 = .ok (.areturn, 1) := by decide +kernel
abbrev cJ27_init : ByteArray := prog_77_method_1_code
def yJ27_init : MethodName := ⟨RJ27, "<init>", "(Ljava/util/TreeMap;Ljava/util/TreeMap$Entry;)V"⟩
def dkwJ27_init_0 : List UInt8 := [42, 43, 44, 183, 0, 1, 177]
abbrev dktJ27_init_0 : List UInt8 := dkwJ27_init_0 ++ []
theorem dksJ27_init_0 : cJ27_init.data.toList.drop 0 = dktJ27_init_0 := by decide +kernel
theorem dJ27_init_0 : decode cJ27_init 0 = .ok (.aload_n 0, 1) := dk_42 (dk_at dksJ27_init_0 0 rfl rfl)
theorem dJ27_init_1 : decode cJ27_init 1 = .ok (.aload_n 1, 1) := dk_43 (dk_at dksJ27_init_0 1 rfl rfl)
theorem dJ27_init_2 : decode cJ27_init 2 = .ok (.aload_n 2, 1) := dk_44 (dk_at dksJ27_init_0 2 rfl rfl)
theorem dJ27_init_3 : decode cJ27_init 3 = .ok (.invokespecial 1, 3) := dk_183 0 1 (dk_at dksJ27_init_0 3 rfl rfl)
theorem dJ27_init_6 : decode cJ27_init 6 = .ok (.return_, 1) := dk_177 (dk_at dksJ27_init_0 6 rfl rfl)
theorem q127 : (Jvm.Cond.initialized "java/util/TreeMap$EntryIterator") ∈ lw_all := lw_g (lw_at lw_m1 34 rfl) rfl
theorem q414 : (Jvm.Cond.castable "java/util/TreeMap$EntryIterator" "java/util/Iterator") ∈ lw_tbl := lw_at lw_m2 81 rfl
theorem q415 : (Jvm.Cond.selects "java/util/TreeMap$EntryIterator" ({ cls := "java/util/Iterator", name := "hasNext", desc := "()Z" } : Jvm.MethodName) ({ cls := "java/util/TreeMap$PrivateEntryIterator", name := "hasNext", desc := "()Z" } : Jvm.MethodName)) ∈ lw_all := lw_g (lw_at lw_m2 82 rfl) rfl
theorem q416 : (Jvm.Cond.unhidden "java/util/TreeMap$EntryIterator" "hasNext" "()Z") ∈ lw_tbl := lw_at lw_m2 83 rfl
theorem q535 : (Jvm.Cond.selects "java/util/TreeMap$EntryIterator" ({ cls := "java/util/Iterator", name := "next", desc := "()Ljava/lang/Object;" } : Jvm.MethodName) ({ cls := "java/util/TreeMap$EntryIterator", name := "next", desc := "()Ljava/lang/Object;" } : Jvm.MethodName)) ∈ lw_all := lw_g (lw_at lw_m2 202 rfl) rfl
theorem q536 : (Jvm.Cond.unhidden "java/util/TreeMap$EntryIterator" "next" "()Ljava/lang/Object;") ∈ lw_tbl := lw_at lw_m2 203 rfl
theorem q537 : (Jvm.Cond.instanceMethod ({ cls := "java/util/TreeMap$EntryIterator", name := "next", desc := "()Ljava/lang/Object;" } : Jvm.MethodName)) ∈ lw_all := lw_g (lw_at lw_m2 204 rfl) rfl
theorem q538 : (Jvm.Cond.publicMethod ({ cls := "java/util/TreeMap$EntryIterator", name := "next", desc := "()Ljava/lang/Object;" } : Jvm.MethodName)) ∈ lw_tbl := lw_at lw_m2 205 rfl
theorem q539 : (Jvm.Cond.code ({ cls := "java/util/TreeMap$EntryIterator", name := "next", desc := "()Ljava/lang/Object;" } : Jvm.MethodName) prog_77_method_3_code (1 : Nat) (Option.some (Jvm.ClassFile.FieldType.object "java/lang/Object"))) ∈ lw_all := lw_g (lw_at lw_m2 206 rfl) rfl
theorem q540 : (Jvm.Cond.methodLink "java/util/TreeMap$EntryIterator" (13 : Nat) ({ cls := "java/util/TreeMap$EntryIterator", name := "next", desc := "()Ljava/util/Map$Entry;" } : Jvm.MethodName)) ∈ lw_all := lw_g (lw_at lw_m2 207 rfl) rfl
theorem q541 : (Jvm.Cond.instanceMethod ({ cls := "java/util/TreeMap$EntryIterator", name := "next", desc := "()Ljava/util/Map$Entry;" } : Jvm.MethodName)) ∈ lw_all := lw_g (lw_at lw_m2 208 rfl) rfl
theorem q542 : (Jvm.Cond.selects "java/util/TreeMap$EntryIterator" ({ cls := "java/util/TreeMap$EntryIterator", name := "next", desc := "()Ljava/util/Map$Entry;" } : Jvm.MethodName) ({ cls := "java/util/TreeMap$EntryIterator", name := "next", desc := "()Ljava/util/Map$Entry;" } : Jvm.MethodName)) ∈ lw_all := lw_g (lw_at lw_m2 209 rfl) rfl
theorem q543 : (Jvm.Cond.code ({ cls := "java/util/TreeMap$EntryIterator", name := "next", desc := "()Ljava/util/Map$Entry;" } : Jvm.MethodName) prog_77_method_2_code (1 : Nat) (Option.some (Jvm.ClassFile.FieldType.object "java/util/Map$Entry"))) ∈ lw_all := lw_g (lw_at lw_m2 210 rfl) rfl
theorem q544 : (Jvm.Cond.methodLink "java/util/TreeMap$EntryIterator" (7 : Nat) ({ cls := "java/util/TreeMap$EntryIterator", name := "nextEntry", desc := "()Ljava/util/TreeMap$Entry;" } : Jvm.MethodName)) ∈ lw_all := lw_g (lw_at lw_m2 211 rfl) rfl
theorem q545 : (Jvm.Cond.sameMethod "java/util/TreeMap$EntryIterator" "java/util/TreeMap$PrivateEntryIterator" "nextEntry" "()Ljava/util/TreeMap$Entry;") ∈ lw_all := lw_g (lw_at lw_m2 212 rfl) rfl
theorem q547 : (Jvm.Cond.selects "java/util/TreeMap$EntryIterator" ({ cls := "java/util/TreeMap$EntryIterator", name := "nextEntry", desc := "()Ljava/util/TreeMap$Entry;" } : Jvm.MethodName) ({ cls := "java/util/TreeMap$PrivateEntryIterator", name := "nextEntry", desc := "()Ljava/util/TreeMap$Entry;" } : Jvm.MethodName)) ∈ lw_all := lw_g (lw_at lw_m2 214 rfl) rfl
theorem q739 : (Jvm.Cond.selects "java/util/TreeMap$EntryIterator" ({ cls := "java/lang/Object", name := "getClass", desc := "()Ljava/lang/Class;" } : Jvm.MethodName) ({ cls := "java/lang/Object", name := "getClass", desc := "()Ljava/lang/Class;" } : Jvm.MethodName)) ∈ lw_all := lw_g (lw_at lw_m3 166 rfl) rfl
theorem q1247 : (Jvm.Cond.instantiable "java/util/TreeMap$EntryIterator" (4 : Nat)) ∈ lw_all := lw_g (lw_at lw_m5 194 rfl) rfl
theorem q1253 : (Jvm.Cond.instanceMethod ({ cls := "java/util/TreeMap$EntryIterator", name := "<init>", desc := "(Ljava/util/TreeMap;Ljava/util/TreeMap$Entry;)V" } : Jvm.MethodName)) ∈ lw_all := lw_g (lw_at lw_m5 200 rfl) rfl
theorem q1254 : (Jvm.Cond.code ({ cls := "java/util/TreeMap$EntryIterator", name := "<init>", desc := "(Ljava/util/TreeMap;Ljava/util/TreeMap$Entry;)V" } : Jvm.MethodName) prog_77_method_1_code (3 : Nat) (Option.none : Option Jvm.ClassFile.FieldType)) ∈ lw_all := lw_g (lw_at lw_m5 201 rfl) rfl
theorem q1255 : (Jvm.Cond.methodLink "java/util/TreeMap$EntryIterator" (1 : Nat) ({ cls := "java/util/TreeMap$PrivateEntryIterator", name := "<init>", desc := "(Ljava/util/TreeMap;Ljava/util/TreeMap$Entry;)V" } : Jvm.MethodName)) ∈ lw_all := lw_g (lw_at lw_m5 202 rfl) rfl
theorem q1263 : (Jvm.Cond.lays "java/util/TreeMap$EntryIterator" "java/util/TreeMap$PrivateEntryIterator" "next" "Ljava/util/TreeMap$Entry;") ∈ lw_all := lw_g (lw_at lw_m5 210 rfl) rfl
theorem q1265 : (Jvm.Cond.lays "java/util/TreeMap$EntryIterator" "java/util/TreeMap$PrivateEntryIterator" "lastReturned" "Ljava/util/TreeMap$Entry;") ∈ lw_all := lw_g (lw_at lw_m5 212 rfl) rfl
theorem q1267 : (Jvm.Cond.lays "java/util/TreeMap$EntryIterator" "java/util/TreeMap$PrivateEntryIterator" "expectedModCount" "I") ∈ lw_all := lw_g (lw_at lw_m5 214 rfl) rfl
theorem q1269 : (Jvm.Cond.laysFinal "java/util/TreeMap$EntryIterator" "java/util/TreeMap$PrivateEntryIterator" "this$0" "Ljava/util/TreeMap;") ∈ lw_all := lw_g (lw_at lw_m5 216 rfl) rfl
theorem q1271 : (Jvm.Cond.superclass "java/util/TreeMap$EntryIterator" "java/util/TreeMap$PrivateEntryIterator") ∈ lw_all := lw_g (lw_at lw_m5 218 rfl) rfl
theorem q3246 : (Jvm.Cond.castable "java/util/TreeMap$EntryIterator" "java/lang/Object") ∈ lw_tbl := lw_at lw_m14 33 rfl
theorem in_J27 : ∀ w ∈ wsJ270, w ∈ lw_all := lw_in wsJ270 [1263, 1265, 1267, 1269] (by decide +kernel) (by decide +kernel)
/-! java/lang/IndexOutOfBoundsException -/
set_option maxRecDepth 100000
def RJ28 : String := "java/lang/IndexOutOfBoundsException"
def TJ28 : u_T := fun k => match k with
  | 0 => ("java/lang/Throwable", "cause", "Ljava/lang/Throwable;", false)
  | 1 => ("java/lang/Throwable", "stackTrace", "[Ljava/lang/StackTraceElement;", false)
  | 2 => ("java/lang/Throwable", "suppressedExceptions", "Ljava/util/List;", false)
  | 3 => ("java/lang/Throwable", "detailMessage", "Ljava/lang/String;", false)
  | 4 => ("java/lang/Throwable", "backtrace", "Ljava/lang/Object;", false)
  | _ => ("java/lang/Throwable", "depth", "I", false)
def tyJ28 : Nat → FieldType := fun k => match k with
  | 0 => .object "java/lang/Throwable"
  | 1 => .array (.object "java/lang/StackTraceElement")
  | 2 => .object "java/util/List"
  | 3 => .object "java/lang/String"
  | 4 => .object "java/lang/Object"
  | _ => .int
abbrev wsJ280 : List Cond := u_ws RJ28 TJ28 6
theorem nmJ28 : ∀ a, a < 6 → ∀ b, b < 6 → a ≠ b → (TJ28 a).2.1 ≠ (TJ28 b).2.1 := by decide +kernel
theorem tyJ28_ok : ∀ k, k < 6 → parseFieldDescriptor (TJ28 k).2.2.1 = some (tyJ28 k) := by decide +kernel
abbrev cJ28_init : ByteArray := prog_28_method_2_code
def yJ28_init : MethodName := ⟨RJ28, "<init>", "(Ljava/lang/String;)V"⟩
def dkwJ28_init_0 : List UInt8 := [42, 43, 183, 0, 7, 177]
abbrev dktJ28_init_0 : List UInt8 := dkwJ28_init_0 ++ []
theorem dksJ28_init_0 : cJ28_init.data.toList.drop 0 = dktJ28_init_0 := by decide +kernel
theorem dJ28_init_0 : decode cJ28_init 0 = .ok (.aload_n 0, 1) := dk_42 (dk_at dksJ28_init_0 0 rfl rfl)
theorem dJ28_init_1 : decode cJ28_init 1 = .ok (.aload_n 1, 1) := dk_43 (dk_at dksJ28_init_0 1 rfl rfl)
theorem dJ28_init_2 : decode cJ28_init 2 = .ok (.invokespecial 7, 3) := dk_183 0 7 (dk_at dksJ28_init_0 2 rfl rfl)
theorem dJ28_init_5 : decode cJ28_init 5 = .ok (.return_, 1) := dk_177 (dk_at dksJ28_init_0 5 rfl rfl)
abbrev cJ28_init_2 : ByteArray := prog_28_method_1_code
def yJ28_init_2 : MethodName := ⟨RJ28, "<init>", "()V"⟩
theorem dJ28_init_2_0 : decode cJ28_init_2 0 = .ok (.aload_n 0, 1) := by decide +kernel
theorem dJ28_init_2_1 : decode cJ28_init_2 1 = .ok (.invokespecial 1, 3) := by decide +kernel
theorem dJ28_init_2_4 : decode cJ28_init_2 4 = .ok (.return_, 1) := by decide +kernel
theorem q129 : (Jvm.Cond.initialized "java/lang/IndexOutOfBoundsException") ∈ lw_all := lw_g (lw_at lw_m1 36 rfl) rfl
theorem q467 : (Jvm.Cond.selects "java/lang/IndexOutOfBoundsException" ({ cls := "java/lang/Throwable", name := "fillInStackTrace", desc := "()Ljava/lang/Throwable;" } : Jvm.MethodName) ({ cls := "java/lang/Throwable", name := "fillInStackTrace", desc := "()Ljava/lang/Throwable;" } : Jvm.MethodName)) ∈ lw_all := lw_g (lw_at lw_m2 134 rfl) rfl
theorem q724 : (Jvm.Cond.selects "java/lang/IndexOutOfBoundsException" ({ cls := "java/lang/Object", name := "getClass", desc := "()Ljava/lang/Class;" } : Jvm.MethodName) ({ cls := "java/lang/Object", name := "getClass", desc := "()Ljava/lang/Class;" } : Jvm.MethodName)) ∈ lw_all := lw_g (lw_at lw_m3 151 rfl) rfl
theorem q1536 : (Jvm.Cond.instanceMethod ({ cls := "java/lang/IndexOutOfBoundsException", name := "<init>", desc := "(Ljava/lang/String;)V" } : Jvm.MethodName)) ∈ lw_all := lw_g (lw_at lw_m7 3 rfl) rfl
theorem q1537 : (Jvm.Cond.code ({ cls := "java/lang/IndexOutOfBoundsException", name := "<init>", desc := "(Ljava/lang/String;)V" } : Jvm.MethodName) prog_28_method_2_code (2 : Nat) (Option.none : Option Jvm.ClassFile.FieldType)) ∈ lw_all := lw_g (lw_at lw_m7 4 rfl) rfl
theorem q1538 : (Jvm.Cond.methodLink "java/lang/IndexOutOfBoundsException" (7 : Nat) ({ cls := "java/lang/RuntimeException", name := "<init>", desc := "(Ljava/lang/String;)V" } : Jvm.MethodName)) ∈ lw_all := lw_g (lw_at lw_m7 5 rfl) rfl
theorem q1561 : (Jvm.Cond.declares ({ cls := "java/lang/IndexOutOfBoundsException", name := "<init>", desc := "()V" } : Jvm.MethodName)) ∈ lw_tbl := lw_at lw_m7 28 rfl
theorem q1562 : (Jvm.Cond.declares ({ cls := "java/lang/IndexOutOfBoundsException", name := "<init>", desc := "(Ljava/lang/String;)V" } : Jvm.MethodName)) ∈ lw_tbl := lw_at lw_m7 29 rfl
theorem q1946 : (Jvm.Cond.instantiable "java/lang/IndexOutOfBoundsException" (6 : Nat)) ∈ lw_all := lw_g (lw_at lw_m8 173 rfl) rfl
theorem q1947 : (Jvm.Cond.castable "java/lang/IndexOutOfBoundsException" "java/lang/IndexOutOfBoundsException") ∈ lw_tbl := lw_at lw_m8 174 rfl
theorem q1948 : (Jvm.Cond.selects "java/lang/IndexOutOfBoundsException" ({ cls := "java/lang/Throwable", name := "fillInStackTrace", desc := "(I)Ljava/lang/Throwable;" } : Jvm.MethodName) ({ cls := "java/lang/Throwable", name := "fillInStackTrace", desc := "(I)Ljava/lang/Throwable;" } : Jvm.MethodName)) ∈ lw_all := lw_g (lw_at lw_m8 175 rfl) rfl
theorem q1949 : (Jvm.Cond.lays "java/lang/IndexOutOfBoundsException" "java/lang/Throwable" "cause" "Ljava/lang/Throwable;") ∈ lw_all := lw_g (lw_at lw_m8 176 rfl) rfl
theorem q1950 : (Jvm.Cond.lays "java/lang/IndexOutOfBoundsException" "java/lang/Throwable" "stackTrace" "[Ljava/lang/StackTraceElement;") ∈ lw_all := lw_g (lw_at lw_m8 177 rfl) rfl
theorem q1951 : (Jvm.Cond.lays "java/lang/IndexOutOfBoundsException" "java/lang/Throwable" "suppressedExceptions" "Ljava/util/List;") ∈ lw_all := lw_g (lw_at lw_m8 178 rfl) rfl
theorem q1952 : (Jvm.Cond.lays "java/lang/IndexOutOfBoundsException" "java/lang/Throwable" "detailMessage" "Ljava/lang/String;") ∈ lw_all := lw_g (lw_at lw_m8 179 rfl) rfl
theorem q1953 : (Jvm.Cond.lays "java/lang/IndexOutOfBoundsException" "java/lang/Throwable" "backtrace" "Ljava/lang/Object;") ∈ lw_all := lw_g (lw_at lw_m8 180 rfl) rfl
theorem q1955 : (Jvm.Cond.instanceMethod ({ cls := "java/lang/IndexOutOfBoundsException", name := "<init>", desc := "()V" } : Jvm.MethodName)) ∈ lw_all := lw_g (lw_at lw_m8 182 rfl) rfl
theorem q1956 : (Jvm.Cond.code ({ cls := "java/lang/IndexOutOfBoundsException", name := "<init>", desc := "()V" } : Jvm.MethodName) prog_28_method_1_code (1 : Nat) (Option.none : Option Jvm.ClassFile.FieldType)) ∈ lw_all := lw_g (lw_at lw_m8 183 rfl) rfl
theorem q1957 : (Jvm.Cond.methodLink "java/lang/IndexOutOfBoundsException" (1 : Nat) ({ cls := "java/lang/RuntimeException", name := "<init>", desc := "()V" } : Jvm.MethodName)) ∈ lw_all := lw_g (lw_at lw_m8 184 rfl) rfl
theorem q1958 : (Jvm.Cond.lays "java/lang/IndexOutOfBoundsException" "java/lang/Throwable" "depth" "I") ∈ lw_all := lw_g (lw_at lw_m8 185 rfl) rfl
theorem q1959 : (Jvm.Cond.superclass "java/lang/IndexOutOfBoundsException" "java/lang/RuntimeException") ∈ lw_all := lw_g (lw_at lw_m8 186 rfl) rfl
theorem q3236 : (Jvm.Cond.castable "java/lang/IndexOutOfBoundsException" "java/lang/Object") ∈ lw_tbl := lw_at lw_m14 23 rfl
theorem in_J28 : ∀ w ∈ wsJ280, w ∈ lw_all := lw_in wsJ280 [1949, 1950, 1951, 1952, 1953, 1958] (by decide +kernel) (by decide +kernel)
/-! java/lang/ArrayIndexOutOfBoundsException -/
set_option maxRecDepth 100000
def RJ29 : String := "java/lang/ArrayIndexOutOfBoundsException"
def TJ29 : u_T := fun k => match k with
  | 0 => ("java/lang/Throwable", "cause", "Ljava/lang/Throwable;", false)
  | 1 => ("java/lang/Throwable", "stackTrace", "[Ljava/lang/StackTraceElement;", false)
  | 2 => ("java/lang/Throwable", "suppressedExceptions", "Ljava/util/List;", false)
  | 3 => ("java/lang/Throwable", "detailMessage", "Ljava/lang/String;", false)
  | 4 => ("java/lang/Throwable", "backtrace", "Ljava/lang/Object;", false)
  | _ => ("java/lang/Throwable", "depth", "I", false)
def tyJ29 : Nat → FieldType := fun k => match k with
  | 0 => .object "java/lang/Throwable"
  | 1 => .array (.object "java/lang/StackTraceElement")
  | 2 => .object "java/util/List"
  | 3 => .object "java/lang/String"
  | 4 => .object "java/lang/Object"
  | _ => .int
abbrev wsJ290 : List Cond := u_ws RJ29 TJ29 6
theorem nmJ29 : ∀ a, a < 6 → ∀ b, b < 6 → a ≠ b → (TJ29 a).2.1 ≠ (TJ29 b).2.1 := by decide +kernel
theorem tyJ29_ok : ∀ k, k < 6 → parseFieldDescriptor (TJ29 k).2.2.1 = some (tyJ29 k) := by decide +kernel
abbrev cJ29_init : ByteArray := prog_20_method_3_code
def yJ29_init : MethodName := ⟨RJ29, "<init>", "(I)V"⟩
def dkwJ29_init_0 : List UInt8 := [42, 187, 0, 10, 89, 183, 0, 12, 18, 13, 182, 0, 15, 27, 182, 0, 19, 182, 0, 22, 183, 0, 7, 177]
abbrev dktJ29_init_0 : List UInt8 := dkwJ29_init_0 ++ []
theorem dksJ29_init_0 : cJ29_init.data.toList.drop 0 = dktJ29_init_0 := by decide +kernel
theorem dJ29_init_0 : decode cJ29_init 0 = .ok (.aload_n 0, 1) := dk_42 (dk_at dksJ29_init_0 0 rfl rfl)
theorem dJ29_init_1 : decode cJ29_init 1 = .ok (.new 10, 3) := dk_187 0 10 (dk_at dksJ29_init_0 1 rfl rfl)
theorem dJ29_init_4 : decode cJ29_init 4 = .ok (.dup, 1) := dk_89 (dk_at dksJ29_init_0 4 rfl rfl)
theorem dJ29_init_5 : decode cJ29_init 5 = .ok (.invokespecial 12, 3) := dk_183 0 12 (dk_at dksJ29_init_0 5 rfl rfl)
theorem dJ29_init_8 : decode cJ29_init 8 = .ok (.ldc 13, 2) := dk_18 13 (dk_at dksJ29_init_0 8 rfl rfl)
theorem dJ29_init_10 : decode cJ29_init 10 = .ok (.invokevirtual 15, 3) := dk_182 0 15 (dk_at dksJ29_init_0 10 rfl rfl)
theorem dJ29_init_13 : decode cJ29_init 13 = .ok (.iload_n 1, 1) := dk_27 (dk_at dksJ29_init_0 13 rfl rfl)
theorem dJ29_init_14 : decode cJ29_init 14 = .ok (.invokevirtual 19, 3) := dk_182 0 19 (dk_at dksJ29_init_0 14 rfl rfl)
theorem dJ29_init_17 : decode cJ29_init 17 = .ok (.invokevirtual 22, 3) := dk_182 0 22 (dk_at dksJ29_init_0 17 rfl rfl)
theorem dJ29_init_20 : decode cJ29_init 20 = .ok (.invokespecial 7, 3) := dk_183 0 7 (dk_at dksJ29_init_0 20 rfl rfl)
theorem dJ29_init_23 : decode cJ29_init 23 = .ok (.return_, 1) := dk_177 (dk_at dksJ29_init_0 23 rfl rfl)
abbrev cJ29_init_2 : ByteArray := prog_20_method_2_code
def yJ29_init_2 : MethodName := ⟨RJ29, "<init>", "(Ljava/lang/String;)V"⟩
def dkwJ29_init_2_0 : List UInt8 := [42, 43, 183, 0, 7, 177]
abbrev dktJ29_init_2_0 : List UInt8 := dkwJ29_init_2_0 ++ []
theorem dksJ29_init_2_0 : cJ29_init_2.data.toList.drop 0 = dktJ29_init_2_0 := by decide +kernel
theorem dJ29_init_2_0 : decode cJ29_init_2 0 = .ok (.aload_n 0, 1) := dk_42 (dk_at dksJ29_init_2_0 0 rfl rfl)
theorem dJ29_init_2_1 : decode cJ29_init_2 1 = .ok (.aload_n 1, 1) := dk_43 (dk_at dksJ29_init_2_0 1 rfl rfl)
theorem dJ29_init_2_2 : decode cJ29_init_2 2 = .ok (.invokespecial 7, 3) := dk_183 0 7 (dk_at dksJ29_init_2_0 2 rfl rfl)
theorem dJ29_init_2_5 : decode cJ29_init_2 5 = .ok (.return_, 1) := dk_177 (dk_at dksJ29_init_2_0 5 rfl rfl)
theorem q130 : (Jvm.Cond.initialized "java/lang/ArrayIndexOutOfBoundsException") ∈ lw_all := lw_g (lw_at lw_m1 37 rfl) rfl
theorem q464 : (Jvm.Cond.selects "java/lang/ArrayIndexOutOfBoundsException" ({ cls := "java/lang/Throwable", name := "fillInStackTrace", desc := "()Ljava/lang/Throwable;" } : Jvm.MethodName) ({ cls := "java/lang/Throwable", name := "fillInStackTrace", desc := "()Ljava/lang/Throwable;" } : Jvm.MethodName)) ∈ lw_all := lw_g (lw_at lw_m2 131 rfl) rfl
theorem q721 : (Jvm.Cond.selects "java/lang/ArrayIndexOutOfBoundsException" ({ cls := "java/lang/Object", name := "getClass", desc := "()Ljava/lang/Class;" } : Jvm.MethodName) ({ cls := "java/lang/Object", name := "getClass", desc := "()Ljava/lang/Class;" } : Jvm.MethodName)) ∈ lw_all := lw_g (lw_at lw_m3 148 rfl) rfl
theorem q1559 : (Jvm.Cond.instantiable "java/lang/ArrayIndexOutOfBoundsException" (6 : Nat)) ∈ lw_all := lw_g (lw_at lw_m7 26 rfl) rfl
theorem q1560 : (Jvm.Cond.castable "java/lang/ArrayIndexOutOfBoundsException" "java/lang/ArrayIndexOutOfBoundsException") ∈ lw_tbl := lw_at lw_m7 27 rfl
theorem q1563 : (Jvm.Cond.selects "java/lang/ArrayIndexOutOfBoundsException" ({ cls := "java/lang/Throwable", name := "fillInStackTrace", desc := "(I)Ljava/lang/Throwable;" } : Jvm.MethodName) ({ cls := "java/lang/Throwable", name := "fillInStackTrace", desc := "(I)Ljava/lang/Throwable;" } : Jvm.MethodName)) ∈ lw_all := lw_g (lw_at lw_m7 30 rfl) rfl
theorem q1564 : (Jvm.Cond.lays "java/lang/ArrayIndexOutOfBoundsException" "java/lang/Throwable" "cause" "Ljava/lang/Throwable;") ∈ lw_all := lw_g (lw_at lw_m7 31 rfl) rfl
theorem q1565 : (Jvm.Cond.lays "java/lang/ArrayIndexOutOfBoundsException" "java/lang/Throwable" "stackTrace" "[Ljava/lang/StackTraceElement;") ∈ lw_all := lw_g (lw_at lw_m7 32 rfl) rfl
theorem q1566 : (Jvm.Cond.lays "java/lang/ArrayIndexOutOfBoundsException" "java/lang/Throwable" "suppressedExceptions" "Ljava/util/List;") ∈ lw_all := lw_g (lw_at lw_m7 33 rfl) rfl
theorem q1567 : (Jvm.Cond.lays "java/lang/ArrayIndexOutOfBoundsException" "java/lang/Throwable" "detailMessage" "Ljava/lang/String;") ∈ lw_all := lw_g (lw_at lw_m7 34 rfl) rfl
theorem q1568 : (Jvm.Cond.lays "java/lang/ArrayIndexOutOfBoundsException" "java/lang/Throwable" "backtrace" "Ljava/lang/Object;") ∈ lw_all := lw_g (lw_at lw_m7 35 rfl) rfl
theorem q1570 : (Jvm.Cond.instanceMethod ({ cls := "java/lang/ArrayIndexOutOfBoundsException", name := "<init>", desc := "(I)V" } : Jvm.MethodName)) ∈ lw_all := lw_g (lw_at lw_m7 37 rfl) rfl
theorem q1571 : (Jvm.Cond.code ({ cls := "java/lang/ArrayIndexOutOfBoundsException", name := "<init>", desc := "(I)V" } : Jvm.MethodName) prog_20_method_3_code (2 : Nat) (Option.none : Option Jvm.ClassFile.FieldType)) ∈ lw_all := lw_g (lw_at lw_m7 38 rfl) rfl
theorem q1572 : (Jvm.Cond.classLink "java/lang/ArrayIndexOutOfBoundsException" (10 : Nat) "java/lang/StringBuilder") ∈ lw_all := lw_g (lw_at lw_m7 39 rfl) rfl
theorem q1573 : (Jvm.Cond.methodLink "java/lang/ArrayIndexOutOfBoundsException" (12 : Nat) ({ cls := "java/lang/StringBuilder", name := "<init>", desc := "()V" } : Jvm.MethodName)) ∈ lw_all := lw_g (lw_at lw_m7 40 rfl) rfl
theorem q1574 : (Jvm.Cond.stringRef "java/lang/ArrayIndexOutOfBoundsException" (13 : Nat) "Array index out of range: ") ∈ lw_tbl := lw_at lw_m7 41 rfl
theorem q1575 : (Jvm.Cond.methodLink "java/lang/ArrayIndexOutOfBoundsException" (15 : Nat) ({ cls := "java/lang/StringBuilder", name := "append", desc := "(Ljava/lang/String;)Ljava/lang/StringBuilder;" } : Jvm.MethodName)) ∈ lw_all := lw_g (lw_at lw_m7 42 rfl) rfl
theorem q1576 : (Jvm.Cond.methodLink "java/lang/ArrayIndexOutOfBoundsException" (19 : Nat) ({ cls := "java/lang/StringBuilder", name := "append", desc := "(I)Ljava/lang/StringBuilder;" } : Jvm.MethodName)) ∈ lw_all := lw_g (lw_at lw_m7 43 rfl) rfl
theorem q1577 : (Jvm.Cond.methodLink "java/lang/ArrayIndexOutOfBoundsException" (22 : Nat) ({ cls := "java/lang/StringBuilder", name := "toString", desc := "()Ljava/lang/String;" } : Jvm.MethodName)) ∈ lw_all := lw_g (lw_at lw_m7 44 rfl) rfl
theorem q1578 : (Jvm.Cond.methodLink "java/lang/ArrayIndexOutOfBoundsException" (7 : Nat) ({ cls := "java/lang/IndexOutOfBoundsException", name := "<init>", desc := "(Ljava/lang/String;)V" } : Jvm.MethodName)) ∈ lw_all := lw_g (lw_at lw_m7 45 rfl) rfl
theorem q1579 : (Jvm.Cond.lays "java/lang/ArrayIndexOutOfBoundsException" "java/lang/Throwable" "depth" "I") ∈ lw_all := lw_g (lw_at lw_m7 46 rfl) rfl
theorem q1580 : (Jvm.Cond.superclass "java/lang/ArrayIndexOutOfBoundsException" "java/lang/IndexOutOfBoundsException") ∈ lw_all := lw_g (lw_at lw_m7 47 rfl) rfl
theorem q1924 : (Jvm.Cond.instanceMethod ({ cls := "java/lang/ArrayIndexOutOfBoundsException", name := "<init>", desc := "(Ljava/lang/String;)V" } : Jvm.MethodName)) ∈ lw_all := lw_g (lw_at lw_m8 151 rfl) rfl
theorem q1925 : (Jvm.Cond.code ({ cls := "java/lang/ArrayIndexOutOfBoundsException", name := "<init>", desc := "(Ljava/lang/String;)V" } : Jvm.MethodName) prog_20_method_2_code (2 : Nat) (Option.none : Option Jvm.ClassFile.FieldType)) ∈ lw_all := lw_g (lw_at lw_m8 152 rfl) rfl
theorem q3219 : (Jvm.Cond.castable "java/lang/ArrayIndexOutOfBoundsException" "java/lang/IndexOutOfBoundsException") ∈ lw_tbl := lw_at lw_m14 6 rfl
theorem q3235 : (Jvm.Cond.castable "java/lang/ArrayIndexOutOfBoundsException" "java/lang/Object") ∈ lw_tbl := lw_at lw_m14 22 rfl
theorem in_J29 : ∀ w ∈ wsJ290, w ∈ lw_all := lw_in wsJ290 [1564, 1565, 1566, 1567, 1568, 1579] (by decide +kernel) (by decide +kernel)
/-! java/util/Objects -/
set_option maxRecDepth 100000
def RJ30 : String := "java/util/Objects"
abbrev cJ30_checkIndex : ByteArray := prog_66_method_17_code
def yJ30_checkIndex : MethodName := ⟨RJ30, "checkIndex", "(II)I"⟩
def dkwJ30_checkIndex_0 : List UInt8 := [26, 27, 1, 184, 0, 105, 172]
abbrev dktJ30_checkIndex_0 : List UInt8 := dkwJ30_checkIndex_0 ++ []
theorem dksJ30_checkIndex_0 : cJ30_checkIndex.data.toList.drop 0 = dktJ30_checkIndex_0 := by decide +kernel
theorem dJ30_checkIndex_0 : decode cJ30_checkIndex 0 = .ok (.iload_n 0, 1) := dk_26 (dk_at dksJ30_checkIndex_0 0 rfl rfl)
theorem dJ30_checkIndex_1 : decode cJ30_checkIndex 1 = .ok (.iload_n 1, 1) := dk_27 (dk_at dksJ30_checkIndex_0 1 rfl rfl)
theorem dJ30_checkIndex_2 : decode cJ30_checkIndex 2 = .ok (.aconst_null, 1) := dk_1 (dk_at dksJ30_checkIndex_0 2 rfl rfl)
theorem dJ30_checkIndex_3 : decode cJ30_checkIndex 3 = .ok (.invokestatic 105, 3) := dk_184 0 105 (dk_at dksJ30_checkIndex_0 3 rfl rfl)
theorem dJ30_checkIndex_6 : decode cJ30_checkIndex 6 = .ok (.ireturn, 1) := dk_172 (dk_at dksJ30_checkIndex_0 6 rfl rfl)
abbrev cJ30_requireNonNull : ByteArray := prog_66_method_10_code
def yJ30_requireNonNull : MethodName := ⟨RJ30, "requireNonNull", "(Ljava/lang/Object;)Ljava/lang/Object;"⟩
def dkwJ30_requireNonNull_0 : List UInt8 := [42, 199, 0, 11, 187, 0, 84, 89, 183, 0, 86, 191, 42, 176]
abbrev dktJ30_requireNonNull_0 : List UInt8 := dkwJ30_requireNonNull_0 ++ []
theorem dksJ30_requireNonNull_0 : cJ30_requireNonNull.data.toList.drop 0 = dktJ30_requireNonNull_0 := by decide +kernel
theorem dJ30_requireNonNull_0 : decode cJ30_requireNonNull 0 = .ok (.aload_n 0, 1) := dk_42 (dk_at dksJ30_requireNonNull_0 0 rfl rfl)
theorem dJ30_requireNonNull_1 : decode cJ30_requireNonNull 1 = .ok (.ifnonnull 11, 3) := dk_199 0 11 (dk_at dksJ30_requireNonNull_0 1 rfl rfl)
theorem dJ30_requireNonNull_4 : decode cJ30_requireNonNull 4 = .ok (.new 84, 3) := dk_187 0 84 (dk_at dksJ30_requireNonNull_0 4 rfl rfl)
theorem dJ30_requireNonNull_7 : decode cJ30_requireNonNull 7 = .ok (.dup, 1) := dk_89 (dk_at dksJ30_requireNonNull_0 7 rfl rfl)
theorem dJ30_requireNonNull_8 : decode cJ30_requireNonNull 8 = .ok (.invokespecial 86, 3) := dk_183 0 86 (dk_at dksJ30_requireNonNull_0 8 rfl rfl)
theorem dJ30_requireNonNull_11 : decode cJ30_requireNonNull 11 = .ok (.athrow, 1) := dk_191 (dk_at dksJ30_requireNonNull_0 11 rfl rfl)
theorem dJ30_requireNonNull_12 : decode cJ30_requireNonNull 12 = .ok (.aload_n 0, 1) := dk_42 (dk_at dksJ30_requireNonNull_0 12 rfl rfl)
theorem dJ30_requireNonNull_13 : decode cJ30_requireNonNull 13 = .ok (.areturn, 1) := dk_176 (dk_at dksJ30_requireNonNull_0 13 rfl rfl)
theorem q131 : (Jvm.Cond.initialized "java/util/Objects") ∈ lw_all := lw_g (lw_at lw_m1 38 rfl) rfl
theorem q597 : (Jvm.Cond.static ({ cls := "java/util/Objects", name := "checkIndex", desc := "(II)I" } : Jvm.MethodName)) ∈ lw_all := lw_g (lw_at lw_m3 24 rfl) rfl
theorem q598 : (Jvm.Cond.code ({ cls := "java/util/Objects", name := "checkIndex", desc := "(II)I" } : Jvm.MethodName) prog_66_method_17_code (2 : Nat) (Option.some Jvm.ClassFile.FieldType.int)) ∈ lw_all := lw_g (lw_at lw_m3 25 rfl) rfl
theorem q599 : (Jvm.Cond.methodLink "java/util/Objects" (105 : Nat) ({ cls := "jdk/internal/util/Preconditions", name := "checkIndex", desc := "(IILjava/util/function/BiFunction;)I" } : Jvm.MethodName)) ∈ lw_all := lw_g (lw_at lw_m3 26 rfl) rfl
theorem q1129 : (Jvm.Cond.static ({ cls := "java/util/Objects", name := "requireNonNull", desc := "(Ljava/lang/Object;)Ljava/lang/Object;" } : Jvm.MethodName)) ∈ lw_all := lw_g (lw_at lw_m5 76 rfl) rfl
theorem q1130 : (Jvm.Cond.code ({ cls := "java/util/Objects", name := "requireNonNull", desc := "(Ljava/lang/Object;)Ljava/lang/Object;" } : Jvm.MethodName) prog_66_method_10_code (1 : Nat) (Option.some (Jvm.ClassFile.FieldType.object "java/lang/Object"))) ∈ lw_all := lw_g (lw_at lw_m5 77 rfl) rfl
/-! java/lang/UnsupportedOperationException -/
set_option maxRecDepth 100000
def RJ31 : String := "java/lang/UnsupportedOperationException"
def TJ31 : u_T := fun k => match k with
  | 0 => ("java/lang/Throwable", "cause", "Ljava/lang/Throwable;", false)
  | 1 => ("java/lang/Throwable", "stackTrace", "[Ljava/lang/StackTraceElement;", false)
  | 2 => ("java/lang/Throwable", "suppressedExceptions", "Ljava/util/List;", false)
  | 3 => ("java/lang/Throwable", "detailMessage", "Ljava/lang/String;", false)
  | 4 => ("java/lang/Throwable", "backtrace", "Ljava/lang/Object;", false)
  | _ => ("java/lang/Throwable", "depth", "I", false)
def tyJ31 : Nat → FieldType := fun k => match k with
  | 0 => .object "java/lang/Throwable"
  | 1 => .array (.object "java/lang/StackTraceElement")
  | 2 => .object "java/util/List"
  | 3 => .object "java/lang/String"
  | 4 => .object "java/lang/Object"
  | _ => .int
abbrev wsJ310 : List Cond := u_ws RJ31 TJ31 6
theorem nmJ31 : ∀ a, a < 6 → ∀ b, b < 6 → a ≠ b → (TJ31 a).2.1 ≠ (TJ31 b).2.1 := by decide +kernel
theorem tyJ31_ok : ∀ k, k < 6 → parseFieldDescriptor (TJ31 k).2.2.1 = some (tyJ31 k) := by decide +kernel
abbrev cJ31_init : ByteArray := prog_44_method_1_code
def yJ31_init : MethodName := ⟨RJ31, "<init>", "()V"⟩
theorem dJ31_init_0 : decode cJ31_init 0 = .ok (.aload_n 0, 1) := by decide +kernel
theorem dJ31_init_1 : decode cJ31_init 1 = .ok (.invokespecial 1, 3) := by decide +kernel
theorem dJ31_init_4 : decode cJ31_init 4 = .ok (.return_, 1) := by decide +kernel
theorem q132 : (Jvm.Cond.initialized "java/lang/UnsupportedOperationException") ∈ lw_all := lw_g (lw_at lw_m1 39 rfl) rfl
theorem q469 : (Jvm.Cond.selects "java/lang/UnsupportedOperationException" ({ cls := "java/lang/Throwable", name := "fillInStackTrace", desc := "()Ljava/lang/Throwable;" } : Jvm.MethodName) ({ cls := "java/lang/Throwable", name := "fillInStackTrace", desc := "()Ljava/lang/Throwable;" } : Jvm.MethodName)) ∈ lw_all := lw_g (lw_at lw_m2 136 rfl) rfl
theorem q729 : (Jvm.Cond.selects "java/lang/UnsupportedOperationException" ({ cls := "java/lang/Object", name := "getClass", desc := "()Ljava/lang/Class;" } : Jvm.MethodName) ({ cls := "java/lang/Object", name := "getClass", desc := "()Ljava/lang/Class;" } : Jvm.MethodName)) ∈ lw_all := lw_g (lw_at lw_m3 156 rfl) rfl
theorem q1965 : (Jvm.Cond.instantiable "java/lang/UnsupportedOperationException" (6 : Nat)) ∈ lw_all := lw_g (lw_at lw_m8 192 rfl) rfl
theorem q1966 : (Jvm.Cond.castable "java/lang/UnsupportedOperationException" "java/lang/UnsupportedOperationException") ∈ lw_tbl := lw_at lw_m8 193 rfl
theorem q1967 : (Jvm.Cond.selects "java/lang/UnsupportedOperationException" ({ cls := "java/lang/Throwable", name := "fillInStackTrace", desc := "(I)Ljava/lang/Throwable;" } : Jvm.MethodName) ({ cls := "java/lang/Throwable", name := "fillInStackTrace", desc := "(I)Ljava/lang/Throwable;" } : Jvm.MethodName)) ∈ lw_all := lw_g (lw_at lw_m8 194 rfl) rfl
theorem q1968 : (Jvm.Cond.lays "java/lang/UnsupportedOperationException" "java/lang/Throwable" "cause" "Ljava/lang/Throwable;") ∈ lw_all := lw_g (lw_at lw_m8 195 rfl) rfl
theorem q1969 : (Jvm.Cond.lays "java/lang/UnsupportedOperationException" "java/lang/Throwable" "stackTrace" "[Ljava/lang/StackTraceElement;") ∈ lw_all := lw_g (lw_at lw_m8 196 rfl) rfl
theorem q1970 : (Jvm.Cond.lays "java/lang/UnsupportedOperationException" "java/lang/Throwable" "suppressedExceptions" "Ljava/util/List;") ∈ lw_all := lw_g (lw_at lw_m8 197 rfl) rfl
theorem q1971 : (Jvm.Cond.lays "java/lang/UnsupportedOperationException" "java/lang/Throwable" "detailMessage" "Ljava/lang/String;") ∈ lw_all := lw_g (lw_at lw_m8 198 rfl) rfl
theorem q1972 : (Jvm.Cond.lays "java/lang/UnsupportedOperationException" "java/lang/Throwable" "backtrace" "Ljava/lang/Object;") ∈ lw_all := lw_g (lw_at lw_m8 199 rfl) rfl
theorem q1974 : (Jvm.Cond.instanceMethod ({ cls := "java/lang/UnsupportedOperationException", name := "<init>", desc := "()V" } : Jvm.MethodName)) ∈ lw_all := lw_g (lw_at lw_m8 201 rfl) rfl
theorem q1975 : (Jvm.Cond.code ({ cls := "java/lang/UnsupportedOperationException", name := "<init>", desc := "()V" } : Jvm.MethodName) prog_44_method_1_code (1 : Nat) (Option.none : Option Jvm.ClassFile.FieldType)) ∈ lw_all := lw_g (lw_at lw_m8 202 rfl) rfl
theorem q1976 : (Jvm.Cond.methodLink "java/lang/UnsupportedOperationException" (1 : Nat) ({ cls := "java/lang/RuntimeException", name := "<init>", desc := "()V" } : Jvm.MethodName)) ∈ lw_all := lw_g (lw_at lw_m8 203 rfl) rfl
theorem q1977 : (Jvm.Cond.lays "java/lang/UnsupportedOperationException" "java/lang/Throwable" "depth" "I") ∈ lw_all := lw_g (lw_at lw_m8 204 rfl) rfl
theorem q1978 : (Jvm.Cond.superclass "java/lang/UnsupportedOperationException" "java/lang/RuntimeException") ∈ lw_all := lw_g (lw_at lw_m8 205 rfl) rfl
theorem q3237 : (Jvm.Cond.castable "java/lang/UnsupportedOperationException" "java/lang/Object") ∈ lw_tbl := lw_at lw_m14 24 rfl
theorem in_J31 : ∀ w ∈ wsJ310, w ∈ lw_all := lw_in wsJ310 [1968, 1969, 1970, 1971, 1972, 1977] (by decide +kernel) (by decide +kernel)
/-! java/util/AbstractQueue -/
set_option maxRecDepth 100000
def RJ32 : String := "java/util/AbstractQueue"
abbrev cJ32_init : ByteArray := prog_50_method_1_code
def yJ32_init : MethodName := ⟨RJ32, "<init>", "()V"⟩
theorem dJ32_init_0 : decode cJ32_init 0 = .ok (.aload_n 0, 1) := by decide +kernel
theorem dJ32_init_1 : decode cJ32_init 1 = .ok (.invokespecial 1, 3) := by decide +kernel
theorem dJ32_init_4 : decode cJ32_init 4 = .ok (.return_, 1) := by decide +kernel
theorem q133 : (Jvm.Cond.initialized "java/util/AbstractQueue") ∈ lw_all := lw_g (lw_at lw_m1 40 rfl) rfl
theorem q646 : (Jvm.Cond.instanceMethod ({ cls := "java/util/AbstractQueue", name := "<init>", desc := "()V" } : Jvm.MethodName)) ∈ lw_all := lw_g (lw_at lw_m3 73 rfl) rfl
theorem q647 : (Jvm.Cond.code ({ cls := "java/util/AbstractQueue", name := "<init>", desc := "()V" } : Jvm.MethodName) prog_50_method_1_code (1 : Nat) (Option.none : Option Jvm.ClassFile.FieldType)) ∈ lw_all := lw_g (lw_at lw_m3 74 rfl) rfl
theorem q648 : (Jvm.Cond.methodLink "java/util/AbstractQueue" (1 : Nat) ({ cls := "java/util/AbstractCollection", name := "<init>", desc := "()V" } : Jvm.MethodName)) ∈ lw_all := lw_g (lw_at lw_m3 75 rfl) rfl
/-! java/util/PriorityQueue -/
set_option maxRecDepth 100000
def RJ33 : String := "java/util/PriorityQueue"
def TJ33 : u_T := fun k => match k with
  | 0 => ("java/util/PriorityQueue", "queue", "[Ljava/lang/Object;", false)
  | 1 => ("java/util/PriorityQueue", "size", "I", false)
  | 2 => ("java/util/PriorityQueue", "comparator", "Ljava/util/Comparator;", true)
  | _ => ("java/util/PriorityQueue", "modCount", "I", false)
def tyJ33 : Nat → FieldType := fun k => match k with
  | 0 => .array (.object "java/lang/Object")
  | 1 => .int
  | 2 => .object "java/util/Comparator"
  | _ => .int
abbrev wsJ330 : List Cond := u_ws RJ33 TJ33 4
theorem nmJ33 : ∀ a, a < 4 → ∀ b, b < 4 → a ≠ b → (TJ33 a).2.1 ≠ (TJ33 b).2.1 := by decide +kernel
theorem tyJ33_ok : ∀ k, k < 4 → parseFieldDescriptor (TJ33 k).2.2.1 = some (tyJ33 k) := by decide +kernel
abbrev cJ33_init : ByteArray := prog_67_method_3_code
def yJ33_init : MethodName := ⟨RJ33, "<init>", "(Ljava/util/Comparator;)V"⟩
def dkwJ33_init_0 : List UInt8 := [42, 16, 11, 43, 183, 0, 3, 177]
abbrev dktJ33_init_0 : List UInt8 := dkwJ33_init_0 ++ []
theorem dksJ33_init_0 : cJ33_init.data.toList.drop 0 = dktJ33_init_0 := by decide +kernel
theorem dJ33_init_0 : decode cJ33_init 0 = .ok (.aload_n 0, 1) := dk_42 (dk_at dksJ33_init_0 0 rfl rfl)
theorem dJ33_init_1 : decode cJ33_init 1 = .ok (.bipush 11, 2) := dk_16 11 (dk_at dksJ33_init_0 1 rfl rfl)
theorem dJ33_init_3 : decode cJ33_init 3 = .ok (.aload_n 1, 1) := dk_43 (dk_at dksJ33_init_0 3 rfl rfl)
theorem dJ33_init_4 : decode cJ33_init 4 = .ok (.invokespecial 3, 3) := dk_183 0 3 (dk_at dksJ33_init_0 4 rfl rfl)
theorem dJ33_init_7 : decode cJ33_init 7 = .ok (.return_, 1) := dk_177 (dk_at dksJ33_init_0 7 rfl rfl)
abbrev cJ33_init_2 : ByteArray := prog_67_method_4_code
def yJ33_init_2 : MethodName := ⟨RJ33, "<init>", "(ILjava/util/Comparator;)V"⟩
def dkwJ33_init_2_1 : List UInt8 := [181, 0, 17, 42, 44, 181, 0, 21, 177]
abbrev dktJ33_init_2_1 : List UInt8 := dkwJ33_init_2_1 ++ []
def dkwJ33_init_2_0 : List UInt8 := [42, 183, 0, 7, 27, 4, 162, 0, 11, 187, 0, 12, 89, 183, 0, 14, 191, 42, 27, 189, 0, 15]
abbrev dktJ33_init_2_0 : List UInt8 := dkwJ33_init_2_0 ++ dktJ33_init_2_1
theorem dksJ33_init_2_0 : cJ33_init_2.data.toList.drop 0 = dktJ33_init_2_0 := by decide +kernel
theorem dksJ33_init_2_1 : cJ33_init_2.data.toList.drop 22 = dktJ33_init_2_1 := dk_seg dksJ33_init_2_0 22 rfl rfl
theorem dJ33_init_2_0 : decode cJ33_init_2 0 = .ok (.aload_n 0, 1) := dk_42 (dk_at dksJ33_init_2_0 0 rfl rfl)
theorem dJ33_init_2_1 : decode cJ33_init_2 1 = .ok (.invokespecial 7, 3) := dk_183 0 7 (dk_at dksJ33_init_2_0 1 rfl rfl)
theorem dJ33_init_2_4 : decode cJ33_init_2 4 = .ok (.iload_n 1, 1) := dk_27 (dk_at dksJ33_init_2_0 4 rfl rfl)
theorem dJ33_init_2_5 : decode cJ33_init_2 5 = .ok (.iconst 1, 1) := dk_4 (dk_at dksJ33_init_2_0 5 rfl rfl)
theorem dJ33_init_2_6 : decode cJ33_init_2 6 = .ok (.if_icmp .ge 11, 3) := dk_162 0 11 (dk_at dksJ33_init_2_0 6 rfl rfl)
theorem dJ33_init_2_9 : decode cJ33_init_2 9 = .ok (.new 12, 3) := dk_187 0 12 (dk_at dksJ33_init_2_0 9 rfl rfl)
theorem dJ33_init_2_12 : decode cJ33_init_2 12 = .ok (.dup, 1) := dk_89 (dk_at dksJ33_init_2_0 12 rfl rfl)
theorem dJ33_init_2_13 : decode cJ33_init_2 13 = .ok (.invokespecial 14, 3) := dk_183 0 14 (dk_at dksJ33_init_2_0 13 rfl rfl)
theorem dJ33_init_2_16 : decode cJ33_init_2 16 = .ok (.athrow, 1) := dk_191 (dk_at dksJ33_init_2_0 16 rfl rfl)
theorem dJ33_init_2_17 : decode cJ33_init_2 17 = .ok (.aload_n 0, 1) := dk_42 (dk_at dksJ33_init_2_0 17 rfl rfl)
theorem dJ33_init_2_18 : decode cJ33_init_2 18 = .ok (.iload_n 1, 1) := dk_27 (dk_at dksJ33_init_2_0 18 rfl rfl)
theorem dJ33_init_2_19 : decode cJ33_init_2 19 = .ok (.anewarray 15, 3) := dk_189 0 15 (dk_at dksJ33_init_2_0 19 rfl rfl)
theorem dJ33_init_2_22 : decode cJ33_init_2 22 = .ok (.putfield 17, 3) := dk_181 0 17 (dk_at dksJ33_init_2_1 0 rfl rfl)
theorem dJ33_init_2_25 : decode cJ33_init_2 25 = .ok (.aload_n 0, 1) := dk_42 (dk_at dksJ33_init_2_1 3 rfl rfl)
theorem dJ33_init_2_26 : decode cJ33_init_2 26 = .ok (.aload_n 2, 1) := dk_44 (dk_at dksJ33_init_2_1 4 rfl rfl)
theorem dJ33_init_2_27 : decode cJ33_init_2 27 = .ok (.putfield 21, 3) := dk_181 0 21 (dk_at dksJ33_init_2_1 5 rfl rfl)
theorem dJ33_init_2_30 : decode cJ33_init_2 30 = .ok (.return_, 1) := dk_177 (dk_at dksJ33_init_2_1 8 rfl rfl)
abbrev cJ33_add : ByteArray := prog_67_method_13_code
def yJ33_add : MethodName := ⟨RJ33, "add", "(Ljava/lang/Object;)Z"⟩
def dkwJ33_add_0 : List UInt8 := [42, 43, 182, 0, 89, 172]
abbrev dktJ33_add_0 : List UInt8 := dkwJ33_add_0 ++ []
theorem dksJ33_add_0 : cJ33_add.data.toList.drop 0 = dktJ33_add_0 := by decide +kernel
theorem dJ33_add_0 : decode cJ33_add 0 = .ok (.aload_n 0, 1) := dk_42 (dk_at dksJ33_add_0 0 rfl rfl)
theorem dJ33_add_1 : decode cJ33_add 1 = .ok (.aload_n 1, 1) := dk_43 (dk_at dksJ33_add_0 1 rfl rfl)
theorem dJ33_add_2 : decode cJ33_add 2 = .ok (.invokevirtual 89, 3) := dk_182 0 89 (dk_at dksJ33_add_0 2 rfl rfl)
theorem dJ33_add_5 : decode cJ33_add 5 = .ok (.ireturn, 1) := dk_172 (dk_at dksJ33_add_0 5 rfl rfl)
abbrev cJ33_offer : ByteArray := prog_67_method_14_code
def yJ33_offer : MethodName := ⟨RJ33, "offer", "(Ljava/lang/Object;)Z"⟩
def dkwJ33_offer_2 : List UInt8 := [182, 0, 100, 42, 28, 4, 96, 181, 0, 58, 4, 172]
abbrev dktJ33_offer_2 : List UInt8 := dkwJ33_offer_2 ++ []
def dkwJ33_offer_1 : List UInt8 := [180, 0, 58, 61, 28, 42, 180, 0, 17, 190, 161, 0, 10, 42, 28, 4, 96, 182, 0, 96, 42, 28, 43]
abbrev dktJ33_offer_1 : List UInt8 := dkwJ33_offer_1 ++ dktJ33_offer_2
def dkwJ33_offer_0 : List UInt8 := [43, 199, 0, 11, 187, 0, 74, 89, 183, 0, 76, 191, 42, 89, 180, 0, 93, 4, 96, 181, 0, 93, 42]
abbrev dktJ33_offer_0 : List UInt8 := dkwJ33_offer_0 ++ dktJ33_offer_1
theorem dksJ33_offer_0 : cJ33_offer.data.toList.drop 0 = dktJ33_offer_0 := by decide +kernel
theorem dksJ33_offer_1 : cJ33_offer.data.toList.drop 23 = dktJ33_offer_1 := dk_seg dksJ33_offer_0 23 rfl rfl
theorem dksJ33_offer_2 : cJ33_offer.data.toList.drop 46 = dktJ33_offer_2 := dk_seg dksJ33_offer_1 23 rfl rfl
theorem dJ33_offer_0 : decode cJ33_offer 0 = .ok (.aload_n 1, 1) := dk_43 (dk_at dksJ33_offer_0 0 rfl rfl)
theorem dJ33_offer_1 : decode cJ33_offer 1 = .ok (.ifnonnull 11, 3) := dk_199 0 11 (dk_at dksJ33_offer_0 1 rfl rfl)
theorem dJ33_offer_4 : decode cJ33_offer 4 = .ok (.new 74, 3) := dk_187 0 74 (dk_at dksJ33_offer_0 4 rfl rfl)
theorem dJ33_offer_7 : decode cJ33_offer 7 = .ok (.dup, 1) := dk_89 (dk_at dksJ33_offer_0 7 rfl rfl)
theorem dJ33_offer_8 : decode cJ33_offer 8 = .ok (.invokespecial 76, 3) := dk_183 0 76 (dk_at dksJ33_offer_0 8 rfl rfl)
theorem dJ33_offer_11 : decode cJ33_offer 11 = .ok (.athrow, 1) := dk_191 (dk_at dksJ33_offer_0 11 rfl rfl)
theorem dJ33_offer_12 : decode cJ33_offer 12 = .ok (.aload_n 0, 1) := dk_42 (dk_at dksJ33_offer_0 12 rfl rfl)
theorem dJ33_offer_13 : decode cJ33_offer 13 = .ok (.dup, 1) := dk_89 (dk_at dksJ33_offer_0 13 rfl rfl)
theorem dJ33_offer_14 : decode cJ33_offer 14 = .ok (.getfield 93, 3) := dk_180 0 93 (dk_at dksJ33_offer_0 14 rfl rfl)
theorem dJ33_offer_17 : decode cJ33_offer 17 = .ok (.iconst 1, 1) := dk_4 (dk_at dksJ33_offer_0 17 rfl rfl)
theorem dJ33_offer_18 : decode cJ33_offer 18 = .ok (.iadd, 1) := dk_96 (dk_at dksJ33_offer_0 18 rfl rfl)
theorem dJ33_offer_19 : decode cJ33_offer 19 = .ok (.putfield 93, 3) := dk_181 0 93 (dk_at dksJ33_offer_0 19 rfl rfl)
theorem dJ33_offer_22 : decode cJ33_offer 22 = .ok (.aload_n 0, 1) := dk_42 (dk_at dksJ33_offer_0 22 rfl rfl)
theorem dJ33_offer_23 : decode cJ33_offer 23 = .ok (.getfield 58, 3) := dk_180 0 58 (dk_at dksJ33_offer_1 0 rfl rfl)
theorem dJ33_offer_26 : decode cJ33_offer 26 = .ok (.istore_n 2, 1) := dk_61 (dk_at dksJ33_offer_1 3 rfl rfl)
theorem dJ33_offer_27 : decode cJ33_offer 27 = .ok (.iload_n 2, 1) := dk_28 (dk_at dksJ33_offer_1 4 rfl rfl)
theorem dJ33_offer_28 : decode cJ33_offer 28 = .ok (.aload_n 0, 1) := dk_42 (dk_at dksJ33_offer_1 5 rfl rfl)
theorem dJ33_offer_29 : decode cJ33_offer 29 = .ok (.getfield 17, 3) := dk_180 0 17 (dk_at dksJ33_offer_1 6 rfl rfl)
theorem dJ33_offer_32 : decode cJ33_offer 32 = .ok (.arraylength, 1) := dk_190 (dk_at dksJ33_offer_1 9 rfl rfl)
theorem dJ33_offer_33 : decode cJ33_offer 33 = .ok (.if_icmp .lt 10, 3) := dk_161 0 10 (dk_at dksJ33_offer_1 10 rfl rfl)
theorem dJ33_offer_36 : decode cJ33_offer 36 = .ok (.aload_n 0, 1) := dk_42 (dk_at dksJ33_offer_1 13 rfl rfl)
theorem dJ33_offer_37 : decode cJ33_offer 37 = .ok (.iload_n 2, 1) := dk_28 (dk_at dksJ33_offer_1 14 rfl rfl)
theorem dJ33_offer_38 : decode cJ33_offer 38 = .ok (.iconst 1, 1) := dk_4 (dk_at dksJ33_offer_1 15 rfl rfl)
theorem dJ33_offer_39 : decode cJ33_offer 39 = .ok (.iadd, 1) := dk_96 (dk_at dksJ33_offer_1 16 rfl rfl)
theorem dJ33_offer_40 : decode cJ33_offer 40 = .ok (.invokevirtual 96, 3) := dk_182 0 96 (dk_at dksJ33_offer_1 17 rfl rfl)
theorem dJ33_offer_43 : decode cJ33_offer 43 = .ok (.aload_n 0, 1) := dk_42 (dk_at dksJ33_offer_1 20 rfl rfl)
theorem dJ33_offer_44 : decode cJ33_offer 44 = .ok (.iload_n 2, 1) := dk_28 (dk_at dksJ33_offer_1 21 rfl rfl)
theorem dJ33_offer_45 : decode cJ33_offer 45 = .ok (.aload_n 1, 1) := dk_43 (dk_at dksJ33_offer_1 22 rfl rfl)
theorem dJ33_offer_46 : decode cJ33_offer 46 = .ok (.invokevirtual 100, 3) := dk_182 0 100 (dk_at dksJ33_offer_2 0 rfl rfl)
theorem dJ33_offer_49 : decode cJ33_offer 49 = .ok (.aload_n 0, 1) := dk_42 (dk_at dksJ33_offer_2 3 rfl rfl)
theorem dJ33_offer_50 : decode cJ33_offer 50 = .ok (.iload_n 2, 1) := dk_28 (dk_at dksJ33_offer_2 4 rfl rfl)
theorem dJ33_offer_51 : decode cJ33_offer 51 = .ok (.iconst 1, 1) := dk_4 (dk_at dksJ33_offer_2 5 rfl rfl)
theorem dJ33_offer_52 : decode cJ33_offer 52 = .ok (.iadd, 1) := dk_96 (dk_at dksJ33_offer_2 6 rfl rfl)
theorem dJ33_offer_53 : decode cJ33_offer 53 = .ok (.putfield 58, 3) := dk_181 0 58 (dk_at dksJ33_offer_2 7 rfl rfl)
theorem dJ33_offer_56 : decode cJ33_offer 56 = .ok (.iconst 1, 1) := dk_4 (dk_at dksJ33_offer_2 10 rfl rfl)
theorem dJ33_offer_57 : decode cJ33_offer 57 = .ok (.ireturn, 1) := dk_172 (dk_at dksJ33_offer_2 11 rfl rfl)
abbrev cJ33_grow : ByteArray := prog_67_method_12_code
def yJ33_grow : MethodName := ⟨RJ33, "grow", "(I)V"⟩
def dkwJ33_grow_1 : List UInt8 := [122, 184, 0, 80, 62, 42, 42, 180, 0, 17, 29, 184, 0, 86, 181, 0, 17, 177]
abbrev dktJ33_grow_1 : List UInt8 := dkwJ33_grow_1 ++ []
def dkwJ33_grow_0 : List UInt8 := [42, 180, 0, 17, 190, 61, 28, 27, 28, 100, 28, 16, 64, 162, 0, 9, 28, 5, 96, 167, 0, 6, 28, 4]
abbrev dktJ33_grow_0 : List UInt8 := dkwJ33_grow_0 ++ dktJ33_grow_1
theorem dksJ33_grow_0 : cJ33_grow.data.toList.drop 0 = dktJ33_grow_0 := by decide +kernel
theorem dksJ33_grow_1 : cJ33_grow.data.toList.drop 24 = dktJ33_grow_1 := dk_seg dksJ33_grow_0 24 rfl rfl
theorem dJ33_grow_0 : decode cJ33_grow 0 = .ok (.aload_n 0, 1) := dk_42 (dk_at dksJ33_grow_0 0 rfl rfl)
theorem dJ33_grow_1 : decode cJ33_grow 1 = .ok (.getfield 17, 3) := dk_180 0 17 (dk_at dksJ33_grow_0 1 rfl rfl)
theorem dJ33_grow_4 : decode cJ33_grow 4 = .ok (.arraylength, 1) := dk_190 (dk_at dksJ33_grow_0 4 rfl rfl)
theorem dJ33_grow_5 : decode cJ33_grow 5 = .ok (.istore_n 2, 1) := dk_61 (dk_at dksJ33_grow_0 5 rfl rfl)
theorem dJ33_grow_6 : decode cJ33_grow 6 = .ok (.iload_n 2, 1) := dk_28 (dk_at dksJ33_grow_0 6 rfl rfl)
theorem dJ33_grow_7 : decode cJ33_grow 7 = .ok (.iload_n 1, 1) := dk_27 (dk_at dksJ33_grow_0 7 rfl rfl)
theorem dJ33_grow_8 : decode cJ33_grow 8 = .ok (.iload_n 2, 1) := dk_28 (dk_at dksJ33_grow_0 8 rfl rfl)
theorem dJ33_grow_9 : decode cJ33_grow 9 = .ok (.isub, 1) := dk_100 (dk_at dksJ33_grow_0 9 rfl rfl)
theorem dJ33_grow_10 : decode cJ33_grow 10 = .ok (.iload_n 2, 1) := dk_28 (dk_at dksJ33_grow_0 10 rfl rfl)
theorem dJ33_grow_11 : decode cJ33_grow 11 = .ok (.bipush 64, 2) := dk_16 64 (dk_at dksJ33_grow_0 11 rfl rfl)
theorem dJ33_grow_13 : decode cJ33_grow 13 = .ok (.if_icmp .ge 9, 3) := dk_162 0 9 (dk_at dksJ33_grow_0 13 rfl rfl)
theorem dJ33_grow_16 : decode cJ33_grow 16 = .ok (.iload_n 2, 1) := dk_28 (dk_at dksJ33_grow_0 16 rfl rfl)
theorem dJ33_grow_17 : decode cJ33_grow 17 = .ok (.iconst 2, 1) := dk_5 (dk_at dksJ33_grow_0 17 rfl rfl)
theorem dJ33_grow_18 : decode cJ33_grow 18 = .ok (.iadd, 1) := dk_96 (dk_at dksJ33_grow_0 18 rfl rfl)
theorem dJ33_grow_19 : decode cJ33_grow 19 = .ok (.goto 6, 3) := dk_167 0 6 (dk_at dksJ33_grow_0 19 rfl rfl)
theorem dJ33_grow_22 : decode cJ33_grow 22 = .ok (.iload_n 2, 1) := dk_28 (dk_at dksJ33_grow_0 22 rfl rfl)
theorem dJ33_grow_23 : decode cJ33_grow 23 = .ok (.iconst 1, 1) := dk_4 (dk_at dksJ33_grow_0 23 rfl rfl)
theorem dJ33_grow_24 : decode cJ33_grow 24 = .ok (.ishr, 1) := dk_122 (dk_at dksJ33_grow_1 0 rfl rfl)
theorem dJ33_grow_25 : decode cJ33_grow 25 = .ok (.invokestatic 80, 3) := dk_184 0 80 (dk_at dksJ33_grow_1 1 rfl rfl)
theorem dJ33_grow_28 : decode cJ33_grow 28 = .ok (.istore_n 3, 1) := dk_62 (dk_at dksJ33_grow_1 4 rfl rfl)
theorem dJ33_grow_29 : decode cJ33_grow 29 = .ok (.aload_n 0, 1) := dk_42 (dk_at dksJ33_grow_1 5 rfl rfl)
theorem dJ33_grow_30 : decode cJ33_grow 30 = .ok (.aload_n 0, 1) := dk_42 (dk_at dksJ33_grow_1 6 rfl rfl)
theorem dJ33_grow_31 : decode cJ33_grow 31 = .ok (.getfield 17, 3) := dk_180 0 17 (dk_at dksJ33_grow_1 7 rfl rfl)
theorem dJ33_grow_34 : decode cJ33_grow 34 = .ok (.iload_n 3, 1) := dk_29 (dk_at dksJ33_grow_1 10 rfl rfl)
theorem dJ33_grow_35 : decode cJ33_grow 35 = .ok (.invokestatic 86, 3) := dk_184 0 86 (dk_at dksJ33_grow_1 11 rfl rfl)
theorem dJ33_grow_38 : decode cJ33_grow 38 = .ok (.putfield 17, 3) := dk_181 0 17 (dk_at dksJ33_grow_1 14 rfl rfl)
theorem dJ33_grow_41 : decode cJ33_grow 41 = .ok (.return_, 1) := dk_177 (dk_at dksJ33_grow_1 17 rfl rfl)
abbrev cJ33_siftUp : ByteArray := prog_67_method_27_code
def yJ33_siftUp : MethodName := ⟨RJ33, "siftUp", "(ILjava/lang/Object;)V"⟩
def dkwJ33_siftUp_1 : List UInt8 := [44, 42, 180, 0, 17, 184, 0, 140, 177]
abbrev dktJ33_siftUp_1 : List UInt8 := dkwJ33_siftUp_1 ++ []
def dkwJ33_siftUp_0 : List UInt8 := [42, 180, 0, 21, 198, 0, 19, 27, 44, 42, 180, 0, 17, 42, 180, 0, 21, 184, 0, 136, 167, 0, 12, 27]
abbrev dktJ33_siftUp_0 : List UInt8 := dkwJ33_siftUp_0 ++ dktJ33_siftUp_1
theorem dksJ33_siftUp_0 : cJ33_siftUp.data.toList.drop 0 = dktJ33_siftUp_0 := by decide +kernel
theorem dksJ33_siftUp_1 : cJ33_siftUp.data.toList.drop 24 = dktJ33_siftUp_1 := dk_seg dksJ33_siftUp_0 24 rfl rfl
theorem dJ33_siftUp_0 : decode cJ33_siftUp 0 = .ok (.aload_n 0, 1) := dk_42 (dk_at dksJ33_siftUp_0 0 rfl rfl)
theorem dJ33_siftUp_1 : decode cJ33_siftUp 1 = .ok (.getfield 21, 3) := dk_180 0 21 (dk_at dksJ33_siftUp_0 1 rfl rfl)
theorem dJ33_siftUp_4 : decode cJ33_siftUp 4 = .ok (.ifnull 19, 3) := dk_198 0 19 (dk_at dksJ33_siftUp_0 4 rfl rfl)
theorem dJ33_siftUp_7 : decode cJ33_siftUp 7 = .ok (.iload_n 1, 1) := dk_27 (dk_at dksJ33_siftUp_0 7 rfl rfl)
theorem dJ33_siftUp_8 : decode cJ33_siftUp 8 = .ok (.aload_n 2, 1) := dk_44 (dk_at dksJ33_siftUp_0 8 rfl rfl)
theorem dJ33_siftUp_9 : decode cJ33_siftUp 9 = .ok (.aload_n 0, 1) := dk_42 (dk_at dksJ33_siftUp_0 9 rfl rfl)
theorem dJ33_siftUp_10 : decode cJ33_siftUp 10 = .ok (.getfield 17, 3) := dk_180 0 17 (dk_at dksJ33_siftUp_0 10 rfl rfl)
theorem dJ33_siftUp_13 : decode cJ33_siftUp 13 = .ok (.aload_n 0, 1) := dk_42 (dk_at dksJ33_siftUp_0 13 rfl rfl)
theorem dJ33_siftUp_14 : decode cJ33_siftUp 14 = .ok (.getfield 21, 3) := dk_180 0 21 (dk_at dksJ33_siftUp_0 14 rfl rfl)
theorem dJ33_siftUp_17 : decode cJ33_siftUp 17 = .ok (.invokestatic 136, 3) := dk_184 0 136 (dk_at dksJ33_siftUp_0 17 rfl rfl)
theorem dJ33_siftUp_20 : decode cJ33_siftUp 20 = .ok (.goto 12, 3) := dk_167 0 12 (dk_at dksJ33_siftUp_0 20 rfl rfl)
theorem dJ33_siftUp_23 : decode cJ33_siftUp 23 = .ok (.iload_n 1, 1) := dk_27 (dk_at dksJ33_siftUp_0 23 rfl rfl)
theorem dJ33_siftUp_24 : decode cJ33_siftUp 24 = .ok (.aload_n 2, 1) := dk_44 (dk_at dksJ33_siftUp_1 0 rfl rfl)
theorem dJ33_siftUp_25 : decode cJ33_siftUp 25 = .ok (.aload_n 0, 1) := dk_42 (dk_at dksJ33_siftUp_1 1 rfl rfl)
theorem dJ33_siftUp_26 : decode cJ33_siftUp 26 = .ok (.getfield 17, 3) := dk_180 0 17 (dk_at dksJ33_siftUp_1 2 rfl rfl)
theorem dJ33_siftUp_29 : decode cJ33_siftUp 29 = .ok (.invokestatic 140, 3) := dk_184 0 140 (dk_at dksJ33_siftUp_1 5 rfl rfl)
theorem dJ33_siftUp_32 : decode cJ33_siftUp 32 = .ok (.return_, 1) := dk_177 (dk_at dksJ33_siftUp_1 8 rfl rfl)
abbrev cJ33_siftUpUsingComparator : ByteArray := prog_67_method_29_code
def yJ33_siftUpUsingComparator : MethodName := ⟨RJ33, "siftUpUsingComparator", "(ILjava/lang/Object;[Ljava/lang/Object;Ljava/util/Comparator;)V"⟩
def dkwJ33_siftUpUsingComparator_2 : List UInt8 := [43, 83, 177]
abbrev dktJ33_siftUpUsingComparator_2 : List UInt8 := dkwJ33_siftUpUsingComparator_2 ++ []
def dkwJ33_siftUpUsingComparator_1 : List UInt8 := [185, 0, 149, 3, 0, 155, 0, 6, 167, 0, 14, 44, 26, 25, 5, 83, 21, 4, 59, 167, 255, 216, 44, 26]
abbrev dktJ33_siftUpUsingComparator_1 : List UInt8 := dkwJ33_siftUpUsingComparator_1 ++ dktJ33_siftUpUsingComparator_2
def dkwJ33_siftUpUsingComparator_0 : List UInt8 := [26, 158, 0, 42, 26, 4, 100, 4, 124, 54, 4, 44, 21, 4, 50, 58, 5, 45, 43, 25, 5]
abbrev dktJ33_siftUpUsingComparator_0 : List UInt8 := dkwJ33_siftUpUsingComparator_0 ++ dktJ33_siftUpUsingComparator_1
theorem dksJ33_siftUpUsingComparator_0 : cJ33_siftUpUsingComparator.data.toList.drop 0 = dktJ33_siftUpUsingComparator_0 := by decide +kernel
theorem dksJ33_siftUpUsingComparator_1 : cJ33_siftUpUsingComparator.data.toList.drop 21 = dktJ33_siftUpUsingComparator_1 := dk_seg dksJ33_siftUpUsingComparator_0 21 rfl rfl
theorem dksJ33_siftUpUsingComparator_2 : cJ33_siftUpUsingComparator.data.toList.drop 45 = dktJ33_siftUpUsingComparator_2 := dk_seg dksJ33_siftUpUsingComparator_1 24 rfl rfl
theorem dJ33_siftUpUsingComparator_0 : decode cJ33_siftUpUsingComparator 0 = .ok (.iload_n 0, 1) := dk_26 (dk_at dksJ33_siftUpUsingComparator_0 0 rfl rfl)
theorem dJ33_siftUpUsingComparator_1 : decode cJ33_siftUpUsingComparator 1 = .ok (.ifCond .le 42, 3) := dk_158 0 42 (dk_at dksJ33_siftUpUsingComparator_0 1 rfl rfl)
theorem dJ33_siftUpUsingComparator_4 : decode cJ33_siftUpUsingComparator 4 = .ok (.iload_n 0, 1) := dk_26 (dk_at dksJ33_siftUpUsingComparator_0 4 rfl rfl)
theorem dJ33_siftUpUsingComparator_5 : decode cJ33_siftUpUsingComparator 5 = .ok (.iconst 1, 1) := dk_4 (dk_at dksJ33_siftUpUsingComparator_0 5 rfl rfl)
theorem dJ33_siftUpUsingComparator_6 : decode cJ33_siftUpUsingComparator 6 = .ok (.isub, 1) := dk_100 (dk_at dksJ33_siftUpUsingComparator_0 6 rfl rfl)
theorem dJ33_siftUpUsingComparator_7 : decode cJ33_siftUpUsingComparator 7 = .ok (.iconst 1, 1) := dk_4 (dk_at dksJ33_siftUpUsingComparator_0 7 rfl rfl)
theorem dJ33_siftUpUsingComparator_8 : decode cJ33_siftUpUsingComparator 8 = .ok (.iushr, 1) := dk_124 (dk_at dksJ33_siftUpUsingComparator_0 8 rfl rfl)
theorem dJ33_siftUpUsingComparator_9 : decode cJ33_siftUpUsingComparator 9 = .ok (.istore 4, 2) := dk_54 4 (dk_at dksJ33_siftUpUsingComparator_0 9 rfl rfl)
theorem dJ33_siftUpUsingComparator_11 : decode cJ33_siftUpUsingComparator 11 = .ok (.aload_n 2, 1) := dk_44 (dk_at dksJ33_siftUpUsingComparator_0 11 rfl rfl)
theorem dJ33_siftUpUsingComparator_12 : decode cJ33_siftUpUsingComparator 12 = .ok (.iload 4, 2) := dk_21 4 (dk_at dksJ33_siftUpUsingComparator_0 12 rfl rfl)
theorem dJ33_siftUpUsingComparator_14 : decode cJ33_siftUpUsingComparator 14 = .ok (.aaload, 1) := dk_50 (dk_at dksJ33_siftUpUsingComparator_0 14 rfl rfl)
theorem dJ33_siftUpUsingComparator_15 : decode cJ33_siftUpUsingComparator 15 = .ok (.astore 5, 2) := dk_58 5 (dk_at dksJ33_siftUpUsingComparator_0 15 rfl rfl)
theorem dJ33_siftUpUsingComparator_17 : decode cJ33_siftUpUsingComparator 17 = .ok (.aload_n 3, 1) := dk_45 (dk_at dksJ33_siftUpUsingComparator_0 17 rfl rfl)
theorem dJ33_siftUpUsingComparator_18 : decode cJ33_siftUpUsingComparator 18 = .ok (.aload_n 1, 1) := dk_43 (dk_at dksJ33_siftUpUsingComparator_0 18 rfl rfl)
theorem dJ33_siftUpUsingComparator_19 : decode cJ33_siftUpUsingComparator 19 = .ok (.aload 5, 2) := dk_25 5 (dk_at dksJ33_siftUpUsingComparator_0 19 rfl rfl)
theorem dJ33_siftUpUsingComparator_21 : decode cJ33_siftUpUsingComparator 21 = .ok (.invokeinterface 149 3, 5) := by decide +kernel
theorem dJ33_siftUpUsingComparator_26 : decode cJ33_siftUpUsingComparator 26 = .ok (.ifCond .lt 6, 3) := dk_155 0 6 (dk_at dksJ33_siftUpUsingComparator_1 5 rfl rfl)
theorem dJ33_siftUpUsingComparator_29 : decode cJ33_siftUpUsingComparator 29 = .ok (.goto 14, 3) := dk_167 0 14 (dk_at dksJ33_siftUpUsingComparator_1 8 rfl rfl)
theorem dJ33_siftUpUsingComparator_32 : decode cJ33_siftUpUsingComparator 32 = .ok (.aload_n 2, 1) := dk_44 (dk_at dksJ33_siftUpUsingComparator_1 11 rfl rfl)
theorem dJ33_siftUpUsingComparator_33 : decode cJ33_siftUpUsingComparator 33 = .ok (.iload_n 0, 1) := dk_26 (dk_at dksJ33_siftUpUsingComparator_1 12 rfl rfl)
theorem dJ33_siftUpUsingComparator_34 : decode cJ33_siftUpUsingComparator 34 = .ok (.aload 5, 2) := dk_25 5 (dk_at dksJ33_siftUpUsingComparator_1 13 rfl rfl)
theorem dJ33_siftUpUsingComparator_36 : decode cJ33_siftUpUsingComparator 36 = .ok (.aastore, 1) := dk_83 (dk_at dksJ33_siftUpUsingComparator_1 15 rfl rfl)
theorem dJ33_siftUpUsingComparator_37 : decode cJ33_siftUpUsingComparator 37 = .ok (.iload 4, 2) := dk_21 4 (dk_at dksJ33_siftUpUsingComparator_1 16 rfl rfl)
theorem dJ33_siftUpUsingComparator_39 : decode cJ33_siftUpUsingComparator 39 = .ok (.istore_n 0, 1) := dk_59 (dk_at dksJ33_siftUpUsingComparator_1 18 rfl rfl)
theorem dJ33_siftUpUsingComparator_40 : decode cJ33_siftUpUsingComparator 40 = .ok (.goto (-40), 3) := dk_167 255 216 (dk_at dksJ33_siftUpUsingComparator_1 19 rfl rfl)
theorem dJ33_siftUpUsingComparator_43 : decode cJ33_siftUpUsingComparator 43 = .ok (.aload_n 2, 1) := dk_44 (dk_at dksJ33_siftUpUsingComparator_1 22 rfl rfl)
theorem dJ33_siftUpUsingComparator_44 : decode cJ33_siftUpUsingComparator 44 = .ok (.iload_n 0, 1) := dk_26 (dk_at dksJ33_siftUpUsingComparator_1 23 rfl rfl)
theorem dJ33_siftUpUsingComparator_45 : decode cJ33_siftUpUsingComparator 45 = .ok (.aload_n 1, 1) := dk_43 (dk_at dksJ33_siftUpUsingComparator_2 0 rfl rfl)
theorem dJ33_siftUpUsingComparator_46 : decode cJ33_siftUpUsingComparator 46 = .ok (.aastore, 1) := dk_83 (dk_at dksJ33_siftUpUsingComparator_2 1 rfl rfl)
theorem dJ33_siftUpUsingComparator_47 : decode cJ33_siftUpUsingComparator 47 = .ok (.return_, 1) := dk_177 (dk_at dksJ33_siftUpUsingComparator_2 2 rfl rfl)
abbrev cJ33_siftUpComparable : ByteArray := prog_67_method_28_code
def yJ33_siftUpComparable : MethodName := ⟨RJ33, "siftUpComparable", "(ILjava/lang/Object;[Ljava/lang/Object;)V"⟩
def dkwJ33_siftUpComparable_2 : List UInt8 := [44, 26, 45, 83, 177]
abbrev dktJ33_siftUpComparable_2 : List UInt8 := dkwJ33_siftUpComparable_2 ++ []
def dkwJ33_siftUpComparable_1 : List UInt8 := [25, 5, 185, 0, 146, 2, 0, 155, 0, 6, 167, 0, 14, 44, 26, 25, 5, 83, 21, 4, 59, 167, 255, 217]
abbrev dktJ33_siftUpComparable_1 : List UInt8 := dkwJ33_siftUpComparable_1 ++ dktJ33_siftUpComparable_2
def dkwJ33_siftUpComparable_0 : List UInt8 := [43, 192, 0, 144, 78, 26, 158, 0, 41, 26, 4, 100, 4, 124, 54, 4, 44, 21, 4, 50, 58, 5, 45]
abbrev dktJ33_siftUpComparable_0 : List UInt8 := dkwJ33_siftUpComparable_0 ++ dktJ33_siftUpComparable_1
theorem dksJ33_siftUpComparable_0 : cJ33_siftUpComparable.data.toList.drop 0 = dktJ33_siftUpComparable_0 := by decide +kernel
theorem dksJ33_siftUpComparable_1 : cJ33_siftUpComparable.data.toList.drop 23 = dktJ33_siftUpComparable_1 := dk_seg dksJ33_siftUpComparable_0 23 rfl rfl
theorem dksJ33_siftUpComparable_2 : cJ33_siftUpComparable.data.toList.drop 47 = dktJ33_siftUpComparable_2 := dk_seg dksJ33_siftUpComparable_1 24 rfl rfl
theorem dJ33_siftUpComparable_0 : decode cJ33_siftUpComparable 0 = .ok (.aload_n 1, 1) := dk_43 (dk_at dksJ33_siftUpComparable_0 0 rfl rfl)
theorem dJ33_siftUpComparable_1 : decode cJ33_siftUpComparable 1 = .ok (.checkcast 144, 3) := dk_192 0 144 (dk_at dksJ33_siftUpComparable_0 1 rfl rfl)
theorem dJ33_siftUpComparable_4 : decode cJ33_siftUpComparable 4 = .ok (.astore_n 3, 1) := dk_78 (dk_at dksJ33_siftUpComparable_0 4 rfl rfl)
theorem dJ33_siftUpComparable_5 : decode cJ33_siftUpComparable 5 = .ok (.iload_n 0, 1) := dk_26 (dk_at dksJ33_siftUpComparable_0 5 rfl rfl)
theorem dJ33_siftUpComparable_6 : decode cJ33_siftUpComparable 6 = .ok (.ifCond .le 41, 3) := dk_158 0 41 (dk_at dksJ33_siftUpComparable_0 6 rfl rfl)
theorem dJ33_siftUpComparable_9 : decode cJ33_siftUpComparable 9 = .ok (.iload_n 0, 1) := dk_26 (dk_at dksJ33_siftUpComparable_0 9 rfl rfl)
theorem dJ33_siftUpComparable_10 : decode cJ33_siftUpComparable 10 = .ok (.iconst 1, 1) := dk_4 (dk_at dksJ33_siftUpComparable_0 10 rfl rfl)
theorem dJ33_siftUpComparable_11 : decode cJ33_siftUpComparable 11 = .ok (.isub, 1) := dk_100 (dk_at dksJ33_siftUpComparable_0 11 rfl rfl)
theorem dJ33_siftUpComparable_12 : decode cJ33_siftUpComparable 12 = .ok (.iconst 1, 1) := dk_4 (dk_at dksJ33_siftUpComparable_0 12 rfl rfl)
theorem dJ33_siftUpComparable_13 : decode cJ33_siftUpComparable 13 = .ok (.iushr, 1) := dk_124 (dk_at dksJ33_siftUpComparable_0 13 rfl rfl)
theorem dJ33_siftUpComparable_14 : decode cJ33_siftUpComparable 14 = .ok (.istore 4, 2) := dk_54 4 (dk_at dksJ33_siftUpComparable_0 14 rfl rfl)
theorem dJ33_siftUpComparable_16 : decode cJ33_siftUpComparable 16 = .ok (.aload_n 2, 1) := dk_44 (dk_at dksJ33_siftUpComparable_0 16 rfl rfl)
theorem dJ33_siftUpComparable_17 : decode cJ33_siftUpComparable 17 = .ok (.iload 4, 2) := dk_21 4 (dk_at dksJ33_siftUpComparable_0 17 rfl rfl)
theorem dJ33_siftUpComparable_19 : decode cJ33_siftUpComparable 19 = .ok (.aaload, 1) := dk_50 (dk_at dksJ33_siftUpComparable_0 19 rfl rfl)
theorem dJ33_siftUpComparable_20 : decode cJ33_siftUpComparable 20 = .ok (.astore 5, 2) := dk_58 5 (dk_at dksJ33_siftUpComparable_0 20 rfl rfl)
theorem dJ33_siftUpComparable_22 : decode cJ33_siftUpComparable 22 = .ok (.aload_n 3, 1) := dk_45 (dk_at dksJ33_siftUpComparable_0 22 rfl rfl)
theorem dJ33_siftUpComparable_23 : decode cJ33_siftUpComparable 23 = .ok (.aload 5, 2) := dk_25 5 (dk_at dksJ33_siftUpComparable_1 0 rfl rfl)
theorem dJ33_siftUpComparable_25 : decode cJ33_siftUpComparable 25 = .ok (.invokeinterface 146 2, 5) := by decide +kernel
theorem dJ33_siftUpComparable_30 : decode cJ33_siftUpComparable 30 = .ok (.ifCond .lt 6, 3) := dk_155 0 6 (dk_at dksJ33_siftUpComparable_1 7 rfl rfl)
theorem dJ33_siftUpComparable_33 : decode cJ33_siftUpComparable 33 = .ok (.goto 14, 3) := dk_167 0 14 (dk_at dksJ33_siftUpComparable_1 10 rfl rfl)
theorem dJ33_siftUpComparable_36 : decode cJ33_siftUpComparable 36 = .ok (.aload_n 2, 1) := dk_44 (dk_at dksJ33_siftUpComparable_1 13 rfl rfl)
theorem dJ33_siftUpComparable_37 : decode cJ33_siftUpComparable 37 = .ok (.iload_n 0, 1) := dk_26 (dk_at dksJ33_siftUpComparable_1 14 rfl rfl)
theorem dJ33_siftUpComparable_38 : decode cJ33_siftUpComparable 38 = .ok (.aload 5, 2) := dk_25 5 (dk_at dksJ33_siftUpComparable_1 15 rfl rfl)
theorem dJ33_siftUpComparable_40 : decode cJ33_siftUpComparable 40 = .ok (.aastore, 1) := dk_83 (dk_at dksJ33_siftUpComparable_1 17 rfl rfl)
theorem dJ33_siftUpComparable_41 : decode cJ33_siftUpComparable 41 = .ok (.iload 4, 2) := dk_21 4 (dk_at dksJ33_siftUpComparable_1 18 rfl rfl)
theorem dJ33_siftUpComparable_43 : decode cJ33_siftUpComparable 43 = .ok (.istore_n 0, 1) := dk_59 (dk_at dksJ33_siftUpComparable_1 20 rfl rfl)
theorem dJ33_siftUpComparable_44 : decode cJ33_siftUpComparable 44 = .ok (.goto (-39), 3) := dk_167 255 217 (dk_at dksJ33_siftUpComparable_1 21 rfl rfl)
theorem dJ33_siftUpComparable_47 : decode cJ33_siftUpComparable 47 = .ok (.aload_n 2, 1) := dk_44 (dk_at dksJ33_siftUpComparable_2 0 rfl rfl)
theorem dJ33_siftUpComparable_48 : decode cJ33_siftUpComparable 48 = .ok (.iload_n 0, 1) := dk_26 (dk_at dksJ33_siftUpComparable_2 1 rfl rfl)
theorem dJ33_siftUpComparable_49 : decode cJ33_siftUpComparable 49 = .ok (.aload_n 3, 1) := dk_45 (dk_at dksJ33_siftUpComparable_2 2 rfl rfl)
theorem dJ33_siftUpComparable_50 : decode cJ33_siftUpComparable 50 = .ok (.aastore, 1) := dk_83 (dk_at dksJ33_siftUpComparable_2 3 rfl rfl)
theorem dJ33_siftUpComparable_51 : decode cJ33_siftUpComparable 51 = .ok (.return_, 1) := dk_177 (dk_at dksJ33_siftUpComparable_2 4 rfl rfl)
abbrev cJ33_size : ByteArray := prog_67_method_23_code
def yJ33_size : MethodName := ⟨RJ33, "size", "()I"⟩
theorem dJ33_size_0 : decode cJ33_size 0 = .ok (.aload_n 0, 1) := by decide +kernel
theorem dJ33_size_1 : decode cJ33_size 1 = .ok (.getfield 58, 3) := by decide +kernel
theorem dJ33_size_4 : decode cJ33_size 4 = .ok (.ireturn, 1) := by decide +kernel
abbrev cJ33_peek : ByteArray := prog_67_method_15_code
def yJ33_peek : MethodName := ⟨RJ33, "peek", "()Ljava/lang/Object;"⟩
def dkwJ33_peek_0 : List UInt8 := [42, 180, 0, 17, 3, 50, 176]
abbrev dktJ33_peek_0 : List UInt8 := dkwJ33_peek_0 ++ []
theorem dksJ33_peek_0 : cJ33_peek.data.toList.drop 0 = dktJ33_peek_0 := by decide +kernel
theorem dJ33_peek_0 : decode cJ33_peek 0 = .ok (.aload_n 0, 1) := dk_42 (dk_at dksJ33_peek_0 0 rfl rfl)
theorem dJ33_peek_1 : decode cJ33_peek 1 = .ok (.getfield 17, 3) := dk_180 0 17 (dk_at dksJ33_peek_0 1 rfl rfl)
theorem dJ33_peek_4 : decode cJ33_peek 4 = .ok (.iconst 0, 1) := dk_3 (dk_at dksJ33_peek_0 4 rfl rfl)
theorem dJ33_peek_5 : decode cJ33_peek 5 = .ok (.aaload, 1) := dk_50 (dk_at dksJ33_peek_0 5 rfl rfl)
theorem dJ33_peek_6 : decode cJ33_peek 6 = .ok (.areturn, 1) := dk_176 (dk_at dksJ33_peek_0 6 rfl rfl)
abbrev cJ33_poll : ByteArray := prog_67_method_25_code
def yJ33_poll : MethodName := ⟨RJ33, "poll", "()Ljava/lang/Object;"⟩
def dkwJ33_poll_3 : List UInt8 := [43, 29, 25, 5, 184, 0, 129, 44, 176]
abbrev dktJ33_poll_3 : List UInt8 := dkwJ33_poll_3 ++ []
def dkwJ33_poll_2 : List UInt8 := [42, 180, 0, 21, 89, 58, 5, 199, 0, 14, 3, 25, 4, 43, 29, 184, 0, 125, 167, 0, 13, 3, 25, 4]
abbrev dktJ33_poll_2 : List UInt8 := dkwJ33_poll_2 ++ dktJ33_poll_3
def dkwJ33_poll_1 : List UInt8 := [42, 89, 180, 0, 58, 4, 100, 90, 181, 0, 58, 89, 62, 50, 58, 4, 43, 29, 1, 83, 29, 158, 0, 34]
abbrev dktJ33_poll_1 : List UInt8 := dkwJ33_poll_1 ++ dktJ33_poll_2
def dkwJ33_poll_0 : List UInt8 := [42, 180, 0, 17, 89, 76, 3, 50, 89, 77, 198, 0, 69, 42, 89, 180, 0, 93, 4, 96, 181, 0, 93, 43]
abbrev dktJ33_poll_0 : List UInt8 := dkwJ33_poll_0 ++ dktJ33_poll_1
theorem dksJ33_poll_0 : cJ33_poll.data.toList.drop 0 = dktJ33_poll_0 := by decide +kernel
theorem dksJ33_poll_1 : cJ33_poll.data.toList.drop 24 = dktJ33_poll_1 := dk_seg dksJ33_poll_0 24 rfl rfl
theorem dksJ33_poll_2 : cJ33_poll.data.toList.drop 48 = dktJ33_poll_2 := dk_seg dksJ33_poll_1 24 rfl rfl
theorem dksJ33_poll_3 : cJ33_poll.data.toList.drop 72 = dktJ33_poll_3 := dk_seg dksJ33_poll_2 24 rfl rfl
theorem dJ33_poll_0 : decode cJ33_poll 0 = .ok (.aload_n 0, 1) := dk_42 (dk_at dksJ33_poll_0 0 rfl rfl)
theorem dJ33_poll_1 : decode cJ33_poll 1 = .ok (.getfield 17, 3) := dk_180 0 17 (dk_at dksJ33_poll_0 1 rfl rfl)
theorem dJ33_poll_4 : decode cJ33_poll 4 = .ok (.dup, 1) := dk_89 (dk_at dksJ33_poll_0 4 rfl rfl)
theorem dJ33_poll_5 : decode cJ33_poll 5 = .ok (.astore_n 1, 1) := dk_76 (dk_at dksJ33_poll_0 5 rfl rfl)
theorem dJ33_poll_6 : decode cJ33_poll 6 = .ok (.iconst 0, 1) := dk_3 (dk_at dksJ33_poll_0 6 rfl rfl)
theorem dJ33_poll_7 : decode cJ33_poll 7 = .ok (.aaload, 1) := dk_50 (dk_at dksJ33_poll_0 7 rfl rfl)
theorem dJ33_poll_8 : decode cJ33_poll 8 = .ok (.dup, 1) := dk_89 (dk_at dksJ33_poll_0 8 rfl rfl)
theorem dJ33_poll_9 : decode cJ33_poll 9 = .ok (.astore_n 2, 1) := dk_77 (dk_at dksJ33_poll_0 9 rfl rfl)
theorem dJ33_poll_10 : decode cJ33_poll 10 = .ok (.ifnull 69, 3) := dk_198 0 69 (dk_at dksJ33_poll_0 10 rfl rfl)
theorem dJ33_poll_13 : decode cJ33_poll 13 = .ok (.aload_n 0, 1) := dk_42 (dk_at dksJ33_poll_0 13 rfl rfl)
theorem dJ33_poll_14 : decode cJ33_poll 14 = .ok (.dup, 1) := dk_89 (dk_at dksJ33_poll_0 14 rfl rfl)
theorem dJ33_poll_15 : decode cJ33_poll 15 = .ok (.getfield 93, 3) := dk_180 0 93 (dk_at dksJ33_poll_0 15 rfl rfl)
theorem dJ33_poll_18 : decode cJ33_poll 18 = .ok (.iconst 1, 1) := dk_4 (dk_at dksJ33_poll_0 18 rfl rfl)
theorem dJ33_poll_19 : decode cJ33_poll 19 = .ok (.iadd, 1) := dk_96 (dk_at dksJ33_poll_0 19 rfl rfl)
theorem dJ33_poll_20 : decode cJ33_poll 20 = .ok (.putfield 93, 3) := dk_181 0 93 (dk_at dksJ33_poll_0 20 rfl rfl)
theorem dJ33_poll_23 : decode cJ33_poll 23 = .ok (.aload_n 1, 1) := dk_43 (dk_at dksJ33_poll_0 23 rfl rfl)
theorem dJ33_poll_24 : decode cJ33_poll 24 = .ok (.aload_n 0, 1) := dk_42 (dk_at dksJ33_poll_1 0 rfl rfl)
theorem dJ33_poll_25 : decode cJ33_poll 25 = .ok (.dup, 1) := dk_89 (dk_at dksJ33_poll_1 1 rfl rfl)
theorem dJ33_poll_26 : decode cJ33_poll 26 = .ok (.getfield 58, 3) := dk_180 0 58 (dk_at dksJ33_poll_1 2 rfl rfl)
theorem dJ33_poll_29 : decode cJ33_poll 29 = .ok (.iconst 1, 1) := dk_4 (dk_at dksJ33_poll_1 5 rfl rfl)
theorem dJ33_poll_30 : decode cJ33_poll 30 = .ok (.isub, 1) := dk_100 (dk_at dksJ33_poll_1 6 rfl rfl)
theorem dJ33_poll_31 : decode cJ33_poll 31 = .ok (.dup_x1, 1) := dk_90 (dk_at dksJ33_poll_1 7 rfl rfl)
theorem dJ33_poll_32 : decode cJ33_poll 32 = .ok (.putfield 58, 3) := dk_181 0 58 (dk_at dksJ33_poll_1 8 rfl rfl)
theorem dJ33_poll_35 : decode cJ33_poll 35 = .ok (.dup, 1) := dk_89 (dk_at dksJ33_poll_1 11 rfl rfl)
theorem dJ33_poll_36 : decode cJ33_poll 36 = .ok (.istore_n 3, 1) := dk_62 (dk_at dksJ33_poll_1 12 rfl rfl)
theorem dJ33_poll_37 : decode cJ33_poll 37 = .ok (.aaload, 1) := dk_50 (dk_at dksJ33_poll_1 13 rfl rfl)
theorem dJ33_poll_38 : decode cJ33_poll 38 = .ok (.astore 4, 2) := dk_58 4 (dk_at dksJ33_poll_1 14 rfl rfl)
theorem dJ33_poll_40 : decode cJ33_poll 40 = .ok (.aload_n 1, 1) := dk_43 (dk_at dksJ33_poll_1 16 rfl rfl)
theorem dJ33_poll_41 : decode cJ33_poll 41 = .ok (.iload_n 3, 1) := dk_29 (dk_at dksJ33_poll_1 17 rfl rfl)
theorem dJ33_poll_42 : decode cJ33_poll 42 = .ok (.aconst_null, 1) := dk_1 (dk_at dksJ33_poll_1 18 rfl rfl)
theorem dJ33_poll_43 : decode cJ33_poll 43 = .ok (.aastore, 1) := dk_83 (dk_at dksJ33_poll_1 19 rfl rfl)
theorem dJ33_poll_44 : decode cJ33_poll 44 = .ok (.iload_n 3, 1) := dk_29 (dk_at dksJ33_poll_1 20 rfl rfl)
theorem dJ33_poll_45 : decode cJ33_poll 45 = .ok (.ifCond .le 34, 3) := dk_158 0 34 (dk_at dksJ33_poll_1 21 rfl rfl)
theorem dJ33_poll_48 : decode cJ33_poll 48 = .ok (.aload_n 0, 1) := dk_42 (dk_at dksJ33_poll_2 0 rfl rfl)
theorem dJ33_poll_49 : decode cJ33_poll 49 = .ok (.getfield 21, 3) := dk_180 0 21 (dk_at dksJ33_poll_2 1 rfl rfl)
theorem dJ33_poll_52 : decode cJ33_poll 52 = .ok (.dup, 1) := dk_89 (dk_at dksJ33_poll_2 4 rfl rfl)
theorem dJ33_poll_53 : decode cJ33_poll 53 = .ok (.astore 5, 2) := dk_58 5 (dk_at dksJ33_poll_2 5 rfl rfl)
theorem dJ33_poll_55 : decode cJ33_poll 55 = .ok (.ifnonnull 14, 3) := dk_199 0 14 (dk_at dksJ33_poll_2 7 rfl rfl)
theorem dJ33_poll_58 : decode cJ33_poll 58 = .ok (.iconst 0, 1) := dk_3 (dk_at dksJ33_poll_2 10 rfl rfl)
theorem dJ33_poll_59 : decode cJ33_poll 59 = .ok (.aload 4, 2) := dk_25 4 (dk_at dksJ33_poll_2 11 rfl rfl)
theorem dJ33_poll_61 : decode cJ33_poll 61 = .ok (.aload_n 1, 1) := dk_43 (dk_at dksJ33_poll_2 13 rfl rfl)
theorem dJ33_poll_62 : decode cJ33_poll 62 = .ok (.iload_n 3, 1) := dk_29 (dk_at dksJ33_poll_2 14 rfl rfl)
theorem dJ33_poll_63 : decode cJ33_poll 63 = .ok (.invokestatic 125, 3) := dk_184 0 125 (dk_at dksJ33_poll_2 15 rfl rfl)
theorem dJ33_poll_66 : decode cJ33_poll 66 = .ok (.goto 13, 3) := dk_167 0 13 (dk_at dksJ33_poll_2 18 rfl rfl)
theorem dJ33_poll_69 : decode cJ33_poll 69 = .ok (.iconst 0, 1) := dk_3 (dk_at dksJ33_poll_2 21 rfl rfl)
theorem dJ33_poll_70 : decode cJ33_poll 70 = .ok (.aload 4, 2) := dk_25 4 (dk_at dksJ33_poll_2 22 rfl rfl)
theorem dJ33_poll_72 : decode cJ33_poll 72 = .ok (.aload_n 1, 1) := dk_43 (dk_at dksJ33_poll_3 0 rfl rfl)
theorem dJ33_poll_73 : decode cJ33_poll 73 = .ok (.iload_n 3, 1) := dk_29 (dk_at dksJ33_poll_3 1 rfl rfl)
theorem dJ33_poll_74 : decode cJ33_poll 74 = .ok (.aload 5, 2) := dk_25 5 (dk_at dksJ33_poll_3 2 rfl rfl)
theorem dJ33_poll_76 : decode cJ33_poll 76 = .ok (.invokestatic 129, 3) := dk_184 0 129 (dk_at dksJ33_poll_3 4 rfl rfl)
theorem dJ33_poll_79 : decode cJ33_poll 79 = .ok (.aload_n 2, 1) := dk_44 (dk_at dksJ33_poll_3 7 rfl rfl)
theorem dJ33_poll_80 : decode cJ33_poll 80 = .ok (.areturn, 1) := dk_176 (dk_at dksJ33_poll_3 8 rfl rfl)
abbrev cJ33_siftDownComparable : ByteArray := prog_67_method_31_code
def yJ33_siftDownComparable : MethodName := ⟨RJ33, "siftDownComparable", "(ILjava/lang/Object;[Ljava/lang/Object;I)V"⟩
def dkwJ33_siftDownComparable_4 : List UInt8 := [25, 4, 83, 177]
abbrev dktJ33_siftDownComparable_4 : List UInt8 := dkwJ33_siftDownComparable_4 ++ []
def dkwJ33_siftDownComparable_3 : List UInt8 := [185, 0, 146, 2, 0, 157, 0, 6, 167, 0, 14, 44, 26, 25, 7, 83, 21, 6, 59, 167, 255, 176, 44, 26]
abbrev dktJ33_siftDownComparable_3 : List UInt8 := dkwJ33_siftDownComparable_3 ++ dktJ33_siftDownComparable_4
def dkwJ33_siftDownComparable_2 : List UInt8 := [21, 8, 50, 185, 0, 146, 2, 0, 158, 0, 12, 44, 21, 8, 89, 54, 6, 50, 58, 7, 25, 4, 25, 7]
abbrev dktJ33_siftDownComparable_2 : List UInt8 := dkwJ33_siftDownComparable_2 ++ dktJ33_siftDownComparable_3
def dkwJ33_siftDownComparable_1 : List UInt8 := [44, 21, 6, 50, 58, 7, 21, 6, 4, 96, 54, 8, 21, 8, 29, 162, 0, 29, 25, 7, 192, 0, 144, 44]
abbrev dktJ33_siftDownComparable_1 : List UInt8 := dkwJ33_siftDownComparable_1 ++ dktJ33_siftDownComparable_2
def dkwJ33_siftDownComparable_0 : List UInt8 := [43, 192, 0, 144, 58, 4, 29, 4, 124, 54, 5, 26, 21, 5, 162, 0, 80, 26, 4, 120, 4, 96, 54, 6]
abbrev dktJ33_siftDownComparable_0 : List UInt8 := dkwJ33_siftDownComparable_0 ++ dktJ33_siftDownComparable_1
theorem dksJ33_siftDownComparable_0 : cJ33_siftDownComparable.data.toList.drop 0 = dktJ33_siftDownComparable_0 := by decide +kernel
theorem dksJ33_siftDownComparable_1 : cJ33_siftDownComparable.data.toList.drop 24 = dktJ33_siftDownComparable_1 := dk_seg dksJ33_siftDownComparable_0 24 rfl rfl
theorem dksJ33_siftDownComparable_2 : cJ33_siftDownComparable.data.toList.drop 48 = dktJ33_siftDownComparable_2 := dk_seg dksJ33_siftDownComparable_1 24 rfl rfl
theorem dksJ33_siftDownComparable_3 : cJ33_siftDownComparable.data.toList.drop 72 = dktJ33_siftDownComparable_3 := dk_seg dksJ33_siftDownComparable_2 24 rfl rfl
theorem dksJ33_siftDownComparable_4 : cJ33_siftDownComparable.data.toList.drop 96 = dktJ33_siftDownComparable_4 := dk_seg dksJ33_siftDownComparable_3 24 rfl rfl
theorem dJ33_siftDownComparable_0 : decode cJ33_siftDownComparable 0 = .ok (.aload_n 1, 1) := dk_43 (dk_at dksJ33_siftDownComparable_0 0 rfl rfl)
theorem dJ33_siftDownComparable_1 : decode cJ33_siftDownComparable 1 = .ok (.checkcast 144, 3) := dk_192 0 144 (dk_at dksJ33_siftDownComparable_0 1 rfl rfl)
theorem dJ33_siftDownComparable_4 : decode cJ33_siftDownComparable 4 = .ok (.astore 4, 2) := dk_58 4 (dk_at dksJ33_siftDownComparable_0 4 rfl rfl)
theorem dJ33_siftDownComparable_6 : decode cJ33_siftDownComparable 6 = .ok (.iload_n 3, 1) := dk_29 (dk_at dksJ33_siftDownComparable_0 6 rfl rfl)
theorem dJ33_siftDownComparable_7 : decode cJ33_siftDownComparable 7 = .ok (.iconst 1, 1) := dk_4 (dk_at dksJ33_siftDownComparable_0 7 rfl rfl)
theorem dJ33_siftDownComparable_8 : decode cJ33_siftDownComparable 8 = .ok (.iushr, 1) := dk_124 (dk_at dksJ33_siftDownComparable_0 8 rfl rfl)
theorem dJ33_siftDownComparable_9 : decode cJ33_siftDownComparable 9 = .ok (.istore 5, 2) := dk_54 5 (dk_at dksJ33_siftDownComparable_0 9 rfl rfl)
theorem dJ33_siftDownComparable_11 : decode cJ33_siftDownComparable 11 = .ok (.iload_n 0, 1) := dk_26 (dk_at dksJ33_siftDownComparable_0 11 rfl rfl)
theorem dJ33_siftDownComparable_12 : decode cJ33_siftDownComparable 12 = .ok (.iload 5, 2) := dk_21 5 (dk_at dksJ33_siftDownComparable_0 12 rfl rfl)
theorem dJ33_siftDownComparable_14 : decode cJ33_siftDownComparable 14 = .ok (.if_icmp .ge 80, 3) := dk_162 0 80 (dk_at dksJ33_siftDownComparable_0 14 rfl rfl)
theorem dJ33_siftDownComparable_17 : decode cJ33_siftDownComparable 17 = .ok (.iload_n 0, 1) := dk_26 (dk_at dksJ33_siftDownComparable_0 17 rfl rfl)
theorem dJ33_siftDownComparable_18 : decode cJ33_siftDownComparable 18 = .ok (.iconst 1, 1) := dk_4 (dk_at dksJ33_siftDownComparable_0 18 rfl rfl)
theorem dJ33_siftDownComparable_19 : decode cJ33_siftDownComparable 19 = .ok (.ishl, 1) := dk_120 (dk_at dksJ33_siftDownComparable_0 19 rfl rfl)
theorem dJ33_siftDownComparable_20 : decode cJ33_siftDownComparable 20 = .ok (.iconst 1, 1) := dk_4 (dk_at dksJ33_siftDownComparable_0 20 rfl rfl)
theorem dJ33_siftDownComparable_21 : decode cJ33_siftDownComparable 21 = .ok (.iadd, 1) := dk_96 (dk_at dksJ33_siftDownComparable_0 21 rfl rfl)
theorem dJ33_siftDownComparable_22 : decode cJ33_siftDownComparable 22 = .ok (.istore 6, 2) := dk_54 6 (dk_at dksJ33_siftDownComparable_0 22 rfl rfl)
theorem dJ33_siftDownComparable_24 : decode cJ33_siftDownComparable 24 = .ok (.aload_n 2, 1) := dk_44 (dk_at dksJ33_siftDownComparable_1 0 rfl rfl)
theorem dJ33_siftDownComparable_25 : decode cJ33_siftDownComparable 25 = .ok (.iload 6, 2) := dk_21 6 (dk_at dksJ33_siftDownComparable_1 1 rfl rfl)
theorem dJ33_siftDownComparable_27 : decode cJ33_siftDownComparable 27 = .ok (.aaload, 1) := dk_50 (dk_at dksJ33_siftDownComparable_1 3 rfl rfl)
theorem dJ33_siftDownComparable_28 : decode cJ33_siftDownComparable 28 = .ok (.astore 7, 2) := dk_58 7 (dk_at dksJ33_siftDownComparable_1 4 rfl rfl)
theorem dJ33_siftDownComparable_30 : decode cJ33_siftDownComparable 30 = .ok (.iload 6, 2) := dk_21 6 (dk_at dksJ33_siftDownComparable_1 6 rfl rfl)
theorem dJ33_siftDownComparable_32 : decode cJ33_siftDownComparable 32 = .ok (.iconst 1, 1) := dk_4 (dk_at dksJ33_siftDownComparable_1 8 rfl rfl)
theorem dJ33_siftDownComparable_33 : decode cJ33_siftDownComparable 33 = .ok (.iadd, 1) := dk_96 (dk_at dksJ33_siftDownComparable_1 9 rfl rfl)
theorem dJ33_siftDownComparable_34 : decode cJ33_siftDownComparable 34 = .ok (.istore 8, 2) := dk_54 8 (dk_at dksJ33_siftDownComparable_1 10 rfl rfl)
theorem dJ33_siftDownComparable_36 : decode cJ33_siftDownComparable 36 = .ok (.iload 8, 2) := dk_21 8 (dk_at dksJ33_siftDownComparable_1 12 rfl rfl)
theorem dJ33_siftDownComparable_38 : decode cJ33_siftDownComparable 38 = .ok (.iload_n 3, 1) := dk_29 (dk_at dksJ33_siftDownComparable_1 14 rfl rfl)
theorem dJ33_siftDownComparable_39 : decode cJ33_siftDownComparable 39 = .ok (.if_icmp .ge 29, 3) := dk_162 0 29 (dk_at dksJ33_siftDownComparable_1 15 rfl rfl)
theorem dJ33_siftDownComparable_42 : decode cJ33_siftDownComparable 42 = .ok (.aload 7, 2) := dk_25 7 (dk_at dksJ33_siftDownComparable_1 18 rfl rfl)
theorem dJ33_siftDownComparable_44 : decode cJ33_siftDownComparable 44 = .ok (.checkcast 144, 3) := dk_192 0 144 (dk_at dksJ33_siftDownComparable_1 20 rfl rfl)
theorem dJ33_siftDownComparable_47 : decode cJ33_siftDownComparable 47 = .ok (.aload_n 2, 1) := dk_44 (dk_at dksJ33_siftDownComparable_1 23 rfl rfl)
theorem dJ33_siftDownComparable_48 : decode cJ33_siftDownComparable 48 = .ok (.iload 8, 2) := dk_21 8 (dk_at dksJ33_siftDownComparable_2 0 rfl rfl)
theorem dJ33_siftDownComparable_50 : decode cJ33_siftDownComparable 50 = .ok (.aaload, 1) := dk_50 (dk_at dksJ33_siftDownComparable_2 2 rfl rfl)
theorem dJ33_siftDownComparable_51 : decode cJ33_siftDownComparable 51 = .ok (.invokeinterface 146 2, 5) := by decide +kernel
theorem dJ33_siftDownComparable_56 : decode cJ33_siftDownComparable 56 = .ok (.ifCond .le 12, 3) := dk_158 0 12 (dk_at dksJ33_siftDownComparable_2 8 rfl rfl)
theorem dJ33_siftDownComparable_59 : decode cJ33_siftDownComparable 59 = .ok (.aload_n 2, 1) := dk_44 (dk_at dksJ33_siftDownComparable_2 11 rfl rfl)
theorem dJ33_siftDownComparable_60 : decode cJ33_siftDownComparable 60 = .ok (.iload 8, 2) := dk_21 8 (dk_at dksJ33_siftDownComparable_2 12 rfl rfl)
theorem dJ33_siftDownComparable_62 : decode cJ33_siftDownComparable 62 = .ok (.dup, 1) := dk_89 (dk_at dksJ33_siftDownComparable_2 14 rfl rfl)
theorem dJ33_siftDownComparable_63 : decode cJ33_siftDownComparable 63 = .ok (.istore 6, 2) := dk_54 6 (dk_at dksJ33_siftDownComparable_2 15 rfl rfl)
theorem dJ33_siftDownComparable_65 : decode cJ33_siftDownComparable 65 = .ok (.aaload, 1) := dk_50 (dk_at dksJ33_siftDownComparable_2 17 rfl rfl)
theorem dJ33_siftDownComparable_66 : decode cJ33_siftDownComparable 66 = .ok (.astore 7, 2) := dk_58 7 (dk_at dksJ33_siftDownComparable_2 18 rfl rfl)
theorem dJ33_siftDownComparable_68 : decode cJ33_siftDownComparable 68 = .ok (.aload 4, 2) := dk_25 4 (dk_at dksJ33_siftDownComparable_2 20 rfl rfl)
theorem dJ33_siftDownComparable_70 : decode cJ33_siftDownComparable 70 = .ok (.aload 7, 2) := dk_25 7 (dk_at dksJ33_siftDownComparable_2 22 rfl rfl)
theorem dJ33_siftDownComparable_72 : decode cJ33_siftDownComparable 72 = .ok (.invokeinterface 146 2, 5) := by decide +kernel
theorem dJ33_siftDownComparable_77 : decode cJ33_siftDownComparable 77 = .ok (.ifCond .gt 6, 3) := dk_157 0 6 (dk_at dksJ33_siftDownComparable_3 5 rfl rfl)
theorem dJ33_siftDownComparable_80 : decode cJ33_siftDownComparable 80 = .ok (.goto 14, 3) := dk_167 0 14 (dk_at dksJ33_siftDownComparable_3 8 rfl rfl)
theorem dJ33_siftDownComparable_83 : decode cJ33_siftDownComparable 83 = .ok (.aload_n 2, 1) := dk_44 (dk_at dksJ33_siftDownComparable_3 11 rfl rfl)
theorem dJ33_siftDownComparable_84 : decode cJ33_siftDownComparable 84 = .ok (.iload_n 0, 1) := dk_26 (dk_at dksJ33_siftDownComparable_3 12 rfl rfl)
theorem dJ33_siftDownComparable_85 : decode cJ33_siftDownComparable 85 = .ok (.aload 7, 2) := dk_25 7 (dk_at dksJ33_siftDownComparable_3 13 rfl rfl)
theorem dJ33_siftDownComparable_87 : decode cJ33_siftDownComparable 87 = .ok (.aastore, 1) := dk_83 (dk_at dksJ33_siftDownComparable_3 15 rfl rfl)
theorem dJ33_siftDownComparable_88 : decode cJ33_siftDownComparable 88 = .ok (.iload 6, 2) := dk_21 6 (dk_at dksJ33_siftDownComparable_3 16 rfl rfl)
theorem dJ33_siftDownComparable_90 : decode cJ33_siftDownComparable 90 = .ok (.istore_n 0, 1) := dk_59 (dk_at dksJ33_siftDownComparable_3 18 rfl rfl)
theorem dJ33_siftDownComparable_91 : decode cJ33_siftDownComparable 91 = .ok (.goto (-80), 3) := dk_167 255 176 (dk_at dksJ33_siftDownComparable_3 19 rfl rfl)
theorem dJ33_siftDownComparable_94 : decode cJ33_siftDownComparable 94 = .ok (.aload_n 2, 1) := dk_44 (dk_at dksJ33_siftDownComparable_3 22 rfl rfl)
theorem dJ33_siftDownComparable_95 : decode cJ33_siftDownComparable 95 = .ok (.iload_n 0, 1) := dk_26 (dk_at dksJ33_siftDownComparable_3 23 rfl rfl)
theorem dJ33_siftDownComparable_96 : decode cJ33_siftDownComparable 96 = .ok (.aload 4, 2) := dk_25 4 (dk_at dksJ33_siftDownComparable_4 0 rfl rfl)
theorem dJ33_siftDownComparable_98 : decode cJ33_siftDownComparable 98 = .ok (.aastore, 1) := dk_83 (dk_at dksJ33_siftDownComparable_4 2 rfl rfl)
theorem dJ33_siftDownComparable_99 : decode cJ33_siftDownComparable 99 = .ok (.return_, 1) := dk_177 (dk_at dksJ33_siftDownComparable_4 3 rfl rfl)
abbrev cJ33_siftDownUsingComparator : ByteArray := prog_67_method_32_code
def yJ33_siftDownUsingComparator : MethodName := ⟨RJ33, "siftDownUsingComparator", "(ILjava/lang/Object;[Ljava/lang/Object;ILjava/util/Comparator;)V"⟩
def dkwJ33_siftDownUsingComparator_4 : List UInt8 := [43, 83, 177]
abbrev dktJ33_siftDownUsingComparator_4 : List UInt8 := dkwJ33_siftDownUsingComparator_4 ++ []
def dkwJ33_siftDownUsingComparator_3 : List UInt8 := [185, 0, 149, 3, 0, 157, 0, 6, 167, 0, 14, 44, 26, 25, 7, 83, 21, 6, 59, 167, 255, 176, 44, 26]
abbrev dktJ33_siftDownUsingComparator_3 : List UInt8 := dkwJ33_siftDownUsingComparator_3 ++ dktJ33_siftDownUsingComparator_4
def dkwJ33_siftDownUsingComparator_2 : List UInt8 := [185, 0, 149, 3, 0, 158, 0, 12, 44, 21, 8, 89, 54, 6, 50, 58, 7, 25, 4, 43, 25, 7]
abbrev dktJ33_siftDownUsingComparator_2 : List UInt8 := dkwJ33_siftDownUsingComparator_2 ++ dktJ33_siftDownUsingComparator_3
def dkwJ33_siftDownUsingComparator_1 : List UInt8 := [21, 6, 4, 96, 54, 8, 21, 8, 29, 162, 0, 28, 25, 4, 25, 7, 44, 21, 8, 50]
abbrev dktJ33_siftDownUsingComparator_1 : List UInt8 := dkwJ33_siftDownUsingComparator_1 ++ dktJ33_siftDownUsingComparator_2
def dkwJ33_siftDownUsingComparator_0 : List UInt8 := [29, 4, 124, 54, 5, 26, 21, 5, 162, 0, 80, 26, 4, 120, 4, 96, 54, 6, 44, 21, 6, 50, 58, 7]
abbrev dktJ33_siftDownUsingComparator_0 : List UInt8 := dkwJ33_siftDownUsingComparator_0 ++ dktJ33_siftDownUsingComparator_1
theorem dksJ33_siftDownUsingComparator_0 : cJ33_siftDownUsingComparator.data.toList.drop 0 = dktJ33_siftDownUsingComparator_0 := by decide +kernel
theorem dksJ33_siftDownUsingComparator_1 : cJ33_siftDownUsingComparator.data.toList.drop 24 = dktJ33_siftDownUsingComparator_1 := dk_seg dksJ33_siftDownUsingComparator_0 24 rfl rfl
theorem dksJ33_siftDownUsingComparator_2 : cJ33_siftDownUsingComparator.data.toList.drop 44 = dktJ33_siftDownUsingComparator_2 := dk_seg dksJ33_siftDownUsingComparator_1 20 rfl rfl
theorem dksJ33_siftDownUsingComparator_3 : cJ33_siftDownUsingComparator.data.toList.drop 66 = dktJ33_siftDownUsingComparator_3 := dk_seg dksJ33_siftDownUsingComparator_2 22 rfl rfl
theorem dksJ33_siftDownUsingComparator_4 : cJ33_siftDownUsingComparator.data.toList.drop 90 = dktJ33_siftDownUsingComparator_4 := dk_seg dksJ33_siftDownUsingComparator_3 24 rfl rfl
theorem dJ33_siftDownUsingComparator_0 : decode cJ33_siftDownUsingComparator 0 = .ok (.iload_n 3, 1) := dk_29 (dk_at dksJ33_siftDownUsingComparator_0 0 rfl rfl)
theorem dJ33_siftDownUsingComparator_1 : decode cJ33_siftDownUsingComparator 1 = .ok (.iconst 1, 1) := dk_4 (dk_at dksJ33_siftDownUsingComparator_0 1 rfl rfl)
theorem dJ33_siftDownUsingComparator_2 : decode cJ33_siftDownUsingComparator 2 = .ok (.iushr, 1) := dk_124 (dk_at dksJ33_siftDownUsingComparator_0 2 rfl rfl)
theorem dJ33_siftDownUsingComparator_3 : decode cJ33_siftDownUsingComparator 3 = .ok (.istore 5, 2) := dk_54 5 (dk_at dksJ33_siftDownUsingComparator_0 3 rfl rfl)
theorem dJ33_siftDownUsingComparator_5 : decode cJ33_siftDownUsingComparator 5 = .ok (.iload_n 0, 1) := dk_26 (dk_at dksJ33_siftDownUsingComparator_0 5 rfl rfl)
theorem dJ33_siftDownUsingComparator_6 : decode cJ33_siftDownUsingComparator 6 = .ok (.iload 5, 2) := dk_21 5 (dk_at dksJ33_siftDownUsingComparator_0 6 rfl rfl)
theorem dJ33_siftDownUsingComparator_8 : decode cJ33_siftDownUsingComparator 8 = .ok (.if_icmp .ge 80, 3) := dk_162 0 80 (dk_at dksJ33_siftDownUsingComparator_0 8 rfl rfl)
theorem dJ33_siftDownUsingComparator_11 : decode cJ33_siftDownUsingComparator 11 = .ok (.iload_n 0, 1) := dk_26 (dk_at dksJ33_siftDownUsingComparator_0 11 rfl rfl)
theorem dJ33_siftDownUsingComparator_12 : decode cJ33_siftDownUsingComparator 12 = .ok (.iconst 1, 1) := dk_4 (dk_at dksJ33_siftDownUsingComparator_0 12 rfl rfl)
theorem dJ33_siftDownUsingComparator_13 : decode cJ33_siftDownUsingComparator 13 = .ok (.ishl, 1) := dk_120 (dk_at dksJ33_siftDownUsingComparator_0 13 rfl rfl)
theorem dJ33_siftDownUsingComparator_14 : decode cJ33_siftDownUsingComparator 14 = .ok (.iconst 1, 1) := dk_4 (dk_at dksJ33_siftDownUsingComparator_0 14 rfl rfl)
theorem dJ33_siftDownUsingComparator_15 : decode cJ33_siftDownUsingComparator 15 = .ok (.iadd, 1) := dk_96 (dk_at dksJ33_siftDownUsingComparator_0 15 rfl rfl)
theorem dJ33_siftDownUsingComparator_16 : decode cJ33_siftDownUsingComparator 16 = .ok (.istore 6, 2) := dk_54 6 (dk_at dksJ33_siftDownUsingComparator_0 16 rfl rfl)
theorem dJ33_siftDownUsingComparator_18 : decode cJ33_siftDownUsingComparator 18 = .ok (.aload_n 2, 1) := dk_44 (dk_at dksJ33_siftDownUsingComparator_0 18 rfl rfl)
theorem dJ33_siftDownUsingComparator_19 : decode cJ33_siftDownUsingComparator 19 = .ok (.iload 6, 2) := dk_21 6 (dk_at dksJ33_siftDownUsingComparator_0 19 rfl rfl)
theorem dJ33_siftDownUsingComparator_21 : decode cJ33_siftDownUsingComparator 21 = .ok (.aaload, 1) := dk_50 (dk_at dksJ33_siftDownUsingComparator_0 21 rfl rfl)
theorem dJ33_siftDownUsingComparator_22 : decode cJ33_siftDownUsingComparator 22 = .ok (.astore 7, 2) := dk_58 7 (dk_at dksJ33_siftDownUsingComparator_0 22 rfl rfl)
theorem dJ33_siftDownUsingComparator_24 : decode cJ33_siftDownUsingComparator 24 = .ok (.iload 6, 2) := dk_21 6 (dk_at dksJ33_siftDownUsingComparator_1 0 rfl rfl)
theorem dJ33_siftDownUsingComparator_26 : decode cJ33_siftDownUsingComparator 26 = .ok (.iconst 1, 1) := dk_4 (dk_at dksJ33_siftDownUsingComparator_1 2 rfl rfl)
theorem dJ33_siftDownUsingComparator_27 : decode cJ33_siftDownUsingComparator 27 = .ok (.iadd, 1) := dk_96 (dk_at dksJ33_siftDownUsingComparator_1 3 rfl rfl)
theorem dJ33_siftDownUsingComparator_28 : decode cJ33_siftDownUsingComparator 28 = .ok (.istore 8, 2) := dk_54 8 (dk_at dksJ33_siftDownUsingComparator_1 4 rfl rfl)
theorem dJ33_siftDownUsingComparator_30 : decode cJ33_siftDownUsingComparator 30 = .ok (.iload 8, 2) := dk_21 8 (dk_at dksJ33_siftDownUsingComparator_1 6 rfl rfl)
theorem dJ33_siftDownUsingComparator_32 : decode cJ33_siftDownUsingComparator 32 = .ok (.iload_n 3, 1) := dk_29 (dk_at dksJ33_siftDownUsingComparator_1 8 rfl rfl)
theorem dJ33_siftDownUsingComparator_33 : decode cJ33_siftDownUsingComparator 33 = .ok (.if_icmp .ge 28, 3) := dk_162 0 28 (dk_at dksJ33_siftDownUsingComparator_1 9 rfl rfl)
theorem dJ33_siftDownUsingComparator_36 : decode cJ33_siftDownUsingComparator 36 = .ok (.aload 4, 2) := dk_25 4 (dk_at dksJ33_siftDownUsingComparator_1 12 rfl rfl)
theorem dJ33_siftDownUsingComparator_38 : decode cJ33_siftDownUsingComparator 38 = .ok (.aload 7, 2) := dk_25 7 (dk_at dksJ33_siftDownUsingComparator_1 14 rfl rfl)
theorem dJ33_siftDownUsingComparator_40 : decode cJ33_siftDownUsingComparator 40 = .ok (.aload_n 2, 1) := dk_44 (dk_at dksJ33_siftDownUsingComparator_1 16 rfl rfl)
theorem dJ33_siftDownUsingComparator_41 : decode cJ33_siftDownUsingComparator 41 = .ok (.iload 8, 2) := dk_21 8 (dk_at dksJ33_siftDownUsingComparator_1 17 rfl rfl)
theorem dJ33_siftDownUsingComparator_43 : decode cJ33_siftDownUsingComparator 43 = .ok (.aaload, 1) := dk_50 (dk_at dksJ33_siftDownUsingComparator_1 19 rfl rfl)
theorem dJ33_siftDownUsingComparator_44 : decode cJ33_siftDownUsingComparator 44 = .ok (.invokeinterface 149 3, 5) := by decide +kernel
theorem dJ33_siftDownUsingComparator_49 : decode cJ33_siftDownUsingComparator 49 = .ok (.ifCond .le 12, 3) := dk_158 0 12 (dk_at dksJ33_siftDownUsingComparator_2 5 rfl rfl)
theorem dJ33_siftDownUsingComparator_52 : decode cJ33_siftDownUsingComparator 52 = .ok (.aload_n 2, 1) := dk_44 (dk_at dksJ33_siftDownUsingComparator_2 8 rfl rfl)
theorem dJ33_siftDownUsingComparator_53 : decode cJ33_siftDownUsingComparator 53 = .ok (.iload 8, 2) := dk_21 8 (dk_at dksJ33_siftDownUsingComparator_2 9 rfl rfl)
theorem dJ33_siftDownUsingComparator_55 : decode cJ33_siftDownUsingComparator 55 = .ok (.dup, 1) := dk_89 (dk_at dksJ33_siftDownUsingComparator_2 11 rfl rfl)
theorem dJ33_siftDownUsingComparator_56 : decode cJ33_siftDownUsingComparator 56 = .ok (.istore 6, 2) := dk_54 6 (dk_at dksJ33_siftDownUsingComparator_2 12 rfl rfl)
theorem dJ33_siftDownUsingComparator_58 : decode cJ33_siftDownUsingComparator 58 = .ok (.aaload, 1) := dk_50 (dk_at dksJ33_siftDownUsingComparator_2 14 rfl rfl)
theorem dJ33_siftDownUsingComparator_59 : decode cJ33_siftDownUsingComparator 59 = .ok (.astore 7, 2) := dk_58 7 (dk_at dksJ33_siftDownUsingComparator_2 15 rfl rfl)
theorem dJ33_siftDownUsingComparator_61 : decode cJ33_siftDownUsingComparator 61 = .ok (.aload 4, 2) := dk_25 4 (dk_at dksJ33_siftDownUsingComparator_2 17 rfl rfl)
theorem dJ33_siftDownUsingComparator_63 : decode cJ33_siftDownUsingComparator 63 = .ok (.aload_n 1, 1) := dk_43 (dk_at dksJ33_siftDownUsingComparator_2 19 rfl rfl)
theorem dJ33_siftDownUsingComparator_64 : decode cJ33_siftDownUsingComparator 64 = .ok (.aload 7, 2) := dk_25 7 (dk_at dksJ33_siftDownUsingComparator_2 20 rfl rfl)
theorem dJ33_siftDownUsingComparator_66 : decode cJ33_siftDownUsingComparator 66 = .ok (.invokeinterface 149 3, 5) := by decide +kernel
theorem dJ33_siftDownUsingComparator_71 : decode cJ33_siftDownUsingComparator 71 = .ok (.ifCond .gt 6, 3) := dk_157 0 6 (dk_at dksJ33_siftDownUsingComparator_3 5 rfl rfl)
theorem dJ33_siftDownUsingComparator_74 : decode cJ33_siftDownUsingComparator 74 = .ok (.goto 14, 3) := dk_167 0 14 (dk_at dksJ33_siftDownUsingComparator_3 8 rfl rfl)
theorem dJ33_siftDownUsingComparator_77 : decode cJ33_siftDownUsingComparator 77 = .ok (.aload_n 2, 1) := dk_44 (dk_at dksJ33_siftDownUsingComparator_3 11 rfl rfl)
theorem dJ33_siftDownUsingComparator_78 : decode cJ33_siftDownUsingComparator 78 = .ok (.iload_n 0, 1) := dk_26 (dk_at dksJ33_siftDownUsingComparator_3 12 rfl rfl)
theorem dJ33_siftDownUsingComparator_79 : decode cJ33_siftDownUsingComparator 79 = .ok (.aload 7, 2) := dk_25 7 (dk_at dksJ33_siftDownUsingComparator_3 13 rfl rfl)
theorem dJ33_siftDownUsingComparator_81 : decode cJ33_siftDownUsingComparator 81 = .ok (.aastore, 1) := dk_83 (dk_at dksJ33_siftDownUsingComparator_3 15 rfl rfl)
theorem dJ33_siftDownUsingComparator_82 : decode cJ33_siftDownUsingComparator 82 = .ok (.iload 6, 2) := dk_21 6 (dk_at dksJ33_siftDownUsingComparator_3 16 rfl rfl)
theorem dJ33_siftDownUsingComparator_84 : decode cJ33_siftDownUsingComparator 84 = .ok (.istore_n 0, 1) := dk_59 (dk_at dksJ33_siftDownUsingComparator_3 18 rfl rfl)
theorem dJ33_siftDownUsingComparator_85 : decode cJ33_siftDownUsingComparator 85 = .ok (.goto (-80), 3) := dk_167 255 176 (dk_at dksJ33_siftDownUsingComparator_3 19 rfl rfl)
theorem dJ33_siftDownUsingComparator_88 : decode cJ33_siftDownUsingComparator 88 = .ok (.aload_n 2, 1) := dk_44 (dk_at dksJ33_siftDownUsingComparator_3 22 rfl rfl)
theorem dJ33_siftDownUsingComparator_89 : decode cJ33_siftDownUsingComparator 89 = .ok (.iload_n 0, 1) := dk_26 (dk_at dksJ33_siftDownUsingComparator_3 23 rfl rfl)
theorem dJ33_siftDownUsingComparator_90 : decode cJ33_siftDownUsingComparator 90 = .ok (.aload_n 1, 1) := dk_43 (dk_at dksJ33_siftDownUsingComparator_4 0 rfl rfl)
theorem dJ33_siftDownUsingComparator_91 : decode cJ33_siftDownUsingComparator 91 = .ok (.aastore, 1) := dk_83 (dk_at dksJ33_siftDownUsingComparator_4 1 rfl rfl)
theorem dJ33_siftDownUsingComparator_92 : decode cJ33_siftDownUsingComparator 92 = .ok (.return_, 1) := dk_177 (dk_at dksJ33_siftDownUsingComparator_4 2 rfl rfl)
abbrev cJ33_toArray : ByteArray := prog_67_method_20_code
def yJ33_toArray : MethodName := ⟨RJ33, "toArray", "()[Ljava/lang/Object;"⟩
def dkwJ33_toArray_0 : List UInt8 := [42, 180, 0, 17, 42, 180, 0, 58, 184, 0, 86, 176]
abbrev dktJ33_toArray_0 : List UInt8 := dkwJ33_toArray_0 ++ []
theorem dksJ33_toArray_0 : cJ33_toArray.data.toList.drop 0 = dktJ33_toArray_0 := by decide +kernel
theorem dJ33_toArray_0 : decode cJ33_toArray 0 = .ok (.aload_n 0, 1) := dk_42 (dk_at dksJ33_toArray_0 0 rfl rfl)
theorem dJ33_toArray_1 : decode cJ33_toArray 1 = .ok (.getfield 17, 3) := dk_180 0 17 (dk_at dksJ33_toArray_0 1 rfl rfl)
theorem dJ33_toArray_4 : decode cJ33_toArray 4 = .ok (.aload_n 0, 1) := dk_42 (dk_at dksJ33_toArray_0 4 rfl rfl)
theorem dJ33_toArray_5 : decode cJ33_toArray 5 = .ok (.getfield 58, 3) := dk_180 0 58 (dk_at dksJ33_toArray_0 5 rfl rfl)
theorem dJ33_toArray_8 : decode cJ33_toArray 8 = .ok (.invokestatic 86, 3) := dk_184 0 86 (dk_at dksJ33_toArray_0 8 rfl rfl)
theorem dJ33_toArray_11 : decode cJ33_toArray 11 = .ok (.areturn, 1) := dk_176 (dk_at dksJ33_toArray_0 11 rfl rfl)
abbrev cJ33_iterator : ByteArray := prog_67_method_22_code
def yJ33_iterator : MethodName := ⟨RJ33, "iterator", "()Ljava/util/Iterator;"⟩
def dkwJ33_iterator_0 : List UInt8 := [187, 0, 121, 89, 42, 183, 0, 123, 176]
abbrev dktJ33_iterator_0 : List UInt8 := dkwJ33_iterator_0 ++ []
theorem dksJ33_iterator_0 : cJ33_iterator.data.toList.drop 0 = dktJ33_iterator_0 := by decide +kernel
theorem dJ33_iterator_0 : decode cJ33_iterator 0 = .ok (.new 121, 3) := dk_187 0 121 (dk_at dksJ33_iterator_0 0 rfl rfl)
theorem dJ33_iterator_3 : decode cJ33_iterator 3 = .ok (.dup, 1) := dk_89 (dk_at dksJ33_iterator_0 3 rfl rfl)
theorem dJ33_iterator_4 : decode cJ33_iterator 4 = .ok (.aload_n 0, 1) := dk_42 (dk_at dksJ33_iterator_0 4 rfl rfl)
theorem dJ33_iterator_5 : decode cJ33_iterator 5 = .ok (.invokespecial 123, 3) := dk_183 0 123 (dk_at dksJ33_iterator_0 5 rfl rfl)
theorem dJ33_iterator_8 : decode cJ33_iterator 8 = .ok (.areturn, 1) := dk_176 (dk_at dksJ33_iterator_0 8 rfl rfl)
theorem q134 : (Jvm.Cond.initialized "java/util/PriorityQueue") ∈ lw_all := lw_g (lw_at lw_m1 41 rfl) rfl
theorem q628 : (Jvm.Cond.instantiable "java/util/PriorityQueue" (4 : Nat)) ∈ lw_all := lw_g (lw_at lw_m3 55 rfl) rfl
theorem q640 : (Jvm.Cond.instanceMethod ({ cls := "java/util/PriorityQueue", name := "<init>", desc := "(Ljava/util/Comparator;)V" } : Jvm.MethodName)) ∈ lw_all := lw_g (lw_at lw_m3 67 rfl) rfl
theorem q641 : (Jvm.Cond.code ({ cls := "java/util/PriorityQueue", name := "<init>", desc := "(Ljava/util/Comparator;)V" } : Jvm.MethodName) prog_67_method_3_code (2 : Nat) (Option.none : Option Jvm.ClassFile.FieldType)) ∈ lw_all := lw_g (lw_at lw_m3 68 rfl) rfl
theorem q642 : (Jvm.Cond.methodLink "java/util/PriorityQueue" (3 : Nat) ({ cls := "java/util/PriorityQueue", name := "<init>", desc := "(ILjava/util/Comparator;)V" } : Jvm.MethodName)) ∈ lw_all := lw_g (lw_at lw_m3 69 rfl) rfl
theorem q643 : (Jvm.Cond.instanceMethod ({ cls := "java/util/PriorityQueue", name := "<init>", desc := "(ILjava/util/Comparator;)V" } : Jvm.MethodName)) ∈ lw_all := lw_g (lw_at lw_m3 70 rfl) rfl
theorem q644 : (Jvm.Cond.code ({ cls := "java/util/PriorityQueue", name := "<init>", desc := "(ILjava/util/Comparator;)V" } : Jvm.MethodName) prog_67_method_4_code (3 : Nat) (Option.none : Option Jvm.ClassFile.FieldType)) ∈ lw_all := lw_g (lw_at lw_m3 71 rfl) rfl
theorem q645 : (Jvm.Cond.methodLink "java/util/PriorityQueue" (7 : Nat) ({ cls := "java/util/AbstractQueue", name := "<init>", desc := "()V" } : Jvm.MethodName)) ∈ lw_all := lw_g (lw_at lw_m3 72 rfl) rfl
theorem q649 : (Jvm.Cond.classLink "java/util/PriorityQueue" (12 : Nat) "java/lang/IllegalArgumentException") ∈ lw_all := lw_g (lw_at lw_m3 76 rfl) rfl
theorem q658 : (Jvm.Cond.methodLink "java/util/PriorityQueue" (14 : Nat) ({ cls := "java/lang/IllegalArgumentException", name := "<init>", desc := "()V" } : Jvm.MethodName)) ∈ lw_all := lw_g (lw_at lw_m3 85 rfl) rfl
theorem q664 : (Jvm.Cond.classLink "java/util/PriorityQueue" (15 : Nat) "java/lang/Object") ∈ lw_all := lw_g (lw_at lw_m3 91 rfl) rfl
theorem q666 : (Jvm.Cond.fieldLink "java/util/PriorityQueue" (17 : Nat) "java/util/PriorityQueue" "queue" "[Ljava/lang/Object;") ∈ lw_all := lw_g (lw_at lw_m3 93 rfl) rfl
theorem q668 : (Jvm.Cond.fieldLink "java/util/PriorityQueue" (58 : Nat) "java/util/PriorityQueue" "size" "I") ∈ lw_all := lw_g (lw_at lw_m3 95 rfl) rfl
theorem q669 : (Jvm.Cond.fieldLink "java/util/PriorityQueue" (21 : Nat) "java/util/PriorityQueue" "comparator" "Ljava/util/Comparator;") ∈ lw_all := lw_g (lw_at lw_m3 96 rfl) rfl
theorem q671 : (Jvm.Cond.fieldLink "java/util/PriorityQueue" (93 : Nat) "java/util/PriorityQueue" "modCount" "I") ∈ lw_all := lw_g (lw_at lw_m3 98 rfl) rfl
theorem q672 : (Jvm.Cond.lays "java/util/PriorityQueue" "java/util/PriorityQueue" "queue" "[Ljava/lang/Object;") ∈ lw_all := lw_g (lw_at lw_m3 99 rfl) rfl
theorem q673 : (Jvm.Cond.soleField "java/util/PriorityQueue" "queue") ∈ lw_all := lw_g (lw_at lw_m3 100 rfl) rfl
theorem q674 : (Jvm.Cond.lays "java/util/PriorityQueue" "java/util/PriorityQueue" "size" "I") ∈ lw_all := lw_g (lw_at lw_m3 101 rfl) rfl
theorem q675 : (Jvm.Cond.soleField "java/util/PriorityQueue" "size") ∈ lw_all := lw_g (lw_at lw_m3 102 rfl) rfl
theorem q676 : (Jvm.Cond.laysFinal "java/util/PriorityQueue" "java/util/PriorityQueue" "comparator" "Ljava/util/Comparator;") ∈ lw_all := lw_g (lw_at lw_m3 103 rfl) rfl
theorem q677 : (Jvm.Cond.soleField "java/util/PriorityQueue" "comparator") ∈ lw_all := lw_g (lw_at lw_m3 104 rfl) rfl
theorem q678 : (Jvm.Cond.lays "java/util/PriorityQueue" "java/util/PriorityQueue" "modCount" "I") ∈ lw_all := lw_g (lw_at lw_m3 105 rfl) rfl
theorem q679 : (Jvm.Cond.soleField "java/util/PriorityQueue" "modCount") ∈ lw_all := lw_g (lw_at lw_m3 106 rfl) rfl
theorem q680 : (Jvm.Cond.superclass "java/util/PriorityQueue" "java/util/AbstractQueue") ∈ lw_all := lw_g (lw_at lw_m3 107 rfl) rfl
theorem q682 : (Jvm.Cond.instanceMethod ({ cls := "java/util/PriorityQueue", name := "add", desc := "(Ljava/lang/Object;)Z" } : Jvm.MethodName)) ∈ lw_all := lw_g (lw_at lw_m3 109 rfl) rfl
theorem q683 : (Jvm.Cond.selects "java/util/PriorityQueue" ({ cls := "java/util/PriorityQueue", name := "add", desc := "(Ljava/lang/Object;)Z" } : Jvm.MethodName) ({ cls := "java/util/PriorityQueue", name := "add", desc := "(Ljava/lang/Object;)Z" } : Jvm.MethodName)) ∈ lw_all := lw_g (lw_at lw_m3 110 rfl) rfl
theorem q684 : (Jvm.Cond.code ({ cls := "java/util/PriorityQueue", name := "add", desc := "(Ljava/lang/Object;)Z" } : Jvm.MethodName) prog_67_method_13_code (2 : Nat) (Option.some Jvm.ClassFile.FieldType.boolean)) ∈ lw_all := lw_g (lw_at lw_m3 111 rfl) rfl
theorem q685 : (Jvm.Cond.methodLink "java/util/PriorityQueue" (89 : Nat) ({ cls := "java/util/PriorityQueue", name := "offer", desc := "(Ljava/lang/Object;)Z" } : Jvm.MethodName)) ∈ lw_all := lw_g (lw_at lw_m3 112 rfl) rfl
theorem q686 : (Jvm.Cond.instanceMethod ({ cls := "java/util/PriorityQueue", name := "offer", desc := "(Ljava/lang/Object;)Z" } : Jvm.MethodName)) ∈ lw_all := lw_g (lw_at lw_m3 113 rfl) rfl
theorem q687 : (Jvm.Cond.selects "java/util/PriorityQueue" ({ cls := "java/util/PriorityQueue", name := "offer", desc := "(Ljava/lang/Object;)Z" } : Jvm.MethodName) ({ cls := "java/util/PriorityQueue", name := "offer", desc := "(Ljava/lang/Object;)Z" } : Jvm.MethodName)) ∈ lw_all := lw_g (lw_at lw_m3 114 rfl) rfl
theorem q688 : (Jvm.Cond.code ({ cls := "java/util/PriorityQueue", name := "offer", desc := "(Ljava/lang/Object;)Z" } : Jvm.MethodName) prog_67_method_14_code (3 : Nat) (Option.some Jvm.ClassFile.FieldType.boolean)) ∈ lw_all := lw_g (lw_at lw_m3 115 rfl) rfl
theorem q689 : (Jvm.Cond.methodLink "java/util/PriorityQueue" (96 : Nat) ({ cls := "java/util/PriorityQueue", name := "grow", desc := "(I)V" } : Jvm.MethodName)) ∈ lw_all := lw_g (lw_at lw_m3 116 rfl) rfl
theorem q690 : (Jvm.Cond.privateMethod ({ cls := "java/util/PriorityQueue", name := "grow", desc := "(I)V" } : Jvm.MethodName)) ∈ lw_tbl := lw_at lw_m3 117 rfl
theorem q691 : (Jvm.Cond.instanceMethod ({ cls := "java/util/PriorityQueue", name := "grow", desc := "(I)V" } : Jvm.MethodName)) ∈ lw_all := lw_g (lw_at lw_m3 118 rfl) rfl
theorem q692 : (Jvm.Cond.code ({ cls := "java/util/PriorityQueue", name := "grow", desc := "(I)V" } : Jvm.MethodName) prog_67_method_12_code (4 : Nat) (Option.none : Option Jvm.ClassFile.FieldType)) ∈ lw_all := lw_g (lw_at lw_m3 119 rfl) rfl
theorem q693 : (Jvm.Cond.methodLink "java/util/PriorityQueue" (80 : Nat) ({ cls := "jdk/internal/util/ArraysSupport", name := "newLength", desc := "(III)I" } : Jvm.MethodName)) ∈ lw_all := lw_g (lw_at lw_m3 120 rfl) rfl
theorem q703 : (Jvm.Cond.methodLink "java/util/PriorityQueue" (86 : Nat) ({ cls := "java/util/Arrays", name := "copyOf", desc := "([Ljava/lang/Object;I)[Ljava/lang/Object;" } : Jvm.MethodName)) ∈ lw_all := lw_g (lw_at lw_m3 130 rfl) rfl
theorem q735 : (Jvm.Cond.selects "java/util/PriorityQueue" ({ cls := "java/lang/Object", name := "getClass", desc := "()Ljava/lang/Class;" } : Jvm.MethodName) ({ cls := "java/lang/Object", name := "getClass", desc := "()Ljava/lang/Class;" } : Jvm.MethodName)) ∈ lw_all := lw_g (lw_at lw_m3 162 rfl) rfl
theorem q754 : (Jvm.Cond.methodLink "java/util/PriorityQueue" (100 : Nat) ({ cls := "java/util/PriorityQueue", name := "siftUp", desc := "(ILjava/lang/Object;)V" } : Jvm.MethodName)) ∈ lw_all := lw_g (lw_at lw_m3 181 rfl) rfl
theorem q755 : (Jvm.Cond.privateMethod ({ cls := "java/util/PriorityQueue", name := "siftUp", desc := "(ILjava/lang/Object;)V" } : Jvm.MethodName)) ∈ lw_tbl := lw_at lw_m3 182 rfl
theorem q756 : (Jvm.Cond.instanceMethod ({ cls := "java/util/PriorityQueue", name := "siftUp", desc := "(ILjava/lang/Object;)V" } : Jvm.MethodName)) ∈ lw_all := lw_g (lw_at lw_m3 183 rfl) rfl
theorem q757 : (Jvm.Cond.code ({ cls := "java/util/PriorityQueue", name := "siftUp", desc := "(ILjava/lang/Object;)V" } : Jvm.MethodName) prog_67_method_27_code (3 : Nat) (Option.none : Option Jvm.ClassFile.FieldType)) ∈ lw_all := lw_g (lw_at lw_m3 184 rfl) rfl
theorem q758 : (Jvm.Cond.methodLink "java/util/PriorityQueue" (136 : Nat) ({ cls := "java/util/PriorityQueue", name := "siftUpUsingComparator", desc := "(ILjava/lang/Object;[Ljava/lang/Object;Ljava/util/Comparator;)V" } : Jvm.MethodName)) ∈ lw_all := lw_g (lw_at lw_m3 185 rfl) rfl
theorem q759 : (Jvm.Cond.static ({ cls := "java/util/PriorityQueue", name := "siftUpUsingComparator", desc := "(ILjava/lang/Object;[Ljava/lang/Object;Ljava/util/Comparator;)V" } : Jvm.MethodName)) ∈ lw_all := lw_g (lw_at lw_m3 186 rfl) rfl
theorem q760 : (Jvm.Cond.code ({ cls := "java/util/PriorityQueue", name := "siftUpUsingComparator", desc := "(ILjava/lang/Object;[Ljava/lang/Object;Ljava/util/Comparator;)V" } : Jvm.MethodName) prog_67_method_29_code (6 : Nat) (Option.none : Option Jvm.ClassFile.FieldType)) ∈ lw_all := lw_g (lw_at lw_m3 187 rfl) rfl
theorem q761 : (Jvm.Cond.interfaceEntry "java/util/PriorityQueue" (149 : Nat)) ∈ lw_tbl := lw_at lw_m3 188 rfl
theorem q762 : (Jvm.Cond.methodLink "java/util/PriorityQueue" (149 : Nat) ({ cls := "java/util/Comparator", name := "compare", desc := "(Ljava/lang/Object;Ljava/lang/Object;)I" } : Jvm.MethodName)) ∈ lw_all := lw_g (lw_at lw_m3 189 rfl) rfl
theorem q779 : (Jvm.Cond.methodLink "java/util/PriorityQueue" (140 : Nat) ({ cls := "java/util/PriorityQueue", name := "siftUpComparable", desc := "(ILjava/lang/Object;[Ljava/lang/Object;)V" } : Jvm.MethodName)) ∈ lw_all := lw_g (lw_at lw_m3 206 rfl) rfl
theorem q780 : (Jvm.Cond.static ({ cls := "java/util/PriorityQueue", name := "siftUpComparable", desc := "(ILjava/lang/Object;[Ljava/lang/Object;)V" } : Jvm.MethodName)) ∈ lw_all := lw_g (lw_at lw_m3 207 rfl) rfl
theorem q781 : (Jvm.Cond.code ({ cls := "java/util/PriorityQueue", name := "siftUpComparable", desc := "(ILjava/lang/Object;[Ljava/lang/Object;)V" } : Jvm.MethodName) prog_67_method_28_code (6 : Nat) (Option.none : Option Jvm.ClassFile.FieldType)) ∈ lw_all := lw_g (lw_at lw_m3 208 rfl) rfl
theorem q782 : (Jvm.Cond.classLink "java/util/PriorityQueue" (144 : Nat) "java/lang/Comparable") ∈ lw_all := lw_g (lw_at lw_m3 209 rfl) rfl
theorem q783 : (Jvm.Cond.interfaceEntry "java/util/PriorityQueue" (146 : Nat)) ∈ lw_tbl := lw_at lw_m3 210 rfl
theorem q784 : (Jvm.Cond.methodLink "java/util/PriorityQueue" (146 : Nat) ({ cls := "java/lang/Comparable", name := "compareTo", desc := "(Ljava/lang/Object;)I" } : Jvm.MethodName)) ∈ lw_all := lw_g (lw_at lw_m3 211 rfl) rfl
theorem q1006 : (Jvm.Cond.sameMethod "java/util/PriorityQueue" "java/util/AbstractCollection" "isEmpty" "()Z") ∈ lw_all := lw_g (lw_at lw_m4 193 rfl) rfl
theorem q1008 : (Jvm.Cond.selects "java/util/PriorityQueue" ({ cls := "java/util/PriorityQueue", name := "isEmpty", desc := "()Z" } : Jvm.MethodName) ({ cls := "java/util/AbstractCollection", name := "isEmpty", desc := "()Z" } : Jvm.MethodName)) ∈ lw_all := lw_g (lw_at lw_m4 195 rfl) rfl
theorem q1021 : (Jvm.Cond.selects "java/util/PriorityQueue" ({ cls := "java/util/AbstractCollection", name := "size", desc := "()I" } : Jvm.MethodName) ({ cls := "java/util/PriorityQueue", name := "size", desc := "()I" } : Jvm.MethodName)) ∈ lw_all := lw_g (lw_at lw_m4 208 rfl) rfl
theorem q1022 : (Jvm.Cond.instanceMethod ({ cls := "java/util/PriorityQueue", name := "size", desc := "()I" } : Jvm.MethodName)) ∈ lw_all := lw_g (lw_at lw_m4 209 rfl) rfl
theorem q1023 : (Jvm.Cond.code ({ cls := "java/util/PriorityQueue", name := "size", desc := "()I" } : Jvm.MethodName) prog_67_method_23_code (1 : Nat) (Option.some Jvm.ClassFile.FieldType.int)) ∈ lw_all := lw_g (lw_at lw_m4 210 rfl) rfl
theorem q1032 : (Jvm.Cond.instanceMethod ({ cls := "java/util/PriorityQueue", name := "peek", desc := "()Ljava/lang/Object;" } : Jvm.MethodName)) ∈ lw_all := lw_g (lw_at lw_m4 219 rfl) rfl
theorem q1033 : (Jvm.Cond.selects "java/util/PriorityQueue" ({ cls := "java/util/PriorityQueue", name := "peek", desc := "()Ljava/lang/Object;" } : Jvm.MethodName) ({ cls := "java/util/PriorityQueue", name := "peek", desc := "()Ljava/lang/Object;" } : Jvm.MethodName)) ∈ lw_all := lw_g (lw_at lw_m4 220 rfl) rfl
theorem q1034 : (Jvm.Cond.code ({ cls := "java/util/PriorityQueue", name := "peek", desc := "()Ljava/lang/Object;" } : Jvm.MethodName) prog_67_method_15_code (1 : Nat) (Option.some (Jvm.ClassFile.FieldType.object "java/lang/Object"))) ∈ lw_all := lw_g (lw_at lw_m4 221 rfl) rfl
theorem q1047 : (Jvm.Cond.instanceMethod ({ cls := "java/util/PriorityQueue", name := "poll", desc := "()Ljava/lang/Object;" } : Jvm.MethodName)) ∈ lw_all := lw_g (lw_at lw_m4 234 rfl) rfl
theorem q1048 : (Jvm.Cond.selects "java/util/PriorityQueue" ({ cls := "java/util/PriorityQueue", name := "poll", desc := "()Ljava/lang/Object;" } : Jvm.MethodName) ({ cls := "java/util/PriorityQueue", name := "poll", desc := "()Ljava/lang/Object;" } : Jvm.MethodName)) ∈ lw_all := lw_g (lw_at lw_m4 235 rfl) rfl
theorem q1049 : (Jvm.Cond.code ({ cls := "java/util/PriorityQueue", name := "poll", desc := "()Ljava/lang/Object;" } : Jvm.MethodName) prog_67_method_25_code (6 : Nat) (Option.some (Jvm.ClassFile.FieldType.object "java/lang/Object"))) ∈ lw_all := lw_g (lw_at lw_m4 236 rfl) rfl
theorem q1050 : (Jvm.Cond.methodLink "java/util/PriorityQueue" (125 : Nat) ({ cls := "java/util/PriorityQueue", name := "siftDownComparable", desc := "(ILjava/lang/Object;[Ljava/lang/Object;I)V" } : Jvm.MethodName)) ∈ lw_all := lw_g (lw_at lw_m4 237 rfl) rfl
theorem q1051 : (Jvm.Cond.static ({ cls := "java/util/PriorityQueue", name := "siftDownComparable", desc := "(ILjava/lang/Object;[Ljava/lang/Object;I)V" } : Jvm.MethodName)) ∈ lw_all := lw_g (lw_at lw_m4 238 rfl) rfl
theorem q1052 : (Jvm.Cond.code ({ cls := "java/util/PriorityQueue", name := "siftDownComparable", desc := "(ILjava/lang/Object;[Ljava/lang/Object;I)V" } : Jvm.MethodName) prog_67_method_31_code (9 : Nat) (Option.none : Option Jvm.ClassFile.FieldType)) ∈ lw_all := lw_g (lw_at lw_m4 239 rfl) rfl
theorem q1053 : (Jvm.Cond.methodLink "java/util/PriorityQueue" (129 : Nat) ({ cls := "java/util/PriorityQueue", name := "siftDownUsingComparator", desc := "(ILjava/lang/Object;[Ljava/lang/Object;ILjava/util/Comparator;)V" } : Jvm.MethodName)) ∈ lw_all := lw_g (lw_at lw_m5 0 rfl) rfl
theorem q1054 : (Jvm.Cond.static ({ cls := "java/util/PriorityQueue", name := "siftDownUsingComparator", desc := "(ILjava/lang/Object;[Ljava/lang/Object;ILjava/util/Comparator;)V" } : Jvm.MethodName)) ∈ lw_all := lw_g (lw_at lw_m5 1 rfl) rfl
theorem q1055 : (Jvm.Cond.code ({ cls := "java/util/PriorityQueue", name := "siftDownUsingComparator", desc := "(ILjava/lang/Object;[Ljava/lang/Object;ILjava/util/Comparator;)V" } : Jvm.MethodName) prog_67_method_32_code (9 : Nat) (Option.none : Option Jvm.ClassFile.FieldType)) ∈ lw_all := lw_g (lw_at lw_m5 2 rfl) rfl
theorem q1735 : (Jvm.Cond.castable "java/util/PriorityQueue" "java/util/Collection") ∈ lw_tbl := lw_at lw_m7 202 rfl
theorem q1736 : (Jvm.Cond.selects "java/util/PriorityQueue" ({ cls := "java/util/Collection", name := "toArray", desc := "()[Ljava/lang/Object;" } : Jvm.MethodName) ({ cls := "java/util/PriorityQueue", name := "toArray", desc := "()[Ljava/lang/Object;" } : Jvm.MethodName)) ∈ lw_all := lw_g (lw_at lw_m7 203 rfl) rfl
theorem q1737 : (Jvm.Cond.unhidden "java/util/PriorityQueue" "toArray" "()[Ljava/lang/Object;") ∈ lw_tbl := lw_at lw_m7 204 rfl
theorem q1738 : (Jvm.Cond.instanceMethod ({ cls := "java/util/PriorityQueue", name := "toArray", desc := "()[Ljava/lang/Object;" } : Jvm.MethodName)) ∈ lw_all := lw_g (lw_at lw_m7 205 rfl) rfl
theorem q1739 : (Jvm.Cond.publicMethod ({ cls := "java/util/PriorityQueue", name := "toArray", desc := "()[Ljava/lang/Object;" } : Jvm.MethodName)) ∈ lw_tbl := lw_at lw_m7 206 rfl
theorem q1740 : (Jvm.Cond.code ({ cls := "java/util/PriorityQueue", name := "toArray", desc := "()[Ljava/lang/Object;" } : Jvm.MethodName) prog_67_method_20_code (1 : Nat) (Option.some (Jvm.ClassFile.FieldType.array (Jvm.ClassFile.FieldType.object "java/lang/Object")))) ∈ lw_all := lw_g (lw_at lw_m7 207 rfl) rfl
theorem q1775 : (Jvm.Cond.selects "java/util/PriorityQueue" ({ cls := "java/util/AbstractCollection", name := "iterator", desc := "()Ljava/util/Iterator;" } : Jvm.MethodName) ({ cls := "java/util/PriorityQueue", name := "iterator", desc := "()Ljava/util/Iterator;" } : Jvm.MethodName)) ∈ lw_all := lw_g (lw_at lw_m8 2 rfl) rfl
theorem q1776 : (Jvm.Cond.instanceMethod ({ cls := "java/util/PriorityQueue", name := "iterator", desc := "()Ljava/util/Iterator;" } : Jvm.MethodName)) ∈ lw_all := lw_g (lw_at lw_m8 3 rfl) rfl
theorem q1777 : (Jvm.Cond.code ({ cls := "java/util/PriorityQueue", name := "iterator", desc := "()Ljava/util/Iterator;" } : Jvm.MethodName) prog_67_method_22_code (1 : Nat) (Option.some (Jvm.ClassFile.FieldType.object "java/util/Iterator"))) ∈ lw_all := lw_g (lw_at lw_m8 4 rfl) rfl
theorem q1778 : (Jvm.Cond.classLink "java/util/PriorityQueue" (121 : Nat) "java/util/PriorityQueue$Itr") ∈ lw_all := lw_g (lw_at lw_m8 5 rfl) rfl
theorem q1780 : (Jvm.Cond.methodLink "java/util/PriorityQueue" (123 : Nat) ({ cls := "java/util/PriorityQueue$Itr", name := "<init>", desc := "(Ljava/util/PriorityQueue;)V" } : Jvm.MethodName)) ∈ lw_all := lw_g (lw_at lw_m8 7 rfl) rfl
theorem q3238 : (Jvm.Cond.castable "java/util/PriorityQueue" "java/lang/Object") ∈ lw_tbl := lw_at lw_m14 25 rfl
theorem in_J33 : ∀ w ∈ wsJ330, w ∈ lw_all := lw_in wsJ330 [672, 674, 676, 678] (by decide +kernel) (by decide +kernel)
/-! jdk/internal/misc/Unsafe -/
set_option maxRecDepth 100000
def RJ34 : String := "jdk/internal/misc/Unsafe"
abbrev cJ34_getLongUnaligned : ByteArray := prog_80_method_334_code
def yJ34_getLongUnaligned : MethodName := ⟨RJ34, "getLongUnaligned", "(Ljava/lang/Object;J)J"⟩
def dkwJ34_getLongUnaligned_7 : List UInt8 := [182, 0, 39, 184, 2, 197, 173]
abbrev dktJ34_getLongUnaligned_7 : List UInt8 := dkwJ34_getLongUnaligned_7 ++ []
def dkwJ34_getLongUnaligned_6 : List UInt8 := [20, 2, 195, 97, 182, 0, 39, 42, 43, 32, 20, 2, 190, 97, 182, 0, 39, 42, 43, 32, 20, 2, 184, 97]
abbrev dktJ34_getLongUnaligned_6 : List UInt8 := dkwJ34_getLongUnaligned_6 ++ dktJ34_getLongUnaligned_7
def dkwJ34_getLongUnaligned_5 : List UInt8 := [43, 32, 20, 1, 93, 97, 182, 0, 39, 42, 43, 32, 20, 0, 205, 97, 182, 0, 39, 42, 43, 32]
abbrev dktJ34_getLongUnaligned_5 : List UInt8 := dkwJ34_getLongUnaligned_5 ++ dktJ34_getLongUnaligned_6
def dkwJ34_getLongUnaligned_4 : List UInt8 := [43, 32, 182, 0, 39, 42, 43, 32, 10, 97, 182, 0, 39, 42, 43, 32, 20, 0, 203, 97, 182, 0, 39, 42]
abbrev dktJ34_getLongUnaligned_4 : List UInt8 := dkwJ34_getLongUnaligned_4 ++ dktJ34_getLongUnaligned_5
def dkwJ34_getLongUnaligned_3 : List UInt8 := [43, 32, 20, 0, 205, 97, 182, 0, 47, 42, 43, 32, 20, 2, 190, 97, 182, 0, 47, 184, 2, 192, 173, 42]
abbrev dktJ34_getLongUnaligned_3 : List UInt8 := dkwJ34_getLongUnaligned_3 ++ dktJ34_getLongUnaligned_4
def dkwJ34_getLongUnaligned_2 : List UInt8 := [10, 127, 9, 148, 154, 0, 43, 42, 43, 32, 182, 0, 47, 42, 43, 32, 20, 0, 203, 97, 182, 0, 47, 42]
abbrev dktJ34_getLongUnaligned_2 : List UInt8 := dkwJ34_getLongUnaligned_2 ++ dktJ34_getLongUnaligned_3
def dkwJ34_getLongUnaligned_1 : List UInt8 := [154, 0, 23, 42, 43, 32, 182, 0, 17, 42, 43, 32, 20, 0, 205, 97, 182, 0, 17, 184, 2, 186, 173, 32]
abbrev dktJ34_getLongUnaligned_1 : List UInt8 := dkwJ34_getLongUnaligned_1 ++ dktJ34_getLongUnaligned_2
def dkwJ34_getLongUnaligned_0 : List UInt8 := [32, 20, 2, 184, 127, 9, 148, 154, 0, 10, 42, 43, 32, 182, 0, 27, 173, 32, 20, 1, 93, 127, 9, 148]
abbrev dktJ34_getLongUnaligned_0 : List UInt8 := dkwJ34_getLongUnaligned_0 ++ dktJ34_getLongUnaligned_1
theorem dksJ34_getLongUnaligned_0 : cJ34_getLongUnaligned.data.toList.drop 0 = dktJ34_getLongUnaligned_0 := by decide +kernel
theorem dksJ34_getLongUnaligned_1 : cJ34_getLongUnaligned.data.toList.drop 24 = dktJ34_getLongUnaligned_1 := dk_seg dksJ34_getLongUnaligned_0 24 rfl rfl
theorem dksJ34_getLongUnaligned_2 : cJ34_getLongUnaligned.data.toList.drop 48 = dktJ34_getLongUnaligned_2 := dk_seg dksJ34_getLongUnaligned_1 24 rfl rfl
theorem dksJ34_getLongUnaligned_3 : cJ34_getLongUnaligned.data.toList.drop 72 = dktJ34_getLongUnaligned_3 := dk_seg dksJ34_getLongUnaligned_2 24 rfl rfl
theorem dksJ34_getLongUnaligned_4 : cJ34_getLongUnaligned.data.toList.drop 96 = dktJ34_getLongUnaligned_4 := dk_seg dksJ34_getLongUnaligned_3 24 rfl rfl
theorem dksJ34_getLongUnaligned_5 : cJ34_getLongUnaligned.data.toList.drop 120 = dktJ34_getLongUnaligned_5 := dk_seg dksJ34_getLongUnaligned_4 24 rfl rfl
theorem dksJ34_getLongUnaligned_6 : cJ34_getLongUnaligned.data.toList.drop 142 = dktJ34_getLongUnaligned_6 := dk_seg dksJ34_getLongUnaligned_5 22 rfl rfl
theorem dksJ34_getLongUnaligned_7 : cJ34_getLongUnaligned.data.toList.drop 166 = dktJ34_getLongUnaligned_7 := dk_seg dksJ34_getLongUnaligned_6 24 rfl rfl
theorem dJ34_getLongUnaligned_0 : decode cJ34_getLongUnaligned 0 = .ok (.lload_n 2, 1) := dk_32 (dk_at dksJ34_getLongUnaligned_0 0 rfl rfl)
theorem dJ34_getLongUnaligned_1 : decode cJ34_getLongUnaligned 1 = .ok (.ldc2_w 696, 3) := dk_20 2 184 (dk_at dksJ34_getLongUnaligned_0 1 rfl rfl)
theorem dJ34_getLongUnaligned_4 : decode cJ34_getLongUnaligned 4 = .ok (.land, 1) := dk_127 (dk_at dksJ34_getLongUnaligned_0 4 rfl rfl)
theorem dJ34_getLongUnaligned_5 : decode cJ34_getLongUnaligned 5 = .ok (.lconst 0, 1) := dk_9 (dk_at dksJ34_getLongUnaligned_0 5 rfl rfl)
theorem dJ34_getLongUnaligned_6 : decode cJ34_getLongUnaligned 6 = .ok (.lcmp, 1) := dk_148 (dk_at dksJ34_getLongUnaligned_0 6 rfl rfl)
theorem dJ34_getLongUnaligned_7 : decode cJ34_getLongUnaligned 7 = .ok (.ifCond .ne 10, 3) := dk_154 0 10 (dk_at dksJ34_getLongUnaligned_0 7 rfl rfl)
theorem dJ34_getLongUnaligned_10 : decode cJ34_getLongUnaligned 10 = .ok (.aload_n 0, 1) := dk_42 (dk_at dksJ34_getLongUnaligned_0 10 rfl rfl)
theorem dJ34_getLongUnaligned_11 : decode cJ34_getLongUnaligned 11 = .ok (.aload_n 1, 1) := dk_43 (dk_at dksJ34_getLongUnaligned_0 11 rfl rfl)
theorem dJ34_getLongUnaligned_12 : decode cJ34_getLongUnaligned 12 = .ok (.lload_n 2, 1) := dk_32 (dk_at dksJ34_getLongUnaligned_0 12 rfl rfl)
theorem dJ34_getLongUnaligned_13 : decode cJ34_getLongUnaligned 13 = .ok (.invokevirtual 27, 3) := dk_182 0 27 (dk_at dksJ34_getLongUnaligned_0 13 rfl rfl)
theorem dJ34_getLongUnaligned_16 : decode cJ34_getLongUnaligned 16 = .ok (.lreturn, 1) := dk_173 (dk_at dksJ34_getLongUnaligned_0 16 rfl rfl)
theorem dJ34_getLongUnaligned_17 : decode cJ34_getLongUnaligned 17 = .ok (.lload_n 2, 1) := dk_32 (dk_at dksJ34_getLongUnaligned_0 17 rfl rfl)
theorem dJ34_getLongUnaligned_18 : decode cJ34_getLongUnaligned 18 = .ok (.ldc2_w 349, 3) := dk_20 1 93 (dk_at dksJ34_getLongUnaligned_0 18 rfl rfl)
theorem dJ34_getLongUnaligned_21 : decode cJ34_getLongUnaligned 21 = .ok (.land, 1) := dk_127 (dk_at dksJ34_getLongUnaligned_0 21 rfl rfl)
theorem dJ34_getLongUnaligned_22 : decode cJ34_getLongUnaligned 22 = .ok (.lconst 0, 1) := dk_9 (dk_at dksJ34_getLongUnaligned_0 22 rfl rfl)
theorem dJ34_getLongUnaligned_23 : decode cJ34_getLongUnaligned 23 = .ok (.lcmp, 1) := dk_148 (dk_at dksJ34_getLongUnaligned_0 23 rfl rfl)
theorem dJ34_getLongUnaligned_24 : decode cJ34_getLongUnaligned 24 = .ok (.ifCond .ne 23, 3) := dk_154 0 23 (dk_at dksJ34_getLongUnaligned_1 0 rfl rfl)
theorem dJ34_getLongUnaligned_27 : decode cJ34_getLongUnaligned 27 = .ok (.aload_n 0, 1) := dk_42 (dk_at dksJ34_getLongUnaligned_1 3 rfl rfl)
theorem dJ34_getLongUnaligned_28 : decode cJ34_getLongUnaligned 28 = .ok (.aload_n 1, 1) := dk_43 (dk_at dksJ34_getLongUnaligned_1 4 rfl rfl)
theorem dJ34_getLongUnaligned_29 : decode cJ34_getLongUnaligned 29 = .ok (.lload_n 2, 1) := dk_32 (dk_at dksJ34_getLongUnaligned_1 5 rfl rfl)
theorem dJ34_getLongUnaligned_30 : decode cJ34_getLongUnaligned 30 = .ok (.invokevirtual 17, 3) := dk_182 0 17 (dk_at dksJ34_getLongUnaligned_1 6 rfl rfl)
theorem dJ34_getLongUnaligned_33 : decode cJ34_getLongUnaligned 33 = .ok (.aload_n 0, 1) := dk_42 (dk_at dksJ34_getLongUnaligned_1 9 rfl rfl)
theorem dJ34_getLongUnaligned_34 : decode cJ34_getLongUnaligned 34 = .ok (.aload_n 1, 1) := dk_43 (dk_at dksJ34_getLongUnaligned_1 10 rfl rfl)
theorem dJ34_getLongUnaligned_35 : decode cJ34_getLongUnaligned 35 = .ok (.lload_n 2, 1) := dk_32 (dk_at dksJ34_getLongUnaligned_1 11 rfl rfl)
theorem dJ34_getLongUnaligned_36 : decode cJ34_getLongUnaligned 36 = .ok (.ldc2_w 205, 3) := dk_20 0 205 (dk_at dksJ34_getLongUnaligned_1 12 rfl rfl)
theorem dJ34_getLongUnaligned_39 : decode cJ34_getLongUnaligned 39 = .ok (.ladd, 1) := dk_97 (dk_at dksJ34_getLongUnaligned_1 15 rfl rfl)
theorem dJ34_getLongUnaligned_40 : decode cJ34_getLongUnaligned 40 = .ok (.invokevirtual 17, 3) := dk_182 0 17 (dk_at dksJ34_getLongUnaligned_1 16 rfl rfl)
theorem dJ34_getLongUnaligned_43 : decode cJ34_getLongUnaligned 43 = .ok (.invokestatic 698, 3) := dk_184 2 186 (dk_at dksJ34_getLongUnaligned_1 19 rfl rfl)
theorem dJ34_getLongUnaligned_46 : decode cJ34_getLongUnaligned 46 = .ok (.lreturn, 1) := dk_173 (dk_at dksJ34_getLongUnaligned_1 22 rfl rfl)
theorem dJ34_getLongUnaligned_47 : decode cJ34_getLongUnaligned 47 = .ok (.lload_n 2, 1) := dk_32 (dk_at dksJ34_getLongUnaligned_1 23 rfl rfl)
theorem dJ34_getLongUnaligned_48 : decode cJ34_getLongUnaligned 48 = .ok (.lconst 1, 1) := dk_10 (dk_at dksJ34_getLongUnaligned_2 0 rfl rfl)
theorem dJ34_getLongUnaligned_49 : decode cJ34_getLongUnaligned 49 = .ok (.land, 1) := dk_127 (dk_at dksJ34_getLongUnaligned_2 1 rfl rfl)
theorem dJ34_getLongUnaligned_50 : decode cJ34_getLongUnaligned 50 = .ok (.lconst 0, 1) := dk_9 (dk_at dksJ34_getLongUnaligned_2 2 rfl rfl)
theorem dJ34_getLongUnaligned_51 : decode cJ34_getLongUnaligned 51 = .ok (.lcmp, 1) := dk_148 (dk_at dksJ34_getLongUnaligned_2 3 rfl rfl)
theorem dJ34_getLongUnaligned_52 : decode cJ34_getLongUnaligned 52 = .ok (.ifCond .ne 43, 3) := dk_154 0 43 (dk_at dksJ34_getLongUnaligned_2 4 rfl rfl)
theorem dJ34_getLongUnaligned_55 : decode cJ34_getLongUnaligned 55 = .ok (.aload_n 0, 1) := dk_42 (dk_at dksJ34_getLongUnaligned_2 7 rfl rfl)
theorem dJ34_getLongUnaligned_56 : decode cJ34_getLongUnaligned 56 = .ok (.aload_n 1, 1) := dk_43 (dk_at dksJ34_getLongUnaligned_2 8 rfl rfl)
theorem dJ34_getLongUnaligned_57 : decode cJ34_getLongUnaligned 57 = .ok (.lload_n 2, 1) := dk_32 (dk_at dksJ34_getLongUnaligned_2 9 rfl rfl)
theorem dJ34_getLongUnaligned_58 : decode cJ34_getLongUnaligned 58 = .ok (.invokevirtual 47, 3) := dk_182 0 47 (dk_at dksJ34_getLongUnaligned_2 10 rfl rfl)
theorem dJ34_getLongUnaligned_61 : decode cJ34_getLongUnaligned 61 = .ok (.aload_n 0, 1) := dk_42 (dk_at dksJ34_getLongUnaligned_2 13 rfl rfl)
theorem dJ34_getLongUnaligned_62 : decode cJ34_getLongUnaligned 62 = .ok (.aload_n 1, 1) := dk_43 (dk_at dksJ34_getLongUnaligned_2 14 rfl rfl)
theorem dJ34_getLongUnaligned_63 : decode cJ34_getLongUnaligned 63 = .ok (.lload_n 2, 1) := dk_32 (dk_at dksJ34_getLongUnaligned_2 15 rfl rfl)
theorem dJ34_getLongUnaligned_64 : decode cJ34_getLongUnaligned 64 = .ok (.ldc2_w 203, 3) := dk_20 0 203 (dk_at dksJ34_getLongUnaligned_2 16 rfl rfl)
theorem dJ34_getLongUnaligned_67 : decode cJ34_getLongUnaligned 67 = .ok (.ladd, 1) := dk_97 (dk_at dksJ34_getLongUnaligned_2 19 rfl rfl)
theorem dJ34_getLongUnaligned_68 : decode cJ34_getLongUnaligned 68 = .ok (.invokevirtual 47, 3) := dk_182 0 47 (dk_at dksJ34_getLongUnaligned_2 20 rfl rfl)
theorem dJ34_getLongUnaligned_71 : decode cJ34_getLongUnaligned 71 = .ok (.aload_n 0, 1) := dk_42 (dk_at dksJ34_getLongUnaligned_2 23 rfl rfl)
theorem dJ34_getLongUnaligned_72 : decode cJ34_getLongUnaligned 72 = .ok (.aload_n 1, 1) := dk_43 (dk_at dksJ34_getLongUnaligned_3 0 rfl rfl)
theorem dJ34_getLongUnaligned_73 : decode cJ34_getLongUnaligned 73 = .ok (.lload_n 2, 1) := dk_32 (dk_at dksJ34_getLongUnaligned_3 1 rfl rfl)
theorem dJ34_getLongUnaligned_74 : decode cJ34_getLongUnaligned 74 = .ok (.ldc2_w 205, 3) := dk_20 0 205 (dk_at dksJ34_getLongUnaligned_3 2 rfl rfl)
theorem dJ34_getLongUnaligned_77 : decode cJ34_getLongUnaligned 77 = .ok (.ladd, 1) := dk_97 (dk_at dksJ34_getLongUnaligned_3 5 rfl rfl)
theorem dJ34_getLongUnaligned_78 : decode cJ34_getLongUnaligned 78 = .ok (.invokevirtual 47, 3) := dk_182 0 47 (dk_at dksJ34_getLongUnaligned_3 6 rfl rfl)
theorem dJ34_getLongUnaligned_81 : decode cJ34_getLongUnaligned 81 = .ok (.aload_n 0, 1) := dk_42 (dk_at dksJ34_getLongUnaligned_3 9 rfl rfl)
theorem dJ34_getLongUnaligned_82 : decode cJ34_getLongUnaligned 82 = .ok (.aload_n 1, 1) := dk_43 (dk_at dksJ34_getLongUnaligned_3 10 rfl rfl)
theorem dJ34_getLongUnaligned_83 : decode cJ34_getLongUnaligned 83 = .ok (.lload_n 2, 1) := dk_32 (dk_at dksJ34_getLongUnaligned_3 11 rfl rfl)
theorem dJ34_getLongUnaligned_84 : decode cJ34_getLongUnaligned 84 = .ok (.ldc2_w 702, 3) := dk_20 2 190 (dk_at dksJ34_getLongUnaligned_3 12 rfl rfl)
theorem dJ34_getLongUnaligned_87 : decode cJ34_getLongUnaligned 87 = .ok (.ladd, 1) := dk_97 (dk_at dksJ34_getLongUnaligned_3 15 rfl rfl)
theorem dJ34_getLongUnaligned_88 : decode cJ34_getLongUnaligned 88 = .ok (.invokevirtual 47, 3) := dk_182 0 47 (dk_at dksJ34_getLongUnaligned_3 16 rfl rfl)
theorem dJ34_getLongUnaligned_91 : decode cJ34_getLongUnaligned 91 = .ok (.invokestatic 704, 3) := dk_184 2 192 (dk_at dksJ34_getLongUnaligned_3 19 rfl rfl)
theorem dJ34_getLongUnaligned_94 : decode cJ34_getLongUnaligned 94 = .ok (.lreturn, 1) := dk_173 (dk_at dksJ34_getLongUnaligned_3 22 rfl rfl)
theorem dJ34_getLongUnaligned_95 : decode cJ34_getLongUnaligned 95 = .ok (.aload_n 0, 1) := dk_42 (dk_at dksJ34_getLongUnaligned_3 23 rfl rfl)
theorem dJ34_getLongUnaligned_96 : decode cJ34_getLongUnaligned 96 = .ok (.aload_n 1, 1) := dk_43 (dk_at dksJ34_getLongUnaligned_4 0 rfl rfl)
theorem dJ34_getLongUnaligned_97 : decode cJ34_getLongUnaligned 97 = .ok (.lload_n 2, 1) := dk_32 (dk_at dksJ34_getLongUnaligned_4 1 rfl rfl)
theorem dJ34_getLongUnaligned_98 : decode cJ34_getLongUnaligned 98 = .ok (.invokevirtual 39, 3) := dk_182 0 39 (dk_at dksJ34_getLongUnaligned_4 2 rfl rfl)
theorem dJ34_getLongUnaligned_101 : decode cJ34_getLongUnaligned 101 = .ok (.aload_n 0, 1) := dk_42 (dk_at dksJ34_getLongUnaligned_4 5 rfl rfl)
theorem dJ34_getLongUnaligned_102 : decode cJ34_getLongUnaligned 102 = .ok (.aload_n 1, 1) := dk_43 (dk_at dksJ34_getLongUnaligned_4 6 rfl rfl)
theorem dJ34_getLongUnaligned_103 : decode cJ34_getLongUnaligned 103 = .ok (.lload_n 2, 1) := dk_32 (dk_at dksJ34_getLongUnaligned_4 7 rfl rfl)
theorem dJ34_getLongUnaligned_104 : decode cJ34_getLongUnaligned 104 = .ok (.lconst 1, 1) := dk_10 (dk_at dksJ34_getLongUnaligned_4 8 rfl rfl)
theorem dJ34_getLongUnaligned_105 : decode cJ34_getLongUnaligned 105 = .ok (.ladd, 1) := dk_97 (dk_at dksJ34_getLongUnaligned_4 9 rfl rfl)
theorem dJ34_getLongUnaligned_106 : decode cJ34_getLongUnaligned 106 = .ok (.invokevirtual 39, 3) := dk_182 0 39 (dk_at dksJ34_getLongUnaligned_4 10 rfl rfl)
theorem dJ34_getLongUnaligned_109 : decode cJ34_getLongUnaligned 109 = .ok (.aload_n 0, 1) := dk_42 (dk_at dksJ34_getLongUnaligned_4 13 rfl rfl)
theorem dJ34_getLongUnaligned_110 : decode cJ34_getLongUnaligned 110 = .ok (.aload_n 1, 1) := dk_43 (dk_at dksJ34_getLongUnaligned_4 14 rfl rfl)
theorem dJ34_getLongUnaligned_111 : decode cJ34_getLongUnaligned 111 = .ok (.lload_n 2, 1) := dk_32 (dk_at dksJ34_getLongUnaligned_4 15 rfl rfl)
theorem dJ34_getLongUnaligned_112 : decode cJ34_getLongUnaligned 112 = .ok (.ldc2_w 203, 3) := dk_20 0 203 (dk_at dksJ34_getLongUnaligned_4 16 rfl rfl)
theorem dJ34_getLongUnaligned_115 : decode cJ34_getLongUnaligned 115 = .ok (.ladd, 1) := dk_97 (dk_at dksJ34_getLongUnaligned_4 19 rfl rfl)
theorem dJ34_getLongUnaligned_116 : decode cJ34_getLongUnaligned 116 = .ok (.invokevirtual 39, 3) := dk_182 0 39 (dk_at dksJ34_getLongUnaligned_4 20 rfl rfl)
theorem dJ34_getLongUnaligned_119 : decode cJ34_getLongUnaligned 119 = .ok (.aload_n 0, 1) := dk_42 (dk_at dksJ34_getLongUnaligned_4 23 rfl rfl)
theorem dJ34_getLongUnaligned_120 : decode cJ34_getLongUnaligned 120 = .ok (.aload_n 1, 1) := dk_43 (dk_at dksJ34_getLongUnaligned_5 0 rfl rfl)
theorem dJ34_getLongUnaligned_121 : decode cJ34_getLongUnaligned 121 = .ok (.lload_n 2, 1) := dk_32 (dk_at dksJ34_getLongUnaligned_5 1 rfl rfl)
theorem dJ34_getLongUnaligned_122 : decode cJ34_getLongUnaligned 122 = .ok (.ldc2_w 349, 3) := dk_20 1 93 (dk_at dksJ34_getLongUnaligned_5 2 rfl rfl)
theorem dJ34_getLongUnaligned_125 : decode cJ34_getLongUnaligned 125 = .ok (.ladd, 1) := dk_97 (dk_at dksJ34_getLongUnaligned_5 5 rfl rfl)
theorem dJ34_getLongUnaligned_126 : decode cJ34_getLongUnaligned 126 = .ok (.invokevirtual 39, 3) := dk_182 0 39 (dk_at dksJ34_getLongUnaligned_5 6 rfl rfl)
theorem dJ34_getLongUnaligned_129 : decode cJ34_getLongUnaligned 129 = .ok (.aload_n 0, 1) := dk_42 (dk_at dksJ34_getLongUnaligned_5 9 rfl rfl)
theorem dJ34_getLongUnaligned_130 : decode cJ34_getLongUnaligned 130 = .ok (.aload_n 1, 1) := dk_43 (dk_at dksJ34_getLongUnaligned_5 10 rfl rfl)
theorem dJ34_getLongUnaligned_131 : decode cJ34_getLongUnaligned 131 = .ok (.lload_n 2, 1) := dk_32 (dk_at dksJ34_getLongUnaligned_5 11 rfl rfl)
theorem dJ34_getLongUnaligned_132 : decode cJ34_getLongUnaligned 132 = .ok (.ldc2_w 205, 3) := dk_20 0 205 (dk_at dksJ34_getLongUnaligned_5 12 rfl rfl)
theorem dJ34_getLongUnaligned_135 : decode cJ34_getLongUnaligned 135 = .ok (.ladd, 1) := dk_97 (dk_at dksJ34_getLongUnaligned_5 15 rfl rfl)
theorem dJ34_getLongUnaligned_136 : decode cJ34_getLongUnaligned 136 = .ok (.invokevirtual 39, 3) := dk_182 0 39 (dk_at dksJ34_getLongUnaligned_5 16 rfl rfl)
theorem dJ34_getLongUnaligned_139 : decode cJ34_getLongUnaligned 139 = .ok (.aload_n 0, 1) := dk_42 (dk_at dksJ34_getLongUnaligned_5 19 rfl rfl)
theorem dJ34_getLongUnaligned_140 : decode cJ34_getLongUnaligned 140 = .ok (.aload_n 1, 1) := dk_43 (dk_at dksJ34_getLongUnaligned_5 20 rfl rfl)
theorem dJ34_getLongUnaligned_141 : decode cJ34_getLongUnaligned 141 = .ok (.lload_n 2, 1) := dk_32 (dk_at dksJ34_getLongUnaligned_5 21 rfl rfl)
theorem dJ34_getLongUnaligned_142 : decode cJ34_getLongUnaligned 142 = .ok (.ldc2_w 707, 3) := dk_20 2 195 (dk_at dksJ34_getLongUnaligned_6 0 rfl rfl)
theorem dJ34_getLongUnaligned_145 : decode cJ34_getLongUnaligned 145 = .ok (.ladd, 1) := dk_97 (dk_at dksJ34_getLongUnaligned_6 3 rfl rfl)
theorem dJ34_getLongUnaligned_146 : decode cJ34_getLongUnaligned 146 = .ok (.invokevirtual 39, 3) := dk_182 0 39 (dk_at dksJ34_getLongUnaligned_6 4 rfl rfl)
theorem dJ34_getLongUnaligned_149 : decode cJ34_getLongUnaligned 149 = .ok (.aload_n 0, 1) := dk_42 (dk_at dksJ34_getLongUnaligned_6 7 rfl rfl)
theorem dJ34_getLongUnaligned_150 : decode cJ34_getLongUnaligned 150 = .ok (.aload_n 1, 1) := dk_43 (dk_at dksJ34_getLongUnaligned_6 8 rfl rfl)
theorem dJ34_getLongUnaligned_151 : decode cJ34_getLongUnaligned 151 = .ok (.lload_n 2, 1) := dk_32 (dk_at dksJ34_getLongUnaligned_6 9 rfl rfl)
theorem dJ34_getLongUnaligned_152 : decode cJ34_getLongUnaligned 152 = .ok (.ldc2_w 702, 3) := dk_20 2 190 (dk_at dksJ34_getLongUnaligned_6 10 rfl rfl)
theorem dJ34_getLongUnaligned_155 : decode cJ34_getLongUnaligned 155 = .ok (.ladd, 1) := dk_97 (dk_at dksJ34_getLongUnaligned_6 13 rfl rfl)
theorem dJ34_getLongUnaligned_156 : decode cJ34_getLongUnaligned 156 = .ok (.invokevirtual 39, 3) := dk_182 0 39 (dk_at dksJ34_getLongUnaligned_6 14 rfl rfl)
theorem dJ34_getLongUnaligned_159 : decode cJ34_getLongUnaligned 159 = .ok (.aload_n 0, 1) := dk_42 (dk_at dksJ34_getLongUnaligned_6 17 rfl rfl)
theorem dJ34_getLongUnaligned_160 : decode cJ34_getLongUnaligned 160 = .ok (.aload_n 1, 1) := dk_43 (dk_at dksJ34_getLongUnaligned_6 18 rfl rfl)
theorem dJ34_getLongUnaligned_161 : decode cJ34_getLongUnaligned 161 = .ok (.lload_n 2, 1) := dk_32 (dk_at dksJ34_getLongUnaligned_6 19 rfl rfl)
theorem dJ34_getLongUnaligned_162 : decode cJ34_getLongUnaligned 162 = .ok (.ldc2_w 696, 3) := dk_20 2 184 (dk_at dksJ34_getLongUnaligned_6 20 rfl rfl)
theorem dJ34_getLongUnaligned_165 : decode cJ34_getLongUnaligned 165 = .ok (.ladd, 1) := dk_97 (dk_at dksJ34_getLongUnaligned_6 23 rfl rfl)
theorem dJ34_getLongUnaligned_166 : decode cJ34_getLongUnaligned 166 = .ok (.invokevirtual 39, 3) := dk_182 0 39 (dk_at dksJ34_getLongUnaligned_7 0 rfl rfl)
theorem dJ34_getLongUnaligned_169 : decode cJ34_getLongUnaligned 169 = .ok (.invokestatic 709, 3) := dk_184 2 197 (dk_at dksJ34_getLongUnaligned_7 3 rfl rfl)
theorem dJ34_getLongUnaligned_172 : decode cJ34_getLongUnaligned 172 = .ok (.lreturn, 1) := dk_173 (dk_at dksJ34_getLongUnaligned_7 6 rfl rfl)
abbrev cJ34_makeLong : ByteArray := prog_80_method_353_code
def yJ34_makeLong : MethodName := ⟨RJ34, "makeLong", "(II)J"⟩
def dkwJ34_makeLong_1 : List UInt8 := [173]
abbrev dktJ34_makeLong_1 : List UInt8 := dkwJ34_makeLong_1 ++ []
def dkwJ34_makeLong_0 : List UInt8 := [26, 184, 3, 23, 16, 32, 3, 184, 3, 16, 121, 27, 184, 3, 23, 16, 32, 16, 32, 184, 3, 16, 121, 129]
abbrev dktJ34_makeLong_0 : List UInt8 := dkwJ34_makeLong_0 ++ dktJ34_makeLong_1
theorem dksJ34_makeLong_0 : cJ34_makeLong.data.toList.drop 0 = dktJ34_makeLong_0 := by decide +kernel
theorem dksJ34_makeLong_1 : cJ34_makeLong.data.toList.drop 24 = dktJ34_makeLong_1 := dk_seg dksJ34_makeLong_0 24 rfl rfl
theorem dJ34_makeLong_0 : decode cJ34_makeLong 0 = .ok (.iload_n 0, 1) := dk_26 (dk_at dksJ34_makeLong_0 0 rfl rfl)
theorem dJ34_makeLong_1 : decode cJ34_makeLong 1 = .ok (.invokestatic 791, 3) := dk_184 3 23 (dk_at dksJ34_makeLong_0 1 rfl rfl)
theorem dJ34_makeLong_4 : decode cJ34_makeLong 4 = .ok (.bipush 32, 2) := dk_16 32 (dk_at dksJ34_makeLong_0 4 rfl rfl)
theorem dJ34_makeLong_6 : decode cJ34_makeLong 6 = .ok (.iconst 0, 1) := dk_3 (dk_at dksJ34_makeLong_0 6 rfl rfl)
theorem dJ34_makeLong_7 : decode cJ34_makeLong 7 = .ok (.invokestatic 784, 3) := dk_184 3 16 (dk_at dksJ34_makeLong_0 7 rfl rfl)
theorem dJ34_makeLong_10 : decode cJ34_makeLong 10 = .ok (.lshl, 1) := dk_121 (dk_at dksJ34_makeLong_0 10 rfl rfl)
theorem dJ34_makeLong_11 : decode cJ34_makeLong 11 = .ok (.iload_n 1, 1) := dk_27 (dk_at dksJ34_makeLong_0 11 rfl rfl)
theorem dJ34_makeLong_12 : decode cJ34_makeLong 12 = .ok (.invokestatic 791, 3) := dk_184 3 23 (dk_at dksJ34_makeLong_0 12 rfl rfl)
theorem dJ34_makeLong_15 : decode cJ34_makeLong 15 = .ok (.bipush 32, 2) := dk_16 32 (dk_at dksJ34_makeLong_0 15 rfl rfl)
theorem dJ34_makeLong_17 : decode cJ34_makeLong 17 = .ok (.bipush 32, 2) := dk_16 32 (dk_at dksJ34_makeLong_0 17 rfl rfl)
theorem dJ34_makeLong_19 : decode cJ34_makeLong 19 = .ok (.invokestatic 784, 3) := dk_184 3 16 (dk_at dksJ34_makeLong_0 19 rfl rfl)
theorem dJ34_makeLong_22 : decode cJ34_makeLong 22 = .ok (.lshl, 1) := dk_121 (dk_at dksJ34_makeLong_0 22 rfl rfl)
theorem dJ34_makeLong_23 : decode cJ34_makeLong 23 = .ok (.lor, 1) := dk_129 (dk_at dksJ34_makeLong_0 23 rfl rfl)
theorem dJ34_makeLong_24 : decode cJ34_makeLong 24 = .ok (.lreturn, 1) := dk_173 (dk_at dksJ34_makeLong_1 0 rfl rfl)
abbrev cJ34_toUnsignedLong : ByteArray := prog_80_method_370_code
def yJ34_toUnsignedLong : MethodName := ⟨RJ34, "toUnsignedLong", "(I)J"⟩
def dkwJ34_toUnsignedLong_0 : List UInt8 := [26, 133, 20, 3, 44, 127, 173]
abbrev dktJ34_toUnsignedLong_0 : List UInt8 := dkwJ34_toUnsignedLong_0 ++ []
theorem dksJ34_toUnsignedLong_0 : cJ34_toUnsignedLong.data.toList.drop 0 = dktJ34_toUnsignedLong_0 := by decide +kernel
theorem dJ34_toUnsignedLong_0 : decode cJ34_toUnsignedLong 0 = .ok (.iload_n 0, 1) := dk_26 (dk_at dksJ34_toUnsignedLong_0 0 rfl rfl)
theorem dJ34_toUnsignedLong_1 : decode cJ34_toUnsignedLong 1 = .ok (.i2l, 1) := dk_133 (dk_at dksJ34_toUnsignedLong_0 1 rfl rfl)
theorem dJ34_toUnsignedLong_2 : decode cJ34_toUnsignedLong 2 = .ok (.ldc2_w 812, 3) := dk_20 3 44 (dk_at dksJ34_toUnsignedLong_0 2 rfl rfl)
theorem dJ34_toUnsignedLong_5 : decode cJ34_toUnsignedLong 5 = .ok (.land, 1) := dk_127 (dk_at dksJ34_toUnsignedLong_0 5 rfl rfl)
theorem dJ34_toUnsignedLong_6 : decode cJ34_toUnsignedLong 6 = .ok (.lreturn, 1) := dk_173 (dk_at dksJ34_toUnsignedLong_0 6 rfl rfl)
abbrev cJ34_pickPos : ByteArray := prog_80_method_350_code
def yJ34_pickPos : MethodName := ⟨RJ34, "pickPos", "(II)I"⟩
def dkwJ34_pickPos_0 : List UInt8 := [178, 1, 95, 153, 0, 9, 26, 27, 100, 167, 0, 4, 27, 172]
abbrev dktJ34_pickPos_0 : List UInt8 := dkwJ34_pickPos_0 ++ []
theorem dksJ34_pickPos_0 : cJ34_pickPos.data.toList.drop 0 = dktJ34_pickPos_0 := by decide +kernel
theorem dJ34_pickPos_0 : decode cJ34_pickPos 0 = .ok (.getstatic 351, 3) := dk_178 1 95 (dk_at dksJ34_pickPos_0 0 rfl rfl)
theorem dJ34_pickPos_3 : decode cJ34_pickPos 3 = .ok (.ifCond .eq 9, 3) := dk_153 0 9 (dk_at dksJ34_pickPos_0 3 rfl rfl)
theorem dJ34_pickPos_6 : decode cJ34_pickPos 6 = .ok (.iload_n 0, 1) := dk_26 (dk_at dksJ34_pickPos_0 6 rfl rfl)
theorem dJ34_pickPos_7 : decode cJ34_pickPos 7 = .ok (.iload_n 1, 1) := dk_27 (dk_at dksJ34_pickPos_0 7 rfl rfl)
theorem dJ34_pickPos_8 : decode cJ34_pickPos 8 = .ok (.isub, 1) := dk_100 (dk_at dksJ34_pickPos_0 8 rfl rfl)
theorem dJ34_pickPos_9 : decode cJ34_pickPos 9 = .ok (.goto 4, 3) := dk_167 0 4 (dk_at dksJ34_pickPos_0 9 rfl rfl)
theorem dJ34_pickPos_12 : decode cJ34_pickPos 12 = .ok (.iload_n 1, 1) := dk_27 (dk_at dksJ34_pickPos_0 12 rfl rfl)
theorem dJ34_pickPos_13 : decode cJ34_pickPos 13 = .ok (.ireturn, 1) := dk_172 (dk_at dksJ34_pickPos_0 13 rfl rfl)
abbrev cJ34_makeLong_2 : ByteArray := prog_80_method_352_code
def yJ34_makeLong_2 : MethodName := ⟨RJ34, "makeLong", "(SSSS)J"⟩
def dkwJ34_makeLong_2_2 : List UInt8 := [121, 129, 173]
abbrev dktJ34_makeLong_2_2 : List UInt8 := dkwJ34_makeLong_2_2 ++ []
def dkwJ34_makeLong_2_1 : List UInt8 := [28, 184, 3, 20, 16, 48, 16, 32, 184, 3, 16, 121, 129, 29, 184, 3, 20, 16, 48, 16, 48, 184, 3, 16]
abbrev dktJ34_makeLong_2_1 : List UInt8 := dkwJ34_makeLong_2_1 ++ dktJ34_makeLong_2_2
def dkwJ34_makeLong_2_0 : List UInt8 := [26, 184, 3, 20, 16, 48, 3, 184, 3, 16, 121, 27, 184, 3, 20, 16, 48, 16, 16, 184, 3, 16, 121, 129]
abbrev dktJ34_makeLong_2_0 : List UInt8 := dkwJ34_makeLong_2_0 ++ dktJ34_makeLong_2_1
theorem dksJ34_makeLong_2_0 : cJ34_makeLong_2.data.toList.drop 0 = dktJ34_makeLong_2_0 := by decide +kernel
theorem dksJ34_makeLong_2_1 : cJ34_makeLong_2.data.toList.drop 24 = dktJ34_makeLong_2_1 := dk_seg dksJ34_makeLong_2_0 24 rfl rfl
theorem dksJ34_makeLong_2_2 : cJ34_makeLong_2.data.toList.drop 48 = dktJ34_makeLong_2_2 := dk_seg dksJ34_makeLong_2_1 24 rfl rfl
theorem dJ34_makeLong_2_0 : decode cJ34_makeLong_2 0 = .ok (.iload_n 0, 1) := dk_26 (dk_at dksJ34_makeLong_2_0 0 rfl rfl)
theorem dJ34_makeLong_2_1 : decode cJ34_makeLong_2 1 = .ok (.invokestatic 788, 3) := dk_184 3 20 (dk_at dksJ34_makeLong_2_0 1 rfl rfl)
theorem dJ34_makeLong_2_4 : decode cJ34_makeLong_2 4 = .ok (.bipush 48, 2) := dk_16 48 (dk_at dksJ34_makeLong_2_0 4 rfl rfl)
theorem dJ34_makeLong_2_6 : decode cJ34_makeLong_2 6 = .ok (.iconst 0, 1) := dk_3 (dk_at dksJ34_makeLong_2_0 6 rfl rfl)
theorem dJ34_makeLong_2_7 : decode cJ34_makeLong_2 7 = .ok (.invokestatic 784, 3) := dk_184 3 16 (dk_at dksJ34_makeLong_2_0 7 rfl rfl)
theorem dJ34_makeLong_2_10 : decode cJ34_makeLong_2 10 = .ok (.lshl, 1) := dk_121 (dk_at dksJ34_makeLong_2_0 10 rfl rfl)
theorem dJ34_makeLong_2_11 : decode cJ34_makeLong_2 11 = .ok (.iload_n 1, 1) := dk_27 (dk_at dksJ34_makeLong_2_0 11 rfl rfl)
theorem dJ34_makeLong_2_12 : decode cJ34_makeLong_2 12 = .ok (.invokestatic 788, 3) := dk_184 3 20 (dk_at dksJ34_makeLong_2_0 12 rfl rfl)
theorem dJ34_makeLong_2_15 : decode cJ34_makeLong_2 15 = .ok (.bipush 48, 2) := dk_16 48 (dk_at dksJ34_makeLong_2_0 15 rfl rfl)
theorem dJ34_makeLong_2_17 : decode cJ34_makeLong_2 17 = .ok (.bipush 16, 2) := dk_16 16 (dk_at dksJ34_makeLong_2_0 17 rfl rfl)
theorem dJ34_makeLong_2_19 : decode cJ34_makeLong_2 19 = .ok (.invokestatic 784, 3) := dk_184 3 16 (dk_at dksJ34_makeLong_2_0 19 rfl rfl)
theorem dJ34_makeLong_2_22 : decode cJ34_makeLong_2 22 = .ok (.lshl, 1) := dk_121 (dk_at dksJ34_makeLong_2_0 22 rfl rfl)
theorem dJ34_makeLong_2_23 : decode cJ34_makeLong_2 23 = .ok (.lor, 1) := dk_129 (dk_at dksJ34_makeLong_2_0 23 rfl rfl)
theorem dJ34_makeLong_2_24 : decode cJ34_makeLong_2 24 = .ok (.iload_n 2, 1) := dk_28 (dk_at dksJ34_makeLong_2_1 0 rfl rfl)
theorem dJ34_makeLong_2_25 : decode cJ34_makeLong_2 25 = .ok (.invokestatic 788, 3) := dk_184 3 20 (dk_at dksJ34_makeLong_2_1 1 rfl rfl)
theorem dJ34_makeLong_2_28 : decode cJ34_makeLong_2 28 = .ok (.bipush 48, 2) := dk_16 48 (dk_at dksJ34_makeLong_2_1 4 rfl rfl)
theorem dJ34_makeLong_2_30 : decode cJ34_makeLong_2 30 = .ok (.bipush 32, 2) := dk_16 32 (dk_at dksJ34_makeLong_2_1 6 rfl rfl)
theorem dJ34_makeLong_2_32 : decode cJ34_makeLong_2 32 = .ok (.invokestatic 784, 3) := dk_184 3 16 (dk_at dksJ34_makeLong_2_1 8 rfl rfl)
theorem dJ34_makeLong_2_35 : decode cJ34_makeLong_2 35 = .ok (.lshl, 1) := dk_121 (dk_at dksJ34_makeLong_2_1 11 rfl rfl)
theorem dJ34_makeLong_2_36 : decode cJ34_makeLong_2 36 = .ok (.lor, 1) := dk_129 (dk_at dksJ34_makeLong_2_1 12 rfl rfl)
theorem dJ34_makeLong_2_37 : decode cJ34_makeLong_2 37 = .ok (.iload_n 3, 1) := dk_29 (dk_at dksJ34_makeLong_2_1 13 rfl rfl)
theorem dJ34_makeLong_2_38 : decode cJ34_makeLong_2 38 = .ok (.invokestatic 788, 3) := dk_184 3 20 (dk_at dksJ34_makeLong_2_1 14 rfl rfl)
theorem dJ34_makeLong_2_41 : decode cJ34_makeLong_2 41 = .ok (.bipush 48, 2) := dk_16 48 (dk_at dksJ34_makeLong_2_1 17 rfl rfl)
theorem dJ34_makeLong_2_43 : decode cJ34_makeLong_2 43 = .ok (.bipush 48, 2) := dk_16 48 (dk_at dksJ34_makeLong_2_1 19 rfl rfl)
theorem dJ34_makeLong_2_45 : decode cJ34_makeLong_2 45 = .ok (.invokestatic 784, 3) := dk_184 3 16 (dk_at dksJ34_makeLong_2_1 21 rfl rfl)
theorem dJ34_makeLong_2_48 : decode cJ34_makeLong_2 48 = .ok (.lshl, 1) := dk_121 (dk_at dksJ34_makeLong_2_2 0 rfl rfl)
theorem dJ34_makeLong_2_49 : decode cJ34_makeLong_2 49 = .ok (.lor, 1) := dk_129 (dk_at dksJ34_makeLong_2_2 1 rfl rfl)
theorem dJ34_makeLong_2_50 : decode cJ34_makeLong_2 50 = .ok (.lreturn, 1) := dk_173 (dk_at dksJ34_makeLong_2_2 2 rfl rfl)
abbrev cJ34_toUnsignedLong_2 : ByteArray := prog_80_method_369_code
def yJ34_toUnsignedLong_2 : MethodName := ⟨RJ34, "toUnsignedLong", "(S)J"⟩
def dkwJ34_toUnsignedLong_2_0 : List UInt8 := [26, 133, 20, 3, 42, 127, 173]
abbrev dktJ34_toUnsignedLong_2_0 : List UInt8 := dkwJ34_toUnsignedLong_2_0 ++ []
theorem dksJ34_toUnsignedLong_2_0 : cJ34_toUnsignedLong_2.data.toList.drop 0 = dktJ34_toUnsignedLong_2_0 := by decide +kernel
theorem dJ34_toUnsignedLong_2_0 : decode cJ34_toUnsignedLong_2 0 = .ok (.iload_n 0, 1) := dk_26 (dk_at dksJ34_toUnsignedLong_2_0 0 rfl rfl)
theorem dJ34_toUnsignedLong_2_1 : decode cJ34_toUnsignedLong_2 1 = .ok (.i2l, 1) := dk_133 (dk_at dksJ34_toUnsignedLong_2_0 1 rfl rfl)
theorem dJ34_toUnsignedLong_2_2 : decode cJ34_toUnsignedLong_2 2 = .ok (.ldc2_w 810, 3) := dk_20 3 42 (dk_at dksJ34_toUnsignedLong_2_0 2 rfl rfl)
theorem dJ34_toUnsignedLong_2_5 : decode cJ34_toUnsignedLong_2 5 = .ok (.land, 1) := dk_127 (dk_at dksJ34_toUnsignedLong_2_0 5 rfl rfl)
theorem dJ34_toUnsignedLong_2_6 : decode cJ34_toUnsignedLong_2 6 = .ok (.lreturn, 1) := dk_173 (dk_at dksJ34_toUnsignedLong_2_0 6 rfl rfl)
abbrev cJ34_makeLong_3 : ByteArray := prog_80_method_351_code
def yJ34_makeLong_3 : MethodName := ⟨RJ34, "makeLong", "(BBBBBBBB)J"⟩
def dkwJ34_makeLong_3_4 : List UInt8 := [184, 3, 13, 16, 56, 16, 56, 184, 3, 16, 121, 129, 173]
abbrev dktJ34_makeLong_3_4 : List UInt8 := dkwJ34_makeLong_3_4 ++ []
def dkwJ34_makeLong_3_3 : List UInt8 := [16, 40, 184, 3, 16, 121, 129, 21, 6, 184, 3, 13, 16, 56, 16, 48, 184, 3, 16, 121, 129, 21, 7]
abbrev dktJ34_makeLong_3_3 : List UInt8 := dkwJ34_makeLong_3_3 ++ dktJ34_makeLong_3_4
def dkwJ34_makeLong_3_2 : List UInt8 := [121, 129, 21, 4, 184, 3, 13, 16, 56, 16, 32, 184, 3, 16, 121, 129, 21, 5, 184, 3, 13, 16, 56]
abbrev dktJ34_makeLong_3_2 : List UInt8 := dkwJ34_makeLong_3_2 ++ dktJ34_makeLong_3_3
def dkwJ34_makeLong_3_1 : List UInt8 := [28, 184, 3, 13, 16, 56, 16, 16, 184, 3, 16, 121, 129, 29, 184, 3, 13, 16, 56, 16, 24, 184, 3, 16]
abbrev dktJ34_makeLong_3_1 : List UInt8 := dkwJ34_makeLong_3_1 ++ dktJ34_makeLong_3_2
def dkwJ34_makeLong_3_0 : List UInt8 := [26, 184, 3, 13, 16, 56, 3, 184, 3, 16, 121, 27, 184, 3, 13, 16, 56, 16, 8, 184, 3, 16, 121, 129]
abbrev dktJ34_makeLong_3_0 : List UInt8 := dkwJ34_makeLong_3_0 ++ dktJ34_makeLong_3_1
theorem dksJ34_makeLong_3_0 : cJ34_makeLong_3.data.toList.drop 0 = dktJ34_makeLong_3_0 := by decide +kernel
theorem dksJ34_makeLong_3_1 : cJ34_makeLong_3.data.toList.drop 24 = dktJ34_makeLong_3_1 := dk_seg dksJ34_makeLong_3_0 24 rfl rfl
theorem dksJ34_makeLong_3_2 : cJ34_makeLong_3.data.toList.drop 48 = dktJ34_makeLong_3_2 := dk_seg dksJ34_makeLong_3_1 24 rfl rfl
theorem dksJ34_makeLong_3_3 : cJ34_makeLong_3.data.toList.drop 71 = dktJ34_makeLong_3_3 := dk_seg dksJ34_makeLong_3_2 23 rfl rfl
theorem dksJ34_makeLong_3_4 : cJ34_makeLong_3.data.toList.drop 94 = dktJ34_makeLong_3_4 := dk_seg dksJ34_makeLong_3_3 23 rfl rfl
theorem dJ34_makeLong_3_0 : decode cJ34_makeLong_3 0 = .ok (.iload_n 0, 1) := dk_26 (dk_at dksJ34_makeLong_3_0 0 rfl rfl)
theorem dJ34_makeLong_3_1 : decode cJ34_makeLong_3 1 = .ok (.invokestatic 781, 3) := dk_184 3 13 (dk_at dksJ34_makeLong_3_0 1 rfl rfl)
theorem dJ34_makeLong_3_4 : decode cJ34_makeLong_3 4 = .ok (.bipush 56, 2) := dk_16 56 (dk_at dksJ34_makeLong_3_0 4 rfl rfl)
theorem dJ34_makeLong_3_6 : decode cJ34_makeLong_3 6 = .ok (.iconst 0, 1) := dk_3 (dk_at dksJ34_makeLong_3_0 6 rfl rfl)
theorem dJ34_makeLong_3_7 : decode cJ34_makeLong_3 7 = .ok (.invokestatic 784, 3) := dk_184 3 16 (dk_at dksJ34_makeLong_3_0 7 rfl rfl)
theorem dJ34_makeLong_3_10 : decode cJ34_makeLong_3 10 = .ok (.lshl, 1) := dk_121 (dk_at dksJ34_makeLong_3_0 10 rfl rfl)
theorem dJ34_makeLong_3_11 : decode cJ34_makeLong_3 11 = .ok (.iload_n 1, 1) := dk_27 (dk_at dksJ34_makeLong_3_0 11 rfl rfl)
theorem dJ34_makeLong_3_12 : decode cJ34_makeLong_3 12 = .ok (.invokestatic 781, 3) := dk_184 3 13 (dk_at dksJ34_makeLong_3_0 12 rfl rfl)
theorem dJ34_makeLong_3_15 : decode cJ34_makeLong_3 15 = .ok (.bipush 56, 2) := dk_16 56 (dk_at dksJ34_makeLong_3_0 15 rfl rfl)
theorem dJ34_makeLong_3_17 : decode cJ34_makeLong_3 17 = .ok (.bipush 8, 2) := dk_16 8 (dk_at dksJ34_makeLong_3_0 17 rfl rfl)
theorem dJ34_makeLong_3_19 : decode cJ34_makeLong_3 19 = .ok (.invokestatic 784, 3) := dk_184 3 16 (dk_at dksJ34_makeLong_3_0 19 rfl rfl)
theorem dJ34_makeLong_3_22 : decode cJ34_makeLong_3 22 = .ok (.lshl, 1) := dk_121 (dk_at dksJ34_makeLong_3_0 22 rfl rfl)
theorem dJ34_makeLong_3_23 : decode cJ34_makeLong_3 23 = .ok (.lor, 1) := dk_129 (dk_at dksJ34_makeLong_3_0 23 rfl rfl)
theorem dJ34_makeLong_3_24 : decode cJ34_makeLong_3 24 = .ok (.iload_n 2, 1) := dk_28 (dk_at dksJ34_makeLong_3_1 0 rfl rfl)
theorem dJ34_makeLong_3_25 : decode cJ34_makeLong_3 25 = .ok (.invokestatic 781, 3) := dk_184 3 13 (dk_at dksJ34_makeLong_3_1 1 rfl rfl)
theorem dJ34_makeLong_3_28 : decode cJ34_makeLong_3 28 = .ok (.bipush 56, 2) := dk_16 56 (dk_at dksJ34_makeLong_3_1 4 rfl rfl)
theorem dJ34_makeLong_3_30 : decode cJ34_makeLong_3 30 = .ok (.bipush 16, 2) := dk_16 16 (dk_at dksJ34_makeLong_3_1 6 rfl rfl)
theorem dJ34_makeLong_3_32 : decode cJ34_makeLong_3 32 = .ok (.invokestatic 784, 3) := dk_184 3 16 (dk_at dksJ34_makeLong_3_1 8 rfl rfl)
theorem dJ34_makeLong_3_35 : decode cJ34_makeLong_3 35 = .ok (.lshl, 1) := dk_121 (dk_at dksJ34_makeLong_3_1 11 rfl rfl)
theorem dJ34_makeLong_3_36 : decode cJ34_makeLong_3 36 = .ok (.lor, 1) := dk_129 (dk_at dksJ34_makeLong_3_1 12 rfl rfl)
theorem dJ34_makeLong_3_37 : decode cJ34_makeLong_3 37 = .ok (.iload_n 3, 1) := dk_29 (dk_at dksJ34_makeLong_3_1 13 rfl rfl)
theorem dJ34_makeLong_3_38 : decode cJ34_makeLong_3 38 = .ok (.invokestatic 781, 3) := dk_184 3 13 (dk_at dksJ34_makeLong_3_1 14 rfl rfl)
theorem dJ34_makeLong_3_41 : decode cJ34_makeLong_3 41 = .ok (.bipush 56, 2) := dk_16 56 (dk_at dksJ34_makeLong_3_1 17 rfl rfl)
theorem dJ34_makeLong_3_43 : decode cJ34_makeLong_3 43 = .ok (.bipush 24, 2) := dk_16 24 (dk_at dksJ34_makeLong_3_1 19 rfl rfl)
theorem dJ34_makeLong_3_45 : decode cJ34_makeLong_3 45 = .ok (.invokestatic 784, 3) := dk_184 3 16 (dk_at dksJ34_makeLong_3_1 21 rfl rfl)
theorem dJ34_makeLong_3_48 : decode cJ34_makeLong_3 48 = .ok (.lshl, 1) := dk_121 (dk_at dksJ34_makeLong_3_2 0 rfl rfl)
theorem dJ34_makeLong_3_49 : decode cJ34_makeLong_3 49 = .ok (.lor, 1) := dk_129 (dk_at dksJ34_makeLong_3_2 1 rfl rfl)
theorem dJ34_makeLong_3_50 : decode cJ34_makeLong_3 50 = .ok (.iload 4, 2) := dk_21 4 (dk_at dksJ34_makeLong_3_2 2 rfl rfl)
theorem dJ34_makeLong_3_52 : decode cJ34_makeLong_3 52 = .ok (.invokestatic 781, 3) := dk_184 3 13 (dk_at dksJ34_makeLong_3_2 4 rfl rfl)
theorem dJ34_makeLong_3_55 : decode cJ34_makeLong_3 55 = .ok (.bipush 56, 2) := dk_16 56 (dk_at dksJ34_makeLong_3_2 7 rfl rfl)
theorem dJ34_makeLong_3_57 : decode cJ34_makeLong_3 57 = .ok (.bipush 32, 2) := dk_16 32 (dk_at dksJ34_makeLong_3_2 9 rfl rfl)
theorem dJ34_makeLong_3_59 : decode cJ34_makeLong_3 59 = .ok (.invokestatic 784, 3) := dk_184 3 16 (dk_at dksJ34_makeLong_3_2 11 rfl rfl)
theorem dJ34_makeLong_3_62 : decode cJ34_makeLong_3 62 = .ok (.lshl, 1) := dk_121 (dk_at dksJ34_makeLong_3_2 14 rfl rfl)
theorem dJ34_makeLong_3_63 : decode cJ34_makeLong_3 63 = .ok (.lor, 1) := dk_129 (dk_at dksJ34_makeLong_3_2 15 rfl rfl)
theorem dJ34_makeLong_3_64 : decode cJ34_makeLong_3 64 = .ok (.iload 5, 2) := dk_21 5 (dk_at dksJ34_makeLong_3_2 16 rfl rfl)
theorem dJ34_makeLong_3_66 : decode cJ34_makeLong_3 66 = .ok (.invokestatic 781, 3) := dk_184 3 13 (dk_at dksJ34_makeLong_3_2 18 rfl rfl)
theorem dJ34_makeLong_3_69 : decode cJ34_makeLong_3 69 = .ok (.bipush 56, 2) := dk_16 56 (dk_at dksJ34_makeLong_3_2 21 rfl rfl)
theorem dJ34_makeLong_3_71 : decode cJ34_makeLong_3 71 = .ok (.bipush 40, 2) := dk_16 40 (dk_at dksJ34_makeLong_3_3 0 rfl rfl)
theorem dJ34_makeLong_3_73 : decode cJ34_makeLong_3 73 = .ok (.invokestatic 784, 3) := dk_184 3 16 (dk_at dksJ34_makeLong_3_3 2 rfl rfl)
theorem dJ34_makeLong_3_76 : decode cJ34_makeLong_3 76 = .ok (.lshl, 1) := dk_121 (dk_at dksJ34_makeLong_3_3 5 rfl rfl)
theorem dJ34_makeLong_3_77 : decode cJ34_makeLong_3 77 = .ok (.lor, 1) := dk_129 (dk_at dksJ34_makeLong_3_3 6 rfl rfl)
theorem dJ34_makeLong_3_78 : decode cJ34_makeLong_3 78 = .ok (.iload 6, 2) := dk_21 6 (dk_at dksJ34_makeLong_3_3 7 rfl rfl)
theorem dJ34_makeLong_3_80 : decode cJ34_makeLong_3 80 = .ok (.invokestatic 781, 3) := dk_184 3 13 (dk_at dksJ34_makeLong_3_3 9 rfl rfl)
theorem dJ34_makeLong_3_83 : decode cJ34_makeLong_3 83 = .ok (.bipush 56, 2) := dk_16 56 (dk_at dksJ34_makeLong_3_3 12 rfl rfl)
theorem dJ34_makeLong_3_85 : decode cJ34_makeLong_3 85 = .ok (.bipush 48, 2) := dk_16 48 (dk_at dksJ34_makeLong_3_3 14 rfl rfl)
theorem dJ34_makeLong_3_87 : decode cJ34_makeLong_3 87 = .ok (.invokestatic 784, 3) := dk_184 3 16 (dk_at dksJ34_makeLong_3_3 16 rfl rfl)
theorem dJ34_makeLong_3_90 : decode cJ34_makeLong_3 90 = .ok (.lshl, 1) := dk_121 (dk_at dksJ34_makeLong_3_3 19 rfl rfl)
theorem dJ34_makeLong_3_91 : decode cJ34_makeLong_3 91 = .ok (.lor, 1) := dk_129 (dk_at dksJ34_makeLong_3_3 20 rfl rfl)
theorem dJ34_makeLong_3_92 : decode cJ34_makeLong_3 92 = .ok (.iload 7, 2) := dk_21 7 (dk_at dksJ34_makeLong_3_3 21 rfl rfl)
theorem dJ34_makeLong_3_94 : decode cJ34_makeLong_3 94 = .ok (.invokestatic 781, 3) := dk_184 3 13 (dk_at dksJ34_makeLong_3_4 0 rfl rfl)
theorem dJ34_makeLong_3_97 : decode cJ34_makeLong_3 97 = .ok (.bipush 56, 2) := dk_16 56 (dk_at dksJ34_makeLong_3_4 3 rfl rfl)
theorem dJ34_makeLong_3_99 : decode cJ34_makeLong_3 99 = .ok (.bipush 56, 2) := dk_16 56 (dk_at dksJ34_makeLong_3_4 5 rfl rfl)
theorem dJ34_makeLong_3_101 : decode cJ34_makeLong_3 101 = .ok (.invokestatic 784, 3) := dk_184 3 16 (dk_at dksJ34_makeLong_3_4 7 rfl rfl)
theorem dJ34_makeLong_3_104 : decode cJ34_makeLong_3 104 = .ok (.lshl, 1) := dk_121 (dk_at dksJ34_makeLong_3_4 10 rfl rfl)
theorem dJ34_makeLong_3_105 : decode cJ34_makeLong_3 105 = .ok (.lor, 1) := dk_129 (dk_at dksJ34_makeLong_3_4 11 rfl rfl)
theorem dJ34_makeLong_3_106 : decode cJ34_makeLong_3 106 = .ok (.lreturn, 1) := dk_173 (dk_at dksJ34_makeLong_3_4 12 rfl rfl)
abbrev cJ34_toUnsignedLong_3 : ByteArray := prog_80_method_368_code
def yJ34_toUnsignedLong_3 : MethodName := ⟨RJ34, "toUnsignedLong", "(B)J"⟩
def dkwJ34_toUnsignedLong_3_0 : List UInt8 := [26, 133, 20, 3, 40, 127, 173]
abbrev dktJ34_toUnsignedLong_3_0 : List UInt8 := dkwJ34_toUnsignedLong_3_0 ++ []
theorem dksJ34_toUnsignedLong_3_0 : cJ34_toUnsignedLong_3.data.toList.drop 0 = dktJ34_toUnsignedLong_3_0 := by decide +kernel
theorem dJ34_toUnsignedLong_3_0 : decode cJ34_toUnsignedLong_3 0 = .ok (.iload_n 0, 1) := dk_26 (dk_at dksJ34_toUnsignedLong_3_0 0 rfl rfl)
theorem dJ34_toUnsignedLong_3_1 : decode cJ34_toUnsignedLong_3 1 = .ok (.i2l, 1) := dk_133 (dk_at dksJ34_toUnsignedLong_3_0 1 rfl rfl)
theorem dJ34_toUnsignedLong_3_2 : decode cJ34_toUnsignedLong_3 2 = .ok (.ldc2_w 808, 3) := dk_20 3 40 (dk_at dksJ34_toUnsignedLong_3_0 2 rfl rfl)
theorem dJ34_toUnsignedLong_3_5 : decode cJ34_toUnsignedLong_3 5 = .ok (.land, 1) := dk_127 (dk_at dksJ34_toUnsignedLong_3_0 5 rfl rfl)
theorem dJ34_toUnsignedLong_3_6 : decode cJ34_toUnsignedLong_3 6 = .ok (.lreturn, 1) := dk_173 (dk_at dksJ34_toUnsignedLong_3_0 6 rfl rfl)
abbrev cJ34_getIntUnaligned : ByteArray := prog_80_method_336_code
def yJ34_getIntUnaligned : MethodName := ⟨RJ34, "getIntUnaligned", "(Ljava/lang/Object;J)I"⟩
def dkwJ34_getIntUnaligned_3 : List UInt8 := [43, 32, 20, 1, 93, 97, 182, 0, 39, 184, 2, 211, 172]
abbrev dktJ34_getIntUnaligned_3 : List UInt8 := dkwJ34_getIntUnaligned_3 ++ []
def dkwJ34_getIntUnaligned_2 : List UInt8 := [43, 32, 182, 0, 39, 42, 43, 32, 10, 97, 182, 0, 39, 42, 43, 32, 20, 0, 203, 97, 182, 0, 39, 42]
abbrev dktJ34_getIntUnaligned_2 : List UInt8 := dkwJ34_getIntUnaligned_2 ++ dktJ34_getIntUnaligned_3
def dkwJ34_getIntUnaligned_1 : List UInt8 := [154, 0, 23, 42, 43, 32, 182, 0, 47, 42, 43, 32, 20, 0, 203, 97, 182, 0, 47, 184, 2, 207, 172, 42]
abbrev dktJ34_getIntUnaligned_1 : List UInt8 := dkwJ34_getIntUnaligned_1 ++ dktJ34_getIntUnaligned_2
def dkwJ34_getIntUnaligned_0 : List UInt8 := [32, 20, 1, 93, 127, 9, 148, 154, 0, 10, 42, 43, 32, 182, 0, 17, 172, 32, 10, 127, 9, 148]
abbrev dktJ34_getIntUnaligned_0 : List UInt8 := dkwJ34_getIntUnaligned_0 ++ dktJ34_getIntUnaligned_1
theorem dksJ34_getIntUnaligned_0 : cJ34_getIntUnaligned.data.toList.drop 0 = dktJ34_getIntUnaligned_0 := by decide +kernel
theorem dksJ34_getIntUnaligned_1 : cJ34_getIntUnaligned.data.toList.drop 22 = dktJ34_getIntUnaligned_1 := dk_seg dksJ34_getIntUnaligned_0 22 rfl rfl
theorem dksJ34_getIntUnaligned_2 : cJ34_getIntUnaligned.data.toList.drop 46 = dktJ34_getIntUnaligned_2 := dk_seg dksJ34_getIntUnaligned_1 24 rfl rfl
theorem dksJ34_getIntUnaligned_3 : cJ34_getIntUnaligned.data.toList.drop 70 = dktJ34_getIntUnaligned_3 := dk_seg dksJ34_getIntUnaligned_2 24 rfl rfl
theorem dJ34_getIntUnaligned_0 : decode cJ34_getIntUnaligned 0 = .ok (.lload_n 2, 1) := dk_32 (dk_at dksJ34_getIntUnaligned_0 0 rfl rfl)
theorem dJ34_getIntUnaligned_1 : decode cJ34_getIntUnaligned 1 = .ok (.ldc2_w 349, 3) := dk_20 1 93 (dk_at dksJ34_getIntUnaligned_0 1 rfl rfl)
theorem dJ34_getIntUnaligned_4 : decode cJ34_getIntUnaligned 4 = .ok (.land, 1) := dk_127 (dk_at dksJ34_getIntUnaligned_0 4 rfl rfl)
theorem dJ34_getIntUnaligned_5 : decode cJ34_getIntUnaligned 5 = .ok (.lconst 0, 1) := dk_9 (dk_at dksJ34_getIntUnaligned_0 5 rfl rfl)
theorem dJ34_getIntUnaligned_6 : decode cJ34_getIntUnaligned 6 = .ok (.lcmp, 1) := dk_148 (dk_at dksJ34_getIntUnaligned_0 6 rfl rfl)
theorem dJ34_getIntUnaligned_7 : decode cJ34_getIntUnaligned 7 = .ok (.ifCond .ne 10, 3) := dk_154 0 10 (dk_at dksJ34_getIntUnaligned_0 7 rfl rfl)
theorem dJ34_getIntUnaligned_10 : decode cJ34_getIntUnaligned 10 = .ok (.aload_n 0, 1) := dk_42 (dk_at dksJ34_getIntUnaligned_0 10 rfl rfl)
theorem dJ34_getIntUnaligned_11 : decode cJ34_getIntUnaligned 11 = .ok (.aload_n 1, 1) := dk_43 (dk_at dksJ34_getIntUnaligned_0 11 rfl rfl)
theorem dJ34_getIntUnaligned_12 : decode cJ34_getIntUnaligned 12 = .ok (.lload_n 2, 1) := dk_32 (dk_at dksJ34_getIntUnaligned_0 12 rfl rfl)
theorem dJ34_getIntUnaligned_13 : decode cJ34_getIntUnaligned 13 = .ok (.invokevirtual 17, 3) := dk_182 0 17 (dk_at dksJ34_getIntUnaligned_0 13 rfl rfl)
theorem dJ34_getIntUnaligned_16 : decode cJ34_getIntUnaligned 16 = .ok (.ireturn, 1) := dk_172 (dk_at dksJ34_getIntUnaligned_0 16 rfl rfl)
theorem dJ34_getIntUnaligned_17 : decode cJ34_getIntUnaligned 17 = .ok (.lload_n 2, 1) := dk_32 (dk_at dksJ34_getIntUnaligned_0 17 rfl rfl)
theorem dJ34_getIntUnaligned_18 : decode cJ34_getIntUnaligned 18 = .ok (.lconst 1, 1) := dk_10 (dk_at dksJ34_getIntUnaligned_0 18 rfl rfl)
theorem dJ34_getIntUnaligned_19 : decode cJ34_getIntUnaligned 19 = .ok (.land, 1) := dk_127 (dk_at dksJ34_getIntUnaligned_0 19 rfl rfl)
theorem dJ34_getIntUnaligned_20 : decode cJ34_getIntUnaligned 20 = .ok (.lconst 0, 1) := dk_9 (dk_at dksJ34_getIntUnaligned_0 20 rfl rfl)
theorem dJ34_getIntUnaligned_21 : decode cJ34_getIntUnaligned 21 = .ok (.lcmp, 1) := dk_148 (dk_at dksJ34_getIntUnaligned_0 21 rfl rfl)
theorem dJ34_getIntUnaligned_22 : decode cJ34_getIntUnaligned 22 = .ok (.ifCond .ne 23, 3) := dk_154 0 23 (dk_at dksJ34_getIntUnaligned_1 0 rfl rfl)
theorem dJ34_getIntUnaligned_25 : decode cJ34_getIntUnaligned 25 = .ok (.aload_n 0, 1) := dk_42 (dk_at dksJ34_getIntUnaligned_1 3 rfl rfl)
theorem dJ34_getIntUnaligned_26 : decode cJ34_getIntUnaligned 26 = .ok (.aload_n 1, 1) := dk_43 (dk_at dksJ34_getIntUnaligned_1 4 rfl rfl)
theorem dJ34_getIntUnaligned_27 : decode cJ34_getIntUnaligned 27 = .ok (.lload_n 2, 1) := dk_32 (dk_at dksJ34_getIntUnaligned_1 5 rfl rfl)
theorem dJ34_getIntUnaligned_28 : decode cJ34_getIntUnaligned 28 = .ok (.invokevirtual 47, 3) := dk_182 0 47 (dk_at dksJ34_getIntUnaligned_1 6 rfl rfl)
theorem dJ34_getIntUnaligned_31 : decode cJ34_getIntUnaligned 31 = .ok (.aload_n 0, 1) := dk_42 (dk_at dksJ34_getIntUnaligned_1 9 rfl rfl)
theorem dJ34_getIntUnaligned_32 : decode cJ34_getIntUnaligned 32 = .ok (.aload_n 1, 1) := dk_43 (dk_at dksJ34_getIntUnaligned_1 10 rfl rfl)
theorem dJ34_getIntUnaligned_33 : decode cJ34_getIntUnaligned 33 = .ok (.lload_n 2, 1) := dk_32 (dk_at dksJ34_getIntUnaligned_1 11 rfl rfl)
theorem dJ34_getIntUnaligned_34 : decode cJ34_getIntUnaligned 34 = .ok (.ldc2_w 203, 3) := dk_20 0 203 (dk_at dksJ34_getIntUnaligned_1 12 rfl rfl)
theorem dJ34_getIntUnaligned_37 : decode cJ34_getIntUnaligned 37 = .ok (.ladd, 1) := dk_97 (dk_at dksJ34_getIntUnaligned_1 15 rfl rfl)
theorem dJ34_getIntUnaligned_38 : decode cJ34_getIntUnaligned 38 = .ok (.invokevirtual 47, 3) := dk_182 0 47 (dk_at dksJ34_getIntUnaligned_1 16 rfl rfl)
theorem dJ34_getIntUnaligned_41 : decode cJ34_getIntUnaligned 41 = .ok (.invokestatic 719, 3) := dk_184 2 207 (dk_at dksJ34_getIntUnaligned_1 19 rfl rfl)
theorem dJ34_getIntUnaligned_44 : decode cJ34_getIntUnaligned 44 = .ok (.ireturn, 1) := dk_172 (dk_at dksJ34_getIntUnaligned_1 22 rfl rfl)
theorem dJ34_getIntUnaligned_45 : decode cJ34_getIntUnaligned 45 = .ok (.aload_n 0, 1) := dk_42 (dk_at dksJ34_getIntUnaligned_1 23 rfl rfl)
theorem dJ34_getIntUnaligned_46 : decode cJ34_getIntUnaligned 46 = .ok (.aload_n 1, 1) := dk_43 (dk_at dksJ34_getIntUnaligned_2 0 rfl rfl)
theorem dJ34_getIntUnaligned_47 : decode cJ34_getIntUnaligned 47 = .ok (.lload_n 2, 1) := dk_32 (dk_at dksJ34_getIntUnaligned_2 1 rfl rfl)
theorem dJ34_getIntUnaligned_48 : decode cJ34_getIntUnaligned 48 = .ok (.invokevirtual 39, 3) := dk_182 0 39 (dk_at dksJ34_getIntUnaligned_2 2 rfl rfl)
theorem dJ34_getIntUnaligned_51 : decode cJ34_getIntUnaligned 51 = .ok (.aload_n 0, 1) := dk_42 (dk_at dksJ34_getIntUnaligned_2 5 rfl rfl)
theorem dJ34_getIntUnaligned_52 : decode cJ34_getIntUnaligned 52 = .ok (.aload_n 1, 1) := dk_43 (dk_at dksJ34_getIntUnaligned_2 6 rfl rfl)
theorem dJ34_getIntUnaligned_53 : decode cJ34_getIntUnaligned 53 = .ok (.lload_n 2, 1) := dk_32 (dk_at dksJ34_getIntUnaligned_2 7 rfl rfl)
theorem dJ34_getIntUnaligned_54 : decode cJ34_getIntUnaligned 54 = .ok (.lconst 1, 1) := dk_10 (dk_at dksJ34_getIntUnaligned_2 8 rfl rfl)
theorem dJ34_getIntUnaligned_55 : decode cJ34_getIntUnaligned 55 = .ok (.ladd, 1) := dk_97 (dk_at dksJ34_getIntUnaligned_2 9 rfl rfl)
theorem dJ34_getIntUnaligned_56 : decode cJ34_getIntUnaligned 56 = .ok (.invokevirtual 39, 3) := dk_182 0 39 (dk_at dksJ34_getIntUnaligned_2 10 rfl rfl)
theorem dJ34_getIntUnaligned_59 : decode cJ34_getIntUnaligned 59 = .ok (.aload_n 0, 1) := dk_42 (dk_at dksJ34_getIntUnaligned_2 13 rfl rfl)
theorem dJ34_getIntUnaligned_60 : decode cJ34_getIntUnaligned 60 = .ok (.aload_n 1, 1) := dk_43 (dk_at dksJ34_getIntUnaligned_2 14 rfl rfl)
theorem dJ34_getIntUnaligned_61 : decode cJ34_getIntUnaligned 61 = .ok (.lload_n 2, 1) := dk_32 (dk_at dksJ34_getIntUnaligned_2 15 rfl rfl)
theorem dJ34_getIntUnaligned_62 : decode cJ34_getIntUnaligned 62 = .ok (.ldc2_w 203, 3) := dk_20 0 203 (dk_at dksJ34_getIntUnaligned_2 16 rfl rfl)
theorem dJ34_getIntUnaligned_65 : decode cJ34_getIntUnaligned 65 = .ok (.ladd, 1) := dk_97 (dk_at dksJ34_getIntUnaligned_2 19 rfl rfl)
theorem dJ34_getIntUnaligned_66 : decode cJ34_getIntUnaligned 66 = .ok (.invokevirtual 39, 3) := dk_182 0 39 (dk_at dksJ34_getIntUnaligned_2 20 rfl rfl)
theorem dJ34_getIntUnaligned_69 : decode cJ34_getIntUnaligned 69 = .ok (.aload_n 0, 1) := dk_42 (dk_at dksJ34_getIntUnaligned_2 23 rfl rfl)
theorem dJ34_getIntUnaligned_70 : decode cJ34_getIntUnaligned 70 = .ok (.aload_n 1, 1) := dk_43 (dk_at dksJ34_getIntUnaligned_3 0 rfl rfl)
theorem dJ34_getIntUnaligned_71 : decode cJ34_getIntUnaligned 71 = .ok (.lload_n 2, 1) := dk_32 (dk_at dksJ34_getIntUnaligned_3 1 rfl rfl)
theorem dJ34_getIntUnaligned_72 : decode cJ34_getIntUnaligned 72 = .ok (.ldc2_w 349, 3) := dk_20 1 93 (dk_at dksJ34_getIntUnaligned_3 2 rfl rfl)
theorem dJ34_getIntUnaligned_75 : decode cJ34_getIntUnaligned 75 = .ok (.ladd, 1) := dk_97 (dk_at dksJ34_getIntUnaligned_3 5 rfl rfl)
theorem dJ34_getIntUnaligned_76 : decode cJ34_getIntUnaligned 76 = .ok (.invokevirtual 39, 3) := dk_182 0 39 (dk_at dksJ34_getIntUnaligned_3 6 rfl rfl)
theorem dJ34_getIntUnaligned_79 : decode cJ34_getIntUnaligned 79 = .ok (.invokestatic 723, 3) := dk_184 2 211 (dk_at dksJ34_getIntUnaligned_3 9 rfl rfl)
theorem dJ34_getIntUnaligned_82 : decode cJ34_getIntUnaligned 82 = .ok (.ireturn, 1) := dk_172 (dk_at dksJ34_getIntUnaligned_3 12 rfl rfl)
abbrev cJ34_makeInt : ByteArray := prog_80_method_354_code
def yJ34_makeInt : MethodName := ⟨RJ34, "makeInt", "(SS)I"⟩
def dkwJ34_makeInt_1 : List UInt8 := [172]
abbrev dktJ34_makeInt_1 : List UInt8 := dkwJ34_makeInt_1 ++ []
def dkwJ34_makeInt_0 : List UInt8 := [26, 184, 3, 24, 16, 16, 3, 184, 3, 16, 120, 27, 184, 3, 24, 16, 16, 16, 16, 184, 3, 16, 120, 128]
abbrev dktJ34_makeInt_0 : List UInt8 := dkwJ34_makeInt_0 ++ dktJ34_makeInt_1
theorem dksJ34_makeInt_0 : cJ34_makeInt.data.toList.drop 0 = dktJ34_makeInt_0 := by decide +kernel
theorem dksJ34_makeInt_1 : cJ34_makeInt.data.toList.drop 24 = dktJ34_makeInt_1 := dk_seg dksJ34_makeInt_0 24 rfl rfl
theorem dJ34_makeInt_0 : decode cJ34_makeInt 0 = .ok (.iload_n 0, 1) := dk_26 (dk_at dksJ34_makeInt_0 0 rfl rfl)
theorem dJ34_makeInt_1 : decode cJ34_makeInt 1 = .ok (.invokestatic 792, 3) := dk_184 3 24 (dk_at dksJ34_makeInt_0 1 rfl rfl)
theorem dJ34_makeInt_4 : decode cJ34_makeInt 4 = .ok (.bipush 16, 2) := dk_16 16 (dk_at dksJ34_makeInt_0 4 rfl rfl)
theorem dJ34_makeInt_6 : decode cJ34_makeInt 6 = .ok (.iconst 0, 1) := dk_3 (dk_at dksJ34_makeInt_0 6 rfl rfl)
theorem dJ34_makeInt_7 : decode cJ34_makeInt 7 = .ok (.invokestatic 784, 3) := dk_184 3 16 (dk_at dksJ34_makeInt_0 7 rfl rfl)
theorem dJ34_makeInt_10 : decode cJ34_makeInt 10 = .ok (.ishl, 1) := dk_120 (dk_at dksJ34_makeInt_0 10 rfl rfl)
theorem dJ34_makeInt_11 : decode cJ34_makeInt 11 = .ok (.iload_n 1, 1) := dk_27 (dk_at dksJ34_makeInt_0 11 rfl rfl)
theorem dJ34_makeInt_12 : decode cJ34_makeInt 12 = .ok (.invokestatic 792, 3) := dk_184 3 24 (dk_at dksJ34_makeInt_0 12 rfl rfl)
theorem dJ34_makeInt_15 : decode cJ34_makeInt 15 = .ok (.bipush 16, 2) := dk_16 16 (dk_at dksJ34_makeInt_0 15 rfl rfl)
theorem dJ34_makeInt_17 : decode cJ34_makeInt 17 = .ok (.bipush 16, 2) := dk_16 16 (dk_at dksJ34_makeInt_0 17 rfl rfl)
theorem dJ34_makeInt_19 : decode cJ34_makeInt 19 = .ok (.invokestatic 784, 3) := dk_184 3 16 (dk_at dksJ34_makeInt_0 19 rfl rfl)
theorem dJ34_makeInt_22 : decode cJ34_makeInt 22 = .ok (.ishl, 1) := dk_120 (dk_at dksJ34_makeInt_0 22 rfl rfl)
theorem dJ34_makeInt_23 : decode cJ34_makeInt 23 = .ok (.ior, 1) := dk_128 (dk_at dksJ34_makeInt_0 23 rfl rfl)
theorem dJ34_makeInt_24 : decode cJ34_makeInt 24 = .ok (.ireturn, 1) := dk_172 (dk_at dksJ34_makeInt_1 0 rfl rfl)
abbrev cJ34_toUnsignedInt : ByteArray := prog_80_method_367_code
def yJ34_toUnsignedInt : MethodName := ⟨RJ34, "toUnsignedInt", "(S)I"⟩
def dkwJ34_toUnsignedInt_0 : List UInt8 := [26, 19, 1, 118, 126, 172]
abbrev dktJ34_toUnsignedInt_0 : List UInt8 := dkwJ34_toUnsignedInt_0 ++ []
theorem dksJ34_toUnsignedInt_0 : cJ34_toUnsignedInt.data.toList.drop 0 = dktJ34_toUnsignedInt_0 := by decide +kernel
theorem dJ34_toUnsignedInt_0 : decode cJ34_toUnsignedInt 0 = .ok (.iload_n 0, 1) := dk_26 (dk_at dksJ34_toUnsignedInt_0 0 rfl rfl)
theorem dJ34_toUnsignedInt_1 : decode cJ34_toUnsignedInt 1 = .ok (.ldc_w 374, 3) := dk_19 1 118 (dk_at dksJ34_toUnsignedInt_0 1 rfl rfl)
theorem dJ34_toUnsignedInt_4 : decode cJ34_toUnsignedInt 4 = .ok (.iand, 1) := dk_126 (dk_at dksJ34_toUnsignedInt_0 4 rfl rfl)
theorem dJ34_toUnsignedInt_5 : decode cJ34_toUnsignedInt 5 = .ok (.ireturn, 1) := dk_172 (dk_at dksJ34_toUnsignedInt_0 5 rfl rfl)
abbrev cJ34_makeInt_2 : ByteArray := prog_80_method_355_code
def yJ34_makeInt_2 : MethodName := ⟨RJ34, "makeInt", "(BBBB)I"⟩
def dkwJ34_makeInt_2_2 : List UInt8 := [120, 128, 172]
abbrev dktJ34_makeInt_2_2 : List UInt8 := dkwJ34_makeInt_2_2 ++ []
def dkwJ34_makeInt_2_1 : List UInt8 := [28, 184, 3, 28, 16, 24, 16, 16, 184, 3, 16, 120, 128, 29, 184, 3, 28, 16, 24, 16, 24, 184, 3, 16]
abbrev dktJ34_makeInt_2_1 : List UInt8 := dkwJ34_makeInt_2_1 ++ dktJ34_makeInt_2_2
def dkwJ34_makeInt_2_0 : List UInt8 := [26, 184, 3, 28, 16, 24, 3, 184, 3, 16, 120, 27, 184, 3, 28, 16, 24, 16, 8, 184, 3, 16, 120, 128]
abbrev dktJ34_makeInt_2_0 : List UInt8 := dkwJ34_makeInt_2_0 ++ dktJ34_makeInt_2_1
theorem dksJ34_makeInt_2_0 : cJ34_makeInt_2.data.toList.drop 0 = dktJ34_makeInt_2_0 := by decide +kernel
theorem dksJ34_makeInt_2_1 : cJ34_makeInt_2.data.toList.drop 24 = dktJ34_makeInt_2_1 := dk_seg dksJ34_makeInt_2_0 24 rfl rfl
theorem dksJ34_makeInt_2_2 : cJ34_makeInt_2.data.toList.drop 48 = dktJ34_makeInt_2_2 := dk_seg dksJ34_makeInt_2_1 24 rfl rfl
theorem dJ34_makeInt_2_0 : decode cJ34_makeInt_2 0 = .ok (.iload_n 0, 1) := dk_26 (dk_at dksJ34_makeInt_2_0 0 rfl rfl)
theorem dJ34_makeInt_2_1 : decode cJ34_makeInt_2 1 = .ok (.invokestatic 796, 3) := dk_184 3 28 (dk_at dksJ34_makeInt_2_0 1 rfl rfl)
theorem dJ34_makeInt_2_4 : decode cJ34_makeInt_2 4 = .ok (.bipush 24, 2) := dk_16 24 (dk_at dksJ34_makeInt_2_0 4 rfl rfl)
theorem dJ34_makeInt_2_6 : decode cJ34_makeInt_2 6 = .ok (.iconst 0, 1) := dk_3 (dk_at dksJ34_makeInt_2_0 6 rfl rfl)
theorem dJ34_makeInt_2_7 : decode cJ34_makeInt_2 7 = .ok (.invokestatic 784, 3) := dk_184 3 16 (dk_at dksJ34_makeInt_2_0 7 rfl rfl)
theorem dJ34_makeInt_2_10 : decode cJ34_makeInt_2 10 = .ok (.ishl, 1) := dk_120 (dk_at dksJ34_makeInt_2_0 10 rfl rfl)
theorem dJ34_makeInt_2_11 : decode cJ34_makeInt_2 11 = .ok (.iload_n 1, 1) := dk_27 (dk_at dksJ34_makeInt_2_0 11 rfl rfl)
theorem dJ34_makeInt_2_12 : decode cJ34_makeInt_2 12 = .ok (.invokestatic 796, 3) := dk_184 3 28 (dk_at dksJ34_makeInt_2_0 12 rfl rfl)
theorem dJ34_makeInt_2_15 : decode cJ34_makeInt_2 15 = .ok (.bipush 24, 2) := dk_16 24 (dk_at dksJ34_makeInt_2_0 15 rfl rfl)
theorem dJ34_makeInt_2_17 : decode cJ34_makeInt_2 17 = .ok (.bipush 8, 2) := dk_16 8 (dk_at dksJ34_makeInt_2_0 17 rfl rfl)
theorem dJ34_makeInt_2_19 : decode cJ34_makeInt_2 19 = .ok (.invokestatic 784, 3) := dk_184 3 16 (dk_at dksJ34_makeInt_2_0 19 rfl rfl)
theorem dJ34_makeInt_2_22 : decode cJ34_makeInt_2 22 = .ok (.ishl, 1) := dk_120 (dk_at dksJ34_makeInt_2_0 22 rfl rfl)
theorem dJ34_makeInt_2_23 : decode cJ34_makeInt_2 23 = .ok (.ior, 1) := dk_128 (dk_at dksJ34_makeInt_2_0 23 rfl rfl)
theorem dJ34_makeInt_2_24 : decode cJ34_makeInt_2 24 = .ok (.iload_n 2, 1) := dk_28 (dk_at dksJ34_makeInt_2_1 0 rfl rfl)
theorem dJ34_makeInt_2_25 : decode cJ34_makeInt_2 25 = .ok (.invokestatic 796, 3) := dk_184 3 28 (dk_at dksJ34_makeInt_2_1 1 rfl rfl)
theorem dJ34_makeInt_2_28 : decode cJ34_makeInt_2 28 = .ok (.bipush 24, 2) := dk_16 24 (dk_at dksJ34_makeInt_2_1 4 rfl rfl)
theorem dJ34_makeInt_2_30 : decode cJ34_makeInt_2 30 = .ok (.bipush 16, 2) := dk_16 16 (dk_at dksJ34_makeInt_2_1 6 rfl rfl)
theorem dJ34_makeInt_2_32 : decode cJ34_makeInt_2 32 = .ok (.invokestatic 784, 3) := dk_184 3 16 (dk_at dksJ34_makeInt_2_1 8 rfl rfl)
theorem dJ34_makeInt_2_35 : decode cJ34_makeInt_2 35 = .ok (.ishl, 1) := dk_120 (dk_at dksJ34_makeInt_2_1 11 rfl rfl)
theorem dJ34_makeInt_2_36 : decode cJ34_makeInt_2 36 = .ok (.ior, 1) := dk_128 (dk_at dksJ34_makeInt_2_1 12 rfl rfl)
theorem dJ34_makeInt_2_37 : decode cJ34_makeInt_2 37 = .ok (.iload_n 3, 1) := dk_29 (dk_at dksJ34_makeInt_2_1 13 rfl rfl)
theorem dJ34_makeInt_2_38 : decode cJ34_makeInt_2 38 = .ok (.invokestatic 796, 3) := dk_184 3 28 (dk_at dksJ34_makeInt_2_1 14 rfl rfl)
theorem dJ34_makeInt_2_41 : decode cJ34_makeInt_2 41 = .ok (.bipush 24, 2) := dk_16 24 (dk_at dksJ34_makeInt_2_1 17 rfl rfl)
theorem dJ34_makeInt_2_43 : decode cJ34_makeInt_2 43 = .ok (.bipush 24, 2) := dk_16 24 (dk_at dksJ34_makeInt_2_1 19 rfl rfl)
theorem dJ34_makeInt_2_45 : decode cJ34_makeInt_2 45 = .ok (.invokestatic 784, 3) := dk_184 3 16 (dk_at dksJ34_makeInt_2_1 21 rfl rfl)
theorem dJ34_makeInt_2_48 : decode cJ34_makeInt_2 48 = .ok (.ishl, 1) := dk_120 (dk_at dksJ34_makeInt_2_2 0 rfl rfl)
theorem dJ34_makeInt_2_49 : decode cJ34_makeInt_2 49 = .ok (.ior, 1) := dk_128 (dk_at dksJ34_makeInt_2_2 1 rfl rfl)
theorem dJ34_makeInt_2_50 : decode cJ34_makeInt_2 50 = .ok (.ireturn, 1) := dk_172 (dk_at dksJ34_makeInt_2_2 2 rfl rfl)
abbrev cJ34_toUnsignedInt_2 : ByteArray := prog_80_method_366_code
def yJ34_toUnsignedInt_2 : MethodName := ⟨RJ34, "toUnsignedInt", "(B)I"⟩
def dkwJ34_toUnsignedInt_2_0 : List UInt8 := [26, 17, 0, 255, 126, 172]
abbrev dktJ34_toUnsignedInt_2_0 : List UInt8 := dkwJ34_toUnsignedInt_2_0 ++ []
theorem dksJ34_toUnsignedInt_2_0 : cJ34_toUnsignedInt_2.data.toList.drop 0 = dktJ34_toUnsignedInt_2_0 := by decide +kernel
theorem dJ34_toUnsignedInt_2_0 : decode cJ34_toUnsignedInt_2 0 = .ok (.iload_n 0, 1) := dk_26 (dk_at dksJ34_toUnsignedInt_2_0 0 rfl rfl)
theorem dJ34_toUnsignedInt_2_1 : decode cJ34_toUnsignedInt_2 1 = .ok (.sipush 255, 3) := dk_17 0 255 (dk_at dksJ34_toUnsignedInt_2_0 1 rfl rfl)
theorem dJ34_toUnsignedInt_2_4 : decode cJ34_toUnsignedInt_2 4 = .ok (.iand, 1) := dk_126 (dk_at dksJ34_toUnsignedInt_2_0 4 rfl rfl)
theorem dJ34_toUnsignedInt_2_5 : decode cJ34_toUnsignedInt_2 5 = .ok (.ireturn, 1) := dk_172 (dk_at dksJ34_toUnsignedInt_2_0 5 rfl rfl)
theorem q136 : (Jvm.Cond.initialized "jdk/internal/misc/Unsafe") ∈ lw_all := lw_g (lw_at lw_m1 43 rfl) rfl
theorem q741 : (Jvm.Cond.selects "jdk/internal/misc/Unsafe" ({ cls := "java/lang/Object", name := "getClass", desc := "()Ljava/lang/Class;" } : Jvm.MethodName) ({ cls := "java/lang/Object", name := "getClass", desc := "()Ljava/lang/Class;" } : Jvm.MethodName)) ∈ lw_all := lw_g (lw_at lw_m3 168 rfl) rfl
theorem q826 : (Jvm.Cond.laysStatic "jdk/internal/misc/Unsafe" "ARRAY_BYTE_BASE_OFFSET" "I") ∈ lw_tbl := lw_at lw_m4 13 rfl
theorem q837 : (Jvm.Cond.instanceMethod ({ cls := "jdk/internal/misc/Unsafe", name := "getLongUnaligned", desc := "(Ljava/lang/Object;J)J" } : Jvm.MethodName)) ∈ lw_all := lw_g (lw_at lw_m4 24 rfl) rfl
theorem q838 : (Jvm.Cond.selects "jdk/internal/misc/Unsafe" ({ cls := "jdk/internal/misc/Unsafe", name := "getLongUnaligned", desc := "(Ljava/lang/Object;J)J" } : Jvm.MethodName) ({ cls := "jdk/internal/misc/Unsafe", name := "getLongUnaligned", desc := "(Ljava/lang/Object;J)J" } : Jvm.MethodName)) ∈ lw_all := lw_g (lw_at lw_m4 25 rfl) rfl
theorem q839 : (Jvm.Cond.code ({ cls := "jdk/internal/misc/Unsafe", name := "getLongUnaligned", desc := "(Ljava/lang/Object;J)J" } : Jvm.MethodName) prog_80_method_334_code (4 : Nat) (Option.some Jvm.ClassFile.FieldType.long)) ∈ lw_all := lw_g (lw_at lw_m4 26 rfl) rfl
theorem q840 : (Jvm.Cond.constantLong "jdk/internal/misc/Unsafe" (696 : Nat) (7 : Int64)) ∈ lw_all := lw_g (lw_at lw_m4 27 rfl) rfl
theorem q841 : (Jvm.Cond.methodLink "jdk/internal/misc/Unsafe" (27 : Nat) ({ cls := "jdk/internal/misc/Unsafe", name := "getLong", desc := "(Ljava/lang/Object;J)J" } : Jvm.MethodName)) ∈ lw_all := lw_g (lw_at lw_m4 28 rfl) rfl
theorem q842 : (Jvm.Cond.instanceMethod ({ cls := "jdk/internal/misc/Unsafe", name := "getLong", desc := "(Ljava/lang/Object;J)J" } : Jvm.MethodName)) ∈ lw_all := lw_g (lw_at lw_m4 29 rfl) rfl
theorem q843 : (Jvm.Cond.selects "jdk/internal/misc/Unsafe" ({ cls := "jdk/internal/misc/Unsafe", name := "getLong", desc := "(Ljava/lang/Object;J)J" } : Jvm.MethodName) ({ cls := "jdk/internal/misc/Unsafe", name := "getLong", desc := "(Ljava/lang/Object;J)J" } : Jvm.MethodName)) ∈ lw_all := lw_g (lw_at lw_m4 30 rfl) rfl
theorem q844 : (Jvm.Cond.native ({ cls := "jdk/internal/misc/Unsafe", name := "getLong", desc := "(Ljava/lang/Object;J)J" } : Jvm.MethodName)) ∈ lw_all := lw_g (lw_at lw_m4 31 rfl) rfl
theorem q845 : (Jvm.Cond.constantLong "jdk/internal/misc/Unsafe" (349 : Nat) (3 : Int64)) ∈ lw_all := lw_g (lw_at lw_m4 32 rfl) rfl
theorem q846 : (Jvm.Cond.methodLink "jdk/internal/misc/Unsafe" (17 : Nat) ({ cls := "jdk/internal/misc/Unsafe", name := "getInt", desc := "(Ljava/lang/Object;J)I" } : Jvm.MethodName)) ∈ lw_all := lw_g (lw_at lw_m4 33 rfl) rfl
theorem q847 : (Jvm.Cond.instanceMethod ({ cls := "jdk/internal/misc/Unsafe", name := "getInt", desc := "(Ljava/lang/Object;J)I" } : Jvm.MethodName)) ∈ lw_all := lw_g (lw_at lw_m4 34 rfl) rfl
theorem q848 : (Jvm.Cond.selects "jdk/internal/misc/Unsafe" ({ cls := "jdk/internal/misc/Unsafe", name := "getInt", desc := "(Ljava/lang/Object;J)I" } : Jvm.MethodName) ({ cls := "jdk/internal/misc/Unsafe", name := "getInt", desc := "(Ljava/lang/Object;J)I" } : Jvm.MethodName)) ∈ lw_all := lw_g (lw_at lw_m4 35 rfl) rfl
theorem q849 : (Jvm.Cond.native ({ cls := "jdk/internal/misc/Unsafe", name := "getInt", desc := "(Ljava/lang/Object;J)I" } : Jvm.MethodName)) ∈ lw_all := lw_g (lw_at lw_m4 36 rfl) rfl
theorem q850 : (Jvm.Cond.constantLong "jdk/internal/misc/Unsafe" (205 : Nat) (4 : Int64)) ∈ lw_all := lw_g (lw_at lw_m4 37 rfl) rfl
theorem q851 : (Jvm.Cond.methodLink "jdk/internal/misc/Unsafe" (698 : Nat) ({ cls := "jdk/internal/misc/Unsafe", name := "makeLong", desc := "(II)J" } : Jvm.MethodName)) ∈ lw_all := lw_g (lw_at lw_m4 38 rfl) rfl
theorem q852 : (Jvm.Cond.static ({ cls := "jdk/internal/misc/Unsafe", name := "makeLong", desc := "(II)J" } : Jvm.MethodName)) ∈ lw_all := lw_g (lw_at lw_m4 39 rfl) rfl
theorem q853 : (Jvm.Cond.code ({ cls := "jdk/internal/misc/Unsafe", name := "makeLong", desc := "(II)J" } : Jvm.MethodName) prog_80_method_353_code (2 : Nat) (Option.some Jvm.ClassFile.FieldType.long)) ∈ lw_all := lw_g (lw_at lw_m4 40 rfl) rfl
theorem q854 : (Jvm.Cond.methodLink "jdk/internal/misc/Unsafe" (791 : Nat) ({ cls := "jdk/internal/misc/Unsafe", name := "toUnsignedLong", desc := "(I)J" } : Jvm.MethodName)) ∈ lw_all := lw_g (lw_at lw_m4 41 rfl) rfl
theorem q855 : (Jvm.Cond.static ({ cls := "jdk/internal/misc/Unsafe", name := "toUnsignedLong", desc := "(I)J" } : Jvm.MethodName)) ∈ lw_all := lw_g (lw_at lw_m4 42 rfl) rfl
theorem q856 : (Jvm.Cond.code ({ cls := "jdk/internal/misc/Unsafe", name := "toUnsignedLong", desc := "(I)J" } : Jvm.MethodName) prog_80_method_370_code (1 : Nat) (Option.some Jvm.ClassFile.FieldType.long)) ∈ lw_all := lw_g (lw_at lw_m4 43 rfl) rfl
theorem q857 : (Jvm.Cond.constantLong "jdk/internal/misc/Unsafe" (812 : Nat) (4294967295 : Int64)) ∈ lw_all := lw_g (lw_at lw_m4 44 rfl) rfl
theorem q858 : (Jvm.Cond.methodLink "jdk/internal/misc/Unsafe" (784 : Nat) ({ cls := "jdk/internal/misc/Unsafe", name := "pickPos", desc := "(II)I" } : Jvm.MethodName)) ∈ lw_all := lw_g (lw_at lw_m4 45 rfl) rfl
theorem q859 : (Jvm.Cond.static ({ cls := "jdk/internal/misc/Unsafe", name := "pickPos", desc := "(II)I" } : Jvm.MethodName)) ∈ lw_all := lw_g (lw_at lw_m4 46 rfl) rfl
theorem q860 : (Jvm.Cond.code ({ cls := "jdk/internal/misc/Unsafe", name := "pickPos", desc := "(II)I" } : Jvm.MethodName) prog_80_method_350_code (2 : Nat) (Option.some Jvm.ClassFile.FieldType.int)) ∈ lw_all := lw_g (lw_at lw_m4 47 rfl) rfl
theorem q861 : (Jvm.Cond.fieldLink "jdk/internal/misc/Unsafe" (351 : Nat) "jdk/internal/misc/UnsafeConstants" "BIG_ENDIAN" "Z") ∈ lw_all := lw_g (lw_at lw_m4 48 rfl) rfl
theorem q863 : (Jvm.Cond.methodLink "jdk/internal/misc/Unsafe" (47 : Nat) ({ cls := "jdk/internal/misc/Unsafe", name := "getShort", desc := "(Ljava/lang/Object;J)S" } : Jvm.MethodName)) ∈ lw_all := lw_g (lw_at lw_m4 50 rfl) rfl
theorem q864 : (Jvm.Cond.instanceMethod ({ cls := "jdk/internal/misc/Unsafe", name := "getShort", desc := "(Ljava/lang/Object;J)S" } : Jvm.MethodName)) ∈ lw_all := lw_g (lw_at lw_m4 51 rfl) rfl
theorem q865 : (Jvm.Cond.selects "jdk/internal/misc/Unsafe" ({ cls := "jdk/internal/misc/Unsafe", name := "getShort", desc := "(Ljava/lang/Object;J)S" } : Jvm.MethodName) ({ cls := "jdk/internal/misc/Unsafe", name := "getShort", desc := "(Ljava/lang/Object;J)S" } : Jvm.MethodName)) ∈ lw_all := lw_g (lw_at lw_m4 52 rfl) rfl
theorem q866 : (Jvm.Cond.native ({ cls := "jdk/internal/misc/Unsafe", name := "getShort", desc := "(Ljava/lang/Object;J)S" } : Jvm.MethodName)) ∈ lw_all := lw_g (lw_at lw_m4 53 rfl) rfl
theorem q867 : (Jvm.Cond.constantLong "jdk/internal/misc/Unsafe" (203 : Nat) (2 : Int64)) ∈ lw_all := lw_g (lw_at lw_m4 54 rfl) rfl
theorem q868 : (Jvm.Cond.constantLong "jdk/internal/misc/Unsafe" (702 : Nat) (6 : Int64)) ∈ lw_all := lw_g (lw_at lw_m4 55 rfl) rfl
theorem q869 : (Jvm.Cond.methodLink "jdk/internal/misc/Unsafe" (704 : Nat) ({ cls := "jdk/internal/misc/Unsafe", name := "makeLong", desc := "(SSSS)J" } : Jvm.MethodName)) ∈ lw_all := lw_g (lw_at lw_m4 56 rfl) rfl
theorem q870 : (Jvm.Cond.static ({ cls := "jdk/internal/misc/Unsafe", name := "makeLong", desc := "(SSSS)J" } : Jvm.MethodName)) ∈ lw_all := lw_g (lw_at lw_m4 57 rfl) rfl
theorem q871 : (Jvm.Cond.code ({ cls := "jdk/internal/misc/Unsafe", name := "makeLong", desc := "(SSSS)J" } : Jvm.MethodName) prog_80_method_352_code (4 : Nat) (Option.some Jvm.ClassFile.FieldType.long)) ∈ lw_all := lw_g (lw_at lw_m4 58 rfl) rfl
theorem q872 : (Jvm.Cond.methodLink "jdk/internal/misc/Unsafe" (788 : Nat) ({ cls := "jdk/internal/misc/Unsafe", name := "toUnsignedLong", desc := "(S)J" } : Jvm.MethodName)) ∈ lw_all := lw_g (lw_at lw_m4 59 rfl) rfl
theorem q873 : (Jvm.Cond.static ({ cls := "jdk/internal/misc/Unsafe", name := "toUnsignedLong", desc := "(S)J" } : Jvm.MethodName)) ∈ lw_all := lw_g (lw_at lw_m4 60 rfl) rfl
theorem q874 : (Jvm.Cond.code ({ cls := "jdk/internal/misc/Unsafe", name := "toUnsignedLong", desc := "(S)J" } : Jvm.MethodName) prog_80_method_369_code (1 : Nat) (Option.some Jvm.ClassFile.FieldType.long)) ∈ lw_all := lw_g (lw_at lw_m4 61 rfl) rfl
theorem q875 : (Jvm.Cond.constantLong "jdk/internal/misc/Unsafe" (810 : Nat) (65535 : Int64)) ∈ lw_all := lw_g (lw_at lw_m4 62 rfl) rfl
theorem q876 : (Jvm.Cond.methodLink "jdk/internal/misc/Unsafe" (39 : Nat) ({ cls := "jdk/internal/misc/Unsafe", name := "getByte", desc := "(Ljava/lang/Object;J)B" } : Jvm.MethodName)) ∈ lw_all := lw_g (lw_at lw_m4 63 rfl) rfl
theorem q877 : (Jvm.Cond.instanceMethod ({ cls := "jdk/internal/misc/Unsafe", name := "getByte", desc := "(Ljava/lang/Object;J)B" } : Jvm.MethodName)) ∈ lw_all := lw_g (lw_at lw_m4 64 rfl) rfl
theorem q878 : (Jvm.Cond.selects "jdk/internal/misc/Unsafe" ({ cls := "jdk/internal/misc/Unsafe", name := "getByte", desc := "(Ljava/lang/Object;J)B" } : Jvm.MethodName) ({ cls := "jdk/internal/misc/Unsafe", name := "getByte", desc := "(Ljava/lang/Object;J)B" } : Jvm.MethodName)) ∈ lw_all := lw_g (lw_at lw_m4 65 rfl) rfl
theorem q879 : (Jvm.Cond.native ({ cls := "jdk/internal/misc/Unsafe", name := "getByte", desc := "(Ljava/lang/Object;J)B" } : Jvm.MethodName)) ∈ lw_all := lw_g (lw_at lw_m4 66 rfl) rfl
theorem q880 : (Jvm.Cond.constantLong "jdk/internal/misc/Unsafe" (707 : Nat) (5 : Int64)) ∈ lw_all := lw_g (lw_at lw_m4 67 rfl) rfl
theorem q881 : (Jvm.Cond.methodLink "jdk/internal/misc/Unsafe" (709 : Nat) ({ cls := "jdk/internal/misc/Unsafe", name := "makeLong", desc := "(BBBBBBBB)J" } : Jvm.MethodName)) ∈ lw_all := lw_g (lw_at lw_m4 68 rfl) rfl
theorem q882 : (Jvm.Cond.static ({ cls := "jdk/internal/misc/Unsafe", name := "makeLong", desc := "(BBBBBBBB)J" } : Jvm.MethodName)) ∈ lw_all := lw_g (lw_at lw_m4 69 rfl) rfl
theorem q883 : (Jvm.Cond.code ({ cls := "jdk/internal/misc/Unsafe", name := "makeLong", desc := "(BBBBBBBB)J" } : Jvm.MethodName) prog_80_method_351_code (8 : Nat) (Option.some Jvm.ClassFile.FieldType.long)) ∈ lw_all := lw_g (lw_at lw_m4 70 rfl) rfl
theorem q884 : (Jvm.Cond.methodLink "jdk/internal/misc/Unsafe" (781 : Nat) ({ cls := "jdk/internal/misc/Unsafe", name := "toUnsignedLong", desc := "(B)J" } : Jvm.MethodName)) ∈ lw_all := lw_g (lw_at lw_m4 71 rfl) rfl
theorem q885 : (Jvm.Cond.static ({ cls := "jdk/internal/misc/Unsafe", name := "toUnsignedLong", desc := "(B)J" } : Jvm.MethodName)) ∈ lw_all := lw_g (lw_at lw_m4 72 rfl) rfl
theorem q886 : (Jvm.Cond.code ({ cls := "jdk/internal/misc/Unsafe", name := "toUnsignedLong", desc := "(B)J" } : Jvm.MethodName) prog_80_method_368_code (1 : Nat) (Option.some Jvm.ClassFile.FieldType.long)) ∈ lw_all := lw_g (lw_at lw_m4 73 rfl) rfl
theorem q887 : (Jvm.Cond.constantLong "jdk/internal/misc/Unsafe" (808 : Nat) (255 : Int64)) ∈ lw_all := lw_g (lw_at lw_m4 74 rfl) rfl
theorem q908 : (Jvm.Cond.instanceMethod ({ cls := "jdk/internal/misc/Unsafe", name := "getIntUnaligned", desc := "(Ljava/lang/Object;J)I" } : Jvm.MethodName)) ∈ lw_all := lw_g (lw_at lw_m4 95 rfl) rfl
theorem q909 : (Jvm.Cond.selects "jdk/internal/misc/Unsafe" ({ cls := "jdk/internal/misc/Unsafe", name := "getIntUnaligned", desc := "(Ljava/lang/Object;J)I" } : Jvm.MethodName) ({ cls := "jdk/internal/misc/Unsafe", name := "getIntUnaligned", desc := "(Ljava/lang/Object;J)I" } : Jvm.MethodName)) ∈ lw_all := lw_g (lw_at lw_m4 96 rfl) rfl
theorem q910 : (Jvm.Cond.code ({ cls := "jdk/internal/misc/Unsafe", name := "getIntUnaligned", desc := "(Ljava/lang/Object;J)I" } : Jvm.MethodName) prog_80_method_336_code (4 : Nat) (Option.some Jvm.ClassFile.FieldType.int)) ∈ lw_all := lw_g (lw_at lw_m4 97 rfl) rfl
theorem q911 : (Jvm.Cond.methodLink "jdk/internal/misc/Unsafe" (719 : Nat) ({ cls := "jdk/internal/misc/Unsafe", name := "makeInt", desc := "(SS)I" } : Jvm.MethodName)) ∈ lw_all := lw_g (lw_at lw_m4 98 rfl) rfl
theorem q912 : (Jvm.Cond.static ({ cls := "jdk/internal/misc/Unsafe", name := "makeInt", desc := "(SS)I" } : Jvm.MethodName)) ∈ lw_all := lw_g (lw_at lw_m4 99 rfl) rfl
theorem q913 : (Jvm.Cond.code ({ cls := "jdk/internal/misc/Unsafe", name := "makeInt", desc := "(SS)I" } : Jvm.MethodName) prog_80_method_354_code (2 : Nat) (Option.some Jvm.ClassFile.FieldType.int)) ∈ lw_all := lw_g (lw_at lw_m4 100 rfl) rfl
theorem q914 : (Jvm.Cond.methodLink "jdk/internal/misc/Unsafe" (792 : Nat) ({ cls := "jdk/internal/misc/Unsafe", name := "toUnsignedInt", desc := "(S)I" } : Jvm.MethodName)) ∈ lw_all := lw_g (lw_at lw_m4 101 rfl) rfl
theorem q915 : (Jvm.Cond.static ({ cls := "jdk/internal/misc/Unsafe", name := "toUnsignedInt", desc := "(S)I" } : Jvm.MethodName)) ∈ lw_all := lw_g (lw_at lw_m4 102 rfl) rfl
theorem q916 : (Jvm.Cond.code ({ cls := "jdk/internal/misc/Unsafe", name := "toUnsignedInt", desc := "(S)I" } : Jvm.MethodName) prog_80_method_367_code (1 : Nat) (Option.some Jvm.ClassFile.FieldType.int)) ∈ lw_all := lw_g (lw_at lw_m4 103 rfl) rfl
theorem q917 : (Jvm.Cond.constant "jdk/internal/misc/Unsafe" (374 : Nat) (65535 : Int32)) ∈ lw_all := lw_g (lw_at lw_m4 104 rfl) rfl
theorem q918 : (Jvm.Cond.methodLink "jdk/internal/misc/Unsafe" (723 : Nat) ({ cls := "jdk/internal/misc/Unsafe", name := "makeInt", desc := "(BBBB)I" } : Jvm.MethodName)) ∈ lw_all := lw_g (lw_at lw_m4 105 rfl) rfl
theorem q919 : (Jvm.Cond.static ({ cls := "jdk/internal/misc/Unsafe", name := "makeInt", desc := "(BBBB)I" } : Jvm.MethodName)) ∈ lw_all := lw_g (lw_at lw_m4 106 rfl) rfl
theorem q920 : (Jvm.Cond.code ({ cls := "jdk/internal/misc/Unsafe", name := "makeInt", desc := "(BBBB)I" } : Jvm.MethodName) prog_80_method_355_code (4 : Nat) (Option.some Jvm.ClassFile.FieldType.int)) ∈ lw_all := lw_g (lw_at lw_m4 107 rfl) rfl
theorem q921 : (Jvm.Cond.methodLink "jdk/internal/misc/Unsafe" (796 : Nat) ({ cls := "jdk/internal/misc/Unsafe", name := "toUnsignedInt", desc := "(B)I" } : Jvm.MethodName)) ∈ lw_all := lw_g (lw_at lw_m4 108 rfl) rfl
theorem q922 : (Jvm.Cond.static ({ cls := "jdk/internal/misc/Unsafe", name := "toUnsignedInt", desc := "(B)I" } : Jvm.MethodName)) ∈ lw_all := lw_g (lw_at lw_m4 109 rfl) rfl
theorem q923 : (Jvm.Cond.code ({ cls := "jdk/internal/misc/Unsafe", name := "toUnsignedInt", desc := "(B)I" } : Jvm.MethodName) prog_80_method_366_code (1 : Nat) (Option.some Jvm.ClassFile.FieldType.int)) ∈ lw_all := lw_g (lw_at lw_m4 110 rfl) rfl
theorem q3240 : (Jvm.Cond.castable "jdk/internal/misc/Unsafe" "java/lang/Object") ∈ lw_tbl := lw_at lw_m14 27 rfl
/-! java/lang/Long -/
set_option maxRecDepth 100000
def RJ35 : String := "java/lang/Long"
abbrev cJ35_numberOfLeadingZeros : ByteArray := prog_32_method_48_code
def yJ35_numberOfLeadingZeros : MethodName := ⟨RJ35, "numberOfLeadingZeros", "(J)I"⟩
def dkwJ35_numberOfLeadingZeros_1 : List UInt8 := [184, 1, 52, 172]
abbrev dktJ35_numberOfLeadingZeros_1 : List UInt8 := dkwJ35_numberOfLeadingZeros_1 ++ []
def dkwJ35_numberOfLeadingZeros_0 : List UInt8 := [30, 16, 32, 125, 136, 61, 28, 154, 0, 14, 16, 32, 30, 136, 184, 1, 52, 96, 167, 0, 7, 28]
abbrev dktJ35_numberOfLeadingZeros_0 : List UInt8 := dkwJ35_numberOfLeadingZeros_0 ++ dktJ35_numberOfLeadingZeros_1
theorem dksJ35_numberOfLeadingZeros_0 : cJ35_numberOfLeadingZeros.data.toList.drop 0 = dktJ35_numberOfLeadingZeros_0 := by decide +kernel
theorem dksJ35_numberOfLeadingZeros_1 : cJ35_numberOfLeadingZeros.data.toList.drop 22 = dktJ35_numberOfLeadingZeros_1 := dk_seg dksJ35_numberOfLeadingZeros_0 22 rfl rfl
theorem dJ35_numberOfLeadingZeros_0 : decode cJ35_numberOfLeadingZeros 0 = .ok (.lload_n 0, 1) := dk_30 (dk_at dksJ35_numberOfLeadingZeros_0 0 rfl rfl)
theorem dJ35_numberOfLeadingZeros_1 : decode cJ35_numberOfLeadingZeros 1 = .ok (.bipush 32, 2) := dk_16 32 (dk_at dksJ35_numberOfLeadingZeros_0 1 rfl rfl)
theorem dJ35_numberOfLeadingZeros_3 : decode cJ35_numberOfLeadingZeros 3 = .ok (.lushr, 1) := dk_125 (dk_at dksJ35_numberOfLeadingZeros_0 3 rfl rfl)
theorem dJ35_numberOfLeadingZeros_4 : decode cJ35_numberOfLeadingZeros 4 = .ok (.l2i, 1) := dk_136 (dk_at dksJ35_numberOfLeadingZeros_0 4 rfl rfl)
theorem dJ35_numberOfLeadingZeros_5 : decode cJ35_numberOfLeadingZeros 5 = .ok (.istore_n 2, 1) := dk_61 (dk_at dksJ35_numberOfLeadingZeros_0 5 rfl rfl)
theorem dJ35_numberOfLeadingZeros_6 : decode cJ35_numberOfLeadingZeros 6 = .ok (.iload_n 2, 1) := dk_28 (dk_at dksJ35_numberOfLeadingZeros_0 6 rfl rfl)
theorem dJ35_numberOfLeadingZeros_7 : decode cJ35_numberOfLeadingZeros 7 = .ok (.ifCond .ne 14, 3) := dk_154 0 14 (dk_at dksJ35_numberOfLeadingZeros_0 7 rfl rfl)
theorem dJ35_numberOfLeadingZeros_10 : decode cJ35_numberOfLeadingZeros 10 = .ok (.bipush 32, 2) := dk_16 32 (dk_at dksJ35_numberOfLeadingZeros_0 10 rfl rfl)
theorem dJ35_numberOfLeadingZeros_12 : decode cJ35_numberOfLeadingZeros 12 = .ok (.lload_n 0, 1) := dk_30 (dk_at dksJ35_numberOfLeadingZeros_0 12 rfl rfl)
theorem dJ35_numberOfLeadingZeros_13 : decode cJ35_numberOfLeadingZeros 13 = .ok (.l2i, 1) := dk_136 (dk_at dksJ35_numberOfLeadingZeros_0 13 rfl rfl)
theorem dJ35_numberOfLeadingZeros_14 : decode cJ35_numberOfLeadingZeros 14 = .ok (.invokestatic 308, 3) := dk_184 1 52 (dk_at dksJ35_numberOfLeadingZeros_0 14 rfl rfl)
theorem dJ35_numberOfLeadingZeros_17 : decode cJ35_numberOfLeadingZeros 17 = .ok (.iadd, 1) := dk_96 (dk_at dksJ35_numberOfLeadingZeros_0 17 rfl rfl)
theorem dJ35_numberOfLeadingZeros_18 : decode cJ35_numberOfLeadingZeros 18 = .ok (.goto 7, 3) := dk_167 0 7 (dk_at dksJ35_numberOfLeadingZeros_0 18 rfl rfl)
theorem dJ35_numberOfLeadingZeros_21 : decode cJ35_numberOfLeadingZeros 21 = .ok (.iload_n 2, 1) := dk_28 (dk_at dksJ35_numberOfLeadingZeros_0 21 rfl rfl)
theorem dJ35_numberOfLeadingZeros_22 : decode cJ35_numberOfLeadingZeros 22 = .ok (.invokestatic 308, 3) := dk_184 1 52 (dk_at dksJ35_numberOfLeadingZeros_1 0 rfl rfl)
theorem dJ35_numberOfLeadingZeros_25 : decode cJ35_numberOfLeadingZeros 25 = .ok (.ireturn, 1) := dk_172 (dk_at dksJ35_numberOfLeadingZeros_1 3 rfl rfl)
abbrev cJ35_numberOfTrailingZeros : ByteArray := prog_32_method_49_code
def yJ35_numberOfTrailingZeros : MethodName := ⟨RJ35, "numberOfTrailingZeros", "(J)I"⟩
def dkwJ35_numberOfTrailingZeros_1 : List UInt8 := [184, 1, 55, 172]
abbrev dktJ35_numberOfTrailingZeros_1 : List UInt8 := dkwJ35_numberOfTrailingZeros_1 ++ []
def dkwJ35_numberOfTrailingZeros_0 : List UInt8 := [30, 136, 61, 28, 154, 0, 17, 16, 32, 30, 16, 32, 125, 136, 184, 1, 55, 96, 167, 0, 7, 28]
abbrev dktJ35_numberOfTrailingZeros_0 : List UInt8 := dkwJ35_numberOfTrailingZeros_0 ++ dktJ35_numberOfTrailingZeros_1
theorem dksJ35_numberOfTrailingZeros_0 : cJ35_numberOfTrailingZeros.data.toList.drop 0 = dktJ35_numberOfTrailingZeros_0 := by decide +kernel
theorem dksJ35_numberOfTrailingZeros_1 : cJ35_numberOfTrailingZeros.data.toList.drop 22 = dktJ35_numberOfTrailingZeros_1 := dk_seg dksJ35_numberOfTrailingZeros_0 22 rfl rfl
theorem dJ35_numberOfTrailingZeros_0 : decode cJ35_numberOfTrailingZeros 0 = .ok (.lload_n 0, 1) := dk_30 (dk_at dksJ35_numberOfTrailingZeros_0 0 rfl rfl)
theorem dJ35_numberOfTrailingZeros_1 : decode cJ35_numberOfTrailingZeros 1 = .ok (.l2i, 1) := dk_136 (dk_at dksJ35_numberOfTrailingZeros_0 1 rfl rfl)
theorem dJ35_numberOfTrailingZeros_2 : decode cJ35_numberOfTrailingZeros 2 = .ok (.istore_n 2, 1) := dk_61 (dk_at dksJ35_numberOfTrailingZeros_0 2 rfl rfl)
theorem dJ35_numberOfTrailingZeros_3 : decode cJ35_numberOfTrailingZeros 3 = .ok (.iload_n 2, 1) := dk_28 (dk_at dksJ35_numberOfTrailingZeros_0 3 rfl rfl)
theorem dJ35_numberOfTrailingZeros_4 : decode cJ35_numberOfTrailingZeros 4 = .ok (.ifCond .ne 17, 3) := dk_154 0 17 (dk_at dksJ35_numberOfTrailingZeros_0 4 rfl rfl)
theorem dJ35_numberOfTrailingZeros_7 : decode cJ35_numberOfTrailingZeros 7 = .ok (.bipush 32, 2) := dk_16 32 (dk_at dksJ35_numberOfTrailingZeros_0 7 rfl rfl)
theorem dJ35_numberOfTrailingZeros_9 : decode cJ35_numberOfTrailingZeros 9 = .ok (.lload_n 0, 1) := dk_30 (dk_at dksJ35_numberOfTrailingZeros_0 9 rfl rfl)
theorem dJ35_numberOfTrailingZeros_10 : decode cJ35_numberOfTrailingZeros 10 = .ok (.bipush 32, 2) := dk_16 32 (dk_at dksJ35_numberOfTrailingZeros_0 10 rfl rfl)
theorem dJ35_numberOfTrailingZeros_12 : decode cJ35_numberOfTrailingZeros 12 = .ok (.lushr, 1) := dk_125 (dk_at dksJ35_numberOfTrailingZeros_0 12 rfl rfl)
theorem dJ35_numberOfTrailingZeros_13 : decode cJ35_numberOfTrailingZeros 13 = .ok (.l2i, 1) := dk_136 (dk_at dksJ35_numberOfTrailingZeros_0 13 rfl rfl)
theorem dJ35_numberOfTrailingZeros_14 : decode cJ35_numberOfTrailingZeros 14 = .ok (.invokestatic 311, 3) := dk_184 1 55 (dk_at dksJ35_numberOfTrailingZeros_0 14 rfl rfl)
theorem dJ35_numberOfTrailingZeros_17 : decode cJ35_numberOfTrailingZeros 17 = .ok (.iadd, 1) := dk_96 (dk_at dksJ35_numberOfTrailingZeros_0 17 rfl rfl)
theorem dJ35_numberOfTrailingZeros_18 : decode cJ35_numberOfTrailingZeros 18 = .ok (.goto 7, 3) := dk_167 0 7 (dk_at dksJ35_numberOfTrailingZeros_0 18 rfl rfl)
theorem dJ35_numberOfTrailingZeros_21 : decode cJ35_numberOfTrailingZeros 21 = .ok (.iload_n 2, 1) := dk_28 (dk_at dksJ35_numberOfTrailingZeros_0 21 rfl rfl)
theorem dJ35_numberOfTrailingZeros_22 : decode cJ35_numberOfTrailingZeros 22 = .ok (.invokestatic 311, 3) := dk_184 1 55 (dk_at dksJ35_numberOfTrailingZeros_1 0 rfl rfl)
theorem dJ35_numberOfTrailingZeros_25 : decode cJ35_numberOfTrailingZeros 25 = .ok (.ireturn, 1) := dk_172 (dk_at dksJ35_numberOfTrailingZeros_1 3 rfl rfl)
theorem q138 : (Jvm.Cond.initialized "java/lang/Long") ∈ lw_all := lw_g (lw_at lw_m1 45 rfl) rfl
theorem q891 : (Jvm.Cond.static ({ cls := "java/lang/Long", name := "numberOfLeadingZeros", desc := "(J)I" } : Jvm.MethodName)) ∈ lw_all := lw_g (lw_at lw_m4 78 rfl) rfl
theorem q892 : (Jvm.Cond.code ({ cls := "java/lang/Long", name := "numberOfLeadingZeros", desc := "(J)I" } : Jvm.MethodName) prog_32_method_48_code (3 : Nat) (Option.some Jvm.ClassFile.FieldType.int)) ∈ lw_all := lw_g (lw_at lw_m4 79 rfl) rfl
theorem q893 : (Jvm.Cond.methodLink "java/lang/Long" (308 : Nat) ({ cls := "java/lang/Integer", name := "numberOfLeadingZeros", desc := "(I)I" } : Jvm.MethodName)) ∈ lw_all := lw_g (lw_at lw_m4 80 rfl) rfl
theorem q900 : (Jvm.Cond.static ({ cls := "java/lang/Long", name := "numberOfTrailingZeros", desc := "(J)I" } : Jvm.MethodName)) ∈ lw_all := lw_g (lw_at lw_m4 87 rfl) rfl
theorem q901 : (Jvm.Cond.code ({ cls := "java/lang/Long", name := "numberOfTrailingZeros", desc := "(J)I" } : Jvm.MethodName) prog_32_method_49_code (3 : Nat) (Option.some Jvm.ClassFile.FieldType.int)) ∈ lw_all := lw_g (lw_at lw_m4 88 rfl) rfl
theorem q902 : (Jvm.Cond.methodLink "java/lang/Long" (311 : Nat) ({ cls := "java/lang/Integer", name := "numberOfTrailingZeros", desc := "(I)I" } : Jvm.MethodName)) ∈ lw_all := lw_g (lw_at lw_m4 89 rfl) rfl
/-! java/lang/Record -/
set_option maxRecDepth 100000
def RJ36 : String := "java/lang/Record"
abbrev cJ36_init : ByteArray := prog_35_method_1_code
def yJ36_init : MethodName := ⟨RJ36, "<init>", "()V"⟩
theorem dJ36_init_0 : decode cJ36_init 0 = .ok (.aload_n 0, 1) := by decide +kernel
theorem dJ36_init_1 : decode cJ36_init 1 = .ok (.invokespecial 1, 3) := by decide +kernel
theorem dJ36_init_4 : decode cJ36_init 4 = .ok (.return_, 1) := by decide +kernel
theorem q139 : (Jvm.Cond.initialized "java/lang/Record") ∈ lw_all := lw_g (lw_at lw_m1 46 rfl) rfl
theorem q2057 : (Jvm.Cond.instanceMethod ({ cls := "java/lang/Record", name := "<init>", desc := "()V" } : Jvm.MethodName)) ∈ lw_all := lw_g (lw_at lw_m9 44 rfl) rfl
theorem q2058 : (Jvm.Cond.code ({ cls := "java/lang/Record", name := "<init>", desc := "()V" } : Jvm.MethodName) prog_35_method_1_code (1 : Nat) (Option.none : Option Jvm.ClassFile.FieldType)) ∈ lw_all := lw_g (lw_at lw_m9 45 rfl) rfl
theorem q2059 : (Jvm.Cond.methodLink "java/lang/Record" (1 : Nat) ({ cls := "java/lang/Object", name := "<init>", desc := "()V" } : Jvm.MethodName)) ∈ lw_all := lw_g (lw_at lw_m9 46 rfl) rfl
/-! java/util/TreeMap$Entry -/
set_option maxRecDepth 100000
def RJ37 : String := "java/util/TreeMap$Entry"
def TJ37 : u_T := fun k => match k with
  | 0 => ("java/util/TreeMap$Entry", "key", "Ljava/lang/Object;", false)
  | 1 => ("java/util/TreeMap$Entry", "value", "Ljava/lang/Object;", false)
  | 2 => ("java/util/TreeMap$Entry", "left", "Ljava/util/TreeMap$Entry;", false)
  | 3 => ("java/util/TreeMap$Entry", "right", "Ljava/util/TreeMap$Entry;", false)
  | 4 => ("java/util/TreeMap$Entry", "parent", "Ljava/util/TreeMap$Entry;", false)
  | _ => ("java/util/TreeMap$Entry", "color", "Z", false)
def tyJ37 : Nat → FieldType := fun k => match k with
  | 0 => .object "java/lang/Object"
  | 1 => .object "java/lang/Object"
  | 2 => .object "java/util/TreeMap$Entry"
  | 3 => .object "java/util/TreeMap$Entry"
  | 4 => .object "java/util/TreeMap$Entry"
  | _ => .boolean
abbrev wsJ370 : List Cond := u_ws RJ37 TJ37 6
theorem nmJ37 : ∀ a, a < 6 → ∀ b, b < 6 → a ≠ b → (TJ37 a).2.1 ≠ (TJ37 b).2.1 := by decide +kernel
theorem tyJ37_ok : ∀ k, k < 6 → parseFieldDescriptor (TJ37 k).2.2.1 = some (tyJ37 k) := by decide +kernel
abbrev cJ37_init : ByteArray := prog_76_method_1_code
def yJ37_init : MethodName := ⟨RJ37, "<init>", "(Ljava/lang/Object;Ljava/lang/Object;Ljava/util/TreeMap$Entry;)V"⟩
def dkwJ37_init_1 : List UInt8 := [177]
abbrev dktJ37_init_1 : List UInt8 := dkwJ37_init_1 ++ []
def dkwJ37_init_0 : List UInt8 := [42, 183, 0, 3, 42, 4, 181, 0, 9, 42, 43, 181, 0, 15, 42, 44, 181, 0, 19, 42, 45, 181, 0, 22]
abbrev dktJ37_init_0 : List UInt8 := dkwJ37_init_0 ++ dktJ37_init_1
theorem dksJ37_init_0 : cJ37_init.data.toList.drop 0 = dktJ37_init_0 := by decide +kernel
theorem dksJ37_init_1 : cJ37_init.data.toList.drop 24 = dktJ37_init_1 := dk_seg dksJ37_init_0 24 rfl rfl
theorem dJ37_init_0 : decode cJ37_init 0 = .ok (.aload_n 0, 1) := dk_42 (dk_at dksJ37_init_0 0 rfl rfl)
theorem dJ37_init_1 : decode cJ37_init 1 = .ok (.invokespecial 3, 3) := dk_183 0 3 (dk_at dksJ37_init_0 1 rfl rfl)
theorem dJ37_init_4 : decode cJ37_init 4 = .ok (.aload_n 0, 1) := dk_42 (dk_at dksJ37_init_0 4 rfl rfl)
theorem dJ37_init_5 : decode cJ37_init 5 = .ok (.iconst 1, 1) := dk_4 (dk_at dksJ37_init_0 5 rfl rfl)
theorem dJ37_init_6 : decode cJ37_init 6 = .ok (.putfield 9, 3) := dk_181 0 9 (dk_at dksJ37_init_0 6 rfl rfl)
theorem dJ37_init_9 : decode cJ37_init 9 = .ok (.aload_n 0, 1) := dk_42 (dk_at dksJ37_init_0 9 rfl rfl)
theorem dJ37_init_10 : decode cJ37_init 10 = .ok (.aload_n 1, 1) := dk_43 (dk_at dksJ37_init_0 10 rfl rfl)
theorem dJ37_init_11 : decode cJ37_init 11 = .ok (.putfield 15, 3) := dk_181 0 15 (dk_at dksJ37_init_0 11 rfl rfl)
theorem dJ37_init_14 : decode cJ37_init 14 = .ok (.aload_n 0, 1) := dk_42 (dk_at dksJ37_init_0 14 rfl rfl)
theorem dJ37_init_15 : decode cJ37_init 15 = .ok (.aload_n 2, 1) := dk_44 (dk_at dksJ37_init_0 15 rfl rfl)
theorem dJ37_init_16 : decode cJ37_init 16 = .ok (.putfield 19, 3) := dk_181 0 19 (dk_at dksJ37_init_0 16 rfl rfl)
theorem dJ37_init_19 : decode cJ37_init 19 = .ok (.aload_n 0, 1) := dk_42 (dk_at dksJ37_init_0 19 rfl rfl)
theorem dJ37_init_20 : decode cJ37_init 20 = .ok (.aload_n 3, 1) := dk_45 (dk_at dksJ37_init_0 20 rfl rfl)
theorem dJ37_init_21 : decode cJ37_init 21 = .ok (.putfield 22, 3) := dk_181 0 22 (dk_at dksJ37_init_0 21 rfl rfl)
theorem dJ37_init_24 : decode cJ37_init 24 = .ok (.return_, 1) := dk_177 (dk_at dksJ37_init_1 0 rfl rfl)
abbrev cJ37_getValue : ByteArray := prog_76_method_3_code
def yJ37_getValue : MethodName := ⟨RJ37, "getValue", "()Ljava/lang/Object;"⟩
theorem dJ37_getValue_0 : decode cJ37_getValue 0 = .ok (.aload_n 0, 1) := by decide +kernel
theorem dJ37_getValue_1 : decode cJ37_getValue 1 = .ok (.getfield 19, 3) := by decide +kernel
theorem dJ37_getValue_4 : decode cJ37_getValue 4 = .ok (.areturn, 1) := by decide +kernel
abbrev cJ37_getKey : ByteArray := prog_76_method_2_code
def yJ37_getKey : MethodName := ⟨RJ37, "getKey", "()Ljava/lang/Object;"⟩
theorem dJ37_getKey_0 : decode cJ37_getKey 0 = .ok (.aload_n 0, 1) := by decide +kernel
theorem dJ37_getKey_1 : decode cJ37_getKey 1 = .ok (.getfield 15, 3) := by decide +kernel
theorem dJ37_getKey_4 : decode cJ37_getKey 4 = .ok (.areturn, 1) := by decide +kernel
theorem q142 : (Jvm.Cond.initialized "java/util/TreeMap$Entry") ∈ lw_all := lw_g (lw_at lw_m1 49 rfl) rfl
theorem q738 : (Jvm.Cond.selects "java/util/TreeMap$Entry" ({ cls := "java/lang/Object", name := "getClass", desc := "()Ljava/lang/Class;" } : Jvm.MethodName) ({ cls := "java/lang/Object", name := "getClass", desc := "()Ljava/lang/Class;" } : Jvm.MethodName)) ∈ lw_all := lw_g (lw_at lw_m3 165 rfl) rfl
theorem q1160 : (Jvm.Cond.instantiable "java/util/TreeMap$Entry" (6 : Nat)) ∈ lw_all := lw_g (lw_at lw_m5 107 rfl) rfl
theorem q1162 : (Jvm.Cond.instanceMethod ({ cls := "java/util/TreeMap$Entry", name := "<init>", desc := "(Ljava/lang/Object;Ljava/lang/Object;Ljava/util/TreeMap$Entry;)V" } : Jvm.MethodName)) ∈ lw_all := lw_g (lw_at lw_m5 109 rfl) rfl
theorem q1163 : (Jvm.Cond.code ({ cls := "java/util/TreeMap$Entry", name := "<init>", desc := "(Ljava/lang/Object;Ljava/lang/Object;Ljava/util/TreeMap$Entry;)V" } : Jvm.MethodName) prog_76_method_1_code (4 : Nat) (Option.none : Option Jvm.ClassFile.FieldType)) ∈ lw_all := lw_g (lw_at lw_m5 110 rfl) rfl
theorem q1164 : (Jvm.Cond.methodLink "java/util/TreeMap$Entry" (3 : Nat) ({ cls := "java/lang/Object", name := "<init>", desc := "()V" } : Jvm.MethodName)) ∈ lw_all := lw_g (lw_at lw_m5 111 rfl) rfl
theorem q1165 : (Jvm.Cond.fieldLink "java/util/TreeMap$Entry" (15 : Nat) "java/util/TreeMap$Entry" "key" "Ljava/lang/Object;") ∈ lw_all := lw_g (lw_at lw_m5 112 rfl) rfl
theorem q1167 : (Jvm.Cond.fieldLink "java/util/TreeMap$Entry" (19 : Nat) "java/util/TreeMap$Entry" "value" "Ljava/lang/Object;") ∈ lw_all := lw_g (lw_at lw_m5 114 rfl) rfl
theorem q1171 : (Jvm.Cond.fieldLink "java/util/TreeMap$Entry" (22 : Nat) "java/util/TreeMap$Entry" "parent" "Ljava/util/TreeMap$Entry;") ∈ lw_all := lw_g (lw_at lw_m5 118 rfl) rfl
theorem q1173 : (Jvm.Cond.fieldLink "java/util/TreeMap$Entry" (9 : Nat) "java/util/TreeMap$Entry" "color" "Z") ∈ lw_all := lw_g (lw_at lw_m5 120 rfl) rfl
theorem q1175 : (Jvm.Cond.lays "java/util/TreeMap$Entry" "java/util/TreeMap$Entry" "key" "Ljava/lang/Object;") ∈ lw_all := lw_g (lw_at lw_m5 122 rfl) rfl
theorem q1176 : (Jvm.Cond.soleField "java/util/TreeMap$Entry" "key") ∈ lw_all := lw_g (lw_at lw_m5 123 rfl) rfl
theorem q1177 : (Jvm.Cond.lays "java/util/TreeMap$Entry" "java/util/TreeMap$Entry" "value" "Ljava/lang/Object;") ∈ lw_all := lw_g (lw_at lw_m5 124 rfl) rfl
theorem q1178 : (Jvm.Cond.soleField "java/util/TreeMap$Entry" "value") ∈ lw_all := lw_g (lw_at lw_m5 125 rfl) rfl
theorem q1179 : (Jvm.Cond.lays "java/util/TreeMap$Entry" "java/util/TreeMap$Entry" "left" "Ljava/util/TreeMap$Entry;") ∈ lw_all := lw_g (lw_at lw_m5 126 rfl) rfl
theorem q1180 : (Jvm.Cond.soleField "java/util/TreeMap$Entry" "left") ∈ lw_all := lw_g (lw_at lw_m5 127 rfl) rfl
theorem q1181 : (Jvm.Cond.lays "java/util/TreeMap$Entry" "java/util/TreeMap$Entry" "right" "Ljava/util/TreeMap$Entry;") ∈ lw_all := lw_g (lw_at lw_m5 128 rfl) rfl
theorem q1182 : (Jvm.Cond.soleField "java/util/TreeMap$Entry" "right") ∈ lw_all := lw_g (lw_at lw_m5 129 rfl) rfl
theorem q1183 : (Jvm.Cond.lays "java/util/TreeMap$Entry" "java/util/TreeMap$Entry" "parent" "Ljava/util/TreeMap$Entry;") ∈ lw_all := lw_g (lw_at lw_m5 130 rfl) rfl
theorem q1184 : (Jvm.Cond.soleField "java/util/TreeMap$Entry" "parent") ∈ lw_all := lw_g (lw_at lw_m5 131 rfl) rfl
theorem q1185 : (Jvm.Cond.lays "java/util/TreeMap$Entry" "java/util/TreeMap$Entry" "color" "Z") ∈ lw_all := lw_g (lw_at lw_m5 132 rfl) rfl
theorem q1186 : (Jvm.Cond.soleField "java/util/TreeMap$Entry" "color") ∈ lw_all := lw_g (lw_at lw_m5 133 rfl) rfl
theorem q1187 : (Jvm.Cond.superclass "java/util/TreeMap$Entry" "java/lang/Object") ∈ lw_all := lw_g (lw_at lw_m5 134 rfl) rfl
theorem q1277 : (Jvm.Cond.castable "java/util/TreeMap$Entry" "java/util/Map$Entry") ∈ lw_tbl := lw_at lw_m5 224 rfl
theorem q1278 : (Jvm.Cond.selects "java/util/TreeMap$Entry" ({ cls := "java/util/Map$Entry", name := "getValue", desc := "()Ljava/lang/Object;" } : Jvm.MethodName) ({ cls := "java/util/TreeMap$Entry", name := "getValue", desc := "()Ljava/lang/Object;" } : Jvm.MethodName)) ∈ lw_all := lw_g (lw_at lw_m5 225 rfl) rfl
theorem q1279 : (Jvm.Cond.unhidden "java/util/TreeMap$Entry" "getValue" "()Ljava/lang/Object;") ∈ lw_tbl := lw_at lw_m5 226 rfl
theorem q1280 : (Jvm.Cond.instanceMethod ({ cls := "java/util/TreeMap$Entry", name := "getValue", desc := "()Ljava/lang/Object;" } : Jvm.MethodName)) ∈ lw_all := lw_g (lw_at lw_m5 227 rfl) rfl
theorem q1281 : (Jvm.Cond.publicMethod ({ cls := "java/util/TreeMap$Entry", name := "getValue", desc := "()Ljava/lang/Object;" } : Jvm.MethodName)) ∈ lw_tbl := lw_at lw_m5 228 rfl
theorem q1282 : (Jvm.Cond.code ({ cls := "java/util/TreeMap$Entry", name := "getValue", desc := "()Ljava/lang/Object;" } : Jvm.MethodName) prog_76_method_3_code (1 : Nat) (Option.some (Jvm.ClassFile.FieldType.object "java/lang/Object"))) ∈ lw_all := lw_g (lw_at lw_m5 229 rfl) rfl
theorem q1287 : (Jvm.Cond.selects "java/util/TreeMap$Entry" ({ cls := "java/util/Map$Entry", name := "getKey", desc := "()Ljava/lang/Object;" } : Jvm.MethodName) ({ cls := "java/util/TreeMap$Entry", name := "getKey", desc := "()Ljava/lang/Object;" } : Jvm.MethodName)) ∈ lw_all := lw_g (lw_at lw_m5 234 rfl) rfl
theorem q1288 : (Jvm.Cond.unhidden "java/util/TreeMap$Entry" "getKey" "()Ljava/lang/Object;") ∈ lw_tbl := lw_at lw_m5 235 rfl
theorem q1289 : (Jvm.Cond.instanceMethod ({ cls := "java/util/TreeMap$Entry", name := "getKey", desc := "()Ljava/lang/Object;" } : Jvm.MethodName)) ∈ lw_all := lw_g (lw_at lw_m5 236 rfl) rfl
theorem q1290 : (Jvm.Cond.publicMethod ({ cls := "java/util/TreeMap$Entry", name := "getKey", desc := "()Ljava/lang/Object;" } : Jvm.MethodName)) ∈ lw_tbl := lw_at lw_m5 237 rfl
theorem q1291 : (Jvm.Cond.code ({ cls := "java/util/TreeMap$Entry", name := "getKey", desc := "()Ljava/lang/Object;" } : Jvm.MethodName) prog_76_method_2_code (1 : Nat) (Option.some (Jvm.ClassFile.FieldType.object "java/lang/Object"))) ∈ lw_all := lw_g (lw_at lw_m5 238 rfl) rfl
theorem q3244 : (Jvm.Cond.castable "java/util/TreeMap$Entry" "java/lang/Object") ∈ lw_tbl := lw_at lw_m14 31 rfl
theorem in_J37 : ∀ w ∈ wsJ370, w ∈ lw_all := lw_in wsJ370 [1175, 1177, 1179, 1181, 1183, 1185] (by decide +kernel) (by decide +kernel)
/-! java/util/AbstractSet -/
set_option maxRecDepth 100000
def RJ38 : String := "java/util/AbstractSet"
abbrev cJ38_init : ByteArray := prog_51_method_1_code
def yJ38_init : MethodName := ⟨RJ38, "<init>", "()V"⟩
theorem dJ38_init_0 : decode cJ38_init 0 = .ok (.aload_n 0, 1) := by decide +kernel
theorem dJ38_init_1 : decode cJ38_init 1 = .ok (.invokespecial 1, 3) := by decide +kernel
theorem dJ38_init_4 : decode cJ38_init 4 = .ok (.return_, 1) := by decide +kernel
theorem q143 : (Jvm.Cond.initialized "java/util/AbstractSet") ∈ lw_all := lw_g (lw_at lw_m1 50 rfl) rfl
theorem q1229 : (Jvm.Cond.instanceMethod ({ cls := "java/util/AbstractSet", name := "<init>", desc := "()V" } : Jvm.MethodName)) ∈ lw_all := lw_g (lw_at lw_m5 176 rfl) rfl
theorem q1230 : (Jvm.Cond.code ({ cls := "java/util/AbstractSet", name := "<init>", desc := "()V" } : Jvm.MethodName) prog_51_method_1_code (1 : Nat) (Option.none : Option Jvm.ClassFile.FieldType)) ∈ lw_all := lw_g (lw_at lw_m5 177 rfl) rfl
theorem q1231 : (Jvm.Cond.methodLink "java/util/AbstractSet" (1 : Nat) ({ cls := "java/util/AbstractCollection", name := "<init>", desc := "()V" } : Jvm.MethodName)) ∈ lw_all := lw_g (lw_at lw_m5 178 rfl) rfl
/-! java/util/TreeMap$EntrySet -/
set_option maxRecDepth 100000
def RJ39 : String := "java/util/TreeMap$EntrySet"
def TJ39 : u_T := fun k => match k with
  | _ => ("java/util/TreeMap$EntrySet", "this$0", "Ljava/util/TreeMap;", true)
def tyJ39 : Nat → FieldType := fun k => match k with
  | _ => .object "java/util/TreeMap"
abbrev wsJ390 : List Cond := u_ws RJ39 TJ39 1
theorem nmJ39 : ∀ a, a < 1 → ∀ b, b < 1 → a ≠ b → (TJ39 a).2.1 ≠ (TJ39 b).2.1 := by decide +kernel
theorem tyJ39_ok : ∀ k, k < 1 → parseFieldDescriptor (TJ39 k).2.2.1 = some (tyJ39 k) := by decide +kernel
abbrev cJ39_size : ByteArray := prog_78_method_5_code
def yJ39_size : MethodName := ⟨RJ39, "size", "()I"⟩
def dkwJ39_size_0 : List UInt8 := [42, 180, 0, 1, 182, 0, 48, 172]
abbrev dktJ39_size_0 : List UInt8 := dkwJ39_size_0 ++ []
theorem dksJ39_size_0 : cJ39_size.data.toList.drop 0 = dktJ39_size_0 := by decide +kernel
theorem dJ39_size_0 : decode cJ39_size 0 = .ok (.aload_n 0, 1) := dk_42 (dk_at dksJ39_size_0 0 rfl rfl)
theorem dJ39_size_1 : decode cJ39_size 1 = .ok (.getfield 1, 3) := dk_180 0 1 (dk_at dksJ39_size_0 1 rfl rfl)
theorem dJ39_size_4 : decode cJ39_size 4 = .ok (.invokevirtual 48, 3) := dk_182 0 48 (dk_at dksJ39_size_0 4 rfl rfl)
theorem dJ39_size_7 : decode cJ39_size 7 = .ok (.ireturn, 1) := dk_172 (dk_at dksJ39_size_0 7 rfl rfl)
abbrev cJ39_init : ByteArray := prog_78_method_1_code
def yJ39_init : MethodName := ⟨RJ39, "<init>", "(Ljava/util/TreeMap;)V"⟩
def dkwJ39_init_0 : List UInt8 := [42, 43, 181, 0, 1, 42, 183, 0, 7, 177]
abbrev dktJ39_init_0 : List UInt8 := dkwJ39_init_0 ++ []
theorem dksJ39_init_0 : cJ39_init.data.toList.drop 0 = dktJ39_init_0 := by decide +kernel
theorem dJ39_init_0 : decode cJ39_init 0 = .ok (.aload_n 0, 1) := dk_42 (dk_at dksJ39_init_0 0 rfl rfl)
theorem dJ39_init_1 : decode cJ39_init 1 = .ok (.aload_n 1, 1) := dk_43 (dk_at dksJ39_init_0 1 rfl rfl)
theorem dJ39_init_2 : decode cJ39_init 2 = .ok (.putfield 1, 3) := dk_181 0 1 (dk_at dksJ39_init_0 2 rfl rfl)
theorem dJ39_init_5 : decode cJ39_init 5 = .ok (.aload_n 0, 1) := dk_42 (dk_at dksJ39_init_0 5 rfl rfl)
theorem dJ39_init_6 : decode cJ39_init 6 = .ok (.invokespecial 7, 3) := dk_183 0 7 (dk_at dksJ39_init_0 6 rfl rfl)
theorem dJ39_init_9 : decode cJ39_init 9 = .ok (.return_, 1) := dk_177 (dk_at dksJ39_init_0 9 rfl rfl)
abbrev cJ39_iterator : ByteArray := prog_78_method_2_code
def yJ39_iterator : MethodName := ⟨RJ39, "iterator", "()Ljava/util/Iterator;"⟩
def dkwJ39_iterator_0 : List UInt8 := [187, 0, 13, 89, 42, 180, 0, 1, 42, 180, 0, 1, 182, 0, 15, 183, 0, 21, 176]
abbrev dktJ39_iterator_0 : List UInt8 := dkwJ39_iterator_0 ++ []
theorem dksJ39_iterator_0 : cJ39_iterator.data.toList.drop 0 = dktJ39_iterator_0 := by decide +kernel
theorem dJ39_iterator_0 : decode cJ39_iterator 0 = .ok (.new 13, 3) := dk_187 0 13 (dk_at dksJ39_iterator_0 0 rfl rfl)
theorem dJ39_iterator_3 : decode cJ39_iterator 3 = .ok (.dup, 1) := dk_89 (dk_at dksJ39_iterator_0 3 rfl rfl)
theorem dJ39_iterator_4 : decode cJ39_iterator 4 = .ok (.aload_n 0, 1) := dk_42 (dk_at dksJ39_iterator_0 4 rfl rfl)
theorem dJ39_iterator_5 : decode cJ39_iterator 5 = .ok (.getfield 1, 3) := dk_180 0 1 (dk_at dksJ39_iterator_0 5 rfl rfl)
theorem dJ39_iterator_8 : decode cJ39_iterator 8 = .ok (.aload_n 0, 1) := dk_42 (dk_at dksJ39_iterator_0 8 rfl rfl)
theorem dJ39_iterator_9 : decode cJ39_iterator 9 = .ok (.getfield 1, 3) := dk_180 0 1 (dk_at dksJ39_iterator_0 9 rfl rfl)
theorem dJ39_iterator_12 : decode cJ39_iterator 12 = .ok (.invokevirtual 15, 3) := dk_182 0 15 (dk_at dksJ39_iterator_0 12 rfl rfl)
theorem dJ39_iterator_15 : decode cJ39_iterator 15 = .ok (.invokespecial 21, 3) := dk_183 0 21 (dk_at dksJ39_iterator_0 15 rfl rfl)
theorem dJ39_iterator_18 : decode cJ39_iterator 18 = .ok (.areturn, 1) := dk_176 (dk_at dksJ39_iterator_0 18 rfl rfl)
theorem q144 : (Jvm.Cond.initialized "java/util/TreeMap$EntrySet") ∈ lw_all := lw_g (lw_at lw_m1 51 rfl) rfl
theorem q740 : (Jvm.Cond.selects "java/util/TreeMap$EntrySet" ({ cls := "java/lang/Object", name := "getClass", desc := "()Ljava/lang/Class;" } : Jvm.MethodName) ({ cls := "java/lang/Object", name := "getClass", desc := "()Ljava/lang/Class;" } : Jvm.MethodName)) ∈ lw_all := lw_g (lw_at lw_m3 167 rfl) rfl
theorem q1024 : (Jvm.Cond.selects "java/util/TreeMap$EntrySet" ({ cls := "java/util/AbstractCollection", name := "size", desc := "()I" } : Jvm.MethodName) ({ cls := "java/util/TreeMap$EntrySet", name := "size", desc := "()I" } : Jvm.MethodName)) ∈ lw_all := lw_g (lw_at lw_m4 211 rfl) rfl
theorem q1025 : (Jvm.Cond.instanceMethod ({ cls := "java/util/TreeMap$EntrySet", name := "size", desc := "()I" } : Jvm.MethodName)) ∈ lw_all := lw_g (lw_at lw_m4 212 rfl) rfl
theorem q1026 : (Jvm.Cond.code ({ cls := "java/util/TreeMap$EntrySet", name := "size", desc := "()I" } : Jvm.MethodName) prog_78_method_5_code (1 : Nat) (Option.some Jvm.ClassFile.FieldType.int)) ∈ lw_all := lw_g (lw_at lw_m4 213 rfl) rfl
theorem q1027 : (Jvm.Cond.methodLink "java/util/TreeMap$EntrySet" (48 : Nat) ({ cls := "java/util/TreeMap", name := "size", desc := "()I" } : Jvm.MethodName)) ∈ lw_all := lw_g (lw_at lw_m4 214 rfl) rfl
theorem q1224 : (Jvm.Cond.instantiable "java/util/TreeMap$EntrySet" (1 : Nat)) ∈ lw_all := lw_g (lw_at lw_m5 171 rfl) rfl
theorem q1226 : (Jvm.Cond.instanceMethod ({ cls := "java/util/TreeMap$EntrySet", name := "<init>", desc := "(Ljava/util/TreeMap;)V" } : Jvm.MethodName)) ∈ lw_all := lw_g (lw_at lw_m5 173 rfl) rfl
theorem q1227 : (Jvm.Cond.code ({ cls := "java/util/TreeMap$EntrySet", name := "<init>", desc := "(Ljava/util/TreeMap;)V" } : Jvm.MethodName) prog_78_method_1_code (2 : Nat) (Option.none : Option Jvm.ClassFile.FieldType)) ∈ lw_all := lw_g (lw_at lw_m5 174 rfl) rfl
theorem q1228 : (Jvm.Cond.methodLink "java/util/TreeMap$EntrySet" (7 : Nat) ({ cls := "java/util/AbstractSet", name := "<init>", desc := "()V" } : Jvm.MethodName)) ∈ lw_all := lw_g (lw_at lw_m5 175 rfl) rfl
theorem q1232 : (Jvm.Cond.fieldLink "java/util/TreeMap$EntrySet" (1 : Nat) "java/util/TreeMap$EntrySet" "this$0" "Ljava/util/TreeMap;") ∈ lw_all := lw_g (lw_at lw_m5 179 rfl) rfl
theorem q1233 : (Jvm.Cond.laysFinal "java/util/TreeMap$EntrySet" "java/util/TreeMap$EntrySet" "this$0" "Ljava/util/TreeMap;") ∈ lw_all := lw_g (lw_at lw_m5 180 rfl) rfl
theorem q1234 : (Jvm.Cond.soleField "java/util/TreeMap$EntrySet" "this$0") ∈ lw_all := lw_g (lw_at lw_m5 181 rfl) rfl
theorem q1235 : (Jvm.Cond.superclass "java/util/TreeMap$EntrySet" "java/util/AbstractSet") ∈ lw_all := lw_g (lw_at lw_m5 182 rfl) rfl
theorem q1240 : (Jvm.Cond.castable "java/util/TreeMap$EntrySet" "java/util/Set") ∈ lw_tbl := lw_at lw_m5 187 rfl
theorem q1241 : (Jvm.Cond.selects "java/util/TreeMap$EntrySet" ({ cls := "java/util/Set", name := "iterator", desc := "()Ljava/util/Iterator;" } : Jvm.MethodName) ({ cls := "java/util/TreeMap$EntrySet", name := "iterator", desc := "()Ljava/util/Iterator;" } : Jvm.MethodName)) ∈ lw_all := lw_g (lw_at lw_m5 188 rfl) rfl
theorem q1242 : (Jvm.Cond.unhidden "java/util/TreeMap$EntrySet" "iterator" "()Ljava/util/Iterator;") ∈ lw_tbl := lw_at lw_m5 189 rfl
theorem q1243 : (Jvm.Cond.instanceMethod ({ cls := "java/util/TreeMap$EntrySet", name := "iterator", desc := "()Ljava/util/Iterator;" } : Jvm.MethodName)) ∈ lw_all := lw_g (lw_at lw_m5 190 rfl) rfl
theorem q1244 : (Jvm.Cond.publicMethod ({ cls := "java/util/TreeMap$EntrySet", name := "iterator", desc := "()Ljava/util/Iterator;" } : Jvm.MethodName)) ∈ lw_tbl := lw_at lw_m5 191 rfl
theorem q1245 : (Jvm.Cond.code ({ cls := "java/util/TreeMap$EntrySet", name := "iterator", desc := "()Ljava/util/Iterator;" } : Jvm.MethodName) prog_78_method_2_code (1 : Nat) (Option.some (Jvm.ClassFile.FieldType.object "java/util/Iterator"))) ∈ lw_all := lw_g (lw_at lw_m5 192 rfl) rfl
theorem q1246 : (Jvm.Cond.classLink "java/util/TreeMap$EntrySet" (13 : Nat) "java/util/TreeMap$EntryIterator") ∈ lw_all := lw_g (lw_at lw_m5 193 rfl) rfl
theorem q1248 : (Jvm.Cond.methodLink "java/util/TreeMap$EntrySet" (15 : Nat) ({ cls := "java/util/TreeMap", name := "getFirstEntry", desc := "()Ljava/util/TreeMap$Entry;" } : Jvm.MethodName)) ∈ lw_all := lw_g (lw_at lw_m5 195 rfl) rfl
theorem q1252 : (Jvm.Cond.methodLink "java/util/TreeMap$EntrySet" (21 : Nat) ({ cls := "java/util/TreeMap$EntryIterator", name := "<init>", desc := "(Ljava/util/TreeMap;Ljava/util/TreeMap$Entry;)V" } : Jvm.MethodName)) ∈ lw_all := lw_g (lw_at lw_m5 199 rfl) rfl
theorem q1741 : (Jvm.Cond.castable "java/util/TreeMap$EntrySet" "java/util/Collection") ∈ lw_tbl := lw_at lw_m7 208 rfl
theorem q1742 : (Jvm.Cond.selects "java/util/TreeMap$EntrySet" ({ cls := "java/util/Collection", name := "toArray", desc := "()[Ljava/lang/Object;" } : Jvm.MethodName) ({ cls := "java/util/AbstractCollection", name := "toArray", desc := "()[Ljava/lang/Object;" } : Jvm.MethodName)) ∈ lw_all := lw_g (lw_at lw_m7 209 rfl) rfl
theorem q1743 : (Jvm.Cond.unhidden "java/util/TreeMap$EntrySet" "toArray" "()[Ljava/lang/Object;") ∈ lw_tbl := lw_at lw_m7 210 rfl
theorem q1803 : (Jvm.Cond.selects "java/util/TreeMap$EntrySet" ({ cls := "java/util/AbstractCollection", name := "iterator", desc := "()Ljava/util/Iterator;" } : Jvm.MethodName) ({ cls := "java/util/TreeMap$EntrySet", name := "iterator", desc := "()Ljava/util/Iterator;" } : Jvm.MethodName)) ∈ lw_all := lw_g (lw_at lw_m8 30 rfl) rfl
theorem q3245 : (Jvm.Cond.castable "java/util/TreeMap$EntrySet" "java/lang/Object") ∈ lw_tbl := lw_at lw_m14 32 rfl
theorem in_J39 : ∀ w ∈ wsJ390, w ∈ lw_all := lw_in wsJ390 [1233] (by decide +kernel) (by decide +kernel)
/-! java/lang/ArithmeticException -/
set_option maxRecDepth 100000
def RJ40 : String := "java/lang/ArithmeticException"
def TJ40 : u_T := fun k => match k with
  | 0 => ("java/lang/Throwable", "backtrace", "Ljava/lang/Object;", false)
  | 1 => ("java/lang/Throwable", "detailMessage", "Ljava/lang/String;", false)
  | 2 => ("java/lang/Throwable", "cause", "Ljava/lang/Throwable;", false)
  | 3 => ("java/lang/Throwable", "stackTrace", "[Ljava/lang/StackTraceElement;", false)
  | 4 => ("java/lang/Throwable", "depth", "I", false)
  | _ => ("java/lang/Throwable", "suppressedExceptions", "Ljava/util/List;", false)
def tyJ40 : Nat → FieldType := fun k => match k with
  | 0 => .object "java/lang/Object"
  | 1 => .object "java/lang/String"
  | 2 => .object "java/lang/Throwable"
  | 3 => .array (.object "java/lang/StackTraceElement")
  | 4 => .int
  | _ => .object "java/util/List"
abbrev wsJ400 : List Cond := u_ws RJ40 TJ40 6
theorem nmJ40 : ∀ a, a < 6 → ∀ b, b < 6 → a ≠ b → (TJ40 a).2.1 ≠ (TJ40 b).2.1 := by decide +kernel
theorem tyJ40_ok : ∀ k, k < 6 → parseFieldDescriptor (TJ40 k).2.2.1 = some (tyJ40 k) := by decide +kernel
abbrev cJ40_init : ByteArray := prog_19_method_2_code
def yJ40_init : MethodName := ⟨RJ40, "<init>", "(Ljava/lang/String;)V"⟩
def dkwJ40_init_0 : List UInt8 := [42, 43, 183, 0, 7, 177]
abbrev dktJ40_init_0 : List UInt8 := dkwJ40_init_0 ++ []
theorem dksJ40_init_0 : cJ40_init.data.toList.drop 0 = dktJ40_init_0 := by decide +kernel
theorem dJ40_init_0 : decode cJ40_init 0 = .ok (.aload_n 0, 1) := dk_42 (dk_at dksJ40_init_0 0 rfl rfl)
theorem dJ40_init_1 : decode cJ40_init 1 = .ok (.aload_n 1, 1) := dk_43 (dk_at dksJ40_init_0 1 rfl rfl)
theorem dJ40_init_2 : decode cJ40_init 2 = .ok (.invokespecial 7, 3) := dk_183 0 7 (dk_at dksJ40_init_0 2 rfl rfl)
theorem dJ40_init_5 : decode cJ40_init 5 = .ok (.return_, 1) := dk_177 (dk_at dksJ40_init_0 5 rfl rfl)
abbrev cJ40_init_2 : ByteArray := prog_19_method_1_code
def yJ40_init_2 : MethodName := ⟨RJ40, "<init>", "()V"⟩
theorem dJ40_init_2_0 : decode cJ40_init_2 0 = .ok (.aload_n 0, 1) := by decide +kernel
theorem dJ40_init_2_1 : decode cJ40_init_2 1 = .ok (.invokespecial 1, 3) := by decide +kernel
theorem dJ40_init_2_4 : decode cJ40_init_2 4 = .ok (.return_, 1) := by decide +kernel
theorem q145 : (Jvm.Cond.initialized "java/lang/ArithmeticException") ∈ lw_all := lw_g (lw_at lw_m1 52 rfl) rfl
theorem q463 : (Jvm.Cond.selects "java/lang/ArithmeticException" ({ cls := "java/lang/Throwable", name := "fillInStackTrace", desc := "()Ljava/lang/Throwable;" } : Jvm.MethodName) ({ cls := "java/lang/Throwable", name := "fillInStackTrace", desc := "()Ljava/lang/Throwable;" } : Jvm.MethodName)) ∈ lw_all := lw_g (lw_at lw_m2 130 rfl) rfl
theorem q720 : (Jvm.Cond.selects "java/lang/ArithmeticException" ({ cls := "java/lang/Object", name := "getClass", desc := "()Ljava/lang/Class;" } : Jvm.MethodName) ({ cls := "java/lang/Object", name := "getClass", desc := "()Ljava/lang/Class;" } : Jvm.MethodName)) ∈ lw_all := lw_g (lw_at lw_m3 147 rfl) rfl
theorem q2291 : (Jvm.Cond.instantiable "java/lang/ArithmeticException" (6 : Nat)) ∈ lw_all := lw_g (lw_at lw_m10 38 rfl) rfl
theorem q2292 : (Jvm.Cond.instanceMethod ({ cls := "java/lang/ArithmeticException", name := "<init>", desc := "(Ljava/lang/String;)V" } : Jvm.MethodName)) ∈ lw_all := lw_g (lw_at lw_m10 39 rfl) rfl
theorem q2293 : (Jvm.Cond.code ({ cls := "java/lang/ArithmeticException", name := "<init>", desc := "(Ljava/lang/String;)V" } : Jvm.MethodName) prog_19_method_2_code (2 : Nat) (Option.none : Option Jvm.ClassFile.FieldType)) ∈ lw_all := lw_g (lw_at lw_m10 40 rfl) rfl
theorem q2294 : (Jvm.Cond.methodLink "java/lang/ArithmeticException" (7 : Nat) ({ cls := "java/lang/RuntimeException", name := "<init>", desc := "(Ljava/lang/String;)V" } : Jvm.MethodName)) ∈ lw_all := lw_g (lw_at lw_m10 41 rfl) rfl
theorem q2295 : (Jvm.Cond.lays "java/lang/ArithmeticException" "java/lang/Throwable" "backtrace" "Ljava/lang/Object;") ∈ lw_all := lw_g (lw_at lw_m10 42 rfl) rfl
theorem q2296 : (Jvm.Cond.lays "java/lang/ArithmeticException" "java/lang/Throwable" "detailMessage" "Ljava/lang/String;") ∈ lw_all := lw_g (lw_at lw_m10 43 rfl) rfl
theorem q2297 : (Jvm.Cond.lays "java/lang/ArithmeticException" "java/lang/Throwable" "cause" "Ljava/lang/Throwable;") ∈ lw_all := lw_g (lw_at lw_m10 44 rfl) rfl
theorem q2298 : (Jvm.Cond.lays "java/lang/ArithmeticException" "java/lang/Throwable" "stackTrace" "[Ljava/lang/StackTraceElement;") ∈ lw_all := lw_g (lw_at lw_m10 45 rfl) rfl
theorem q2299 : (Jvm.Cond.lays "java/lang/ArithmeticException" "java/lang/Throwable" "depth" "I") ∈ lw_all := lw_g (lw_at lw_m10 46 rfl) rfl
theorem q2300 : (Jvm.Cond.lays "java/lang/ArithmeticException" "java/lang/Throwable" "suppressedExceptions" "Ljava/util/List;") ∈ lw_all := lw_g (lw_at lw_m10 47 rfl) rfl
theorem q2301 : (Jvm.Cond.superclass "java/lang/ArithmeticException" "java/lang/RuntimeException") ∈ lw_all := lw_g (lw_at lw_m10 48 rfl) rfl
theorem q2302 : (Jvm.Cond.castable "java/lang/ArithmeticException" "java/lang/ArithmeticException") ∈ lw_tbl := lw_at lw_m10 49 rfl
theorem q2303 : (Jvm.Cond.selects "java/lang/ArithmeticException" ({ cls := "java/lang/Throwable", name := "fillInStackTrace", desc := "(I)Ljava/lang/Throwable;" } : Jvm.MethodName) ({ cls := "java/lang/Throwable", name := "fillInStackTrace", desc := "(I)Ljava/lang/Throwable;" } : Jvm.MethodName)) ∈ lw_all := lw_g (lw_at lw_m10 50 rfl) rfl
theorem q2310 : (Jvm.Cond.instanceMethod ({ cls := "java/lang/ArithmeticException", name := "<init>", desc := "()V" } : Jvm.MethodName)) ∈ lw_all := lw_g (lw_at lw_m10 57 rfl) rfl
theorem q2311 : (Jvm.Cond.code ({ cls := "java/lang/ArithmeticException", name := "<init>", desc := "()V" } : Jvm.MethodName) prog_19_method_1_code (1 : Nat) (Option.none : Option Jvm.ClassFile.FieldType)) ∈ lw_all := lw_g (lw_at lw_m10 58 rfl) rfl
theorem q2312 : (Jvm.Cond.methodLink "java/lang/ArithmeticException" (1 : Nat) ({ cls := "java/lang/RuntimeException", name := "<init>", desc := "()V" } : Jvm.MethodName)) ∈ lw_all := lw_g (lw_at lw_m10 59 rfl) rfl
theorem q3247 : (Jvm.Cond.castable "java/lang/ArithmeticException" "java/lang/Object") ∈ lw_tbl := lw_at lw_m14 34 rfl
theorem in_J40 : ∀ w ∈ wsJ400, w ∈ lw_all := lw_in wsJ400 [2295, 2296, 2297, 2298, 2299, 2300] (by decide +kernel) (by decide +kernel)
/-! java/lang/StringIndexOutOfBoundsException -/
set_option maxRecDepth 100000
def RJ41 : String := "java/lang/StringIndexOutOfBoundsException"
def TJ41 : u_T := fun k => match k with
  | 0 => ("java/lang/Throwable", "backtrace", "Ljava/lang/Object;", false)
  | 1 => ("java/lang/Throwable", "detailMessage", "Ljava/lang/String;", false)
  | 2 => ("java/lang/Throwable", "cause", "Ljava/lang/Throwable;", false)
  | 3 => ("java/lang/Throwable", "stackTrace", "[Ljava/lang/StackTraceElement;", false)
  | 4 => ("java/lang/Throwable", "depth", "I", false)
  | _ => ("java/lang/Throwable", "suppressedExceptions", "Ljava/util/List;", false)
def tyJ41 : Nat → FieldType := fun k => match k with
  | 0 => .object "java/lang/Object"
  | 1 => .object "java/lang/String"
  | 2 => .object "java/lang/Throwable"
  | 3 => .array (.object "java/lang/StackTraceElement")
  | 4 => .int
  | _ => .object "java/util/List"
abbrev wsJ410 : List Cond := u_ws RJ41 TJ41 6
theorem nmJ41 : ∀ a, a < 6 → ∀ b, b < 6 → a ≠ b → (TJ41 a).2.1 ≠ (TJ41 b).2.1 := by decide +kernel
theorem tyJ41_ok : ∀ k, k < 6 → parseFieldDescriptor (TJ41 k).2.2.1 = some (tyJ41 k) := by decide +kernel
abbrev cJ41_init : ByteArray := prog_39_method_3_code
def yJ41_init : MethodName := ⟨RJ41, "<init>", "(I)V"⟩
def dkwJ41_init_0 : List UInt8 := [42, 187, 0, 10, 89, 183, 0, 12, 18, 13, 182, 0, 15, 27, 182, 0, 19, 182, 0, 22, 183, 0, 7, 177]
abbrev dktJ41_init_0 : List UInt8 := dkwJ41_init_0 ++ []
theorem dksJ41_init_0 : cJ41_init.data.toList.drop 0 = dktJ41_init_0 := by decide +kernel
theorem dJ41_init_0 : decode cJ41_init 0 = .ok (.aload_n 0, 1) := dk_42 (dk_at dksJ41_init_0 0 rfl rfl)
theorem dJ41_init_1 : decode cJ41_init 1 = .ok (.new 10, 3) := dk_187 0 10 (dk_at dksJ41_init_0 1 rfl rfl)
theorem dJ41_init_4 : decode cJ41_init 4 = .ok (.dup, 1) := dk_89 (dk_at dksJ41_init_0 4 rfl rfl)
theorem dJ41_init_5 : decode cJ41_init 5 = .ok (.invokespecial 12, 3) := dk_183 0 12 (dk_at dksJ41_init_0 5 rfl rfl)
theorem dJ41_init_8 : decode cJ41_init 8 = .ok (.ldc 13, 2) := dk_18 13 (dk_at dksJ41_init_0 8 rfl rfl)
theorem dJ41_init_10 : decode cJ41_init 10 = .ok (.invokevirtual 15, 3) := dk_182 0 15 (dk_at dksJ41_init_0 10 rfl rfl)
theorem dJ41_init_13 : decode cJ41_init 13 = .ok (.iload_n 1, 1) := dk_27 (dk_at dksJ41_init_0 13 rfl rfl)
theorem dJ41_init_14 : decode cJ41_init 14 = .ok (.invokevirtual 19, 3) := dk_182 0 19 (dk_at dksJ41_init_0 14 rfl rfl)
theorem dJ41_init_17 : decode cJ41_init 17 = .ok (.invokevirtual 22, 3) := dk_182 0 22 (dk_at dksJ41_init_0 17 rfl rfl)
theorem dJ41_init_20 : decode cJ41_init 20 = .ok (.invokespecial 7, 3) := dk_183 0 7 (dk_at dksJ41_init_0 20 rfl rfl)
theorem dJ41_init_23 : decode cJ41_init 23 = .ok (.return_, 1) := dk_177 (dk_at dksJ41_init_0 23 rfl rfl)
theorem q146 : (Jvm.Cond.initialized "java/lang/StringIndexOutOfBoundsException") ∈ lw_all := lw_g (lw_at lw_m1 53 rfl) rfl
theorem q468 : (Jvm.Cond.selects "java/lang/StringIndexOutOfBoundsException" ({ cls := "java/lang/Throwable", name := "fillInStackTrace", desc := "()Ljava/lang/Throwable;" } : Jvm.MethodName) ({ cls := "java/lang/Throwable", name := "fillInStackTrace", desc := "()Ljava/lang/Throwable;" } : Jvm.MethodName)) ∈ lw_all := lw_g (lw_at lw_m2 135 rfl) rfl
theorem q728 : (Jvm.Cond.selects "java/lang/StringIndexOutOfBoundsException" ({ cls := "java/lang/Object", name := "getClass", desc := "()Ljava/lang/Class;" } : Jvm.MethodName) ({ cls := "java/lang/Object", name := "getClass", desc := "()Ljava/lang/Class;" } : Jvm.MethodName)) ∈ lw_all := lw_g (lw_at lw_m3 155 rfl) rfl
theorem q1346 : (Jvm.Cond.instantiable "java/lang/StringIndexOutOfBoundsException" (6 : Nat)) ∈ lw_all := lw_g (lw_at lw_m6 53 rfl) rfl
theorem q1348 : (Jvm.Cond.instanceMethod ({ cls := "java/lang/StringIndexOutOfBoundsException", name := "<init>", desc := "(I)V" } : Jvm.MethodName)) ∈ lw_all := lw_g (lw_at lw_m6 55 rfl) rfl
theorem q1349 : (Jvm.Cond.code ({ cls := "java/lang/StringIndexOutOfBoundsException", name := "<init>", desc := "(I)V" } : Jvm.MethodName) prog_39_method_3_code (2 : Nat) (Option.none : Option Jvm.ClassFile.FieldType)) ∈ lw_all := lw_g (lw_at lw_m6 56 rfl) rfl
theorem q1350 : (Jvm.Cond.classLink "java/lang/StringIndexOutOfBoundsException" (10 : Nat) "java/lang/StringBuilder") ∈ lw_all := lw_g (lw_at lw_m6 57 rfl) rfl
theorem q1351 : (Jvm.Cond.methodLink "java/lang/StringIndexOutOfBoundsException" (12 : Nat) ({ cls := "java/lang/StringBuilder", name := "<init>", desc := "()V" } : Jvm.MethodName)) ∈ lw_all := lw_g (lw_at lw_m6 58 rfl) rfl
theorem q1352 : (Jvm.Cond.stringRef "java/lang/StringIndexOutOfBoundsException" (13 : Nat) "String index out of range: ") ∈ lw_tbl := lw_at lw_m6 59 rfl
theorem q1353 : (Jvm.Cond.methodLink "java/lang/StringIndexOutOfBoundsException" (15 : Nat) ({ cls := "java/lang/StringBuilder", name := "append", desc := "(Ljava/lang/String;)Ljava/lang/StringBuilder;" } : Jvm.MethodName)) ∈ lw_all := lw_g (lw_at lw_m6 60 rfl) rfl
theorem q1434 : (Jvm.Cond.methodLink "java/lang/StringIndexOutOfBoundsException" (19 : Nat) ({ cls := "java/lang/StringBuilder", name := "append", desc := "(I)Ljava/lang/StringBuilder;" } : Jvm.MethodName)) ∈ lw_all := lw_g (lw_at lw_m6 141 rfl) rfl
theorem q1459 : (Jvm.Cond.methodLink "java/lang/StringIndexOutOfBoundsException" (22 : Nat) ({ cls := "java/lang/StringBuilder", name := "toString", desc := "()Ljava/lang/String;" } : Jvm.MethodName)) ∈ lw_all := lw_g (lw_at lw_m6 166 rfl) rfl
theorem q1535 : (Jvm.Cond.methodLink "java/lang/StringIndexOutOfBoundsException" (7 : Nat) ({ cls := "java/lang/IndexOutOfBoundsException", name := "<init>", desc := "(Ljava/lang/String;)V" } : Jvm.MethodName)) ∈ lw_all := lw_g (lw_at lw_m7 2 rfl) rfl
theorem q1539 : (Jvm.Cond.lays "java/lang/StringIndexOutOfBoundsException" "java/lang/Throwable" "backtrace" "Ljava/lang/Object;") ∈ lw_all := lw_g (lw_at lw_m7 6 rfl) rfl
theorem q1540 : (Jvm.Cond.lays "java/lang/StringIndexOutOfBoundsException" "java/lang/Throwable" "detailMessage" "Ljava/lang/String;") ∈ lw_all := lw_g (lw_at lw_m7 7 rfl) rfl
theorem q1541 : (Jvm.Cond.lays "java/lang/StringIndexOutOfBoundsException" "java/lang/Throwable" "cause" "Ljava/lang/Throwable;") ∈ lw_all := lw_g (lw_at lw_m7 8 rfl) rfl
theorem q1542 : (Jvm.Cond.lays "java/lang/StringIndexOutOfBoundsException" "java/lang/Throwable" "stackTrace" "[Ljava/lang/StackTraceElement;") ∈ lw_all := lw_g (lw_at lw_m7 9 rfl) rfl
theorem q1543 : (Jvm.Cond.lays "java/lang/StringIndexOutOfBoundsException" "java/lang/Throwable" "depth" "I") ∈ lw_all := lw_g (lw_at lw_m7 10 rfl) rfl
theorem q1544 : (Jvm.Cond.lays "java/lang/StringIndexOutOfBoundsException" "java/lang/Throwable" "suppressedExceptions" "Ljava/util/List;") ∈ lw_all := lw_g (lw_at lw_m7 11 rfl) rfl
theorem q1545 : (Jvm.Cond.superclass "java/lang/StringIndexOutOfBoundsException" "java/lang/IndexOutOfBoundsException") ∈ lw_all := lw_g (lw_at lw_m7 12 rfl) rfl
theorem q3220 : (Jvm.Cond.castable "java/lang/StringIndexOutOfBoundsException" "java/lang/IndexOutOfBoundsException") ∈ lw_tbl := lw_at lw_m14 7 rfl
theorem q3248 : (Jvm.Cond.castable "java/lang/StringIndexOutOfBoundsException" "java/lang/Object") ∈ lw_tbl := lw_at lw_m14 35 rfl
theorem in_J41 : ∀ w ∈ wsJ410, w ∈ lw_all := lw_in wsJ410 [1539, 1540, 1541, 1542, 1543, 1544] (by decide +kernel) (by decide +kernel)
/-! java/lang/Character -/
set_option maxRecDepth 100000
def RJ42 : String := "java/lang/Character"
abbrev cJ42_isValidCodePoint : ByteArray := prog_22_method_11_code
def yJ42_isValidCodePoint : MethodName := ⟨RJ42, "isValidCodePoint", "(I)Z"⟩
def dkwJ42_isValidCodePoint_0 : List UInt8 := [26, 16, 16, 124, 60, 27, 16, 17, 162, 0, 7, 4, 167, 0, 4, 3, 172]
abbrev dktJ42_isValidCodePoint_0 : List UInt8 := dkwJ42_isValidCodePoint_0 ++ []
theorem dksJ42_isValidCodePoint_0 : cJ42_isValidCodePoint.data.toList.drop 0 = dktJ42_isValidCodePoint_0 := by decide +kernel
theorem dJ42_isValidCodePoint_0 : decode cJ42_isValidCodePoint 0 = .ok (.iload_n 0, 1) := dk_26 (dk_at dksJ42_isValidCodePoint_0 0 rfl rfl)
theorem dJ42_isValidCodePoint_1 : decode cJ42_isValidCodePoint 1 = .ok (.bipush 16, 2) := dk_16 16 (dk_at dksJ42_isValidCodePoint_0 1 rfl rfl)
theorem dJ42_isValidCodePoint_3 : decode cJ42_isValidCodePoint 3 = .ok (.iushr, 1) := dk_124 (dk_at dksJ42_isValidCodePoint_0 3 rfl rfl)
theorem dJ42_isValidCodePoint_4 : decode cJ42_isValidCodePoint 4 = .ok (.istore_n 1, 1) := dk_60 (dk_at dksJ42_isValidCodePoint_0 4 rfl rfl)
theorem dJ42_isValidCodePoint_5 : decode cJ42_isValidCodePoint 5 = .ok (.iload_n 1, 1) := dk_27 (dk_at dksJ42_isValidCodePoint_0 5 rfl rfl)
theorem dJ42_isValidCodePoint_6 : decode cJ42_isValidCodePoint 6 = .ok (.bipush 17, 2) := dk_16 17 (dk_at dksJ42_isValidCodePoint_0 6 rfl rfl)
theorem dJ42_isValidCodePoint_8 : decode cJ42_isValidCodePoint 8 = .ok (.if_icmp .ge 7, 3) := dk_162 0 7 (dk_at dksJ42_isValidCodePoint_0 8 rfl rfl)
theorem dJ42_isValidCodePoint_11 : decode cJ42_isValidCodePoint 11 = .ok (.iconst 1, 1) := dk_4 (dk_at dksJ42_isValidCodePoint_0 11 rfl rfl)
theorem dJ42_isValidCodePoint_12 : decode cJ42_isValidCodePoint 12 = .ok (.goto 4, 3) := dk_167 0 4 (dk_at dksJ42_isValidCodePoint_0 12 rfl rfl)
theorem dJ42_isValidCodePoint_15 : decode cJ42_isValidCodePoint 15 = .ok (.iconst 0, 1) := dk_3 (dk_at dksJ42_isValidCodePoint_0 15 rfl rfl)
theorem dJ42_isValidCodePoint_16 : decode cJ42_isValidCodePoint 16 = .ok (.ireturn, 1) := dk_172 (dk_at dksJ42_isValidCodePoint_0 16 rfl rfl)
abbrev cJ42_highSurrogate : ByteArray := prog_22_method_28_code
def yJ42_highSurrogate : MethodName := ⟨RJ42, "highSurrogate", "(I)C"⟩
def dkwJ42_highSurrogate_0 : List UInt8 := [26, 16, 10, 124, 18, 110, 96, 146, 172]
abbrev dktJ42_highSurrogate_0 : List UInt8 := dkwJ42_highSurrogate_0 ++ []
theorem dksJ42_highSurrogate_0 : cJ42_highSurrogate.data.toList.drop 0 = dktJ42_highSurrogate_0 := by decide +kernel
theorem dJ42_highSurrogate_0 : decode cJ42_highSurrogate 0 = .ok (.iload_n 0, 1) := dk_26 (dk_at dksJ42_highSurrogate_0 0 rfl rfl)
theorem dJ42_highSurrogate_1 : decode cJ42_highSurrogate 1 = .ok (.bipush 10, 2) := dk_16 10 (dk_at dksJ42_highSurrogate_0 1 rfl rfl)
theorem dJ42_highSurrogate_3 : decode cJ42_highSurrogate 3 = .ok (.iushr, 1) := dk_124 (dk_at dksJ42_highSurrogate_0 3 rfl rfl)
theorem dJ42_highSurrogate_4 : decode cJ42_highSurrogate 4 = .ok (.ldc 110, 2) := dk_18 110 (dk_at dksJ42_highSurrogate_0 4 rfl rfl)
theorem dJ42_highSurrogate_6 : decode cJ42_highSurrogate 6 = .ok (.iadd, 1) := dk_96 (dk_at dksJ42_highSurrogate_0 6 rfl rfl)
theorem dJ42_highSurrogate_7 : decode cJ42_highSurrogate 7 = .ok (.i2c, 1) := dk_146 (dk_at dksJ42_highSurrogate_0 7 rfl rfl)
theorem dJ42_highSurrogate_8 : decode cJ42_highSurrogate 8 = .ok (.ireturn, 1) := dk_172 (dk_at dksJ42_highSurrogate_0 8 rfl rfl)
abbrev cJ42_lowSurrogate : ByteArray := prog_22_method_29_code
def yJ42_lowSurrogate : MethodName := ⟨RJ42, "lowSurrogate", "(I)C"⟩
def dkwJ42_lowSurrogate_0 : List UInt8 := [26, 17, 3, 255, 126, 18, 76, 96, 146, 172]
abbrev dktJ42_lowSurrogate_0 : List UInt8 := dkwJ42_lowSurrogate_0 ++ []
theorem dksJ42_lowSurrogate_0 : cJ42_lowSurrogate.data.toList.drop 0 = dktJ42_lowSurrogate_0 := by decide +kernel
theorem dJ42_lowSurrogate_0 : decode cJ42_lowSurrogate 0 = .ok (.iload_n 0, 1) := dk_26 (dk_at dksJ42_lowSurrogate_0 0 rfl rfl)
theorem dJ42_lowSurrogate_1 : decode cJ42_lowSurrogate 1 = .ok (.sipush 1023, 3) := dk_17 3 255 (dk_at dksJ42_lowSurrogate_0 1 rfl rfl)
theorem dJ42_lowSurrogate_4 : decode cJ42_lowSurrogate 4 = .ok (.iand, 1) := dk_126 (dk_at dksJ42_lowSurrogate_0 4 rfl rfl)
theorem dJ42_lowSurrogate_5 : decode cJ42_lowSurrogate 5 = .ok (.ldc 76, 2) := dk_18 76 (dk_at dksJ42_lowSurrogate_0 5 rfl rfl)
theorem dJ42_lowSurrogate_7 : decode cJ42_lowSurrogate 7 = .ok (.iadd, 1) := dk_96 (dk_at dksJ42_lowSurrogate_0 7 rfl rfl)
theorem dJ42_lowSurrogate_8 : decode cJ42_lowSurrogate 8 = .ok (.i2c, 1) := dk_146 (dk_at dksJ42_lowSurrogate_0 8 rfl rfl)
theorem dJ42_lowSurrogate_9 : decode cJ42_lowSurrogate 9 = .ok (.ireturn, 1) := dk_172 (dk_at dksJ42_lowSurrogate_0 9 rfl rfl)
theorem q148 : (Jvm.Cond.initialized "java/lang/Character") ∈ lw_all := lw_g (lw_at lw_m1 55 rfl) rfl
theorem q2502 : (Jvm.Cond.static ({ cls := "java/lang/Character", name := "isValidCodePoint", desc := "(I)Z" } : Jvm.MethodName)) ∈ lw_all := lw_g (lw_at lw_m11 9 rfl) rfl
theorem q2503 : (Jvm.Cond.code ({ cls := "java/lang/Character", name := "isValidCodePoint", desc := "(I)Z" } : Jvm.MethodName) prog_22_method_11_code (2 : Nat) (Option.some Jvm.ClassFile.FieldType.boolean)) ∈ lw_all := lw_g (lw_at lw_m11 10 rfl) rfl
theorem q2505 : (Jvm.Cond.static ({ cls := "java/lang/Character", name := "highSurrogate", desc := "(I)C" } : Jvm.MethodName)) ∈ lw_all := lw_g (lw_at lw_m11 12 rfl) rfl
theorem q2506 : (Jvm.Cond.code ({ cls := "java/lang/Character", name := "highSurrogate", desc := "(I)C" } : Jvm.MethodName) prog_22_method_28_code (1 : Nat) (Option.some Jvm.ClassFile.FieldType.char)) ∈ lw_all := lw_g (lw_at lw_m11 13 rfl) rfl
theorem q2507 : (Jvm.Cond.constant "java/lang/Character" (110 : Nat) (55232 : Int32)) ∈ lw_all := lw_g (lw_at lw_m11 14 rfl) rfl
theorem q2509 : (Jvm.Cond.static ({ cls := "java/lang/Character", name := "lowSurrogate", desc := "(I)C" } : Jvm.MethodName)) ∈ lw_all := lw_g (lw_at lw_m11 16 rfl) rfl
theorem q2510 : (Jvm.Cond.code ({ cls := "java/lang/Character", name := "lowSurrogate", desc := "(I)C" } : Jvm.MethodName) prog_22_method_29_code (1 : Nat) (Option.some Jvm.ClassFile.FieldType.char)) ∈ lw_all := lw_g (lw_at lw_m11 17 rfl) rfl
theorem q2511 : (Jvm.Cond.constant "java/lang/Character" (76 : Nat) (56320 : Int32)) ∈ lw_all := lw_g (lw_at lw_m11 18 rfl) rfl
/-! java/lang/Object -/
set_option maxRecDepth 100000
def RJ43 : String := "java/lang/Object"
abbrev cJ43_init : ByteArray := object_method_1_code
def yJ43_init : MethodName := ⟨RJ43, "<init>", "()V"⟩
theorem dJ43_init_0 : decode cJ43_init 0 = .ok (.return_, 1) := by decide +kernel
theorem q157 : (Jvm.Cond.instanceMethod ({ cls := "java/lang/Object", name := "<init>", desc := "()V" } : Jvm.MethodName)) ∈ lw_all := lw_g (lw_at lw_m1 64 rfl) rfl
theorem q158 : (Jvm.Cond.code ({ cls := "java/lang/Object", name := "<init>", desc := "()V" } : Jvm.MethodName) object_method_1_code (1 : Nat) (Option.none : Option Jvm.ClassFile.FieldType)) ∈ lw_all := lw_g (lw_at lw_m1 65 rfl) rfl
theorem q707 : (Jvm.Cond.instanceMethod ({ cls := "java/lang/Object", name := "getClass", desc := "()Ljava/lang/Class;" } : Jvm.MethodName)) ∈ lw_all := lw_g (lw_at lw_m3 134 rfl) rfl
theorem q708 : (Jvm.Cond.sameMethod "java/lang/Object" "java/lang/Object" "getClass" "()Ljava/lang/Class;") ∈ lw_all := lw_g (lw_at lw_m3 135 rfl) rfl
theorem q742 : (Jvm.Cond.native ({ cls := "java/lang/Object", name := "getClass", desc := "()Ljava/lang/Class;" } : Jvm.MethodName)) ∈ lw_all := lw_g (lw_at lw_m3 169 rfl) rfl
theorem q1379 : (Jvm.Cond.native ({ cls := "java/lang/Object", name := "clone", desc := "()Ljava/lang/Object;" } : Jvm.MethodName)) ∈ lw_all := lw_g (lw_at lw_m6 86 rfl) rfl
theorem q1380 : (Jvm.Cond.instanceMethod ({ cls := "java/lang/Object", name := "clone", desc := "()Ljava/lang/Object;" } : Jvm.MethodName)) ∈ lw_all := lw_g (lw_at lw_m6 87 rfl) rfl
theorem q3218 : (Jvm.Cond.initialized "java/lang/Object") ∈ lw_all := lw_g (lw_at lw_m14 5 rfl) rfl
theorem q3257 : (Jvm.Cond.declares ({ cls := "java/lang/Object", name := "getClass", desc := "()Ljava/lang/Class;" } : Jvm.MethodName)) ∈ lw_tbl := lw_at lw_m14 44 rfl
theorem q3264 : (Jvm.Cond.instantiable "java/lang/Object" (0 : Nat)) ∈ lw_all := lw_g (lw_at lw_m14 51 rfl) rfl
/-! WindowExchangeLaw -/
set_option maxRecDepth 100000
def RX0 : String := "WindowExchangeLaw"
abbrev cX0_addTrader : ByteArray := method_3_code
def yX0_addTrader : MethodName := ⟨RX0, "addTrader", "(LWindowExchange;II[J)I"⟩
def dkwX0_addTrader_0 : List UInt8 := [45, 3, 42, 27, 28, 182, 0, 7, 133, 80, 167, 0, 11, 58, 4, 4, 172, 58, 4, 5, 172, 3, 172]
abbrev dktX0_addTrader_0 : List UInt8 := dkwX0_addTrader_0 ++ []
theorem dksX0_addTrader_0 : cX0_addTrader.data.toList.drop 0 = dktX0_addTrader_0 := by decide +kernel
theorem dX0_addTrader_0 : decode cX0_addTrader 0 = .ok (.aload_n 3, 1) := dk_45 (dk_at dksX0_addTrader_0 0 rfl rfl)
theorem dX0_addTrader_1 : decode cX0_addTrader 1 = .ok (.iconst 0, 1) := dk_3 (dk_at dksX0_addTrader_0 1 rfl rfl)
theorem dX0_addTrader_2 : decode cX0_addTrader 2 = .ok (.aload_n 0, 1) := dk_42 (dk_at dksX0_addTrader_0 2 rfl rfl)
theorem dX0_addTrader_3 : decode cX0_addTrader 3 = .ok (.iload_n 1, 1) := dk_27 (dk_at dksX0_addTrader_0 3 rfl rfl)
theorem dX0_addTrader_4 : decode cX0_addTrader 4 = .ok (.iload_n 2, 1) := dk_28 (dk_at dksX0_addTrader_0 4 rfl rfl)
theorem dX0_addTrader_5 : decode cX0_addTrader 5 = .ok (.invokevirtual 7, 3) := dk_182 0 7 (dk_at dksX0_addTrader_0 5 rfl rfl)
theorem dX0_addTrader_8 : decode cX0_addTrader 8 = .ok (.i2l, 1) := dk_133 (dk_at dksX0_addTrader_0 8 rfl rfl)
theorem dX0_addTrader_9 : decode cX0_addTrader 9 = .ok (.lastore, 1) := dk_80 (dk_at dksX0_addTrader_0 9 rfl rfl)
theorem dX0_addTrader_10 : decode cX0_addTrader 10 = .ok (.goto 11, 3) := dk_167 0 11 (dk_at dksX0_addTrader_0 10 rfl rfl)
theorem dX0_addTrader_13 : decode cX0_addTrader 13 = .ok (.astore 4, 2) := dk_58 4 (dk_at dksX0_addTrader_0 13 rfl rfl)
theorem dX0_addTrader_15 : decode cX0_addTrader 15 = .ok (.iconst 1, 1) := dk_4 (dk_at dksX0_addTrader_0 15 rfl rfl)
theorem dX0_addTrader_16 : decode cX0_addTrader 16 = .ok (.ireturn, 1) := dk_172 (dk_at dksX0_addTrader_0 16 rfl rfl)
theorem dX0_addTrader_17 : decode cX0_addTrader 17 = .ok (.astore 4, 2) := dk_58 4 (dk_at dksX0_addTrader_0 17 rfl rfl)
theorem dX0_addTrader_19 : decode cX0_addTrader 19 = .ok (.iconst 2, 1) := dk_5 (dk_at dksX0_addTrader_0 19 rfl rfl)
theorem dX0_addTrader_20 : decode cX0_addTrader 20 = .ok (.ireturn, 1) := dk_172 (dk_at dksX0_addTrader_0 20 rfl rfl)
theorem dX0_addTrader_21 : decode cX0_addTrader 21 = .ok (.iconst 0, 1) := dk_3 (dk_at dksX0_addTrader_0 21 rfl rfl)
theorem dX0_addTrader_22 : decode cX0_addTrader 22 = .ok (.ireturn, 1) := dk_172 (dk_at dksX0_addTrader_0 22 rfl rfl)
abbrev cX0_placeBid : ByteArray := method_4_code
def yX0_placeBid : MethodName := ⟨RX0, "placeBid", "(LWindowExchange;III[J)I"⟩
def dkwX0_placeBid_1 : List UInt8 := [58, 5, 6, 172, 58, 5, 7, 172, 3, 172]
abbrev dktX0_placeBid_1 : List UInt8 := dkwX0_placeBid_1 ++ []
def dkwX0_placeBid_0 : List UInt8 := [25, 4, 3, 42, 27, 28, 29, 182, 0, 17, 133, 80, 167, 0, 19, 58, 5, 4, 172, 58, 5, 5, 172]
abbrev dktX0_placeBid_0 : List UInt8 := dkwX0_placeBid_0 ++ dktX0_placeBid_1
theorem dksX0_placeBid_0 : cX0_placeBid.data.toList.drop 0 = dktX0_placeBid_0 := by decide +kernel
theorem dksX0_placeBid_1 : cX0_placeBid.data.toList.drop 23 = dktX0_placeBid_1 := dk_seg dksX0_placeBid_0 23 rfl rfl
theorem dX0_placeBid_0 : decode cX0_placeBid 0 = .ok (.aload 4, 2) := dk_25 4 (dk_at dksX0_placeBid_0 0 rfl rfl)
theorem dX0_placeBid_2 : decode cX0_placeBid 2 = .ok (.iconst 0, 1) := dk_3 (dk_at dksX0_placeBid_0 2 rfl rfl)
theorem dX0_placeBid_3 : decode cX0_placeBid 3 = .ok (.aload_n 0, 1) := dk_42 (dk_at dksX0_placeBid_0 3 rfl rfl)
theorem dX0_placeBid_4 : decode cX0_placeBid 4 = .ok (.iload_n 1, 1) := dk_27 (dk_at dksX0_placeBid_0 4 rfl rfl)
theorem dX0_placeBid_5 : decode cX0_placeBid 5 = .ok (.iload_n 2, 1) := dk_28 (dk_at dksX0_placeBid_0 5 rfl rfl)
theorem dX0_placeBid_6 : decode cX0_placeBid 6 = .ok (.iload_n 3, 1) := dk_29 (dk_at dksX0_placeBid_0 6 rfl rfl)
theorem dX0_placeBid_7 : decode cX0_placeBid 7 = .ok (.invokevirtual 17, 3) := dk_182 0 17 (dk_at dksX0_placeBid_0 7 rfl rfl)
theorem dX0_placeBid_10 : decode cX0_placeBid 10 = .ok (.i2l, 1) := dk_133 (dk_at dksX0_placeBid_0 10 rfl rfl)
theorem dX0_placeBid_11 : decode cX0_placeBid 11 = .ok (.lastore, 1) := dk_80 (dk_at dksX0_placeBid_0 11 rfl rfl)
theorem dX0_placeBid_12 : decode cX0_placeBid 12 = .ok (.goto 19, 3) := dk_167 0 19 (dk_at dksX0_placeBid_0 12 rfl rfl)
theorem dX0_placeBid_15 : decode cX0_placeBid 15 = .ok (.astore 5, 2) := dk_58 5 (dk_at dksX0_placeBid_0 15 rfl rfl)
theorem dX0_placeBid_17 : decode cX0_placeBid 17 = .ok (.iconst 1, 1) := dk_4 (dk_at dksX0_placeBid_0 17 rfl rfl)
theorem dX0_placeBid_18 : decode cX0_placeBid 18 = .ok (.ireturn, 1) := dk_172 (dk_at dksX0_placeBid_0 18 rfl rfl)
theorem dX0_placeBid_19 : decode cX0_placeBid 19 = .ok (.astore 5, 2) := dk_58 5 (dk_at dksX0_placeBid_0 19 rfl rfl)
theorem dX0_placeBid_21 : decode cX0_placeBid 21 = .ok (.iconst 2, 1) := dk_5 (dk_at dksX0_placeBid_0 21 rfl rfl)
theorem dX0_placeBid_22 : decode cX0_placeBid 22 = .ok (.ireturn, 1) := dk_172 (dk_at dksX0_placeBid_0 22 rfl rfl)
theorem dX0_placeBid_23 : decode cX0_placeBid 23 = .ok (.astore 5, 2) := dk_58 5 (dk_at dksX0_placeBid_1 0 rfl rfl)
theorem dX0_placeBid_25 : decode cX0_placeBid 25 = .ok (.iconst 3, 1) := dk_6 (dk_at dksX0_placeBid_1 2 rfl rfl)
theorem dX0_placeBid_26 : decode cX0_placeBid 26 = .ok (.ireturn, 1) := dk_172 (dk_at dksX0_placeBid_1 3 rfl rfl)
theorem dX0_placeBid_27 : decode cX0_placeBid 27 = .ok (.astore 5, 2) := dk_58 5 (dk_at dksX0_placeBid_1 4 rfl rfl)
theorem dX0_placeBid_29 : decode cX0_placeBid 29 = .ok (.iconst 4, 1) := dk_7 (dk_at dksX0_placeBid_1 6 rfl rfl)
theorem dX0_placeBid_30 : decode cX0_placeBid 30 = .ok (.ireturn, 1) := dk_172 (dk_at dksX0_placeBid_1 7 rfl rfl)
theorem dX0_placeBid_31 : decode cX0_placeBid 31 = .ok (.iconst 0, 1) := dk_3 (dk_at dksX0_placeBid_1 8 rfl rfl)
theorem dX0_placeBid_32 : decode cX0_placeBid 32 = .ok (.ireturn, 1) := dk_172 (dk_at dksX0_placeBid_1 9 rfl rfl)
abbrev cX0_placeAsk : ByteArray := method_5_code
def yX0_placeAsk : MethodName := ⟨RX0, "placeAsk", "(LWindowExchange;III[J)I"⟩
def dkwX0_placeAsk_1 : List UInt8 := [58, 5, 6, 172, 58, 5, 7, 172, 3, 172]
abbrev dktX0_placeAsk_1 : List UInt8 := dkwX0_placeAsk_1 ++ []
def dkwX0_placeAsk_0 : List UInt8 := [25, 4, 3, 42, 27, 28, 29, 182, 0, 25, 133, 80, 167, 0, 19, 58, 5, 4, 172, 58, 5, 5, 172]
abbrev dktX0_placeAsk_0 : List UInt8 := dkwX0_placeAsk_0 ++ dktX0_placeAsk_1
theorem dksX0_placeAsk_0 : cX0_placeAsk.data.toList.drop 0 = dktX0_placeAsk_0 := by decide +kernel
theorem dksX0_placeAsk_1 : cX0_placeAsk.data.toList.drop 23 = dktX0_placeAsk_1 := dk_seg dksX0_placeAsk_0 23 rfl rfl
theorem dX0_placeAsk_0 : decode cX0_placeAsk 0 = .ok (.aload 4, 2) := dk_25 4 (dk_at dksX0_placeAsk_0 0 rfl rfl)
theorem dX0_placeAsk_2 : decode cX0_placeAsk 2 = .ok (.iconst 0, 1) := dk_3 (dk_at dksX0_placeAsk_0 2 rfl rfl)
theorem dX0_placeAsk_3 : decode cX0_placeAsk 3 = .ok (.aload_n 0, 1) := dk_42 (dk_at dksX0_placeAsk_0 3 rfl rfl)
theorem dX0_placeAsk_4 : decode cX0_placeAsk 4 = .ok (.iload_n 1, 1) := dk_27 (dk_at dksX0_placeAsk_0 4 rfl rfl)
theorem dX0_placeAsk_5 : decode cX0_placeAsk 5 = .ok (.iload_n 2, 1) := dk_28 (dk_at dksX0_placeAsk_0 5 rfl rfl)
theorem dX0_placeAsk_6 : decode cX0_placeAsk 6 = .ok (.iload_n 3, 1) := dk_29 (dk_at dksX0_placeAsk_0 6 rfl rfl)
theorem dX0_placeAsk_7 : decode cX0_placeAsk 7 = .ok (.invokevirtual 25, 3) := dk_182 0 25 (dk_at dksX0_placeAsk_0 7 rfl rfl)
theorem dX0_placeAsk_10 : decode cX0_placeAsk 10 = .ok (.i2l, 1) := dk_133 (dk_at dksX0_placeAsk_0 10 rfl rfl)
theorem dX0_placeAsk_11 : decode cX0_placeAsk 11 = .ok (.lastore, 1) := dk_80 (dk_at dksX0_placeAsk_0 11 rfl rfl)
theorem dX0_placeAsk_12 : decode cX0_placeAsk 12 = .ok (.goto 19, 3) := dk_167 0 19 (dk_at dksX0_placeAsk_0 12 rfl rfl)
theorem dX0_placeAsk_15 : decode cX0_placeAsk 15 = .ok (.astore 5, 2) := dk_58 5 (dk_at dksX0_placeAsk_0 15 rfl rfl)
theorem dX0_placeAsk_17 : decode cX0_placeAsk 17 = .ok (.iconst 1, 1) := dk_4 (dk_at dksX0_placeAsk_0 17 rfl rfl)
theorem dX0_placeAsk_18 : decode cX0_placeAsk 18 = .ok (.ireturn, 1) := dk_172 (dk_at dksX0_placeAsk_0 18 rfl rfl)
theorem dX0_placeAsk_19 : decode cX0_placeAsk 19 = .ok (.astore 5, 2) := dk_58 5 (dk_at dksX0_placeAsk_0 19 rfl rfl)
theorem dX0_placeAsk_21 : decode cX0_placeAsk 21 = .ok (.iconst 2, 1) := dk_5 (dk_at dksX0_placeAsk_0 21 rfl rfl)
theorem dX0_placeAsk_22 : decode cX0_placeAsk 22 = .ok (.ireturn, 1) := dk_172 (dk_at dksX0_placeAsk_0 22 rfl rfl)
theorem dX0_placeAsk_23 : decode cX0_placeAsk 23 = .ok (.astore 5, 2) := dk_58 5 (dk_at dksX0_placeAsk_1 0 rfl rfl)
theorem dX0_placeAsk_25 : decode cX0_placeAsk 25 = .ok (.iconst 3, 1) := dk_6 (dk_at dksX0_placeAsk_1 2 rfl rfl)
theorem dX0_placeAsk_26 : decode cX0_placeAsk 26 = .ok (.ireturn, 1) := dk_172 (dk_at dksX0_placeAsk_1 3 rfl rfl)
theorem dX0_placeAsk_27 : decode cX0_placeAsk 27 = .ok (.astore 5, 2) := dk_58 5 (dk_at dksX0_placeAsk_1 4 rfl rfl)
theorem dX0_placeAsk_29 : decode cX0_placeAsk 29 = .ok (.iconst 4, 1) := dk_7 (dk_at dksX0_placeAsk_1 6 rfl rfl)
theorem dX0_placeAsk_30 : decode cX0_placeAsk 30 = .ok (.ireturn, 1) := dk_172 (dk_at dksX0_placeAsk_1 7 rfl rfl)
theorem dX0_placeAsk_31 : decode cX0_placeAsk 31 = .ok (.iconst 0, 1) := dk_3 (dk_at dksX0_placeAsk_1 8 rfl rfl)
theorem dX0_placeAsk_32 : decode cX0_placeAsk 32 = .ok (.ireturn, 1) := dk_172 (dk_at dksX0_placeAsk_1 9 rfl rfl)
abbrev cX0_cancelOrder : ByteArray := method_6_code
def yX0_cancelOrder : MethodName := ⟨RX0, "cancelOrder", "(LWindowExchange;I[J)I"⟩
def dkwX0_cancelOrder_0 : List UInt8 := [44, 3, 42, 27, 182, 0, 28, 133, 80, 167, 0, 6, 78, 4, 172, 3, 172]
abbrev dktX0_cancelOrder_0 : List UInt8 := dkwX0_cancelOrder_0 ++ []
theorem dksX0_cancelOrder_0 : cX0_cancelOrder.data.toList.drop 0 = dktX0_cancelOrder_0 := by decide +kernel
theorem dX0_cancelOrder_0 : decode cX0_cancelOrder 0 = .ok (.aload_n 2, 1) := dk_44 (dk_at dksX0_cancelOrder_0 0 rfl rfl)
theorem dX0_cancelOrder_1 : decode cX0_cancelOrder 1 = .ok (.iconst 0, 1) := dk_3 (dk_at dksX0_cancelOrder_0 1 rfl rfl)
theorem dX0_cancelOrder_2 : decode cX0_cancelOrder 2 = .ok (.aload_n 0, 1) := dk_42 (dk_at dksX0_cancelOrder_0 2 rfl rfl)
theorem dX0_cancelOrder_3 : decode cX0_cancelOrder 3 = .ok (.iload_n 1, 1) := dk_27 (dk_at dksX0_cancelOrder_0 3 rfl rfl)
theorem dX0_cancelOrder_4 : decode cX0_cancelOrder 4 = .ok (.invokevirtual 28, 3) := dk_182 0 28 (dk_at dksX0_cancelOrder_0 4 rfl rfl)
theorem dX0_cancelOrder_7 : decode cX0_cancelOrder 7 = .ok (.i2l, 1) := dk_133 (dk_at dksX0_cancelOrder_0 7 rfl rfl)
theorem dX0_cancelOrder_8 : decode cX0_cancelOrder 8 = .ok (.lastore, 1) := dk_80 (dk_at dksX0_cancelOrder_0 8 rfl rfl)
theorem dX0_cancelOrder_9 : decode cX0_cancelOrder 9 = .ok (.goto 6, 3) := dk_167 0 6 (dk_at dksX0_cancelOrder_0 9 rfl rfl)
theorem dX0_cancelOrder_12 : decode cX0_cancelOrder 12 = .ok (.astore_n 3, 1) := dk_78 (dk_at dksX0_cancelOrder_0 12 rfl rfl)
theorem dX0_cancelOrder_13 : decode cX0_cancelOrder 13 = .ok (.iconst 1, 1) := dk_4 (dk_at dksX0_cancelOrder_0 13 rfl rfl)
theorem dX0_cancelOrder_14 : decode cX0_cancelOrder 14 = .ok (.ireturn, 1) := dk_172 (dk_at dksX0_cancelOrder_0 14 rfl rfl)
theorem dX0_cancelOrder_15 : decode cX0_cancelOrder 15 = .ok (.iconst 0, 1) := dk_3 (dk_at dksX0_cancelOrder_0 15 rfl rfl)
theorem dX0_cancelOrder_16 : decode cX0_cancelOrder 16 = .ok (.ireturn, 1) := dk_172 (dk_at dksX0_cancelOrder_0 16 rfl rfl)
abbrev cX0_agree : ByteArray := method_7_code
def yX0_agree : MethodName := ⟨RX0, "agree", "(LWindowExchange;IIIII[J)I"⟩
def dkwX0_agree_1 : List UInt8 := [58, 7, 5, 172, 58, 7, 6, 172, 3, 172]
abbrev dktX0_agree_1 : List UInt8 := dkwX0_agree_1 ++ []
def dkwX0_agree_0 : List UInt8 := [25, 6, 3, 42, 27, 28, 29, 21, 4, 21, 5, 182, 0, 34, 133, 80, 167, 0, 15, 58, 7, 4, 172]
abbrev dktX0_agree_0 : List UInt8 := dkwX0_agree_0 ++ dktX0_agree_1
theorem dksX0_agree_0 : cX0_agree.data.toList.drop 0 = dktX0_agree_0 := by decide +kernel
theorem dksX0_agree_1 : cX0_agree.data.toList.drop 23 = dktX0_agree_1 := dk_seg dksX0_agree_0 23 rfl rfl
theorem dX0_agree_0 : decode cX0_agree 0 = .ok (.aload 6, 2) := dk_25 6 (dk_at dksX0_agree_0 0 rfl rfl)
theorem dX0_agree_2 : decode cX0_agree 2 = .ok (.iconst 0, 1) := dk_3 (dk_at dksX0_agree_0 2 rfl rfl)
theorem dX0_agree_3 : decode cX0_agree 3 = .ok (.aload_n 0, 1) := dk_42 (dk_at dksX0_agree_0 3 rfl rfl)
theorem dX0_agree_4 : decode cX0_agree 4 = .ok (.iload_n 1, 1) := dk_27 (dk_at dksX0_agree_0 4 rfl rfl)
theorem dX0_agree_5 : decode cX0_agree 5 = .ok (.iload_n 2, 1) := dk_28 (dk_at dksX0_agree_0 5 rfl rfl)
theorem dX0_agree_6 : decode cX0_agree 6 = .ok (.iload_n 3, 1) := dk_29 (dk_at dksX0_agree_0 6 rfl rfl)
theorem dX0_agree_7 : decode cX0_agree 7 = .ok (.iload 4, 2) := dk_21 4 (dk_at dksX0_agree_0 7 rfl rfl)
theorem dX0_agree_9 : decode cX0_agree 9 = .ok (.iload 5, 2) := dk_21 5 (dk_at dksX0_agree_0 9 rfl rfl)
theorem dX0_agree_11 : decode cX0_agree 11 = .ok (.invokevirtual 34, 3) := dk_182 0 34 (dk_at dksX0_agree_0 11 rfl rfl)
theorem dX0_agree_14 : decode cX0_agree 14 = .ok (.i2l, 1) := dk_133 (dk_at dksX0_agree_0 14 rfl rfl)
theorem dX0_agree_15 : decode cX0_agree 15 = .ok (.lastore, 1) := dk_80 (dk_at dksX0_agree_0 15 rfl rfl)
theorem dX0_agree_16 : decode cX0_agree 16 = .ok (.goto 15, 3) := dk_167 0 15 (dk_at dksX0_agree_0 16 rfl rfl)
theorem dX0_agree_19 : decode cX0_agree 19 = .ok (.astore 7, 2) := dk_58 7 (dk_at dksX0_agree_0 19 rfl rfl)
theorem dX0_agree_21 : decode cX0_agree 21 = .ok (.iconst 1, 1) := dk_4 (dk_at dksX0_agree_0 21 rfl rfl)
theorem dX0_agree_22 : decode cX0_agree 22 = .ok (.ireturn, 1) := dk_172 (dk_at dksX0_agree_0 22 rfl rfl)
theorem dX0_agree_23 : decode cX0_agree 23 = .ok (.astore 7, 2) := dk_58 7 (dk_at dksX0_agree_1 0 rfl rfl)
theorem dX0_agree_25 : decode cX0_agree 25 = .ok (.iconst 2, 1) := dk_5 (dk_at dksX0_agree_1 2 rfl rfl)
theorem dX0_agree_26 : decode cX0_agree 26 = .ok (.ireturn, 1) := dk_172 (dk_at dksX0_agree_1 3 rfl rfl)
theorem dX0_agree_27 : decode cX0_agree 27 = .ok (.astore 7, 2) := dk_58 7 (dk_at dksX0_agree_1 4 rfl rfl)
theorem dX0_agree_29 : decode cX0_agree 29 = .ok (.iconst 3, 1) := dk_6 (dk_at dksX0_agree_1 6 rfl rfl)
theorem dX0_agree_30 : decode cX0_agree 30 = .ok (.ireturn, 1) := dk_172 (dk_at dksX0_agree_1 7 rfl rfl)
theorem dX0_agree_31 : decode cX0_agree 31 = .ok (.iconst 0, 1) := dk_3 (dk_at dksX0_agree_1 8 rfl rfl)
theorem dX0_agree_32 : decode cX0_agree 32 = .ok (.ireturn, 1) := dk_172 (dk_at dksX0_agree_1 9 rfl rfl)
abbrev cX0_advance : ByteArray := method_8_code
def yX0_advance : MethodName := ⟨RX0, "advance", "(LWindowExchange;I[J)I"⟩
def dkwX0_advance_0 : List UInt8 := [44, 3, 42, 27, 182, 0, 38, 133, 80, 167, 0, 6, 78, 4, 172, 3, 172]
abbrev dktX0_advance_0 : List UInt8 := dkwX0_advance_0 ++ []
theorem dksX0_advance_0 : cX0_advance.data.toList.drop 0 = dktX0_advance_0 := by decide +kernel
theorem dX0_advance_0 : decode cX0_advance 0 = .ok (.aload_n 2, 1) := dk_44 (dk_at dksX0_advance_0 0 rfl rfl)
theorem dX0_advance_1 : decode cX0_advance 1 = .ok (.iconst 0, 1) := dk_3 (dk_at dksX0_advance_0 1 rfl rfl)
theorem dX0_advance_2 : decode cX0_advance 2 = .ok (.aload_n 0, 1) := dk_42 (dk_at dksX0_advance_0 2 rfl rfl)
theorem dX0_advance_3 : decode cX0_advance 3 = .ok (.iload_n 1, 1) := dk_27 (dk_at dksX0_advance_0 3 rfl rfl)
theorem dX0_advance_4 : decode cX0_advance 4 = .ok (.invokevirtual 38, 3) := dk_182 0 38 (dk_at dksX0_advance_0 4 rfl rfl)
theorem dX0_advance_7 : decode cX0_advance 7 = .ok (.i2l, 1) := dk_133 (dk_at dksX0_advance_0 7 rfl rfl)
theorem dX0_advance_8 : decode cX0_advance 8 = .ok (.lastore, 1) := dk_80 (dk_at dksX0_advance_0 8 rfl rfl)
theorem dX0_advance_9 : decode cX0_advance 9 = .ok (.goto 6, 3) := dk_167 0 6 (dk_at dksX0_advance_0 9 rfl rfl)
theorem dX0_advance_12 : decode cX0_advance 12 = .ok (.astore_n 3, 1) := dk_78 (dk_at dksX0_advance_0 12 rfl rfl)
theorem dX0_advance_13 : decode cX0_advance 13 = .ok (.iconst 1, 1) := dk_4 (dk_at dksX0_advance_0 13 rfl rfl)
theorem dX0_advance_14 : decode cX0_advance 14 = .ok (.ireturn, 1) := dk_172 (dk_at dksX0_advance_0 14 rfl rfl)
theorem dX0_advance_15 : decode cX0_advance 15 = .ok (.iconst 0, 1) := dk_3 (dk_at dksX0_advance_0 15 rfl rfl)
theorem dX0_advance_16 : decode cX0_advance 16 = .ok (.ireturn, 1) := dk_172 (dk_at dksX0_advance_0 16 rfl rfl)
abbrev cX0_openAuction : ByteArray := method_9_code
def yX0_openAuction : MethodName := ⟨RX0, "openAuction", "(LWindowExchange;II[J)I"⟩
def dkwX0_openAuction_1 : List UInt8 := [172, 3, 172]
abbrev dktX0_openAuction_1 : List UInt8 := dkwX0_openAuction_1 ++ []
def dkwX0_openAuction_0 : List UInt8 := [45, 3, 42, 27, 28, 182, 0, 41, 133, 80, 167, 0, 15, 58, 4, 4, 172, 58, 4, 5, 172, 58, 4, 6]
abbrev dktX0_openAuction_0 : List UInt8 := dkwX0_openAuction_0 ++ dktX0_openAuction_1
theorem dksX0_openAuction_0 : cX0_openAuction.data.toList.drop 0 = dktX0_openAuction_0 := by decide +kernel
theorem dksX0_openAuction_1 : cX0_openAuction.data.toList.drop 24 = dktX0_openAuction_1 := dk_seg dksX0_openAuction_0 24 rfl rfl
theorem dX0_openAuction_0 : decode cX0_openAuction 0 = .ok (.aload_n 3, 1) := dk_45 (dk_at dksX0_openAuction_0 0 rfl rfl)
theorem dX0_openAuction_1 : decode cX0_openAuction 1 = .ok (.iconst 0, 1) := dk_3 (dk_at dksX0_openAuction_0 1 rfl rfl)
theorem dX0_openAuction_2 : decode cX0_openAuction 2 = .ok (.aload_n 0, 1) := dk_42 (dk_at dksX0_openAuction_0 2 rfl rfl)
theorem dX0_openAuction_3 : decode cX0_openAuction 3 = .ok (.iload_n 1, 1) := dk_27 (dk_at dksX0_openAuction_0 3 rfl rfl)
theorem dX0_openAuction_4 : decode cX0_openAuction 4 = .ok (.iload_n 2, 1) := dk_28 (dk_at dksX0_openAuction_0 4 rfl rfl)
theorem dX0_openAuction_5 : decode cX0_openAuction 5 = .ok (.invokevirtual 41, 3) := dk_182 0 41 (dk_at dksX0_openAuction_0 5 rfl rfl)
theorem dX0_openAuction_8 : decode cX0_openAuction 8 = .ok (.i2l, 1) := dk_133 (dk_at dksX0_openAuction_0 8 rfl rfl)
theorem dX0_openAuction_9 : decode cX0_openAuction 9 = .ok (.lastore, 1) := dk_80 (dk_at dksX0_openAuction_0 9 rfl rfl)
theorem dX0_openAuction_10 : decode cX0_openAuction 10 = .ok (.goto 15, 3) := dk_167 0 15 (dk_at dksX0_openAuction_0 10 rfl rfl)
theorem dX0_openAuction_13 : decode cX0_openAuction 13 = .ok (.astore 4, 2) := dk_58 4 (dk_at dksX0_openAuction_0 13 rfl rfl)
theorem dX0_openAuction_15 : decode cX0_openAuction 15 = .ok (.iconst 1, 1) := dk_4 (dk_at dksX0_openAuction_0 15 rfl rfl)
theorem dX0_openAuction_16 : decode cX0_openAuction 16 = .ok (.ireturn, 1) := dk_172 (dk_at dksX0_openAuction_0 16 rfl rfl)
theorem dX0_openAuction_17 : decode cX0_openAuction 17 = .ok (.astore 4, 2) := dk_58 4 (dk_at dksX0_openAuction_0 17 rfl rfl)
theorem dX0_openAuction_19 : decode cX0_openAuction 19 = .ok (.iconst 2, 1) := dk_5 (dk_at dksX0_openAuction_0 19 rfl rfl)
theorem dX0_openAuction_20 : decode cX0_openAuction 20 = .ok (.ireturn, 1) := dk_172 (dk_at dksX0_openAuction_0 20 rfl rfl)
theorem dX0_openAuction_21 : decode cX0_openAuction 21 = .ok (.astore 4, 2) := dk_58 4 (dk_at dksX0_openAuction_0 21 rfl rfl)
theorem dX0_openAuction_23 : decode cX0_openAuction 23 = .ok (.iconst 3, 1) := dk_6 (dk_at dksX0_openAuction_0 23 rfl rfl)
theorem dX0_openAuction_24 : decode cX0_openAuction 24 = .ok (.ireturn, 1) := dk_172 (dk_at dksX0_openAuction_1 0 rfl rfl)
theorem dX0_openAuction_25 : decode cX0_openAuction 25 = .ok (.iconst 0, 1) := dk_3 (dk_at dksX0_openAuction_1 1 rfl rfl)
theorem dX0_openAuction_26 : decode cX0_openAuction 26 = .ok (.ireturn, 1) := dk_172 (dk_at dksX0_openAuction_1 2 rfl rfl)
abbrev cX0_sealBid : ByteArray := method_10_code
def yX0_sealBid : MethodName := ⟨RX0, "sealBid", "(LWindowExchange;II[J)I"⟩
def dkwX0_sealBid_1 : List UInt8 := [172, 3, 172]
abbrev dktX0_sealBid_1 : List UInt8 := dkwX0_sealBid_1 ++ []
def dkwX0_sealBid_0 : List UInt8 := [45, 3, 42, 27, 28, 182, 0, 44, 133, 80, 167, 0, 15, 58, 4, 4, 172, 58, 4, 5, 172, 58, 4, 6]
abbrev dktX0_sealBid_0 : List UInt8 := dkwX0_sealBid_0 ++ dktX0_sealBid_1
theorem dksX0_sealBid_0 : cX0_sealBid.data.toList.drop 0 = dktX0_sealBid_0 := by decide +kernel
theorem dksX0_sealBid_1 : cX0_sealBid.data.toList.drop 24 = dktX0_sealBid_1 := dk_seg dksX0_sealBid_0 24 rfl rfl
theorem dX0_sealBid_0 : decode cX0_sealBid 0 = .ok (.aload_n 3, 1) := dk_45 (dk_at dksX0_sealBid_0 0 rfl rfl)
theorem dX0_sealBid_1 : decode cX0_sealBid 1 = .ok (.iconst 0, 1) := dk_3 (dk_at dksX0_sealBid_0 1 rfl rfl)
theorem dX0_sealBid_2 : decode cX0_sealBid 2 = .ok (.aload_n 0, 1) := dk_42 (dk_at dksX0_sealBid_0 2 rfl rfl)
theorem dX0_sealBid_3 : decode cX0_sealBid 3 = .ok (.iload_n 1, 1) := dk_27 (dk_at dksX0_sealBid_0 3 rfl rfl)
theorem dX0_sealBid_4 : decode cX0_sealBid 4 = .ok (.iload_n 2, 1) := dk_28 (dk_at dksX0_sealBid_0 4 rfl rfl)
theorem dX0_sealBid_5 : decode cX0_sealBid 5 = .ok (.invokevirtual 44, 3) := dk_182 0 44 (dk_at dksX0_sealBid_0 5 rfl rfl)
theorem dX0_sealBid_8 : decode cX0_sealBid 8 = .ok (.i2l, 1) := dk_133 (dk_at dksX0_sealBid_0 8 rfl rfl)
theorem dX0_sealBid_9 : decode cX0_sealBid 9 = .ok (.lastore, 1) := dk_80 (dk_at dksX0_sealBid_0 9 rfl rfl)
theorem dX0_sealBid_10 : decode cX0_sealBid 10 = .ok (.goto 15, 3) := dk_167 0 15 (dk_at dksX0_sealBid_0 10 rfl rfl)
theorem dX0_sealBid_13 : decode cX0_sealBid 13 = .ok (.astore 4, 2) := dk_58 4 (dk_at dksX0_sealBid_0 13 rfl rfl)
theorem dX0_sealBid_15 : decode cX0_sealBid 15 = .ok (.iconst 1, 1) := dk_4 (dk_at dksX0_sealBid_0 15 rfl rfl)
theorem dX0_sealBid_16 : decode cX0_sealBid 16 = .ok (.ireturn, 1) := dk_172 (dk_at dksX0_sealBid_0 16 rfl rfl)
theorem dX0_sealBid_17 : decode cX0_sealBid 17 = .ok (.astore 4, 2) := dk_58 4 (dk_at dksX0_sealBid_0 17 rfl rfl)
theorem dX0_sealBid_19 : decode cX0_sealBid 19 = .ok (.iconst 2, 1) := dk_5 (dk_at dksX0_sealBid_0 19 rfl rfl)
theorem dX0_sealBid_20 : decode cX0_sealBid 20 = .ok (.ireturn, 1) := dk_172 (dk_at dksX0_sealBid_0 20 rfl rfl)
theorem dX0_sealBid_21 : decode cX0_sealBid 21 = .ok (.astore 4, 2) := dk_58 4 (dk_at dksX0_sealBid_0 21 rfl rfl)
theorem dX0_sealBid_23 : decode cX0_sealBid 23 = .ok (.iconst 3, 1) := dk_6 (dk_at dksX0_sealBid_0 23 rfl rfl)
theorem dX0_sealBid_24 : decode cX0_sealBid 24 = .ok (.ireturn, 1) := dk_172 (dk_at dksX0_sealBid_1 0 rfl rfl)
theorem dX0_sealBid_25 : decode cX0_sealBid 25 = .ok (.iconst 0, 1) := dk_3 (dk_at dksX0_sealBid_1 1 rfl rfl)
theorem dX0_sealBid_26 : decode cX0_sealBid 26 = .ok (.ireturn, 1) := dk_172 (dk_at dksX0_sealBid_1 2 rfl rfl)
abbrev cX0_closeAuction : ByteArray := method_11_code
def yX0_closeAuction : MethodName := ⟨RX0, "closeAuction", "(LWindowExchange;[J)I"⟩
def dkwX0_closeAuction_0 : List UInt8 := [43, 3, 42, 182, 0, 47, 133, 80, 167, 0, 6, 77, 4, 172, 3, 172]
abbrev dktX0_closeAuction_0 : List UInt8 := dkwX0_closeAuction_0 ++ []
theorem dksX0_closeAuction_0 : cX0_closeAuction.data.toList.drop 0 = dktX0_closeAuction_0 := by decide +kernel
theorem dX0_closeAuction_0 : decode cX0_closeAuction 0 = .ok (.aload_n 1, 1) := dk_43 (dk_at dksX0_closeAuction_0 0 rfl rfl)
theorem dX0_closeAuction_1 : decode cX0_closeAuction 1 = .ok (.iconst 0, 1) := dk_3 (dk_at dksX0_closeAuction_0 1 rfl rfl)
theorem dX0_closeAuction_2 : decode cX0_closeAuction 2 = .ok (.aload_n 0, 1) := dk_42 (dk_at dksX0_closeAuction_0 2 rfl rfl)
theorem dX0_closeAuction_3 : decode cX0_closeAuction 3 = .ok (.invokevirtual 47, 3) := dk_182 0 47 (dk_at dksX0_closeAuction_0 3 rfl rfl)
theorem dX0_closeAuction_6 : decode cX0_closeAuction 6 = .ok (.i2l, 1) := dk_133 (dk_at dksX0_closeAuction_0 6 rfl rfl)
theorem dX0_closeAuction_7 : decode cX0_closeAuction 7 = .ok (.lastore, 1) := dk_80 (dk_at dksX0_closeAuction_0 7 rfl rfl)
theorem dX0_closeAuction_8 : decode cX0_closeAuction 8 = .ok (.goto 6, 3) := dk_167 0 6 (dk_at dksX0_closeAuction_0 8 rfl rfl)
theorem dX0_closeAuction_11 : decode cX0_closeAuction 11 = .ok (.astore_n 2, 1) := dk_77 (dk_at dksX0_closeAuction_0 11 rfl rfl)
theorem dX0_closeAuction_12 : decode cX0_closeAuction 12 = .ok (.iconst 1, 1) := dk_4 (dk_at dksX0_closeAuction_0 12 rfl rfl)
theorem dX0_closeAuction_13 : decode cX0_closeAuction 13 = .ok (.ireturn, 1) := dk_172 (dk_at dksX0_closeAuction_0 13 rfl rfl)
theorem dX0_closeAuction_14 : decode cX0_closeAuction 14 = .ok (.iconst 0, 1) := dk_3 (dk_at dksX0_closeAuction_0 14 rfl rfl)
theorem dX0_closeAuction_15 : decode cX0_closeAuction 15 = .ok (.ireturn, 1) := dk_172 (dk_at dksX0_closeAuction_0 15 rfl rfl)
abbrev cX0_cash : ByteArray := method_12_code
def yX0_cash : MethodName := ⟨RX0, "cash", "(LWindowExchange;I[J)I"⟩
def dkwX0_cash_0 : List UInt8 := [44, 3, 42, 27, 182, 0, 51, 133, 80, 167, 0, 6, 78, 4, 172, 3, 172]
abbrev dktX0_cash_0 : List UInt8 := dkwX0_cash_0 ++ []
theorem dksX0_cash_0 : cX0_cash.data.toList.drop 0 = dktX0_cash_0 := by decide +kernel
theorem dX0_cash_0 : decode cX0_cash 0 = .ok (.aload_n 2, 1) := dk_44 (dk_at dksX0_cash_0 0 rfl rfl)
theorem dX0_cash_1 : decode cX0_cash 1 = .ok (.iconst 0, 1) := dk_3 (dk_at dksX0_cash_0 1 rfl rfl)
theorem dX0_cash_2 : decode cX0_cash 2 = .ok (.aload_n 0, 1) := dk_42 (dk_at dksX0_cash_0 2 rfl rfl)
theorem dX0_cash_3 : decode cX0_cash 3 = .ok (.iload_n 1, 1) := dk_27 (dk_at dksX0_cash_0 3 rfl rfl)
theorem dX0_cash_4 : decode cX0_cash 4 = .ok (.invokevirtual 51, 3) := dk_182 0 51 (dk_at dksX0_cash_0 4 rfl rfl)
theorem dX0_cash_7 : decode cX0_cash 7 = .ok (.i2l, 1) := dk_133 (dk_at dksX0_cash_0 7 rfl rfl)
theorem dX0_cash_8 : decode cX0_cash 8 = .ok (.lastore, 1) := dk_80 (dk_at dksX0_cash_0 8 rfl rfl)
theorem dX0_cash_9 : decode cX0_cash 9 = .ok (.goto 6, 3) := dk_167 0 6 (dk_at dksX0_cash_0 9 rfl rfl)
theorem dX0_cash_12 : decode cX0_cash 12 = .ok (.astore_n 3, 1) := dk_78 (dk_at dksX0_cash_0 12 rfl rfl)
theorem dX0_cash_13 : decode cX0_cash 13 = .ok (.iconst 1, 1) := dk_4 (dk_at dksX0_cash_0 13 rfl rfl)
theorem dX0_cash_14 : decode cX0_cash 14 = .ok (.ireturn, 1) := dk_172 (dk_at dksX0_cash_0 14 rfl rfl)
theorem dX0_cash_15 : decode cX0_cash 15 = .ok (.iconst 0, 1) := dk_3 (dk_at dksX0_cash_0 15 rfl rfl)
theorem dX0_cash_16 : decode cX0_cash 16 = .ok (.ireturn, 1) := dk_172 (dk_at dksX0_cash_0 16 rfl rfl)
abbrev cX0_reservedCash : ByteArray := method_13_code
def yX0_reservedCash : MethodName := ⟨RX0, "reservedCash", "(LWindowExchange;I[J)I"⟩
def dkwX0_reservedCash_0 : List UInt8 := [44, 3, 42, 27, 182, 0, 54, 133, 80, 167, 0, 6, 78, 4, 172, 3, 172]
abbrev dktX0_reservedCash_0 : List UInt8 := dkwX0_reservedCash_0 ++ []
theorem dksX0_reservedCash_0 : cX0_reservedCash.data.toList.drop 0 = dktX0_reservedCash_0 := by decide +kernel
theorem dX0_reservedCash_0 : decode cX0_reservedCash 0 = .ok (.aload_n 2, 1) := dk_44 (dk_at dksX0_reservedCash_0 0 rfl rfl)
theorem dX0_reservedCash_1 : decode cX0_reservedCash 1 = .ok (.iconst 0, 1) := dk_3 (dk_at dksX0_reservedCash_0 1 rfl rfl)
theorem dX0_reservedCash_2 : decode cX0_reservedCash 2 = .ok (.aload_n 0, 1) := dk_42 (dk_at dksX0_reservedCash_0 2 rfl rfl)
theorem dX0_reservedCash_3 : decode cX0_reservedCash 3 = .ok (.iload_n 1, 1) := dk_27 (dk_at dksX0_reservedCash_0 3 rfl rfl)
theorem dX0_reservedCash_4 : decode cX0_reservedCash 4 = .ok (.invokevirtual 54, 3) := dk_182 0 54 (dk_at dksX0_reservedCash_0 4 rfl rfl)
theorem dX0_reservedCash_7 : decode cX0_reservedCash 7 = .ok (.i2l, 1) := dk_133 (dk_at dksX0_reservedCash_0 7 rfl rfl)
theorem dX0_reservedCash_8 : decode cX0_reservedCash 8 = .ok (.lastore, 1) := dk_80 (dk_at dksX0_reservedCash_0 8 rfl rfl)
theorem dX0_reservedCash_9 : decode cX0_reservedCash 9 = .ok (.goto 6, 3) := dk_167 0 6 (dk_at dksX0_reservedCash_0 9 rfl rfl)
theorem dX0_reservedCash_12 : decode cX0_reservedCash 12 = .ok (.astore_n 3, 1) := dk_78 (dk_at dksX0_reservedCash_0 12 rfl rfl)
theorem dX0_reservedCash_13 : decode cX0_reservedCash 13 = .ok (.iconst 1, 1) := dk_4 (dk_at dksX0_reservedCash_0 13 rfl rfl)
theorem dX0_reservedCash_14 : decode cX0_reservedCash 14 = .ok (.ireturn, 1) := dk_172 (dk_at dksX0_reservedCash_0 14 rfl rfl)
theorem dX0_reservedCash_15 : decode cX0_reservedCash 15 = .ok (.iconst 0, 1) := dk_3 (dk_at dksX0_reservedCash_0 15 rfl rfl)
theorem dX0_reservedCash_16 : decode cX0_reservedCash 16 = .ok (.ireturn, 1) := dk_172 (dk_at dksX0_reservedCash_0 16 rfl rfl)
abbrev cX0_windows : ByteArray := method_14_code
def yX0_windows : MethodName := ⟨RX0, "windows", "(LWindowExchange;I[J)I"⟩
def dkwX0_windows_0 : List UInt8 := [44, 3, 42, 27, 182, 0, 57, 133, 80, 167, 0, 6, 78, 4, 172, 3, 172]
abbrev dktX0_windows_0 : List UInt8 := dkwX0_windows_0 ++ []
theorem dksX0_windows_0 : cX0_windows.data.toList.drop 0 = dktX0_windows_0 := by decide +kernel
theorem dX0_windows_0 : decode cX0_windows 0 = .ok (.aload_n 2, 1) := dk_44 (dk_at dksX0_windows_0 0 rfl rfl)
theorem dX0_windows_1 : decode cX0_windows 1 = .ok (.iconst 0, 1) := dk_3 (dk_at dksX0_windows_0 1 rfl rfl)
theorem dX0_windows_2 : decode cX0_windows 2 = .ok (.aload_n 0, 1) := dk_42 (dk_at dksX0_windows_0 2 rfl rfl)
theorem dX0_windows_3 : decode cX0_windows 3 = .ok (.iload_n 1, 1) := dk_27 (dk_at dksX0_windows_0 3 rfl rfl)
theorem dX0_windows_4 : decode cX0_windows 4 = .ok (.invokevirtual 57, 3) := dk_182 0 57 (dk_at dksX0_windows_0 4 rfl rfl)
theorem dX0_windows_7 : decode cX0_windows 7 = .ok (.i2l, 1) := dk_133 (dk_at dksX0_windows_0 7 rfl rfl)
theorem dX0_windows_8 : decode cX0_windows 8 = .ok (.lastore, 1) := dk_80 (dk_at dksX0_windows_0 8 rfl rfl)
theorem dX0_windows_9 : decode cX0_windows 9 = .ok (.goto 6, 3) := dk_167 0 6 (dk_at dksX0_windows_0 9 rfl rfl)
theorem dX0_windows_12 : decode cX0_windows 12 = .ok (.astore_n 3, 1) := dk_78 (dk_at dksX0_windows_0 12 rfl rfl)
theorem dX0_windows_13 : decode cX0_windows 13 = .ok (.iconst 1, 1) := dk_4 (dk_at dksX0_windows_0 13 rfl rfl)
theorem dX0_windows_14 : decode cX0_windows 14 = .ok (.ireturn, 1) := dk_172 (dk_at dksX0_windows_0 14 rfl rfl)
theorem dX0_windows_15 : decode cX0_windows 15 = .ok (.iconst 0, 1) := dk_3 (dk_at dksX0_windows_0 15 rfl rfl)
theorem dX0_windows_16 : decode cX0_windows 16 = .ok (.ireturn, 1) := dk_172 (dk_at dksX0_windows_0 16 rfl rfl)
abbrev cX0_reservedWindows : ByteArray := method_15_code
def yX0_reservedWindows : MethodName := ⟨RX0, "reservedWindows", "(LWindowExchange;I[J)I"⟩
def dkwX0_reservedWindows_0 : List UInt8 := [44, 3, 42, 27, 182, 0, 60, 133, 80, 167, 0, 6, 78, 4, 172, 3, 172]
abbrev dktX0_reservedWindows_0 : List UInt8 := dkwX0_reservedWindows_0 ++ []
theorem dksX0_reservedWindows_0 : cX0_reservedWindows.data.toList.drop 0 = dktX0_reservedWindows_0 := by decide +kernel
theorem dX0_reservedWindows_0 : decode cX0_reservedWindows 0 = .ok (.aload_n 2, 1) := dk_44 (dk_at dksX0_reservedWindows_0 0 rfl rfl)
theorem dX0_reservedWindows_1 : decode cX0_reservedWindows 1 = .ok (.iconst 0, 1) := dk_3 (dk_at dksX0_reservedWindows_0 1 rfl rfl)
theorem dX0_reservedWindows_2 : decode cX0_reservedWindows 2 = .ok (.aload_n 0, 1) := dk_42 (dk_at dksX0_reservedWindows_0 2 rfl rfl)
theorem dX0_reservedWindows_3 : decode cX0_reservedWindows 3 = .ok (.iload_n 1, 1) := dk_27 (dk_at dksX0_reservedWindows_0 3 rfl rfl)
theorem dX0_reservedWindows_4 : decode cX0_reservedWindows 4 = .ok (.invokevirtual 60, 3) := dk_182 0 60 (dk_at dksX0_reservedWindows_0 4 rfl rfl)
theorem dX0_reservedWindows_7 : decode cX0_reservedWindows 7 = .ok (.i2l, 1) := dk_133 (dk_at dksX0_reservedWindows_0 7 rfl rfl)
theorem dX0_reservedWindows_8 : decode cX0_reservedWindows 8 = .ok (.lastore, 1) := dk_80 (dk_at dksX0_reservedWindows_0 8 rfl rfl)
theorem dX0_reservedWindows_9 : decode cX0_reservedWindows 9 = .ok (.goto 6, 3) := dk_167 0 6 (dk_at dksX0_reservedWindows_0 9 rfl rfl)
theorem dX0_reservedWindows_12 : decode cX0_reservedWindows 12 = .ok (.astore_n 3, 1) := dk_78 (dk_at dksX0_reservedWindows_0 12 rfl rfl)
theorem dX0_reservedWindows_13 : decode cX0_reservedWindows 13 = .ok (.iconst 1, 1) := dk_4 (dk_at dksX0_reservedWindows_0 13 rfl rfl)
theorem dX0_reservedWindows_14 : decode cX0_reservedWindows 14 = .ok (.ireturn, 1) := dk_172 (dk_at dksX0_reservedWindows_0 14 rfl rfl)
theorem dX0_reservedWindows_15 : decode cX0_reservedWindows 15 = .ok (.iconst 0, 1) := dk_3 (dk_at dksX0_reservedWindows_0 15 rfl rfl)
theorem dX0_reservedWindows_16 : decode cX0_reservedWindows 16 = .ok (.ireturn, 1) := dk_172 (dk_at dksX0_reservedWindows_0 16 rfl rfl)
abbrev cX0_traderOf : ByteArray := method_16_code
def yX0_traderOf : MethodName := ⟨RX0, "traderOf", "(LWindowExchange;I[J)I"⟩
def dkwX0_traderOf_0 : List UInt8 := [44, 3, 42, 27, 182, 0, 63, 133, 80, 167, 0, 6, 78, 4, 172, 3, 172]
abbrev dktX0_traderOf_0 : List UInt8 := dkwX0_traderOf_0 ++ []
theorem dksX0_traderOf_0 : cX0_traderOf.data.toList.drop 0 = dktX0_traderOf_0 := by decide +kernel
theorem dX0_traderOf_0 : decode cX0_traderOf 0 = .ok (.aload_n 2, 1) := dk_44 (dk_at dksX0_traderOf_0 0 rfl rfl)
theorem dX0_traderOf_1 : decode cX0_traderOf 1 = .ok (.iconst 0, 1) := dk_3 (dk_at dksX0_traderOf_0 1 rfl rfl)
theorem dX0_traderOf_2 : decode cX0_traderOf 2 = .ok (.aload_n 0, 1) := dk_42 (dk_at dksX0_traderOf_0 2 rfl rfl)
theorem dX0_traderOf_3 : decode cX0_traderOf 3 = .ok (.iload_n 1, 1) := dk_27 (dk_at dksX0_traderOf_0 3 rfl rfl)
theorem dX0_traderOf_4 : decode cX0_traderOf 4 = .ok (.invokevirtual 63, 3) := dk_182 0 63 (dk_at dksX0_traderOf_0 4 rfl rfl)
theorem dX0_traderOf_7 : decode cX0_traderOf 7 = .ok (.i2l, 1) := dk_133 (dk_at dksX0_traderOf_0 7 rfl rfl)
theorem dX0_traderOf_8 : decode cX0_traderOf 8 = .ok (.lastore, 1) := dk_80 (dk_at dksX0_traderOf_0 8 rfl rfl)
theorem dX0_traderOf_9 : decode cX0_traderOf 9 = .ok (.goto 6, 3) := dk_167 0 6 (dk_at dksX0_traderOf_0 9 rfl rfl)
theorem dX0_traderOf_12 : decode cX0_traderOf 12 = .ok (.astore_n 3, 1) := dk_78 (dk_at dksX0_traderOf_0 12 rfl rfl)
theorem dX0_traderOf_13 : decode cX0_traderOf 13 = .ok (.iconst 1, 1) := dk_4 (dk_at dksX0_traderOf_0 13 rfl rfl)
theorem dX0_traderOf_14 : decode cX0_traderOf 14 = .ok (.ireturn, 1) := dk_172 (dk_at dksX0_traderOf_0 14 rfl rfl)
theorem dX0_traderOf_15 : decode cX0_traderOf 15 = .ok (.iconst 0, 1) := dk_3 (dk_at dksX0_traderOf_0 15 rfl rfl)
theorem dX0_traderOf_16 : decode cX0_traderOf 16 = .ok (.ireturn, 1) := dk_172 (dk_at dksX0_traderOf_0 16 rfl rfl)
abbrev cX0_isBid : ByteArray := method_17_code
def yX0_isBid : MethodName := ⟨RX0, "isBid", "(LWindowExchange;I[J)I"⟩
def dkwX0_isBid_0 : List UInt8 := [44, 3, 42, 27, 182, 0, 66, 153, 0, 7, 10, 167, 0, 4, 9, 80, 167, 0, 6, 78, 4, 172, 3, 172]
abbrev dktX0_isBid_0 : List UInt8 := dkwX0_isBid_0 ++ []
theorem dksX0_isBid_0 : cX0_isBid.data.toList.drop 0 = dktX0_isBid_0 := by decide +kernel
theorem dX0_isBid_0 : decode cX0_isBid 0 = .ok (.aload_n 2, 1) := dk_44 (dk_at dksX0_isBid_0 0 rfl rfl)
theorem dX0_isBid_1 : decode cX0_isBid 1 = .ok (.iconst 0, 1) := dk_3 (dk_at dksX0_isBid_0 1 rfl rfl)
theorem dX0_isBid_2 : decode cX0_isBid 2 = .ok (.aload_n 0, 1) := dk_42 (dk_at dksX0_isBid_0 2 rfl rfl)
theorem dX0_isBid_3 : decode cX0_isBid 3 = .ok (.iload_n 1, 1) := dk_27 (dk_at dksX0_isBid_0 3 rfl rfl)
theorem dX0_isBid_4 : decode cX0_isBid 4 = .ok (.invokevirtual 66, 3) := dk_182 0 66 (dk_at dksX0_isBid_0 4 rfl rfl)
theorem dX0_isBid_7 : decode cX0_isBid 7 = .ok (.ifCond .eq 7, 3) := dk_153 0 7 (dk_at dksX0_isBid_0 7 rfl rfl)
theorem dX0_isBid_10 : decode cX0_isBid 10 = .ok (.lconst 1, 1) := dk_10 (dk_at dksX0_isBid_0 10 rfl rfl)
theorem dX0_isBid_11 : decode cX0_isBid 11 = .ok (.goto 4, 3) := dk_167 0 4 (dk_at dksX0_isBid_0 11 rfl rfl)
theorem dX0_isBid_14 : decode cX0_isBid 14 = .ok (.lconst 0, 1) := dk_9 (dk_at dksX0_isBid_0 14 rfl rfl)
theorem dX0_isBid_15 : decode cX0_isBid 15 = .ok (.lastore, 1) := dk_80 (dk_at dksX0_isBid_0 15 rfl rfl)
theorem dX0_isBid_16 : decode cX0_isBid 16 = .ok (.goto 6, 3) := dk_167 0 6 (dk_at dksX0_isBid_0 16 rfl rfl)
theorem dX0_isBid_19 : decode cX0_isBid 19 = .ok (.astore_n 3, 1) := dk_78 (dk_at dksX0_isBid_0 19 rfl rfl)
theorem dX0_isBid_20 : decode cX0_isBid 20 = .ok (.iconst 1, 1) := dk_4 (dk_at dksX0_isBid_0 20 rfl rfl)
theorem dX0_isBid_21 : decode cX0_isBid 21 = .ok (.ireturn, 1) := dk_172 (dk_at dksX0_isBid_0 21 rfl rfl)
theorem dX0_isBid_22 : decode cX0_isBid 22 = .ok (.iconst 0, 1) := dk_3 (dk_at dksX0_isBid_0 22 rfl rfl)
theorem dX0_isBid_23 : decode cX0_isBid 23 = .ok (.ireturn, 1) := dk_172 (dk_at dksX0_isBid_0 23 rfl rfl)
abbrev cX0_priceOf : ByteArray := method_18_code
def yX0_priceOf : MethodName := ⟨RX0, "priceOf", "(LWindowExchange;I[J)I"⟩
def dkwX0_priceOf_0 : List UInt8 := [44, 3, 42, 27, 182, 0, 70, 133, 80, 167, 0, 6, 78, 4, 172, 3, 172]
abbrev dktX0_priceOf_0 : List UInt8 := dkwX0_priceOf_0 ++ []
theorem dksX0_priceOf_0 : cX0_priceOf.data.toList.drop 0 = dktX0_priceOf_0 := by decide +kernel
theorem dX0_priceOf_0 : decode cX0_priceOf 0 = .ok (.aload_n 2, 1) := dk_44 (dk_at dksX0_priceOf_0 0 rfl rfl)
theorem dX0_priceOf_1 : decode cX0_priceOf 1 = .ok (.iconst 0, 1) := dk_3 (dk_at dksX0_priceOf_0 1 rfl rfl)
theorem dX0_priceOf_2 : decode cX0_priceOf 2 = .ok (.aload_n 0, 1) := dk_42 (dk_at dksX0_priceOf_0 2 rfl rfl)
theorem dX0_priceOf_3 : decode cX0_priceOf 3 = .ok (.iload_n 1, 1) := dk_27 (dk_at dksX0_priceOf_0 3 rfl rfl)
theorem dX0_priceOf_4 : decode cX0_priceOf 4 = .ok (.invokevirtual 70, 3) := dk_182 0 70 (dk_at dksX0_priceOf_0 4 rfl rfl)
theorem dX0_priceOf_7 : decode cX0_priceOf 7 = .ok (.i2l, 1) := dk_133 (dk_at dksX0_priceOf_0 7 rfl rfl)
theorem dX0_priceOf_8 : decode cX0_priceOf 8 = .ok (.lastore, 1) := dk_80 (dk_at dksX0_priceOf_0 8 rfl rfl)
theorem dX0_priceOf_9 : decode cX0_priceOf 9 = .ok (.goto 6, 3) := dk_167 0 6 (dk_at dksX0_priceOf_0 9 rfl rfl)
theorem dX0_priceOf_12 : decode cX0_priceOf 12 = .ok (.astore_n 3, 1) := dk_78 (dk_at dksX0_priceOf_0 12 rfl rfl)
theorem dX0_priceOf_13 : decode cX0_priceOf 13 = .ok (.iconst 1, 1) := dk_4 (dk_at dksX0_priceOf_0 13 rfl rfl)
theorem dX0_priceOf_14 : decode cX0_priceOf 14 = .ok (.ireturn, 1) := dk_172 (dk_at dksX0_priceOf_0 14 rfl rfl)
theorem dX0_priceOf_15 : decode cX0_priceOf 15 = .ok (.iconst 0, 1) := dk_3 (dk_at dksX0_priceOf_0 15 rfl rfl)
theorem dX0_priceOf_16 : decode cX0_priceOf 16 = .ok (.ireturn, 1) := dk_172 (dk_at dksX0_priceOf_0 16 rfl rfl)
abbrev cX0_unitsOf : ByteArray := method_19_code
def yX0_unitsOf : MethodName := ⟨RX0, "unitsOf", "(LWindowExchange;I[J)I"⟩
def dkwX0_unitsOf_0 : List UInt8 := [44, 3, 42, 27, 182, 0, 73, 133, 80, 167, 0, 6, 78, 4, 172, 3, 172]
abbrev dktX0_unitsOf_0 : List UInt8 := dkwX0_unitsOf_0 ++ []
theorem dksX0_unitsOf_0 : cX0_unitsOf.data.toList.drop 0 = dktX0_unitsOf_0 := by decide +kernel
theorem dX0_unitsOf_0 : decode cX0_unitsOf 0 = .ok (.aload_n 2, 1) := dk_44 (dk_at dksX0_unitsOf_0 0 rfl rfl)
theorem dX0_unitsOf_1 : decode cX0_unitsOf 1 = .ok (.iconst 0, 1) := dk_3 (dk_at dksX0_unitsOf_0 1 rfl rfl)
theorem dX0_unitsOf_2 : decode cX0_unitsOf 2 = .ok (.aload_n 0, 1) := dk_42 (dk_at dksX0_unitsOf_0 2 rfl rfl)
theorem dX0_unitsOf_3 : decode cX0_unitsOf 3 = .ok (.iload_n 1, 1) := dk_27 (dk_at dksX0_unitsOf_0 3 rfl rfl)
theorem dX0_unitsOf_4 : decode cX0_unitsOf 4 = .ok (.invokevirtual 73, 3) := dk_182 0 73 (dk_at dksX0_unitsOf_0 4 rfl rfl)
theorem dX0_unitsOf_7 : decode cX0_unitsOf 7 = .ok (.i2l, 1) := dk_133 (dk_at dksX0_unitsOf_0 7 rfl rfl)
theorem dX0_unitsOf_8 : decode cX0_unitsOf 8 = .ok (.lastore, 1) := dk_80 (dk_at dksX0_unitsOf_0 8 rfl rfl)
theorem dX0_unitsOf_9 : decode cX0_unitsOf 9 = .ok (.goto 6, 3) := dk_167 0 6 (dk_at dksX0_unitsOf_0 9 rfl rfl)
theorem dX0_unitsOf_12 : decode cX0_unitsOf 12 = .ok (.astore_n 3, 1) := dk_78 (dk_at dksX0_unitsOf_0 12 rfl rfl)
theorem dX0_unitsOf_13 : decode cX0_unitsOf 13 = .ok (.iconst 1, 1) := dk_4 (dk_at dksX0_unitsOf_0 13 rfl rfl)
theorem dX0_unitsOf_14 : decode cX0_unitsOf 14 = .ok (.ireturn, 1) := dk_172 (dk_at dksX0_unitsOf_0 14 rfl rfl)
theorem dX0_unitsOf_15 : decode cX0_unitsOf 15 = .ok (.iconst 0, 1) := dk_3 (dk_at dksX0_unitsOf_0 15 rfl rfl)
theorem dX0_unitsOf_16 : decode cX0_unitsOf 16 = .ok (.ireturn, 1) := dk_172 (dk_at dksX0_unitsOf_0 16 rfl rfl)
abbrev cX0_orderAt : ByteArray := method_20_code
def yX0_orderAt : MethodName := ⟨RX0, "orderAt", "(LWindowExchange;ZI[J)I"⟩
def dkwX0_orderAt_0 : List UInt8 := [45, 3, 42, 27, 28, 182, 0, 76, 133, 80, 167, 0, 7, 58, 4, 4, 172, 3, 172]
abbrev dktX0_orderAt_0 : List UInt8 := dkwX0_orderAt_0 ++ []
theorem dksX0_orderAt_0 : cX0_orderAt.data.toList.drop 0 = dktX0_orderAt_0 := by decide +kernel
theorem dX0_orderAt_0 : decode cX0_orderAt 0 = .ok (.aload_n 3, 1) := dk_45 (dk_at dksX0_orderAt_0 0 rfl rfl)
theorem dX0_orderAt_1 : decode cX0_orderAt 1 = .ok (.iconst 0, 1) := dk_3 (dk_at dksX0_orderAt_0 1 rfl rfl)
theorem dX0_orderAt_2 : decode cX0_orderAt 2 = .ok (.aload_n 0, 1) := dk_42 (dk_at dksX0_orderAt_0 2 rfl rfl)
theorem dX0_orderAt_3 : decode cX0_orderAt 3 = .ok (.iload_n 1, 1) := dk_27 (dk_at dksX0_orderAt_0 3 rfl rfl)
theorem dX0_orderAt_4 : decode cX0_orderAt 4 = .ok (.iload_n 2, 1) := dk_28 (dk_at dksX0_orderAt_0 4 rfl rfl)
theorem dX0_orderAt_5 : decode cX0_orderAt 5 = .ok (.invokevirtual 76, 3) := dk_182 0 76 (dk_at dksX0_orderAt_0 5 rfl rfl)
theorem dX0_orderAt_8 : decode cX0_orderAt 8 = .ok (.i2l, 1) := dk_133 (dk_at dksX0_orderAt_0 8 rfl rfl)
theorem dX0_orderAt_9 : decode cX0_orderAt 9 = .ok (.lastore, 1) := dk_80 (dk_at dksX0_orderAt_0 9 rfl rfl)
theorem dX0_orderAt_10 : decode cX0_orderAt 10 = .ok (.goto 7, 3) := dk_167 0 7 (dk_at dksX0_orderAt_0 10 rfl rfl)
theorem dX0_orderAt_13 : decode cX0_orderAt 13 = .ok (.astore 4, 2) := dk_58 4 (dk_at dksX0_orderAt_0 13 rfl rfl)
theorem dX0_orderAt_15 : decode cX0_orderAt 15 = .ok (.iconst 1, 1) := dk_4 (dk_at dksX0_orderAt_0 15 rfl rfl)
theorem dX0_orderAt_16 : decode cX0_orderAt 16 = .ok (.ireturn, 1) := dk_172 (dk_at dksX0_orderAt_0 16 rfl rfl)
theorem dX0_orderAt_17 : decode cX0_orderAt 17 = .ok (.iconst 0, 1) := dk_3 (dk_at dksX0_orderAt_0 17 rfl rfl)
theorem dX0_orderAt_18 : decode cX0_orderAt 18 = .ok (.ireturn, 1) := dk_172 (dk_at dksX0_orderAt_0 18 rfl rfl)
abbrev cX0_bestBid : ByteArray := method_21_code
def yX0_bestBid : MethodName := ⟨RX0, "bestBid", "(LWindowExchange;[J)I"⟩
def dkwX0_bestBid_0 : List UInt8 := [43, 3, 42, 182, 0, 80, 133, 80, 167, 0, 6, 77, 4, 172, 3, 172]
abbrev dktX0_bestBid_0 : List UInt8 := dkwX0_bestBid_0 ++ []
theorem dksX0_bestBid_0 : cX0_bestBid.data.toList.drop 0 = dktX0_bestBid_0 := by decide +kernel
theorem dX0_bestBid_0 : decode cX0_bestBid 0 = .ok (.aload_n 1, 1) := dk_43 (dk_at dksX0_bestBid_0 0 rfl rfl)
theorem dX0_bestBid_1 : decode cX0_bestBid 1 = .ok (.iconst 0, 1) := dk_3 (dk_at dksX0_bestBid_0 1 rfl rfl)
theorem dX0_bestBid_2 : decode cX0_bestBid 2 = .ok (.aload_n 0, 1) := dk_42 (dk_at dksX0_bestBid_0 2 rfl rfl)
theorem dX0_bestBid_3 : decode cX0_bestBid 3 = .ok (.invokevirtual 80, 3) := dk_182 0 80 (dk_at dksX0_bestBid_0 3 rfl rfl)
theorem dX0_bestBid_6 : decode cX0_bestBid 6 = .ok (.i2l, 1) := dk_133 (dk_at dksX0_bestBid_0 6 rfl rfl)
theorem dX0_bestBid_7 : decode cX0_bestBid 7 = .ok (.lastore, 1) := dk_80 (dk_at dksX0_bestBid_0 7 rfl rfl)
theorem dX0_bestBid_8 : decode cX0_bestBid 8 = .ok (.goto 6, 3) := dk_167 0 6 (dk_at dksX0_bestBid_0 8 rfl rfl)
theorem dX0_bestBid_11 : decode cX0_bestBid 11 = .ok (.astore_n 2, 1) := dk_77 (dk_at dksX0_bestBid_0 11 rfl rfl)
theorem dX0_bestBid_12 : decode cX0_bestBid 12 = .ok (.iconst 1, 1) := dk_4 (dk_at dksX0_bestBid_0 12 rfl rfl)
theorem dX0_bestBid_13 : decode cX0_bestBid 13 = .ok (.ireturn, 1) := dk_172 (dk_at dksX0_bestBid_0 13 rfl rfl)
theorem dX0_bestBid_14 : decode cX0_bestBid 14 = .ok (.iconst 0, 1) := dk_3 (dk_at dksX0_bestBid_0 14 rfl rfl)
theorem dX0_bestBid_15 : decode cX0_bestBid 15 = .ok (.ireturn, 1) := dk_172 (dk_at dksX0_bestBid_0 15 rfl rfl)
abbrev cX0_bestAsk : ByteArray := method_22_code
def yX0_bestAsk : MethodName := ⟨RX0, "bestAsk", "(LWindowExchange;[J)I"⟩
def dkwX0_bestAsk_0 : List UInt8 := [43, 3, 42, 182, 0, 83, 133, 80, 167, 0, 6, 77, 4, 172, 3, 172]
abbrev dktX0_bestAsk_0 : List UInt8 := dkwX0_bestAsk_0 ++ []
theorem dksX0_bestAsk_0 : cX0_bestAsk.data.toList.drop 0 = dktX0_bestAsk_0 := by decide +kernel
theorem dX0_bestAsk_0 : decode cX0_bestAsk 0 = .ok (.aload_n 1, 1) := dk_43 (dk_at dksX0_bestAsk_0 0 rfl rfl)
theorem dX0_bestAsk_1 : decode cX0_bestAsk 1 = .ok (.iconst 0, 1) := dk_3 (dk_at dksX0_bestAsk_0 1 rfl rfl)
theorem dX0_bestAsk_2 : decode cX0_bestAsk 2 = .ok (.aload_n 0, 1) := dk_42 (dk_at dksX0_bestAsk_0 2 rfl rfl)
theorem dX0_bestAsk_3 : decode cX0_bestAsk 3 = .ok (.invokevirtual 83, 3) := dk_182 0 83 (dk_at dksX0_bestAsk_0 3 rfl rfl)
theorem dX0_bestAsk_6 : decode cX0_bestAsk 6 = .ok (.i2l, 1) := dk_133 (dk_at dksX0_bestAsk_0 6 rfl rfl)
theorem dX0_bestAsk_7 : decode cX0_bestAsk 7 = .ok (.lastore, 1) := dk_80 (dk_at dksX0_bestAsk_0 7 rfl rfl)
theorem dX0_bestAsk_8 : decode cX0_bestAsk 8 = .ok (.goto 6, 3) := dk_167 0 6 (dk_at dksX0_bestAsk_0 8 rfl rfl)
theorem dX0_bestAsk_11 : decode cX0_bestAsk 11 = .ok (.astore_n 2, 1) := dk_77 (dk_at dksX0_bestAsk_0 11 rfl rfl)
theorem dX0_bestAsk_12 : decode cX0_bestAsk 12 = .ok (.iconst 1, 1) := dk_4 (dk_at dksX0_bestAsk_0 12 rfl rfl)
theorem dX0_bestAsk_13 : decode cX0_bestAsk 13 = .ok (.ireturn, 1) := dk_172 (dk_at dksX0_bestAsk_0 13 rfl rfl)
theorem dX0_bestAsk_14 : decode cX0_bestAsk 14 = .ok (.iconst 0, 1) := dk_3 (dk_at dksX0_bestAsk_0 14 rfl rfl)
theorem dX0_bestAsk_15 : decode cX0_bestAsk 15 = .ok (.ireturn, 1) := dk_172 (dk_at dksX0_bestAsk_0 15 rfl rfl)
abbrev cX0_costToBuy : ByteArray := method_23_code
def yX0_costToBuy : MethodName := ⟨RX0, "costToBuy", "(LWindowExchange;I[J)I"⟩
def dkwX0_costToBuy_0 : List UInt8 := [44, 3, 42, 27, 182, 0, 86, 133, 80, 167, 0, 9, 78, 4, 172, 78, 5, 172, 3, 172]
abbrev dktX0_costToBuy_0 : List UInt8 := dkwX0_costToBuy_0 ++ []
theorem dksX0_costToBuy_0 : cX0_costToBuy.data.toList.drop 0 = dktX0_costToBuy_0 := by decide +kernel
theorem dX0_costToBuy_0 : decode cX0_costToBuy 0 = .ok (.aload_n 2, 1) := dk_44 (dk_at dksX0_costToBuy_0 0 rfl rfl)
theorem dX0_costToBuy_1 : decode cX0_costToBuy 1 = .ok (.iconst 0, 1) := dk_3 (dk_at dksX0_costToBuy_0 1 rfl rfl)
theorem dX0_costToBuy_2 : decode cX0_costToBuy 2 = .ok (.aload_n 0, 1) := dk_42 (dk_at dksX0_costToBuy_0 2 rfl rfl)
theorem dX0_costToBuy_3 : decode cX0_costToBuy 3 = .ok (.iload_n 1, 1) := dk_27 (dk_at dksX0_costToBuy_0 3 rfl rfl)
theorem dX0_costToBuy_4 : decode cX0_costToBuy 4 = .ok (.invokevirtual 86, 3) := dk_182 0 86 (dk_at dksX0_costToBuy_0 4 rfl rfl)
theorem dX0_costToBuy_7 : decode cX0_costToBuy 7 = .ok (.i2l, 1) := dk_133 (dk_at dksX0_costToBuy_0 7 rfl rfl)
theorem dX0_costToBuy_8 : decode cX0_costToBuy 8 = .ok (.lastore, 1) := dk_80 (dk_at dksX0_costToBuy_0 8 rfl rfl)
theorem dX0_costToBuy_9 : decode cX0_costToBuy 9 = .ok (.goto 9, 3) := dk_167 0 9 (dk_at dksX0_costToBuy_0 9 rfl rfl)
theorem dX0_costToBuy_12 : decode cX0_costToBuy 12 = .ok (.astore_n 3, 1) := dk_78 (dk_at dksX0_costToBuy_0 12 rfl rfl)
theorem dX0_costToBuy_13 : decode cX0_costToBuy 13 = .ok (.iconst 1, 1) := dk_4 (dk_at dksX0_costToBuy_0 13 rfl rfl)
theorem dX0_costToBuy_14 : decode cX0_costToBuy 14 = .ok (.ireturn, 1) := dk_172 (dk_at dksX0_costToBuy_0 14 rfl rfl)
theorem dX0_costToBuy_15 : decode cX0_costToBuy 15 = .ok (.astore_n 3, 1) := dk_78 (dk_at dksX0_costToBuy_0 15 rfl rfl)
theorem dX0_costToBuy_16 : decode cX0_costToBuy 16 = .ok (.iconst 2, 1) := dk_5 (dk_at dksX0_costToBuy_0 16 rfl rfl)
theorem dX0_costToBuy_17 : decode cX0_costToBuy 17 = .ok (.ireturn, 1) := dk_172 (dk_at dksX0_costToBuy_0 17 rfl rfl)
theorem dX0_costToBuy_18 : decode cX0_costToBuy 18 = .ok (.iconst 0, 1) := dk_3 (dk_at dksX0_costToBuy_0 18 rfl rfl)
theorem dX0_costToBuy_19 : decode cX0_costToBuy 19 = .ok (.ireturn, 1) := dk_172 (dk_at dksX0_costToBuy_0 19 rfl rfl)
abbrev cX0_costToBuyByPrices : ByteArray := method_24_code
def yX0_costToBuyByPrices : MethodName := ⟨RX0, "costToBuyByPrices", "(LWindowExchange;I[J)I"⟩
def dkwX0_costToBuyByPrices_0 : List UInt8 := [44, 3, 42, 27, 182, 0, 89, 133, 80, 167, 0, 9, 78, 4, 172, 78, 5, 172, 3, 172]
abbrev dktX0_costToBuyByPrices_0 : List UInt8 := dkwX0_costToBuyByPrices_0 ++ []
theorem dksX0_costToBuyByPrices_0 : cX0_costToBuyByPrices.data.toList.drop 0 = dktX0_costToBuyByPrices_0 := by decide +kernel
theorem dX0_costToBuyByPrices_0 : decode cX0_costToBuyByPrices 0 = .ok (.aload_n 2, 1) := dk_44 (dk_at dksX0_costToBuyByPrices_0 0 rfl rfl)
theorem dX0_costToBuyByPrices_1 : decode cX0_costToBuyByPrices 1 = .ok (.iconst 0, 1) := dk_3 (dk_at dksX0_costToBuyByPrices_0 1 rfl rfl)
theorem dX0_costToBuyByPrices_2 : decode cX0_costToBuyByPrices 2 = .ok (.aload_n 0, 1) := dk_42 (dk_at dksX0_costToBuyByPrices_0 2 rfl rfl)
theorem dX0_costToBuyByPrices_3 : decode cX0_costToBuyByPrices 3 = .ok (.iload_n 1, 1) := dk_27 (dk_at dksX0_costToBuyByPrices_0 3 rfl rfl)
theorem dX0_costToBuyByPrices_4 : decode cX0_costToBuyByPrices 4 = .ok (.invokevirtual 89, 3) := dk_182 0 89 (dk_at dksX0_costToBuyByPrices_0 4 rfl rfl)
theorem dX0_costToBuyByPrices_7 : decode cX0_costToBuyByPrices 7 = .ok (.i2l, 1) := dk_133 (dk_at dksX0_costToBuyByPrices_0 7 rfl rfl)
theorem dX0_costToBuyByPrices_8 : decode cX0_costToBuyByPrices 8 = .ok (.lastore, 1) := dk_80 (dk_at dksX0_costToBuyByPrices_0 8 rfl rfl)
theorem dX0_costToBuyByPrices_9 : decode cX0_costToBuyByPrices 9 = .ok (.goto 9, 3) := dk_167 0 9 (dk_at dksX0_costToBuyByPrices_0 9 rfl rfl)
theorem dX0_costToBuyByPrices_12 : decode cX0_costToBuyByPrices 12 = .ok (.astore_n 3, 1) := dk_78 (dk_at dksX0_costToBuyByPrices_0 12 rfl rfl)
theorem dX0_costToBuyByPrices_13 : decode cX0_costToBuyByPrices 13 = .ok (.iconst 1, 1) := dk_4 (dk_at dksX0_costToBuyByPrices_0 13 rfl rfl)
theorem dX0_costToBuyByPrices_14 : decode cX0_costToBuyByPrices 14 = .ok (.ireturn, 1) := dk_172 (dk_at dksX0_costToBuyByPrices_0 14 rfl rfl)
theorem dX0_costToBuyByPrices_15 : decode cX0_costToBuyByPrices 15 = .ok (.astore_n 3, 1) := dk_78 (dk_at dksX0_costToBuyByPrices_0 15 rfl rfl)
theorem dX0_costToBuyByPrices_16 : decode cX0_costToBuyByPrices 16 = .ok (.iconst 2, 1) := dk_5 (dk_at dksX0_costToBuyByPrices_0 16 rfl rfl)
theorem dX0_costToBuyByPrices_17 : decode cX0_costToBuyByPrices 17 = .ok (.ireturn, 1) := dk_172 (dk_at dksX0_costToBuyByPrices_0 17 rfl rfl)
theorem dX0_costToBuyByPrices_18 : decode cX0_costToBuyByPrices 18 = .ok (.iconst 0, 1) := dk_3 (dk_at dksX0_costToBuyByPrices_0 18 rfl rfl)
theorem dX0_costToBuyByPrices_19 : decode cX0_costToBuyByPrices 19 = .ok (.ireturn, 1) := dk_172 (dk_at dksX0_costToBuyByPrices_0 19 rfl rfl)
abbrev cX0_lastPrice : ByteArray := method_25_code
def yX0_lastPrice : MethodName := ⟨RX0, "lastPrice", "(LWindowExchange;[J)I"⟩
def dkwX0_lastPrice_0 : List UInt8 := [43, 3, 42, 182, 0, 92, 133, 80, 167, 0, 6, 77, 4, 172, 3, 172]
abbrev dktX0_lastPrice_0 : List UInt8 := dkwX0_lastPrice_0 ++ []
theorem dksX0_lastPrice_0 : cX0_lastPrice.data.toList.drop 0 = dktX0_lastPrice_0 := by decide +kernel
theorem dX0_lastPrice_0 : decode cX0_lastPrice 0 = .ok (.aload_n 1, 1) := dk_43 (dk_at dksX0_lastPrice_0 0 rfl rfl)
theorem dX0_lastPrice_1 : decode cX0_lastPrice 1 = .ok (.iconst 0, 1) := dk_3 (dk_at dksX0_lastPrice_0 1 rfl rfl)
theorem dX0_lastPrice_2 : decode cX0_lastPrice 2 = .ok (.aload_n 0, 1) := dk_42 (dk_at dksX0_lastPrice_0 2 rfl rfl)
theorem dX0_lastPrice_3 : decode cX0_lastPrice 3 = .ok (.invokevirtual 92, 3) := dk_182 0 92 (dk_at dksX0_lastPrice_0 3 rfl rfl)
theorem dX0_lastPrice_6 : decode cX0_lastPrice 6 = .ok (.i2l, 1) := dk_133 (dk_at dksX0_lastPrice_0 6 rfl rfl)
theorem dX0_lastPrice_7 : decode cX0_lastPrice 7 = .ok (.lastore, 1) := dk_80 (dk_at dksX0_lastPrice_0 7 rfl rfl)
theorem dX0_lastPrice_8 : decode cX0_lastPrice 8 = .ok (.goto 6, 3) := dk_167 0 6 (dk_at dksX0_lastPrice_0 8 rfl rfl)
theorem dX0_lastPrice_11 : decode cX0_lastPrice 11 = .ok (.astore_n 2, 1) := dk_77 (dk_at dksX0_lastPrice_0 11 rfl rfl)
theorem dX0_lastPrice_12 : decode cX0_lastPrice 12 = .ok (.iconst 1, 1) := dk_4 (dk_at dksX0_lastPrice_0 12 rfl rfl)
theorem dX0_lastPrice_13 : decode cX0_lastPrice 13 = .ok (.ireturn, 1) := dk_172 (dk_at dksX0_lastPrice_0 13 rfl rfl)
theorem dX0_lastPrice_14 : decode cX0_lastPrice 14 = .ok (.iconst 0, 1) := dk_3 (dk_at dksX0_lastPrice_0 14 rfl rfl)
theorem dX0_lastPrice_15 : decode cX0_lastPrice 15 = .ok (.ireturn, 1) := dk_172 (dk_at dksX0_lastPrice_0 15 rfl rfl)
abbrev cX0_meanPrice : ByteArray := method_26_code
def yX0_meanPrice : MethodName := ⟨RX0, "meanPrice", "(LWindowExchange;[D)I"⟩
def dkwX0_meanPrice_0 : List UInt8 := [43, 3, 42, 182, 0, 95, 82, 167, 0, 6, 77, 4, 172, 3, 172]
abbrev dktX0_meanPrice_0 : List UInt8 := dkwX0_meanPrice_0 ++ []
theorem dksX0_meanPrice_0 : cX0_meanPrice.data.toList.drop 0 = dktX0_meanPrice_0 := by decide +kernel
theorem dX0_meanPrice_0 : decode cX0_meanPrice 0 = .ok (.aload_n 1, 1) := dk_43 (dk_at dksX0_meanPrice_0 0 rfl rfl)
theorem dX0_meanPrice_1 : decode cX0_meanPrice 1 = .ok (.iconst 0, 1) := dk_3 (dk_at dksX0_meanPrice_0 1 rfl rfl)
theorem dX0_meanPrice_2 : decode cX0_meanPrice 2 = .ok (.aload_n 0, 1) := dk_42 (dk_at dksX0_meanPrice_0 2 rfl rfl)
theorem dX0_meanPrice_3 : decode cX0_meanPrice 3 = .ok (.invokevirtual 95, 3) := dk_182 0 95 (dk_at dksX0_meanPrice_0 3 rfl rfl)
theorem dX0_meanPrice_6 : decode cX0_meanPrice 6 = .ok (.dastore, 1) := dk_82 (dk_at dksX0_meanPrice_0 6 rfl rfl)
theorem dX0_meanPrice_7 : decode cX0_meanPrice 7 = .ok (.goto 6, 3) := dk_167 0 6 (dk_at dksX0_meanPrice_0 7 rfl rfl)
theorem dX0_meanPrice_10 : decode cX0_meanPrice 10 = .ok (.astore_n 2, 1) := dk_77 (dk_at dksX0_meanPrice_0 10 rfl rfl)
theorem dX0_meanPrice_11 : decode cX0_meanPrice 11 = .ok (.iconst 1, 1) := dk_4 (dk_at dksX0_meanPrice_0 11 rfl rfl)
theorem dX0_meanPrice_12 : decode cX0_meanPrice 12 = .ok (.ireturn, 1) := dk_172 (dk_at dksX0_meanPrice_0 12 rfl rfl)
theorem dX0_meanPrice_13 : decode cX0_meanPrice 13 = .ok (.iconst 0, 1) := dk_3 (dk_at dksX0_meanPrice_0 13 rfl rfl)
theorem dX0_meanPrice_14 : decode cX0_meanPrice 14 = .ok (.ireturn, 1) := dk_172 (dk_at dksX0_meanPrice_0 14 rfl rfl)
abbrev cX0_daysLeft : ByteArray := method_27_code
def yX0_daysLeft : MethodName := ⟨RX0, "daysLeft", "(LWindowExchange;I[J)I"⟩
def dkwX0_daysLeft_0 : List UInt8 := [44, 3, 42, 27, 182, 0, 101, 133, 80, 167, 0, 6, 78, 4, 172, 3, 172]
abbrev dktX0_daysLeft_0 : List UInt8 := dkwX0_daysLeft_0 ++ []
theorem dksX0_daysLeft_0 : cX0_daysLeft.data.toList.drop 0 = dktX0_daysLeft_0 := by decide +kernel
theorem dX0_daysLeft_0 : decode cX0_daysLeft 0 = .ok (.aload_n 2, 1) := dk_44 (dk_at dksX0_daysLeft_0 0 rfl rfl)
theorem dX0_daysLeft_1 : decode cX0_daysLeft 1 = .ok (.iconst 0, 1) := dk_3 (dk_at dksX0_daysLeft_0 1 rfl rfl)
theorem dX0_daysLeft_2 : decode cX0_daysLeft 2 = .ok (.aload_n 0, 1) := dk_42 (dk_at dksX0_daysLeft_0 2 rfl rfl)
theorem dX0_daysLeft_3 : decode cX0_daysLeft 3 = .ok (.iload_n 1, 1) := dk_27 (dk_at dksX0_daysLeft_0 3 rfl rfl)
theorem dX0_daysLeft_4 : decode cX0_daysLeft 4 = .ok (.invokevirtual 101, 3) := dk_182 0 101 (dk_at dksX0_daysLeft_0 4 rfl rfl)
theorem dX0_daysLeft_7 : decode cX0_daysLeft 7 = .ok (.i2l, 1) := dk_133 (dk_at dksX0_daysLeft_0 7 rfl rfl)
theorem dX0_daysLeft_8 : decode cX0_daysLeft 8 = .ok (.lastore, 1) := dk_80 (dk_at dksX0_daysLeft_0 8 rfl rfl)
theorem dX0_daysLeft_9 : decode cX0_daysLeft 9 = .ok (.goto 6, 3) := dk_167 0 6 (dk_at dksX0_daysLeft_0 9 rfl rfl)
theorem dX0_daysLeft_12 : decode cX0_daysLeft 12 = .ok (.astore_n 3, 1) := dk_78 (dk_at dksX0_daysLeft_0 12 rfl rfl)
theorem dX0_daysLeft_13 : decode cX0_daysLeft 13 = .ok (.iconst 1, 1) := dk_4 (dk_at dksX0_daysLeft_0 13 rfl rfl)
theorem dX0_daysLeft_14 : decode cX0_daysLeft 14 = .ok (.ireturn, 1) := dk_172 (dk_at dksX0_daysLeft_0 14 rfl rfl)
theorem dX0_daysLeft_15 : decode cX0_daysLeft 15 = .ok (.iconst 0, 1) := dk_3 (dk_at dksX0_daysLeft_0 15 rfl rfl)
theorem dX0_daysLeft_16 : decode cX0_daysLeft 16 = .ok (.ireturn, 1) := dk_172 (dk_at dksX0_daysLeft_0 16 rfl rfl)
abbrev cX0_gain : ByteArray := method_28_code
def yX0_gain : MethodName := ⟨RX0, "gain", "(LWindowExchange;II[J)I"⟩
def dkwX0_gain_0 : List UInt8 := [45, 3, 42, 27, 28, 182, 0, 104, 133, 80, 167, 0, 11, 58, 4, 4, 172, 58, 4, 5, 172, 3, 172]
abbrev dktX0_gain_0 : List UInt8 := dkwX0_gain_0 ++ []
theorem dksX0_gain_0 : cX0_gain.data.toList.drop 0 = dktX0_gain_0 := by decide +kernel
theorem dX0_gain_0 : decode cX0_gain 0 = .ok (.aload_n 3, 1) := dk_45 (dk_at dksX0_gain_0 0 rfl rfl)
theorem dX0_gain_1 : decode cX0_gain 1 = .ok (.iconst 0, 1) := dk_3 (dk_at dksX0_gain_0 1 rfl rfl)
theorem dX0_gain_2 : decode cX0_gain 2 = .ok (.aload_n 0, 1) := dk_42 (dk_at dksX0_gain_0 2 rfl rfl)
theorem dX0_gain_3 : decode cX0_gain 3 = .ok (.iload_n 1, 1) := dk_27 (dk_at dksX0_gain_0 3 rfl rfl)
theorem dX0_gain_4 : decode cX0_gain 4 = .ok (.iload_n 2, 1) := dk_28 (dk_at dksX0_gain_0 4 rfl rfl)
theorem dX0_gain_5 : decode cX0_gain 5 = .ok (.invokevirtual 104, 3) := dk_182 0 104 (dk_at dksX0_gain_0 5 rfl rfl)
theorem dX0_gain_8 : decode cX0_gain 8 = .ok (.i2l, 1) := dk_133 (dk_at dksX0_gain_0 8 rfl rfl)
theorem dX0_gain_9 : decode cX0_gain 9 = .ok (.lastore, 1) := dk_80 (dk_at dksX0_gain_0 9 rfl rfl)
theorem dX0_gain_10 : decode cX0_gain 10 = .ok (.goto 11, 3) := dk_167 0 11 (dk_at dksX0_gain_0 10 rfl rfl)
theorem dX0_gain_13 : decode cX0_gain 13 = .ok (.astore 4, 2) := dk_58 4 (dk_at dksX0_gain_0 13 rfl rfl)
theorem dX0_gain_15 : decode cX0_gain 15 = .ok (.iconst 1, 1) := dk_4 (dk_at dksX0_gain_0 15 rfl rfl)
theorem dX0_gain_16 : decode cX0_gain 16 = .ok (.ireturn, 1) := dk_172 (dk_at dksX0_gain_0 16 rfl rfl)
theorem dX0_gain_17 : decode cX0_gain 17 = .ok (.astore 4, 2) := dk_58 4 (dk_at dksX0_gain_0 17 rfl rfl)
theorem dX0_gain_19 : decode cX0_gain 19 = .ok (.iconst 2, 1) := dk_5 (dk_at dksX0_gain_0 19 rfl rfl)
theorem dX0_gain_20 : decode cX0_gain 20 = .ok (.ireturn, 1) := dk_172 (dk_at dksX0_gain_0 20 rfl rfl)
theorem dX0_gain_21 : decode cX0_gain 21 = .ok (.iconst 0, 1) := dk_3 (dk_at dksX0_gain_0 21 rfl rfl)
theorem dX0_gain_22 : decode cX0_gain 22 = .ok (.ireturn, 1) := dk_172 (dk_at dksX0_gain_0 22 rfl rfl)
abbrev cX0_exposure : ByteArray := method_29_code
def yX0_exposure : MethodName := ⟨RX0, "exposure", "(LWindowExchange;I[J)I"⟩
def dkwX0_exposure_0 : List UInt8 := [44, 3, 42, 27, 182, 0, 107, 133, 80, 167, 0, 6, 78, 4, 172, 3, 172]
abbrev dktX0_exposure_0 : List UInt8 := dkwX0_exposure_0 ++ []
theorem dksX0_exposure_0 : cX0_exposure.data.toList.drop 0 = dktX0_exposure_0 := by decide +kernel
theorem dX0_exposure_0 : decode cX0_exposure 0 = .ok (.aload_n 2, 1) := dk_44 (dk_at dksX0_exposure_0 0 rfl rfl)
theorem dX0_exposure_1 : decode cX0_exposure 1 = .ok (.iconst 0, 1) := dk_3 (dk_at dksX0_exposure_0 1 rfl rfl)
theorem dX0_exposure_2 : decode cX0_exposure 2 = .ok (.aload_n 0, 1) := dk_42 (dk_at dksX0_exposure_0 2 rfl rfl)
theorem dX0_exposure_3 : decode cX0_exposure 3 = .ok (.iload_n 1, 1) := dk_27 (dk_at dksX0_exposure_0 3 rfl rfl)
theorem dX0_exposure_4 : decode cX0_exposure 4 = .ok (.invokevirtual 107, 3) := dk_182 0 107 (dk_at dksX0_exposure_0 4 rfl rfl)
theorem dX0_exposure_7 : decode cX0_exposure 7 = .ok (.i2l, 1) := dk_133 (dk_at dksX0_exposure_0 7 rfl rfl)
theorem dX0_exposure_8 : decode cX0_exposure 8 = .ok (.lastore, 1) := dk_80 (dk_at dksX0_exposure_0 8 rfl rfl)
theorem dX0_exposure_9 : decode cX0_exposure 9 = .ok (.goto 6, 3) := dk_167 0 6 (dk_at dksX0_exposure_0 9 rfl rfl)
theorem dX0_exposure_12 : decode cX0_exposure 12 = .ok (.astore_n 3, 1) := dk_78 (dk_at dksX0_exposure_0 12 rfl rfl)
theorem dX0_exposure_13 : decode cX0_exposure 13 = .ok (.iconst 1, 1) := dk_4 (dk_at dksX0_exposure_0 13 rfl rfl)
theorem dX0_exposure_14 : decode cX0_exposure 14 = .ok (.ireturn, 1) := dk_172 (dk_at dksX0_exposure_0 14 rfl rfl)
theorem dX0_exposure_15 : decode cX0_exposure 15 = .ok (.iconst 0, 1) := dk_3 (dk_at dksX0_exposure_0 15 rfl rfl)
theorem dX0_exposure_16 : decode cX0_exposure 16 = .ok (.ireturn, 1) := dk_172 (dk_at dksX0_exposure_0 16 rfl rfl)
abbrev cX0_value : ByteArray := method_30_code
def yX0_value : MethodName := ⟨RX0, "value", "(LWindowExchange;II[J)I"⟩
def dkwX0_value_0 : List UInt8 := [45, 3, 42, 27, 28, 182, 0, 110, 133, 80, 167, 0, 11, 58, 4, 4, 172, 58, 4, 5, 172, 3, 172]
abbrev dktX0_value_0 : List UInt8 := dkwX0_value_0 ++ []
theorem dksX0_value_0 : cX0_value.data.toList.drop 0 = dktX0_value_0 := by decide +kernel
theorem dX0_value_0 : decode cX0_value 0 = .ok (.aload_n 3, 1) := dk_45 (dk_at dksX0_value_0 0 rfl rfl)
theorem dX0_value_1 : decode cX0_value 1 = .ok (.iconst 0, 1) := dk_3 (dk_at dksX0_value_0 1 rfl rfl)
theorem dX0_value_2 : decode cX0_value 2 = .ok (.aload_n 0, 1) := dk_42 (dk_at dksX0_value_0 2 rfl rfl)
theorem dX0_value_3 : decode cX0_value 3 = .ok (.iload_n 1, 1) := dk_27 (dk_at dksX0_value_0 3 rfl rfl)
theorem dX0_value_4 : decode cX0_value 4 = .ok (.iload_n 2, 1) := dk_28 (dk_at dksX0_value_0 4 rfl rfl)
theorem dX0_value_5 : decode cX0_value 5 = .ok (.invokevirtual 110, 3) := dk_182 0 110 (dk_at dksX0_value_0 5 rfl rfl)
theorem dX0_value_8 : decode cX0_value 8 = .ok (.i2l, 1) := dk_133 (dk_at dksX0_value_0 8 rfl rfl)
theorem dX0_value_9 : decode cX0_value 9 = .ok (.lastore, 1) := dk_80 (dk_at dksX0_value_0 9 rfl rfl)
theorem dX0_value_10 : decode cX0_value 10 = .ok (.goto 11, 3) := dk_167 0 11 (dk_at dksX0_value_0 10 rfl rfl)
theorem dX0_value_13 : decode cX0_value 13 = .ok (.astore 4, 2) := dk_58 4 (dk_at dksX0_value_0 13 rfl rfl)
theorem dX0_value_15 : decode cX0_value 15 = .ok (.iconst 1, 1) := dk_4 (dk_at dksX0_value_0 15 rfl rfl)
theorem dX0_value_16 : decode cX0_value 16 = .ok (.ireturn, 1) := dk_172 (dk_at dksX0_value_0 16 rfl rfl)
theorem dX0_value_17 : decode cX0_value 17 = .ok (.astore 4, 2) := dk_58 4 (dk_at dksX0_value_0 17 rfl rfl)
theorem dX0_value_19 : decode cX0_value 19 = .ok (.iconst 2, 1) := dk_5 (dk_at dksX0_value_0 19 rfl rfl)
theorem dX0_value_20 : decode cX0_value 20 = .ok (.ireturn, 1) := dk_172 (dk_at dksX0_value_0 20 rfl rfl)
theorem dX0_value_21 : decode cX0_value 21 = .ok (.iconst 0, 1) := dk_3 (dk_at dksX0_value_0 21 rfl rfl)
theorem dX0_value_22 : decode cX0_value 22 = .ok (.ireturn, 1) := dk_172 (dk_at dksX0_value_0 22 rfl rfl)
abbrev cX0_valueByExposure : ByteArray := method_31_code
def yX0_valueByExposure : MethodName := ⟨RX0, "valueByExposure", "(LWindowExchange;II[J)I"⟩
def dkwX0_valueByExposure_0 : List UInt8 := [45, 3, 42, 27, 28, 182, 0, 113, 133, 80, 167, 0, 11, 58, 4, 4, 172, 58, 4, 5, 172, 3, 172]
abbrev dktX0_valueByExposure_0 : List UInt8 := dkwX0_valueByExposure_0 ++ []
theorem dksX0_valueByExposure_0 : cX0_valueByExposure.data.toList.drop 0 = dktX0_valueByExposure_0 := by decide +kernel
theorem dX0_valueByExposure_0 : decode cX0_valueByExposure 0 = .ok (.aload_n 3, 1) := dk_45 (dk_at dksX0_valueByExposure_0 0 rfl rfl)
theorem dX0_valueByExposure_1 : decode cX0_valueByExposure 1 = .ok (.iconst 0, 1) := dk_3 (dk_at dksX0_valueByExposure_0 1 rfl rfl)
theorem dX0_valueByExposure_2 : decode cX0_valueByExposure 2 = .ok (.aload_n 0, 1) := dk_42 (dk_at dksX0_valueByExposure_0 2 rfl rfl)
theorem dX0_valueByExposure_3 : decode cX0_valueByExposure 3 = .ok (.iload_n 1, 1) := dk_27 (dk_at dksX0_valueByExposure_0 3 rfl rfl)
theorem dX0_valueByExposure_4 : decode cX0_valueByExposure 4 = .ok (.iload_n 2, 1) := dk_28 (dk_at dksX0_valueByExposure_0 4 rfl rfl)
theorem dX0_valueByExposure_5 : decode cX0_valueByExposure 5 = .ok (.invokevirtual 113, 3) := dk_182 0 113 (dk_at dksX0_valueByExposure_0 5 rfl rfl)
theorem dX0_valueByExposure_8 : decode cX0_valueByExposure 8 = .ok (.i2l, 1) := dk_133 (dk_at dksX0_valueByExposure_0 8 rfl rfl)
theorem dX0_valueByExposure_9 : decode cX0_valueByExposure 9 = .ok (.lastore, 1) := dk_80 (dk_at dksX0_valueByExposure_0 9 rfl rfl)
theorem dX0_valueByExposure_10 : decode cX0_valueByExposure 10 = .ok (.goto 11, 3) := dk_167 0 11 (dk_at dksX0_valueByExposure_0 10 rfl rfl)
theorem dX0_valueByExposure_13 : decode cX0_valueByExposure 13 = .ok (.astore 4, 2) := dk_58 4 (dk_at dksX0_valueByExposure_0 13 rfl rfl)
theorem dX0_valueByExposure_15 : decode cX0_valueByExposure 15 = .ok (.iconst 1, 1) := dk_4 (dk_at dksX0_valueByExposure_0 15 rfl rfl)
theorem dX0_valueByExposure_16 : decode cX0_valueByExposure 16 = .ok (.ireturn, 1) := dk_172 (dk_at dksX0_valueByExposure_0 16 rfl rfl)
theorem dX0_valueByExposure_17 : decode cX0_valueByExposure 17 = .ok (.astore 4, 2) := dk_58 4 (dk_at dksX0_valueByExposure_0 17 rfl rfl)
theorem dX0_valueByExposure_19 : decode cX0_valueByExposure 19 = .ok (.iconst 2, 1) := dk_5 (dk_at dksX0_valueByExposure_0 19 rfl rfl)
theorem dX0_valueByExposure_20 : decode cX0_valueByExposure 20 = .ok (.ireturn, 1) := dk_172 (dk_at dksX0_valueByExposure_0 20 rfl rfl)
theorem dX0_valueByExposure_21 : decode cX0_valueByExposure 21 = .ok (.iconst 0, 1) := dk_3 (dk_at dksX0_valueByExposure_0 21 rfl rfl)
theorem dX0_valueByExposure_22 : decode cX0_valueByExposure 22 = .ok (.ireturn, 1) := dk_172 (dk_at dksX0_valueByExposure_0 22 rfl rfl)
abbrev cX0_defaultRate : ByteArray := method_32_code
def yX0_defaultRate : MethodName := ⟨RX0, "defaultRate", "(LWindowExchange;[D)I"⟩
def dkwX0_defaultRate_0 : List UInt8 := [43, 3, 42, 182, 0, 116, 141, 82, 167, 0, 6, 77, 4, 172, 3, 172]
abbrev dktX0_defaultRate_0 : List UInt8 := dkwX0_defaultRate_0 ++ []
theorem dksX0_defaultRate_0 : cX0_defaultRate.data.toList.drop 0 = dktX0_defaultRate_0 := by decide +kernel
theorem dX0_defaultRate_0 : decode cX0_defaultRate 0 = .ok (.aload_n 1, 1) := dk_43 (dk_at dksX0_defaultRate_0 0 rfl rfl)
theorem dX0_defaultRate_1 : decode cX0_defaultRate 1 = .ok (.iconst 0, 1) := dk_3 (dk_at dksX0_defaultRate_0 1 rfl rfl)
theorem dX0_defaultRate_2 : decode cX0_defaultRate 2 = .ok (.aload_n 0, 1) := dk_42 (dk_at dksX0_defaultRate_0 2 rfl rfl)
theorem dX0_defaultRate_3 : decode cX0_defaultRate 3 = .ok (.invokevirtual 116, 3) := dk_182 0 116 (dk_at dksX0_defaultRate_0 3 rfl rfl)
theorem dX0_defaultRate_6 : decode cX0_defaultRate 6 = .ok (.f2d, 1) := dk_141 (dk_at dksX0_defaultRate_0 6 rfl rfl)
theorem dX0_defaultRate_7 : decode cX0_defaultRate 7 = .ok (.dastore, 1) := dk_82 (dk_at dksX0_defaultRate_0 7 rfl rfl)
theorem dX0_defaultRate_8 : decode cX0_defaultRate 8 = .ok (.goto 6, 3) := dk_167 0 6 (dk_at dksX0_defaultRate_0 8 rfl rfl)
theorem dX0_defaultRate_11 : decode cX0_defaultRate 11 = .ok (.astore_n 2, 1) := dk_77 (dk_at dksX0_defaultRate_0 11 rfl rfl)
theorem dX0_defaultRate_12 : decode cX0_defaultRate 12 = .ok (.iconst 1, 1) := dk_4 (dk_at dksX0_defaultRate_0 12 rfl rfl)
theorem dX0_defaultRate_13 : decode cX0_defaultRate 13 = .ok (.ireturn, 1) := dk_172 (dk_at dksX0_defaultRate_0 13 rfl rfl)
theorem dX0_defaultRate_14 : decode cX0_defaultRate 14 = .ok (.iconst 0, 1) := dk_3 (dk_at dksX0_defaultRate_0 14 rfl rfl)
theorem dX0_defaultRate_15 : decode cX0_defaultRate 15 = .ok (.ireturn, 1) := dk_172 (dk_at dksX0_defaultRate_0 15 rfl rfl)
abbrev cX0_holder : ByteArray := method_33_code
def yX0_holder : MethodName := ⟨RX0, "holder", "(LWindowExchange;I[J)I"⟩
def dkwX0_holder_0 : List UInt8 := [44, 3, 42, 27, 182, 0, 120, 133, 80, 167, 0, 9, 78, 4, 172, 78, 5, 172, 3, 172]
abbrev dktX0_holder_0 : List UInt8 := dkwX0_holder_0 ++ []
theorem dksX0_holder_0 : cX0_holder.data.toList.drop 0 = dktX0_holder_0 := by decide +kernel
theorem dX0_holder_0 : decode cX0_holder 0 = .ok (.aload_n 2, 1) := dk_44 (dk_at dksX0_holder_0 0 rfl rfl)
theorem dX0_holder_1 : decode cX0_holder 1 = .ok (.iconst 0, 1) := dk_3 (dk_at dksX0_holder_0 1 rfl rfl)
theorem dX0_holder_2 : decode cX0_holder 2 = .ok (.aload_n 0, 1) := dk_42 (dk_at dksX0_holder_0 2 rfl rfl)
theorem dX0_holder_3 : decode cX0_holder 3 = .ok (.iload_n 1, 1) := dk_27 (dk_at dksX0_holder_0 3 rfl rfl)
theorem dX0_holder_4 : decode cX0_holder 4 = .ok (.invokevirtual 120, 3) := dk_182 0 120 (dk_at dksX0_holder_0 4 rfl rfl)
theorem dX0_holder_7 : decode cX0_holder 7 = .ok (.i2l, 1) := dk_133 (dk_at dksX0_holder_0 7 rfl rfl)
theorem dX0_holder_8 : decode cX0_holder 8 = .ok (.lastore, 1) := dk_80 (dk_at dksX0_holder_0 8 rfl rfl)
theorem dX0_holder_9 : decode cX0_holder 9 = .ok (.goto 9, 3) := dk_167 0 9 (dk_at dksX0_holder_0 9 rfl rfl)
theorem dX0_holder_12 : decode cX0_holder 12 = .ok (.astore_n 3, 1) := dk_78 (dk_at dksX0_holder_0 12 rfl rfl)
theorem dX0_holder_13 : decode cX0_holder 13 = .ok (.iconst 1, 1) := dk_4 (dk_at dksX0_holder_0 13 rfl rfl)
theorem dX0_holder_14 : decode cX0_holder 14 = .ok (.ireturn, 1) := dk_172 (dk_at dksX0_holder_0 14 rfl rfl)
theorem dX0_holder_15 : decode cX0_holder 15 = .ok (.astore_n 3, 1) := dk_78 (dk_at dksX0_holder_0 15 rfl rfl)
theorem dX0_holder_16 : decode cX0_holder 16 = .ok (.iconst 2, 1) := dk_5 (dk_at dksX0_holder_0 16 rfl rfl)
theorem dX0_holder_17 : decode cX0_holder 17 = .ok (.ireturn, 1) := dk_172 (dk_at dksX0_holder_0 17 rfl rfl)
theorem dX0_holder_18 : decode cX0_holder 18 = .ok (.iconst 0, 1) := dk_3 (dk_at dksX0_holder_0 18 rfl rfl)
theorem dX0_holder_19 : decode cX0_holder 19 = .ok (.ireturn, 1) := dk_172 (dk_at dksX0_holder_0 19 rfl rfl)
abbrev cX0_winner : ByteArray := method_34_code
def yX0_winner : MethodName := ⟨RX0, "winner", "(LWindowExchange;[J)I"⟩
def dkwX0_winner_0 : List UInt8 := [43, 3, 42, 182, 0, 123, 133, 80, 167, 0, 9, 77, 4, 172, 77, 5, 172, 3, 172]
abbrev dktX0_winner_0 : List UInt8 := dkwX0_winner_0 ++ []
theorem dksX0_winner_0 : cX0_winner.data.toList.drop 0 = dktX0_winner_0 := by decide +kernel
theorem dX0_winner_0 : decode cX0_winner 0 = .ok (.aload_n 1, 1) := dk_43 (dk_at dksX0_winner_0 0 rfl rfl)
theorem dX0_winner_1 : decode cX0_winner 1 = .ok (.iconst 0, 1) := dk_3 (dk_at dksX0_winner_0 1 rfl rfl)
theorem dX0_winner_2 : decode cX0_winner 2 = .ok (.aload_n 0, 1) := dk_42 (dk_at dksX0_winner_0 2 rfl rfl)
theorem dX0_winner_3 : decode cX0_winner 3 = .ok (.invokevirtual 123, 3) := dk_182 0 123 (dk_at dksX0_winner_0 3 rfl rfl)
theorem dX0_winner_6 : decode cX0_winner 6 = .ok (.i2l, 1) := dk_133 (dk_at dksX0_winner_0 6 rfl rfl)
theorem dX0_winner_7 : decode cX0_winner 7 = .ok (.lastore, 1) := dk_80 (dk_at dksX0_winner_0 7 rfl rfl)
theorem dX0_winner_8 : decode cX0_winner 8 = .ok (.goto 9, 3) := dk_167 0 9 (dk_at dksX0_winner_0 8 rfl rfl)
theorem dX0_winner_11 : decode cX0_winner 11 = .ok (.astore_n 2, 1) := dk_77 (dk_at dksX0_winner_0 11 rfl rfl)
theorem dX0_winner_12 : decode cX0_winner 12 = .ok (.iconst 1, 1) := dk_4 (dk_at dksX0_winner_0 12 rfl rfl)
theorem dX0_winner_13 : decode cX0_winner 13 = .ok (.ireturn, 1) := dk_172 (dk_at dksX0_winner_0 13 rfl rfl)
theorem dX0_winner_14 : decode cX0_winner 14 = .ok (.astore_n 2, 1) := dk_77 (dk_at dksX0_winner_0 14 rfl rfl)
theorem dX0_winner_15 : decode cX0_winner 15 = .ok (.iconst 2, 1) := dk_5 (dk_at dksX0_winner_0 15 rfl rfl)
theorem dX0_winner_16 : decode cX0_winner 16 = .ok (.ireturn, 1) := dk_172 (dk_at dksX0_winner_0 16 rfl rfl)
theorem dX0_winner_17 : decode cX0_winner 17 = .ok (.iconst 0, 1) := dk_3 (dk_at dksX0_winner_0 17 rfl rfl)
theorem dX0_winner_18 : decode cX0_winner 18 = .ok (.ireturn, 1) := dk_172 (dk_at dksX0_winner_0 18 rfl rfl)
abbrev cX0_winnerPays : ByteArray := method_35_code
def yX0_winnerPays : MethodName := ⟨RX0, "winnerPays", "(LWindowExchange;[J)I"⟩
def dkwX0_winnerPays_0 : List UInt8 := [43, 3, 42, 182, 0, 126, 133, 80, 167, 0, 9, 77, 4, 172, 77, 5, 172, 3, 172]
abbrev dktX0_winnerPays_0 : List UInt8 := dkwX0_winnerPays_0 ++ []
theorem dksX0_winnerPays_0 : cX0_winnerPays.data.toList.drop 0 = dktX0_winnerPays_0 := by decide +kernel
theorem dX0_winnerPays_0 : decode cX0_winnerPays 0 = .ok (.aload_n 1, 1) := dk_43 (dk_at dksX0_winnerPays_0 0 rfl rfl)
theorem dX0_winnerPays_1 : decode cX0_winnerPays 1 = .ok (.iconst 0, 1) := dk_3 (dk_at dksX0_winnerPays_0 1 rfl rfl)
theorem dX0_winnerPays_2 : decode cX0_winnerPays 2 = .ok (.aload_n 0, 1) := dk_42 (dk_at dksX0_winnerPays_0 2 rfl rfl)
theorem dX0_winnerPays_3 : decode cX0_winnerPays 3 = .ok (.invokevirtual 126, 3) := dk_182 0 126 (dk_at dksX0_winnerPays_0 3 rfl rfl)
theorem dX0_winnerPays_6 : decode cX0_winnerPays 6 = .ok (.i2l, 1) := dk_133 (dk_at dksX0_winnerPays_0 6 rfl rfl)
theorem dX0_winnerPays_7 : decode cX0_winnerPays 7 = .ok (.lastore, 1) := dk_80 (dk_at dksX0_winnerPays_0 7 rfl rfl)
theorem dX0_winnerPays_8 : decode cX0_winnerPays 8 = .ok (.goto 9, 3) := dk_167 0 9 (dk_at dksX0_winnerPays_0 8 rfl rfl)
theorem dX0_winnerPays_11 : decode cX0_winnerPays 11 = .ok (.astore_n 2, 1) := dk_77 (dk_at dksX0_winnerPays_0 11 rfl rfl)
theorem dX0_winnerPays_12 : decode cX0_winnerPays 12 = .ok (.iconst 1, 1) := dk_4 (dk_at dksX0_winnerPays_0 12 rfl rfl)
theorem dX0_winnerPays_13 : decode cX0_winnerPays 13 = .ok (.ireturn, 1) := dk_172 (dk_at dksX0_winnerPays_0 13 rfl rfl)
theorem dX0_winnerPays_14 : decode cX0_winnerPays 14 = .ok (.astore_n 2, 1) := dk_77 (dk_at dksX0_winnerPays_0 14 rfl rfl)
theorem dX0_winnerPays_15 : decode cX0_winnerPays 15 = .ok (.iconst 2, 1) := dk_5 (dk_at dksX0_winnerPays_0 15 rfl rfl)
theorem dX0_winnerPays_16 : decode cX0_winnerPays 16 = .ok (.ireturn, 1) := dk_172 (dk_at dksX0_winnerPays_0 16 rfl rfl)
theorem dX0_winnerPays_17 : decode cX0_winnerPays 17 = .ok (.iconst 0, 1) := dk_3 (dk_at dksX0_winnerPays_0 17 rfl rfl)
theorem dX0_winnerPays_18 : decode cX0_winnerPays 18 = .ok (.ireturn, 1) := dk_172 (dk_at dksX0_winnerPays_0 18 rfl rfl)
abbrev cX0_writeTrader : ByteArray := method_36_code
def yX0_writeTrader : MethodName := ⟨RX0, "writeTrader", "(LWindowExchange;I[J)I"⟩
def dkwX0_writeTrader_0 : List UInt8 := [44, 3, 42, 27, 182, 0, 129, 133, 80, 167, 0, 6, 78, 4, 172, 3, 172]
abbrev dktX0_writeTrader_0 : List UInt8 := dkwX0_writeTrader_0 ++ []
theorem dksX0_writeTrader_0 : cX0_writeTrader.data.toList.drop 0 = dktX0_writeTrader_0 := by decide +kernel
theorem dX0_writeTrader_0 : decode cX0_writeTrader 0 = .ok (.aload_n 2, 1) := dk_44 (dk_at dksX0_writeTrader_0 0 rfl rfl)
theorem dX0_writeTrader_1 : decode cX0_writeTrader 1 = .ok (.iconst 0, 1) := dk_3 (dk_at dksX0_writeTrader_0 1 rfl rfl)
theorem dX0_writeTrader_2 : decode cX0_writeTrader 2 = .ok (.aload_n 0, 1) := dk_42 (dk_at dksX0_writeTrader_0 2 rfl rfl)
theorem dX0_writeTrader_3 : decode cX0_writeTrader 3 = .ok (.iload_n 1, 1) := dk_27 (dk_at dksX0_writeTrader_0 3 rfl rfl)
theorem dX0_writeTrader_4 : decode cX0_writeTrader 4 = .ok (.invokevirtual 129, 3) := dk_182 0 129 (dk_at dksX0_writeTrader_0 4 rfl rfl)
theorem dX0_writeTrader_7 : decode cX0_writeTrader 7 = .ok (.i2l, 1) := dk_133 (dk_at dksX0_writeTrader_0 7 rfl rfl)
theorem dX0_writeTrader_8 : decode cX0_writeTrader 8 = .ok (.lastore, 1) := dk_80 (dk_at dksX0_writeTrader_0 8 rfl rfl)
theorem dX0_writeTrader_9 : decode cX0_writeTrader 9 = .ok (.goto 6, 3) := dk_167 0 6 (dk_at dksX0_writeTrader_0 9 rfl rfl)
theorem dX0_writeTrader_12 : decode cX0_writeTrader 12 = .ok (.astore_n 3, 1) := dk_78 (dk_at dksX0_writeTrader_0 12 rfl rfl)
theorem dX0_writeTrader_13 : decode cX0_writeTrader 13 = .ok (.iconst 1, 1) := dk_4 (dk_at dksX0_writeTrader_0 13 rfl rfl)
theorem dX0_writeTrader_14 : decode cX0_writeTrader 14 = .ok (.ireturn, 1) := dk_172 (dk_at dksX0_writeTrader_0 14 rfl rfl)
theorem dX0_writeTrader_15 : decode cX0_writeTrader 15 = .ok (.iconst 0, 1) := dk_3 (dk_at dksX0_writeTrader_0 15 rfl rfl)
theorem dX0_writeTrader_16 : decode cX0_writeTrader 16 = .ok (.ireturn, 1) := dk_172 (dk_at dksX0_writeTrader_0 16 rfl rfl)
abbrev cX0_charAt : ByteArray := method_37_code
def yX0_charAt : MethodName := ⟨RX0, "charAt", "(LWindowExchange;I[J)I"⟩
def dkwX0_charAt_0 : List UInt8 := [44, 3, 42, 27, 182, 0, 132, 133, 80, 167, 0, 6, 78, 4, 172, 3, 172]
abbrev dktX0_charAt_0 : List UInt8 := dkwX0_charAt_0 ++ []
theorem dksX0_charAt_0 : cX0_charAt.data.toList.drop 0 = dktX0_charAt_0 := by decide +kernel
theorem dX0_charAt_0 : decode cX0_charAt 0 = .ok (.aload_n 2, 1) := dk_44 (dk_at dksX0_charAt_0 0 rfl rfl)
theorem dX0_charAt_1 : decode cX0_charAt 1 = .ok (.iconst 0, 1) := dk_3 (dk_at dksX0_charAt_0 1 rfl rfl)
theorem dX0_charAt_2 : decode cX0_charAt 2 = .ok (.aload_n 0, 1) := dk_42 (dk_at dksX0_charAt_0 2 rfl rfl)
theorem dX0_charAt_3 : decode cX0_charAt 3 = .ok (.iload_n 1, 1) := dk_27 (dk_at dksX0_charAt_0 3 rfl rfl)
theorem dX0_charAt_4 : decode cX0_charAt 4 = .ok (.invokevirtual 132, 3) := dk_182 0 132 (dk_at dksX0_charAt_0 4 rfl rfl)
theorem dX0_charAt_7 : decode cX0_charAt 7 = .ok (.i2l, 1) := dk_133 (dk_at dksX0_charAt_0 7 rfl rfl)
theorem dX0_charAt_8 : decode cX0_charAt 8 = .ok (.lastore, 1) := dk_80 (dk_at dksX0_charAt_0 8 rfl rfl)
theorem dX0_charAt_9 : decode cX0_charAt 9 = .ok (.goto 6, 3) := dk_167 0 6 (dk_at dksX0_charAt_0 9 rfl rfl)
theorem dX0_charAt_12 : decode cX0_charAt 12 = .ok (.astore_n 3, 1) := dk_78 (dk_at dksX0_charAt_0 12 rfl rfl)
theorem dX0_charAt_13 : decode cX0_charAt 13 = .ok (.iconst 1, 1) := dk_4 (dk_at dksX0_charAt_0 13 rfl rfl)
theorem dX0_charAt_14 : decode cX0_charAt 14 = .ok (.ireturn, 1) := dk_172 (dk_at dksX0_charAt_0 14 rfl rfl)
theorem dX0_charAt_15 : decode cX0_charAt 15 = .ok (.iconst 0, 1) := dk_3 (dk_at dksX0_charAt_0 15 rfl rfl)
theorem dX0_charAt_16 : decode cX0_charAt 16 = .ok (.ireturn, 1) := dk_172 (dk_at dksX0_charAt_0 16 rfl rfl)
abbrev cX0_type : ByteArray := method_38_code
def yX0_type : MethodName := ⟨RX0, "type", "(LWindowExchange;C[J)I"⟩
def dkwX0_type_0 : List UInt8 := [44, 3, 42, 27, 182, 0, 136, 133, 80, 167, 0, 6, 78, 4, 172, 3, 172]
abbrev dktX0_type_0 : List UInt8 := dkwX0_type_0 ++ []
theorem dksX0_type_0 : cX0_type.data.toList.drop 0 = dktX0_type_0 := by decide +kernel
theorem dX0_type_0 : decode cX0_type 0 = .ok (.aload_n 2, 1) := dk_44 (dk_at dksX0_type_0 0 rfl rfl)
theorem dX0_type_1 : decode cX0_type 1 = .ok (.iconst 0, 1) := dk_3 (dk_at dksX0_type_0 1 rfl rfl)
theorem dX0_type_2 : decode cX0_type 2 = .ok (.aload_n 0, 1) := dk_42 (dk_at dksX0_type_0 2 rfl rfl)
theorem dX0_type_3 : decode cX0_type 3 = .ok (.iload_n 1, 1) := dk_27 (dk_at dksX0_type_0 3 rfl rfl)
theorem dX0_type_4 : decode cX0_type 4 = .ok (.invokevirtual 136, 3) := dk_182 0 136 (dk_at dksX0_type_0 4 rfl rfl)
theorem dX0_type_7 : decode cX0_type 7 = .ok (.i2l, 1) := dk_133 (dk_at dksX0_type_0 7 rfl rfl)
theorem dX0_type_8 : decode cX0_type 8 = .ok (.lastore, 1) := dk_80 (dk_at dksX0_type_0 8 rfl rfl)
theorem dX0_type_9 : decode cX0_type 9 = .ok (.goto 6, 3) := dk_167 0 6 (dk_at dksX0_type_0 9 rfl rfl)
theorem dX0_type_12 : decode cX0_type 12 = .ok (.astore_n 3, 1) := dk_78 (dk_at dksX0_type_0 12 rfl rfl)
theorem dX0_type_13 : decode cX0_type 13 = .ok (.iconst 1, 1) := dk_4 (dk_at dksX0_type_0 13 rfl rfl)
theorem dX0_type_14 : decode cX0_type 14 = .ok (.ireturn, 1) := dk_172 (dk_at dksX0_type_0 14 rfl rfl)
theorem dX0_type_15 : decode cX0_type 15 = .ok (.iconst 0, 1) := dk_3 (dk_at dksX0_type_0 15 rfl rfl)
theorem dX0_type_16 : decode cX0_type 16 = .ok (.ireturn, 1) := dk_172 (dk_at dksX0_type_0 16 rfl rfl)
abbrev cX0_run : ByteArray := method_39_code
def yX0_run : MethodName := ⟨RX0, "run", "(LWindowExchange;[J)I"⟩
def dkwX0_run_0 : List UInt8 := [43, 3, 42, 182, 0, 140, 133, 80, 167, 0, 9, 77, 4, 172, 77, 5, 172, 3, 172]
abbrev dktX0_run_0 : List UInt8 := dkwX0_run_0 ++ []
theorem dksX0_run_0 : cX0_run.data.toList.drop 0 = dktX0_run_0 := by decide +kernel
theorem dX0_run_0 : decode cX0_run 0 = .ok (.aload_n 1, 1) := dk_43 (dk_at dksX0_run_0 0 rfl rfl)
theorem dX0_run_1 : decode cX0_run 1 = .ok (.iconst 0, 1) := dk_3 (dk_at dksX0_run_0 1 rfl rfl)
theorem dX0_run_2 : decode cX0_run 2 = .ok (.aload_n 0, 1) := dk_42 (dk_at dksX0_run_0 2 rfl rfl)
theorem dX0_run_3 : decode cX0_run 3 = .ok (.invokevirtual 140, 3) := dk_182 0 140 (dk_at dksX0_run_0 3 rfl rfl)
theorem dX0_run_6 : decode cX0_run 6 = .ok (.i2l, 1) := dk_133 (dk_at dksX0_run_0 6 rfl rfl)
theorem dX0_run_7 : decode cX0_run 7 = .ok (.lastore, 1) := dk_80 (dk_at dksX0_run_0 7 rfl rfl)
theorem dX0_run_8 : decode cX0_run 8 = .ok (.goto 9, 3) := dk_167 0 9 (dk_at dksX0_run_0 8 rfl rfl)
theorem dX0_run_11 : decode cX0_run 11 = .ok (.astore_n 2, 1) := dk_77 (dk_at dksX0_run_0 11 rfl rfl)
theorem dX0_run_12 : decode cX0_run 12 = .ok (.iconst 1, 1) := dk_4 (dk_at dksX0_run_0 12 rfl rfl)
theorem dX0_run_13 : decode cX0_run 13 = .ok (.ireturn, 1) := dk_172 (dk_at dksX0_run_0 13 rfl rfl)
theorem dX0_run_14 : decode cX0_run 14 = .ok (.astore_n 2, 1) := dk_77 (dk_at dksX0_run_0 14 rfl rfl)
theorem dX0_run_15 : decode cX0_run 15 = .ok (.iconst 2, 1) := dk_5 (dk_at dksX0_run_0 15 rfl rfl)
theorem dX0_run_16 : decode cX0_run 16 = .ok (.ireturn, 1) := dk_172 (dk_at dksX0_run_0 16 rfl rfl)
theorem dX0_run_17 : decode cX0_run 17 = .ok (.iconst 0, 1) := dk_3 (dk_at dksX0_run_0 17 rfl rfl)
theorem dX0_run_18 : decode cX0_run 18 = .ok (.ireturn, 1) := dk_172 (dk_at dksX0_run_0 18 rfl rfl)
abbrev cX0_errorPosition : ByteArray := method_40_code
def yX0_errorPosition : MethodName := ⟨RX0, "errorPosition", "(LWindowExchange;[J)I"⟩
def dkwX0_errorPosition_0 : List UInt8 := [43, 3, 42, 182, 0, 143, 133, 80, 167, 0, 6, 77, 4, 172, 3, 172]
abbrev dktX0_errorPosition_0 : List UInt8 := dkwX0_errorPosition_0 ++ []
theorem dksX0_errorPosition_0 : cX0_errorPosition.data.toList.drop 0 = dktX0_errorPosition_0 := by decide +kernel
theorem dX0_errorPosition_0 : decode cX0_errorPosition 0 = .ok (.aload_n 1, 1) := dk_43 (dk_at dksX0_errorPosition_0 0 rfl rfl)
theorem dX0_errorPosition_1 : decode cX0_errorPosition 1 = .ok (.iconst 0, 1) := dk_3 (dk_at dksX0_errorPosition_0 1 rfl rfl)
theorem dX0_errorPosition_2 : decode cX0_errorPosition 2 = .ok (.aload_n 0, 1) := dk_42 (dk_at dksX0_errorPosition_0 2 rfl rfl)
theorem dX0_errorPosition_3 : decode cX0_errorPosition 3 = .ok (.invokevirtual 143, 3) := dk_182 0 143 (dk_at dksX0_errorPosition_0 3 rfl rfl)
theorem dX0_errorPosition_6 : decode cX0_errorPosition 6 = .ok (.i2l, 1) := dk_133 (dk_at dksX0_errorPosition_0 6 rfl rfl)
theorem dX0_errorPosition_7 : decode cX0_errorPosition 7 = .ok (.lastore, 1) := dk_80 (dk_at dksX0_errorPosition_0 7 rfl rfl)
theorem dX0_errorPosition_8 : decode cX0_errorPosition 8 = .ok (.goto 6, 3) := dk_167 0 6 (dk_at dksX0_errorPosition_0 8 rfl rfl)
theorem dX0_errorPosition_11 : decode cX0_errorPosition 11 = .ok (.astore_n 2, 1) := dk_77 (dk_at dksX0_errorPosition_0 11 rfl rfl)
theorem dX0_errorPosition_12 : decode cX0_errorPosition 12 = .ok (.iconst 1, 1) := dk_4 (dk_at dksX0_errorPosition_0 12 rfl rfl)
theorem dX0_errorPosition_13 : decode cX0_errorPosition 13 = .ok (.ireturn, 1) := dk_172 (dk_at dksX0_errorPosition_0 13 rfl rfl)
theorem dX0_errorPosition_14 : decode cX0_errorPosition 14 = .ok (.iconst 0, 1) := dk_3 (dk_at dksX0_errorPosition_0 14 rfl rfl)
theorem dX0_errorPosition_15 : decode cX0_errorPosition 15 = .ok (.ireturn, 1) := dk_172 (dk_at dksX0_errorPosition_0 15 rfl rfl)
abbrev cX0_failedCommand : ByteArray := method_41_code
def yX0_failedCommand : MethodName := ⟨RX0, "failedCommand", "(LWindowExchange;[J)I"⟩
def dkwX0_failedCommand_0 : List UInt8 := [43, 3, 42, 182, 0, 146, 133, 80, 167, 0, 6, 77, 4, 172, 3, 172]
abbrev dktX0_failedCommand_0 : List UInt8 := dkwX0_failedCommand_0 ++ []
theorem dksX0_failedCommand_0 : cX0_failedCommand.data.toList.drop 0 = dktX0_failedCommand_0 := by decide +kernel
theorem dX0_failedCommand_0 : decode cX0_failedCommand 0 = .ok (.aload_n 1, 1) := dk_43 (dk_at dksX0_failedCommand_0 0 rfl rfl)
theorem dX0_failedCommand_1 : decode cX0_failedCommand 1 = .ok (.iconst 0, 1) := dk_3 (dk_at dksX0_failedCommand_0 1 rfl rfl)
theorem dX0_failedCommand_2 : decode cX0_failedCommand 2 = .ok (.aload_n 0, 1) := dk_42 (dk_at dksX0_failedCommand_0 2 rfl rfl)
theorem dX0_failedCommand_3 : decode cX0_failedCommand 3 = .ok (.invokevirtual 146, 3) := dk_182 0 146 (dk_at dksX0_failedCommand_0 3 rfl rfl)
theorem dX0_failedCommand_6 : decode cX0_failedCommand 6 = .ok (.i2l, 1) := dk_133 (dk_at dksX0_failedCommand_0 6 rfl rfl)
theorem dX0_failedCommand_7 : decode cX0_failedCommand 7 = .ok (.lastore, 1) := dk_80 (dk_at dksX0_failedCommand_0 7 rfl rfl)
theorem dX0_failedCommand_8 : decode cX0_failedCommand 8 = .ok (.goto 6, 3) := dk_167 0 6 (dk_at dksX0_failedCommand_0 8 rfl rfl)
theorem dX0_failedCommand_11 : decode cX0_failedCommand 11 = .ok (.astore_n 2, 1) := dk_77 (dk_at dksX0_failedCommand_0 11 rfl rfl)
theorem dX0_failedCommand_12 : decode cX0_failedCommand 12 = .ok (.iconst 1, 1) := dk_4 (dk_at dksX0_failedCommand_0 12 rfl rfl)
theorem dX0_failedCommand_13 : decode cX0_failedCommand 13 = .ok (.ireturn, 1) := dk_172 (dk_at dksX0_failedCommand_0 13 rfl rfl)
theorem dX0_failedCommand_14 : decode cX0_failedCommand 14 = .ok (.iconst 0, 1) := dk_3 (dk_at dksX0_failedCommand_0 14 rfl rfl)
theorem dX0_failedCommand_15 : decode cX0_failedCommand 15 = .ok (.ireturn, 1) := dk_172 (dk_at dksX0_failedCommand_0 15 rfl rfl)
abbrev cX0_undo : ByteArray := method_42_code
def yX0_undo : MethodName := ⟨RX0, "undo", "(LWindowExchange;[J)I"⟩
def dkwX0_undo_0 : List UInt8 := [43, 3, 42, 182, 0, 149, 133, 80, 167, 0, 6, 77, 4, 172, 3, 172]
abbrev dktX0_undo_0 : List UInt8 := dkwX0_undo_0 ++ []
theorem dksX0_undo_0 : cX0_undo.data.toList.drop 0 = dktX0_undo_0 := by decide +kernel
theorem dX0_undo_0 : decode cX0_undo 0 = .ok (.aload_n 1, 1) := dk_43 (dk_at dksX0_undo_0 0 rfl rfl)
theorem dX0_undo_1 : decode cX0_undo 1 = .ok (.iconst 0, 1) := dk_3 (dk_at dksX0_undo_0 1 rfl rfl)
theorem dX0_undo_2 : decode cX0_undo 2 = .ok (.aload_n 0, 1) := dk_42 (dk_at dksX0_undo_0 2 rfl rfl)
theorem dX0_undo_3 : decode cX0_undo 3 = .ok (.invokevirtual 149, 3) := dk_182 0 149 (dk_at dksX0_undo_0 3 rfl rfl)
theorem dX0_undo_6 : decode cX0_undo 6 = .ok (.i2l, 1) := dk_133 (dk_at dksX0_undo_0 6 rfl rfl)
theorem dX0_undo_7 : decode cX0_undo 7 = .ok (.lastore, 1) := dk_80 (dk_at dksX0_undo_0 7 rfl rfl)
theorem dX0_undo_8 : decode cX0_undo 8 = .ok (.goto 6, 3) := dk_167 0 6 (dk_at dksX0_undo_0 8 rfl rfl)
theorem dX0_undo_11 : decode cX0_undo 11 = .ok (.astore_n 2, 1) := dk_77 (dk_at dksX0_undo_0 11 rfl rfl)
theorem dX0_undo_12 : decode cX0_undo 12 = .ok (.iconst 1, 1) := dk_4 (dk_at dksX0_undo_0 12 rfl rfl)
theorem dX0_undo_13 : decode cX0_undo 13 = .ok (.ireturn, 1) := dk_172 (dk_at dksX0_undo_0 13 rfl rfl)
theorem dX0_undo_14 : decode cX0_undo 14 = .ok (.iconst 0, 1) := dk_3 (dk_at dksX0_undo_0 14 rfl rfl)
theorem dX0_undo_15 : decode cX0_undo 15 = .ok (.ireturn, 1) := dk_172 (dk_at dksX0_undo_0 15 rfl rfl)
abbrev cX0_restore : ByteArray := method_43_code
def yX0_restore : MethodName := ⟨RX0, "restore", "(LWindowExchange;[J)I"⟩
def dkwX0_restore_0 : List UInt8 := [43, 3, 42, 182, 0, 152, 133, 80, 167, 0, 6, 77, 4, 172, 3, 172]
abbrev dktX0_restore_0 : List UInt8 := dkwX0_restore_0 ++ []
theorem dksX0_restore_0 : cX0_restore.data.toList.drop 0 = dktX0_restore_0 := by decide +kernel
theorem dX0_restore_0 : decode cX0_restore 0 = .ok (.aload_n 1, 1) := dk_43 (dk_at dksX0_restore_0 0 rfl rfl)
theorem dX0_restore_1 : decode cX0_restore 1 = .ok (.iconst 0, 1) := dk_3 (dk_at dksX0_restore_0 1 rfl rfl)
theorem dX0_restore_2 : decode cX0_restore 2 = .ok (.aload_n 0, 1) := dk_42 (dk_at dksX0_restore_0 2 rfl rfl)
theorem dX0_restore_3 : decode cX0_restore 3 = .ok (.invokevirtual 152, 3) := dk_182 0 152 (dk_at dksX0_restore_0 3 rfl rfl)
theorem dX0_restore_6 : decode cX0_restore 6 = .ok (.i2l, 1) := dk_133 (dk_at dksX0_restore_0 6 rfl rfl)
theorem dX0_restore_7 : decode cX0_restore 7 = .ok (.lastore, 1) := dk_80 (dk_at dksX0_restore_0 7 rfl rfl)
theorem dX0_restore_8 : decode cX0_restore 8 = .ok (.goto 6, 3) := dk_167 0 6 (dk_at dksX0_restore_0 8 rfl rfl)
theorem dX0_restore_11 : decode cX0_restore 11 = .ok (.astore_n 2, 1) := dk_77 (dk_at dksX0_restore_0 11 rfl rfl)
theorem dX0_restore_12 : decode cX0_restore 12 = .ok (.iconst 1, 1) := dk_4 (dk_at dksX0_restore_0 12 rfl rfl)
theorem dX0_restore_13 : decode cX0_restore 13 = .ok (.ireturn, 1) := dk_172 (dk_at dksX0_restore_0 13 rfl rfl)
theorem dX0_restore_14 : decode cX0_restore 14 = .ok (.iconst 0, 1) := dk_3 (dk_at dksX0_restore_0 14 rfl rfl)
theorem dX0_restore_15 : decode cX0_restore 15 = .ok (.ireturn, 1) := dk_172 (dk_at dksX0_restore_0 15 rfl rfl)
theorem q93 : (Jvm.Cond.initialized "WindowExchangeLaw") ∈ lw_all := lw_g (lw_at lw_m1 0 rfl) rfl
theorem q151 : (Jvm.Cond.classLink "WindowExchangeLaw" (8 : Nat) "WindowExchange") ∈ lw_all := lw_g (lw_at lw_m1 58 rfl) rfl
theorem q153 : (Jvm.Cond.methodLink "WindowExchangeLaw" (155 : Nat) ({ cls := "WindowExchange", name := "<init>", desc := "()V" } : Jvm.MethodName)) ∈ lw_all := lw_g (lw_at lw_m1 60 rfl) rfl
theorem q339 : (Jvm.Cond.methodLink "WindowExchangeLaw" (196 : Nat) ({ cls := "WindowExchange", name := "traders", desc := "()I" } : Jvm.MethodName)) ∈ lw_all := lw_g (lw_at lw_m2 6 rfl) rfl
theorem q347 : (Jvm.Cond.methodLink "WindowExchangeLaw" (212 : Nat) ({ cls := "WindowExchange", name := "openOrders", desc := "()I" } : Jvm.MethodName)) ∈ lw_all := lw_g (lw_at lw_m2 14 rfl) rfl
theorem q351 : (Jvm.Cond.methodLink "WindowExchangeLaw" (238 : Nat) ({ cls := "WindowExchange", name := "depth", desc := "(ZI)I" } : Jvm.MethodName)) ∈ lw_all := lw_g (lw_at lw_m2 18 rfl) rfl
theorem q560 : (Jvm.Cond.methodLink "WindowExchangeLaw" (251 : Nat) ({ cls := "WindowExchange", name := "tradedUnits", desc := "()I" } : Jvm.MethodName)) ∈ lw_all := lw_g (lw_at lw_m2 227 rfl) rfl
theorem q564 : (Jvm.Cond.methodLink "WindowExchangeLaw" (259 : Nat) ({ cls := "WindowExchange", name := "day", desc := "()I" } : Jvm.MethodName)) ∈ lw_all := lw_g (lw_at lw_m2 231 rfl) rfl
theorem q568 : (Jvm.Cond.methodLink "WindowExchangeLaw" (263 : Nat) ({ cls := "WindowExchange", name := "contracts", desc := "()I" } : Jvm.MethodName)) ∈ lw_all := lw_g (lw_at lw_m2 235 rfl) rfl
theorem q572 : (Jvm.Cond.methodLink "WindowExchangeLaw" (282 : Nat) ({ cls := "WindowExchange", name := "defaults", desc := "()I" } : Jvm.MethodName)) ∈ lw_all := lw_g (lw_at lw_m2 239 rfl) rfl
theorem q576 : (Jvm.Cond.methodLink "WindowExchangeLaw" (289 : Nat) ({ cls := "WindowExchange", name := "isAuctionOpen", desc := "()Z" } : Jvm.MethodName)) ∈ lw_all := lw_g (lw_at lw_m3 3 rfl) rfl
theorem q580 : (Jvm.Cond.methodLink "WindowExchangeLaw" (303 : Nat) ({ cls := "WindowExchange", name := "till", desc := "()I" } : Jvm.MethodName)) ∈ lw_all := lw_g (lw_at lw_m3 7 rfl) rfl
theorem q584 : (Jvm.Cond.methodLink "WindowExchangeLaw" (307 : Nat) ({ cls := "WindowExchange", name := "isConsistent", desc := "()Z" } : Jvm.MethodName)) ∈ lw_all := lw_g (lw_at lw_m3 11 rfl) rfl
theorem q1334 : (Jvm.Cond.methodLink "WindowExchangeLaw" (311 : Nat) ({ cls := "WindowExchange", name := "writeBook", desc := "()I" } : Jvm.MethodName)) ∈ lw_all := lw_g (lw_at lw_m6 41 rfl) rfl
theorem q1643 : (Jvm.Cond.methodLink "WindowExchangeLaw" (337 : Nat) ({ cls := "WindowExchange", name := "save", desc := "()I" } : Jvm.MethodName)) ∈ lw_all := lw_g (lw_at lw_m7 110 rfl) rfl
theorem q1837 : (Jvm.Cond.methodLink "WindowExchangeLaw" (159 : Nat) ({ cls := "WindowExchangeLaw", name := "addTrader", desc := "(LWindowExchange;II[J)I" } : Jvm.MethodName)) ∈ lw_all := lw_g (lw_at lw_m8 64 rfl) rfl
theorem q1838 : (Jvm.Cond.static ({ cls := "WindowExchangeLaw", name := "addTrader", desc := "(LWindowExchange;II[J)I" } : Jvm.MethodName)) ∈ lw_all := lw_g (lw_at lw_m8 65 rfl) rfl
theorem q1839 : (Jvm.Cond.codeWith ({ cls := "WindowExchangeLaw", name := "addTrader", desc := "(LWindowExchange;II[J)I" } : Jvm.MethodName) method_3_code (5 : Nat) (Option.some Jvm.ClassFile.FieldType.int) [((0 : Nat), (10 : Nat), (13 : Nat), (13 : Nat)), ((0 : Nat), (10 : Nat), (17 : Nat), (15 : Nat))]) ∈ lw_all := lw_g (lw_at lw_m8 66 rfl) rfl
theorem q1840 : (Jvm.Cond.classLink "WindowExchangeLaw" (13 : Nat) "java/lang/IllegalArgumentException") ∈ lw_all := lw_g (lw_at lw_m8 67 rfl) rfl
theorem q1841 : (Jvm.Cond.classLink "WindowExchangeLaw" (15 : Nat) "java/lang/IllegalStateException") ∈ lw_all := lw_g (lw_at lw_m8 68 rfl) rfl
theorem q1842 : (Jvm.Cond.methodLink "WindowExchangeLaw" (7 : Nat) ({ cls := "WindowExchange", name := "addTrader", desc := "(II)I" } : Jvm.MethodName)) ∈ lw_all := lw_g (lw_at lw_m8 69 rfl) rfl
theorem q1920 : (Jvm.Cond.methodLink "WindowExchangeLaw" (168 : Nat) ({ cls := "WindowExchangeLaw", name := "placeBid", desc := "(LWindowExchange;III[J)I" } : Jvm.MethodName)) ∈ lw_all := lw_g (lw_at lw_m8 147 rfl) rfl
theorem q1921 : (Jvm.Cond.static ({ cls := "WindowExchangeLaw", name := "placeBid", desc := "(LWindowExchange;III[J)I" } : Jvm.MethodName)) ∈ lw_all := lw_g (lw_at lw_m8 148 rfl) rfl
theorem q1922 : (Jvm.Cond.codeWith ({ cls := "WindowExchangeLaw", name := "placeBid", desc := "(LWindowExchange;III[J)I" } : Jvm.MethodName) method_4_code (6 : Nat) (Option.some Jvm.ClassFile.FieldType.int) [((0 : Nat), (12 : Nat), (15 : Nat), (21 : Nat)), ((0 : Nat), (12 : Nat), (19 : Nat), (13 : Nat)), ((0 : Nat), (12 : Nat), (23 : Nat), (23 : Nat)), ((0 : Nat), (12 : Nat), (27 : Nat), (15 : Nat))]) ∈ lw_all := lw_g (lw_at lw_m8 149 rfl) rfl
theorem q1923 : (Jvm.Cond.classLink "WindowExchangeLaw" (21 : Nat) "java/lang/IndexOutOfBoundsException") ∈ lw_all := lw_g (lw_at lw_m8 150 rfl) rfl
theorem q1926 : (Jvm.Cond.classLink "WindowExchangeLaw" (23 : Nat) "java/lang/UnsupportedOperationException") ∈ lw_all := lw_g (lw_at lw_m8 153 rfl) rfl
theorem q1927 : (Jvm.Cond.methodLink "WindowExchangeLaw" (17 : Nat) ({ cls := "WindowExchange", name := "placeBid", desc := "(III)I" } : Jvm.MethodName)) ∈ lw_all := lw_g (lw_at lw_m8 154 rfl) rfl
theorem q2007 : (Jvm.Cond.methodLink "WindowExchangeLaw" (172 : Nat) ({ cls := "WindowExchangeLaw", name := "placeAsk", desc := "(LWindowExchange;III[J)I" } : Jvm.MethodName)) ∈ lw_all := lw_g (lw_at lw_m8 234 rfl) rfl
theorem q2008 : (Jvm.Cond.static ({ cls := "WindowExchangeLaw", name := "placeAsk", desc := "(LWindowExchange;III[J)I" } : Jvm.MethodName)) ∈ lw_all := lw_g (lw_at lw_m8 235 rfl) rfl
theorem q2009 : (Jvm.Cond.codeWith ({ cls := "WindowExchangeLaw", name := "placeAsk", desc := "(LWindowExchange;III[J)I" } : Jvm.MethodName) method_5_code (6 : Nat) (Option.some Jvm.ClassFile.FieldType.int) [((0 : Nat), (12 : Nat), (15 : Nat), (21 : Nat)), ((0 : Nat), (12 : Nat), (19 : Nat), (13 : Nat)), ((0 : Nat), (12 : Nat), (23 : Nat), (23 : Nat)), ((0 : Nat), (12 : Nat), (27 : Nat), (15 : Nat))]) ∈ lw_all := lw_g (lw_at lw_m8 236 rfl) rfl
theorem q2010 : (Jvm.Cond.methodLink "WindowExchangeLaw" (25 : Nat) ({ cls := "WindowExchange", name := "placeAsk", desc := "(III)I" } : Jvm.MethodName)) ∈ lw_all := lw_g (lw_at lw_m8 237 rfl) rfl
theorem q2016 : (Jvm.Cond.methodLink "WindowExchangeLaw" (175 : Nat) ({ cls := "WindowExchangeLaw", name := "cancelOrder", desc := "(LWindowExchange;I[J)I" } : Jvm.MethodName)) ∈ lw_all := lw_g (lw_at lw_m9 3 rfl) rfl
theorem q2017 : (Jvm.Cond.static ({ cls := "WindowExchangeLaw", name := "cancelOrder", desc := "(LWindowExchange;I[J)I" } : Jvm.MethodName)) ∈ lw_all := lw_g (lw_at lw_m9 4 rfl) rfl
theorem q2018 : (Jvm.Cond.codeWith ({ cls := "WindowExchangeLaw", name := "cancelOrder", desc := "(LWindowExchange;I[J)I" } : Jvm.MethodName) method_6_code (4 : Nat) (Option.some Jvm.ClassFile.FieldType.int) [((0 : Nat), (9 : Nat), (12 : Nat), (32 : Nat))]) ∈ lw_all := lw_g (lw_at lw_m9 5 rfl) rfl
theorem q2019 : (Jvm.Cond.classLink "WindowExchangeLaw" (32 : Nat) "java/util/NoSuchElementException") ∈ lw_all := lw_g (lw_at lw_m9 6 rfl) rfl
theorem q2020 : (Jvm.Cond.methodLink "WindowExchangeLaw" (28 : Nat) ({ cls := "WindowExchange", name := "cancelOrder", desc := "(I)I" } : Jvm.MethodName)) ∈ lw_all := lw_g (lw_at lw_m9 7 rfl) rfl
theorem q2039 : (Jvm.Cond.methodLink "WindowExchangeLaw" (179 : Nat) ({ cls := "WindowExchangeLaw", name := "agree", desc := "(LWindowExchange;IIIII[J)I" } : Jvm.MethodName)) ∈ lw_all := lw_g (lw_at lw_m9 26 rfl) rfl
theorem q2040 : (Jvm.Cond.static ({ cls := "WindowExchangeLaw", name := "agree", desc := "(LWindowExchange;IIIII[J)I" } : Jvm.MethodName)) ∈ lw_all := lw_g (lw_at lw_m9 27 rfl) rfl
theorem q2041 : (Jvm.Cond.codeWith ({ cls := "WindowExchangeLaw", name := "agree", desc := "(LWindowExchange;IIIII[J)I" } : Jvm.MethodName) method_7_code (8 : Nat) (Option.some Jvm.ClassFile.FieldType.int) [((0 : Nat), (16 : Nat), (19 : Nat), (21 : Nat)), ((0 : Nat), (16 : Nat), (23 : Nat), (13 : Nat)), ((0 : Nat), (16 : Nat), (27 : Nat), (15 : Nat))]) ∈ lw_all := lw_g (lw_at lw_m9 28 rfl) rfl
theorem q2042 : (Jvm.Cond.methodLink "WindowExchangeLaw" (34 : Nat) ({ cls := "WindowExchange", name := "agree", desc := "(IIIII)I" } : Jvm.MethodName)) ∈ lw_all := lw_g (lw_at lw_m9 29 rfl) rfl
theorem q2076 : (Jvm.Cond.methodLink "WindowExchangeLaw" (183 : Nat) ({ cls := "WindowExchangeLaw", name := "advance", desc := "(LWindowExchange;I[J)I" } : Jvm.MethodName)) ∈ lw_all := lw_g (lw_at lw_m9 63 rfl) rfl
theorem q2077 : (Jvm.Cond.static ({ cls := "WindowExchangeLaw", name := "advance", desc := "(LWindowExchange;I[J)I" } : Jvm.MethodName)) ∈ lw_all := lw_g (lw_at lw_m9 64 rfl) rfl
theorem q2078 : (Jvm.Cond.codeWith ({ cls := "WindowExchangeLaw", name := "advance", desc := "(LWindowExchange;I[J)I" } : Jvm.MethodName) method_8_code (4 : Nat) (Option.some Jvm.ClassFile.FieldType.int) [((0 : Nat), (9 : Nat), (12 : Nat), (13 : Nat))]) ∈ lw_all := lw_g (lw_at lw_m9 65 rfl) rfl
theorem q2079 : (Jvm.Cond.methodLink "WindowExchangeLaw" (38 : Nat) ({ cls := "WindowExchange", name := "advance", desc := "(I)I" } : Jvm.MethodName)) ∈ lw_all := lw_g (lw_at lw_m9 66 rfl) rfl
theorem q2112 : (Jvm.Cond.methodLink "WindowExchangeLaw" (186 : Nat) ({ cls := "WindowExchangeLaw", name := "openAuction", desc := "(LWindowExchange;II[J)I" } : Jvm.MethodName)) ∈ lw_all := lw_g (lw_at lw_m9 99 rfl) rfl
theorem q2113 : (Jvm.Cond.static ({ cls := "WindowExchangeLaw", name := "openAuction", desc := "(LWindowExchange;II[J)I" } : Jvm.MethodName)) ∈ lw_all := lw_g (lw_at lw_m9 100 rfl) rfl
theorem q2114 : (Jvm.Cond.codeWith ({ cls := "WindowExchangeLaw", name := "openAuction", desc := "(LWindowExchange;II[J)I" } : Jvm.MethodName) method_9_code (5 : Nat) (Option.some Jvm.ClassFile.FieldType.int) [((0 : Nat), (10 : Nat), (13 : Nat), (21 : Nat)), ((0 : Nat), (10 : Nat), (17 : Nat), (13 : Nat)), ((0 : Nat), (10 : Nat), (21 : Nat), (15 : Nat))]) ∈ lw_all := lw_g (lw_at lw_m9 101 rfl) rfl
theorem q2115 : (Jvm.Cond.methodLink "WindowExchangeLaw" (41 : Nat) ({ cls := "WindowExchange", name := "openAuction", desc := "(II)I" } : Jvm.MethodName)) ∈ lw_all := lw_g (lw_at lw_m9 102 rfl) rfl
theorem q2130 : (Jvm.Cond.methodLink "WindowExchangeLaw" (189 : Nat) ({ cls := "WindowExchangeLaw", name := "sealBid", desc := "(LWindowExchange;II[J)I" } : Jvm.MethodName)) ∈ lw_all := lw_g (lw_at lw_m9 117 rfl) rfl
theorem q2131 : (Jvm.Cond.static ({ cls := "WindowExchangeLaw", name := "sealBid", desc := "(LWindowExchange;II[J)I" } : Jvm.MethodName)) ∈ lw_all := lw_g (lw_at lw_m9 118 rfl) rfl
theorem q2132 : (Jvm.Cond.codeWith ({ cls := "WindowExchangeLaw", name := "sealBid", desc := "(LWindowExchange;II[J)I" } : Jvm.MethodName) method_10_code (5 : Nat) (Option.some Jvm.ClassFile.FieldType.int) [((0 : Nat), (10 : Nat), (13 : Nat), (21 : Nat)), ((0 : Nat), (10 : Nat), (17 : Nat), (13 : Nat)), ((0 : Nat), (10 : Nat), (21 : Nat), (15 : Nat))]) ∈ lw_all := lw_g (lw_at lw_m9 119 rfl) rfl
theorem q2133 : (Jvm.Cond.methodLink "WindowExchangeLaw" (44 : Nat) ({ cls := "WindowExchange", name := "sealBid", desc := "(II)I" } : Jvm.MethodName)) ∈ lw_all := lw_g (lw_at lw_m9 120 rfl) rfl
theorem q2147 : (Jvm.Cond.methodLink "WindowExchangeLaw" (192 : Nat) ({ cls := "WindowExchangeLaw", name := "closeAuction", desc := "(LWindowExchange;[J)I" } : Jvm.MethodName)) ∈ lw_all := lw_g (lw_at lw_m9 134 rfl) rfl
theorem q2148 : (Jvm.Cond.static ({ cls := "WindowExchangeLaw", name := "closeAuction", desc := "(LWindowExchange;[J)I" } : Jvm.MethodName)) ∈ lw_all := lw_g (lw_at lw_m9 135 rfl) rfl
theorem q2149 : (Jvm.Cond.codeWith ({ cls := "WindowExchangeLaw", name := "closeAuction", desc := "(LWindowExchange;[J)I" } : Jvm.MethodName) method_11_code (3 : Nat) (Option.some Jvm.ClassFile.FieldType.int) [((0 : Nat), (8 : Nat), (11 : Nat), (15 : Nat))]) ∈ lw_all := lw_g (lw_at lw_m9 136 rfl) rfl
theorem q2150 : (Jvm.Cond.methodLink "WindowExchangeLaw" (47 : Nat) ({ cls := "WindowExchange", name := "closeAuction", desc := "()I" } : Jvm.MethodName)) ∈ lw_all := lw_g (lw_at lw_m9 137 rfl) rfl
theorem q2173 : (Jvm.Cond.methodLink "WindowExchangeLaw" (200 : Nat) ({ cls := "WindowExchangeLaw", name := "cash", desc := "(LWindowExchange;I[J)I" } : Jvm.MethodName)) ∈ lw_all := lw_g (lw_at lw_m9 160 rfl) rfl
theorem q2174 : (Jvm.Cond.static ({ cls := "WindowExchangeLaw", name := "cash", desc := "(LWindowExchange;I[J)I" } : Jvm.MethodName)) ∈ lw_all := lw_g (lw_at lw_m9 161 rfl) rfl
theorem q2175 : (Jvm.Cond.codeWith ({ cls := "WindowExchangeLaw", name := "cash", desc := "(LWindowExchange;I[J)I" } : Jvm.MethodName) method_12_code (4 : Nat) (Option.some Jvm.ClassFile.FieldType.int) [((0 : Nat), (9 : Nat), (12 : Nat), (21 : Nat))]) ∈ lw_all := lw_g (lw_at lw_m9 162 rfl) rfl
theorem q2176 : (Jvm.Cond.methodLink "WindowExchangeLaw" (51 : Nat) ({ cls := "WindowExchange", name := "cash", desc := "(I)I" } : Jvm.MethodName)) ∈ lw_all := lw_g (lw_at lw_m9 163 rfl) rfl
theorem q2181 : (Jvm.Cond.methodLink "WindowExchangeLaw" (203 : Nat) ({ cls := "WindowExchangeLaw", name := "reservedCash", desc := "(LWindowExchange;I[J)I" } : Jvm.MethodName)) ∈ lw_all := lw_g (lw_at lw_m9 168 rfl) rfl
theorem q2182 : (Jvm.Cond.static ({ cls := "WindowExchangeLaw", name := "reservedCash", desc := "(LWindowExchange;I[J)I" } : Jvm.MethodName)) ∈ lw_all := lw_g (lw_at lw_m9 169 rfl) rfl
theorem q2183 : (Jvm.Cond.codeWith ({ cls := "WindowExchangeLaw", name := "reservedCash", desc := "(LWindowExchange;I[J)I" } : Jvm.MethodName) method_13_code (4 : Nat) (Option.some Jvm.ClassFile.FieldType.int) [((0 : Nat), (9 : Nat), (12 : Nat), (21 : Nat))]) ∈ lw_all := lw_g (lw_at lw_m9 170 rfl) rfl
theorem q2184 : (Jvm.Cond.methodLink "WindowExchangeLaw" (54 : Nat) ({ cls := "WindowExchange", name := "reservedCash", desc := "(I)I" } : Jvm.MethodName)) ∈ lw_all := lw_g (lw_at lw_m9 171 rfl) rfl
theorem q2193 : (Jvm.Cond.methodLink "WindowExchangeLaw" (206 : Nat) ({ cls := "WindowExchangeLaw", name := "windows", desc := "(LWindowExchange;I[J)I" } : Jvm.MethodName)) ∈ lw_all := lw_g (lw_at lw_m9 180 rfl) rfl
theorem q2194 : (Jvm.Cond.static ({ cls := "WindowExchangeLaw", name := "windows", desc := "(LWindowExchange;I[J)I" } : Jvm.MethodName)) ∈ lw_all := lw_g (lw_at lw_m9 181 rfl) rfl
theorem q2195 : (Jvm.Cond.codeWith ({ cls := "WindowExchangeLaw", name := "windows", desc := "(LWindowExchange;I[J)I" } : Jvm.MethodName) method_14_code (4 : Nat) (Option.some Jvm.ClassFile.FieldType.int) [((0 : Nat), (9 : Nat), (12 : Nat), (21 : Nat))]) ∈ lw_all := lw_g (lw_at lw_m9 182 rfl) rfl
theorem q2196 : (Jvm.Cond.methodLink "WindowExchangeLaw" (57 : Nat) ({ cls := "WindowExchange", name := "windows", desc := "(I)I" } : Jvm.MethodName)) ∈ lw_all := lw_g (lw_at lw_m9 183 rfl) rfl
theorem q2200 : (Jvm.Cond.methodLink "WindowExchangeLaw" (209 : Nat) ({ cls := "WindowExchangeLaw", name := "reservedWindows", desc := "(LWindowExchange;I[J)I" } : Jvm.MethodName)) ∈ lw_all := lw_g (lw_at lw_m9 187 rfl) rfl
theorem q2201 : (Jvm.Cond.static ({ cls := "WindowExchangeLaw", name := "reservedWindows", desc := "(LWindowExchange;I[J)I" } : Jvm.MethodName)) ∈ lw_all := lw_g (lw_at lw_m9 188 rfl) rfl
theorem q2202 : (Jvm.Cond.codeWith ({ cls := "WindowExchangeLaw", name := "reservedWindows", desc := "(LWindowExchange;I[J)I" } : Jvm.MethodName) method_15_code (4 : Nat) (Option.some Jvm.ClassFile.FieldType.int) [((0 : Nat), (9 : Nat), (12 : Nat), (21 : Nat))]) ∈ lw_all := lw_g (lw_at lw_m9 189 rfl) rfl
theorem q2203 : (Jvm.Cond.methodLink "WindowExchangeLaw" (60 : Nat) ({ cls := "WindowExchange", name := "reservedWindows", desc := "(I)I" } : Jvm.MethodName)) ∈ lw_all := lw_g (lw_at lw_m9 190 rfl) rfl
theorem q2207 : (Jvm.Cond.methodLink "WindowExchangeLaw" (216 : Nat) ({ cls := "WindowExchangeLaw", name := "traderOf", desc := "(LWindowExchange;I[J)I" } : Jvm.MethodName)) ∈ lw_all := lw_g (lw_at lw_m9 194 rfl) rfl
theorem q2208 : (Jvm.Cond.static ({ cls := "WindowExchangeLaw", name := "traderOf", desc := "(LWindowExchange;I[J)I" } : Jvm.MethodName)) ∈ lw_all := lw_g (lw_at lw_m9 195 rfl) rfl
theorem q2209 : (Jvm.Cond.codeWith ({ cls := "WindowExchangeLaw", name := "traderOf", desc := "(LWindowExchange;I[J)I" } : Jvm.MethodName) method_16_code (4 : Nat) (Option.some Jvm.ClassFile.FieldType.int) [((0 : Nat), (9 : Nat), (12 : Nat), (32 : Nat))]) ∈ lw_all := lw_g (lw_at lw_m9 196 rfl) rfl
theorem q2210 : (Jvm.Cond.methodLink "WindowExchangeLaw" (63 : Nat) ({ cls := "WindowExchange", name := "traderOf", desc := "(I)I" } : Jvm.MethodName)) ∈ lw_all := lw_g (lw_at lw_m9 197 rfl) rfl
theorem q2215 : (Jvm.Cond.methodLink "WindowExchangeLaw" (219 : Nat) ({ cls := "WindowExchangeLaw", name := "isBid", desc := "(LWindowExchange;I[J)I" } : Jvm.MethodName)) ∈ lw_all := lw_g (lw_at lw_m9 202 rfl) rfl
theorem q2216 : (Jvm.Cond.static ({ cls := "WindowExchangeLaw", name := "isBid", desc := "(LWindowExchange;I[J)I" } : Jvm.MethodName)) ∈ lw_all := lw_g (lw_at lw_m9 203 rfl) rfl
theorem q2217 : (Jvm.Cond.codeWith ({ cls := "WindowExchangeLaw", name := "isBid", desc := "(LWindowExchange;I[J)I" } : Jvm.MethodName) method_17_code (4 : Nat) (Option.some Jvm.ClassFile.FieldType.int) [((0 : Nat), (16 : Nat), (19 : Nat), (32 : Nat))]) ∈ lw_all := lw_g (lw_at lw_m9 204 rfl) rfl
theorem q2218 : (Jvm.Cond.methodLink "WindowExchangeLaw" (66 : Nat) ({ cls := "WindowExchange", name := "isBid", desc := "(I)Z" } : Jvm.MethodName)) ∈ lw_all := lw_g (lw_at lw_m9 205 rfl) rfl
theorem q2222 : (Jvm.Cond.methodLink "WindowExchangeLaw" (222 : Nat) ({ cls := "WindowExchangeLaw", name := "priceOf", desc := "(LWindowExchange;I[J)I" } : Jvm.MethodName)) ∈ lw_all := lw_g (lw_at lw_m9 209 rfl) rfl
theorem q2223 : (Jvm.Cond.static ({ cls := "WindowExchangeLaw", name := "priceOf", desc := "(LWindowExchange;I[J)I" } : Jvm.MethodName)) ∈ lw_all := lw_g (lw_at lw_m9 210 rfl) rfl
theorem q2224 : (Jvm.Cond.codeWith ({ cls := "WindowExchangeLaw", name := "priceOf", desc := "(LWindowExchange;I[J)I" } : Jvm.MethodName) method_18_code (4 : Nat) (Option.some Jvm.ClassFile.FieldType.int) [((0 : Nat), (9 : Nat), (12 : Nat), (32 : Nat))]) ∈ lw_all := lw_g (lw_at lw_m9 211 rfl) rfl
theorem q2225 : (Jvm.Cond.methodLink "WindowExchangeLaw" (70 : Nat) ({ cls := "WindowExchange", name := "priceOf", desc := "(I)I" } : Jvm.MethodName)) ∈ lw_all := lw_g (lw_at lw_m9 212 rfl) rfl
theorem q2229 : (Jvm.Cond.methodLink "WindowExchangeLaw" (225 : Nat) ({ cls := "WindowExchangeLaw", name := "unitsOf", desc := "(LWindowExchange;I[J)I" } : Jvm.MethodName)) ∈ lw_all := lw_g (lw_at lw_m9 216 rfl) rfl
theorem q2230 : (Jvm.Cond.static ({ cls := "WindowExchangeLaw", name := "unitsOf", desc := "(LWindowExchange;I[J)I" } : Jvm.MethodName)) ∈ lw_all := lw_g (lw_at lw_m9 217 rfl) rfl
theorem q2231 : (Jvm.Cond.codeWith ({ cls := "WindowExchangeLaw", name := "unitsOf", desc := "(LWindowExchange;I[J)I" } : Jvm.MethodName) method_19_code (4 : Nat) (Option.some Jvm.ClassFile.FieldType.int) [((0 : Nat), (9 : Nat), (12 : Nat), (32 : Nat))]) ∈ lw_all := lw_g (lw_at lw_m9 218 rfl) rfl
theorem q2232 : (Jvm.Cond.methodLink "WindowExchangeLaw" (73 : Nat) ({ cls := "WindowExchange", name := "unitsOf", desc := "(I)I" } : Jvm.MethodName)) ∈ lw_all := lw_g (lw_at lw_m9 219 rfl) rfl
theorem q2236 : (Jvm.Cond.methodLink "WindowExchangeLaw" (228 : Nat) ({ cls := "WindowExchangeLaw", name := "orderAt", desc := "(LWindowExchange;ZI[J)I" } : Jvm.MethodName)) ∈ lw_all := lw_g (lw_at lw_m9 223 rfl) rfl
theorem q2237 : (Jvm.Cond.static ({ cls := "WindowExchangeLaw", name := "orderAt", desc := "(LWindowExchange;ZI[J)I" } : Jvm.MethodName)) ∈ lw_all := lw_g (lw_at lw_m9 224 rfl) rfl
theorem q2238 : (Jvm.Cond.codeWith ({ cls := "WindowExchangeLaw", name := "orderAt", desc := "(LWindowExchange;ZI[J)I" } : Jvm.MethodName) method_20_code (5 : Nat) (Option.some Jvm.ClassFile.FieldType.int) [((0 : Nat), (10 : Nat), (13 : Nat), (32 : Nat))]) ∈ lw_all := lw_g (lw_at lw_m9 225 rfl) rfl
theorem q2239 : (Jvm.Cond.methodLink "WindowExchangeLaw" (76 : Nat) ({ cls := "WindowExchange", name := "orderAt", desc := "(ZI)I" } : Jvm.MethodName)) ∈ lw_all := lw_g (lw_at lw_m9 226 rfl) rfl
theorem q2244 : (Jvm.Cond.methodLink "WindowExchangeLaw" (232 : Nat) ({ cls := "WindowExchangeLaw", name := "bestBid", desc := "(LWindowExchange;[J)I" } : Jvm.MethodName)) ∈ lw_all := lw_g (lw_at lw_m9 231 rfl) rfl
theorem q2245 : (Jvm.Cond.static ({ cls := "WindowExchangeLaw", name := "bestBid", desc := "(LWindowExchange;[J)I" } : Jvm.MethodName)) ∈ lw_all := lw_g (lw_at lw_m9 232 rfl) rfl
theorem q2246 : (Jvm.Cond.codeWith ({ cls := "WindowExchangeLaw", name := "bestBid", desc := "(LWindowExchange;[J)I" } : Jvm.MethodName) method_21_code (3 : Nat) (Option.some Jvm.ClassFile.FieldType.int) [((0 : Nat), (8 : Nat), (11 : Nat), (32 : Nat))]) ∈ lw_all := lw_g (lw_at lw_m9 233 rfl) rfl
theorem q2247 : (Jvm.Cond.methodLink "WindowExchangeLaw" (80 : Nat) ({ cls := "WindowExchange", name := "bestBid", desc := "()I" } : Jvm.MethodName)) ∈ lw_all := lw_g (lw_at lw_m9 234 rfl) rfl
theorem q2255 : (Jvm.Cond.methodLink "WindowExchangeLaw" (235 : Nat) ({ cls := "WindowExchangeLaw", name := "bestAsk", desc := "(LWindowExchange;[J)I" } : Jvm.MethodName)) ∈ lw_all := lw_g (lw_at lw_m10 2 rfl) rfl
theorem q2256 : (Jvm.Cond.static ({ cls := "WindowExchangeLaw", name := "bestAsk", desc := "(LWindowExchange;[J)I" } : Jvm.MethodName)) ∈ lw_all := lw_g (lw_at lw_m10 3 rfl) rfl
theorem q2257 : (Jvm.Cond.codeWith ({ cls := "WindowExchangeLaw", name := "bestAsk", desc := "(LWindowExchange;[J)I" } : Jvm.MethodName) method_22_code (3 : Nat) (Option.some Jvm.ClassFile.FieldType.int) [((0 : Nat), (8 : Nat), (11 : Nat), (32 : Nat))]) ∈ lw_all := lw_g (lw_at lw_m10 4 rfl) rfl
theorem q2258 : (Jvm.Cond.methodLink "WindowExchangeLaw" (83 : Nat) ({ cls := "WindowExchange", name := "bestAsk", desc := "()I" } : Jvm.MethodName)) ∈ lw_all := lw_g (lw_at lw_m10 5 rfl) rfl
theorem q2262 : (Jvm.Cond.methodLink "WindowExchangeLaw" (242 : Nat) ({ cls := "WindowExchangeLaw", name := "costToBuy", desc := "(LWindowExchange;I[J)I" } : Jvm.MethodName)) ∈ lw_all := lw_g (lw_at lw_m10 9 rfl) rfl
theorem q2263 : (Jvm.Cond.static ({ cls := "WindowExchangeLaw", name := "costToBuy", desc := "(LWindowExchange;I[J)I" } : Jvm.MethodName)) ∈ lw_all := lw_g (lw_at lw_m10 10 rfl) rfl
theorem q2264 : (Jvm.Cond.codeWith ({ cls := "WindowExchangeLaw", name := "costToBuy", desc := "(LWindowExchange;I[J)I" } : Jvm.MethodName) method_23_code (4 : Nat) (Option.some Jvm.ClassFile.FieldType.int) [((0 : Nat), (9 : Nat), (12 : Nat), (13 : Nat)), ((0 : Nat), (9 : Nat), (15 : Nat), (32 : Nat))]) ∈ lw_all := lw_g (lw_at lw_m10 11 rfl) rfl
theorem q2265 : (Jvm.Cond.methodLink "WindowExchangeLaw" (86 : Nat) ({ cls := "WindowExchange", name := "costToBuy", desc := "(I)I" } : Jvm.MethodName)) ∈ lw_all := lw_g (lw_at lw_m10 12 rfl) rfl
theorem q2273 : (Jvm.Cond.methodLink "WindowExchangeLaw" (245 : Nat) ({ cls := "WindowExchangeLaw", name := "costToBuyByPrices", desc := "(LWindowExchange;I[J)I" } : Jvm.MethodName)) ∈ lw_all := lw_g (lw_at lw_m10 20 rfl) rfl
theorem q2274 : (Jvm.Cond.static ({ cls := "WindowExchangeLaw", name := "costToBuyByPrices", desc := "(LWindowExchange;I[J)I" } : Jvm.MethodName)) ∈ lw_all := lw_g (lw_at lw_m10 21 rfl) rfl
theorem q2275 : (Jvm.Cond.codeWith ({ cls := "WindowExchangeLaw", name := "costToBuyByPrices", desc := "(LWindowExchange;I[J)I" } : Jvm.MethodName) method_24_code (4 : Nat) (Option.some Jvm.ClassFile.FieldType.int) [((0 : Nat), (9 : Nat), (12 : Nat), (13 : Nat)), ((0 : Nat), (9 : Nat), (15 : Nat), (32 : Nat))]) ∈ lw_all := lw_g (lw_at lw_m10 22 rfl) rfl
theorem q2276 : (Jvm.Cond.methodLink "WindowExchangeLaw" (89 : Nat) ({ cls := "WindowExchange", name := "costToBuyByPrices", desc := "(I)I" } : Jvm.MethodName)) ∈ lw_all := lw_g (lw_at lw_m10 23 rfl) rfl
theorem q2280 : (Jvm.Cond.methodLink "WindowExchangeLaw" (248 : Nat) ({ cls := "WindowExchangeLaw", name := "lastPrice", desc := "(LWindowExchange;[J)I" } : Jvm.MethodName)) ∈ lw_all := lw_g (lw_at lw_m10 27 rfl) rfl
theorem q2281 : (Jvm.Cond.static ({ cls := "WindowExchangeLaw", name := "lastPrice", desc := "(LWindowExchange;[J)I" } : Jvm.MethodName)) ∈ lw_all := lw_g (lw_at lw_m10 28 rfl) rfl
theorem q2282 : (Jvm.Cond.codeWith ({ cls := "WindowExchangeLaw", name := "lastPrice", desc := "(LWindowExchange;[J)I" } : Jvm.MethodName) method_25_code (3 : Nat) (Option.some Jvm.ClassFile.FieldType.int) [((0 : Nat), (8 : Nat), (11 : Nat), (32 : Nat))]) ∈ lw_all := lw_g (lw_at lw_m10 29 rfl) rfl
theorem q2283 : (Jvm.Cond.methodLink "WindowExchangeLaw" (92 : Nat) ({ cls := "WindowExchange", name := "lastPrice", desc := "()I" } : Jvm.MethodName)) ∈ lw_all := lw_g (lw_at lw_m10 30 rfl) rfl
theorem q2287 : (Jvm.Cond.methodLink "WindowExchangeLaw" (255 : Nat) ({ cls := "WindowExchangeLaw", name := "meanPrice", desc := "(LWindowExchange;[D)I" } : Jvm.MethodName)) ∈ lw_all := lw_g (lw_at lw_m10 34 rfl) rfl
theorem q2288 : (Jvm.Cond.static ({ cls := "WindowExchangeLaw", name := "meanPrice", desc := "(LWindowExchange;[D)I" } : Jvm.MethodName)) ∈ lw_all := lw_g (lw_at lw_m10 35 rfl) rfl
theorem q2289 : (Jvm.Cond.codeWith ({ cls := "WindowExchangeLaw", name := "meanPrice", desc := "(LWindowExchange;[D)I" } : Jvm.MethodName) method_26_code (3 : Nat) (Option.some Jvm.ClassFile.FieldType.int) [((0 : Nat), (7 : Nat), (10 : Nat), (99 : Nat))]) ∈ lw_all := lw_g (lw_at lw_m10 36 rfl) rfl
theorem q2290 : (Jvm.Cond.classLink "WindowExchangeLaw" (99 : Nat) "java/lang/ArithmeticException") ∈ lw_all := lw_g (lw_at lw_m10 37 rfl) rfl
theorem q2304 : (Jvm.Cond.methodLink "WindowExchangeLaw" (95 : Nat) ({ cls := "WindowExchange", name := "meanPrice", desc := "()D" } : Jvm.MethodName)) ∈ lw_all := lw_g (lw_at lw_m10 51 rfl) rfl
theorem q2313 : (Jvm.Cond.methodLink "WindowExchangeLaw" (267 : Nat) ({ cls := "WindowExchangeLaw", name := "daysLeft", desc := "(LWindowExchange;I[J)I" } : Jvm.MethodName)) ∈ lw_all := lw_g (lw_at lw_m10 60 rfl) rfl
theorem q2314 : (Jvm.Cond.static ({ cls := "WindowExchangeLaw", name := "daysLeft", desc := "(LWindowExchange;I[J)I" } : Jvm.MethodName)) ∈ lw_all := lw_g (lw_at lw_m10 61 rfl) rfl
theorem q2315 : (Jvm.Cond.codeWith ({ cls := "WindowExchangeLaw", name := "daysLeft", desc := "(LWindowExchange;I[J)I" } : Jvm.MethodName) method_27_code (4 : Nat) (Option.some Jvm.ClassFile.FieldType.int) [((0 : Nat), (9 : Nat), (12 : Nat), (21 : Nat))]) ∈ lw_all := lw_g (lw_at lw_m10 62 rfl) rfl
theorem q2316 : (Jvm.Cond.methodLink "WindowExchangeLaw" (101 : Nat) ({ cls := "WindowExchange", name := "daysLeft", desc := "(I)I" } : Jvm.MethodName)) ∈ lw_all := lw_g (lw_at lw_m10 63 rfl) rfl
theorem q2325 : (Jvm.Cond.methodLink "WindowExchangeLaw" (270 : Nat) ({ cls := "WindowExchangeLaw", name := "gain", desc := "(LWindowExchange;II[J)I" } : Jvm.MethodName)) ∈ lw_all := lw_g (lw_at lw_m10 72 rfl) rfl
theorem q2326 : (Jvm.Cond.static ({ cls := "WindowExchangeLaw", name := "gain", desc := "(LWindowExchange;II[J)I" } : Jvm.MethodName)) ∈ lw_all := lw_g (lw_at lw_m10 73 rfl) rfl
theorem q2327 : (Jvm.Cond.codeWith ({ cls := "WindowExchangeLaw", name := "gain", desc := "(LWindowExchange;II[J)I" } : Jvm.MethodName) method_28_code (5 : Nat) (Option.some Jvm.ClassFile.FieldType.int) [((0 : Nat), (10 : Nat), (13 : Nat), (21 : Nat)), ((0 : Nat), (10 : Nat), (17 : Nat), (13 : Nat))]) ∈ lw_all := lw_g (lw_at lw_m10 74 rfl) rfl
theorem q2328 : (Jvm.Cond.methodLink "WindowExchangeLaw" (104 : Nat) ({ cls := "WindowExchange", name := "gain", desc := "(II)I" } : Jvm.MethodName)) ∈ lw_all := lw_g (lw_at lw_m10 75 rfl) rfl
theorem q2336 : (Jvm.Cond.methodLink "WindowExchangeLaw" (273 : Nat) ({ cls := "WindowExchangeLaw", name := "exposure", desc := "(LWindowExchange;I[J)I" } : Jvm.MethodName)) ∈ lw_all := lw_g (lw_at lw_m10 83 rfl) rfl
theorem q2337 : (Jvm.Cond.static ({ cls := "WindowExchangeLaw", name := "exposure", desc := "(LWindowExchange;I[J)I" } : Jvm.MethodName)) ∈ lw_all := lw_g (lw_at lw_m10 84 rfl) rfl
theorem q2338 : (Jvm.Cond.codeWith ({ cls := "WindowExchangeLaw", name := "exposure", desc := "(LWindowExchange;I[J)I" } : Jvm.MethodName) method_29_code (4 : Nat) (Option.some Jvm.ClassFile.FieldType.int) [((0 : Nat), (9 : Nat), (12 : Nat), (21 : Nat))]) ∈ lw_all := lw_g (lw_at lw_m10 85 rfl) rfl
theorem q2339 : (Jvm.Cond.methodLink "WindowExchangeLaw" (107 : Nat) ({ cls := "WindowExchange", name := "exposure", desc := "(I)I" } : Jvm.MethodName)) ∈ lw_all := lw_g (lw_at lw_m10 86 rfl) rfl
theorem q2344 : (Jvm.Cond.methodLink "WindowExchangeLaw" (276 : Nat) ({ cls := "WindowExchangeLaw", name := "value", desc := "(LWindowExchange;II[J)I" } : Jvm.MethodName)) ∈ lw_all := lw_g (lw_at lw_m10 91 rfl) rfl
theorem q2345 : (Jvm.Cond.static ({ cls := "WindowExchangeLaw", name := "value", desc := "(LWindowExchange;II[J)I" } : Jvm.MethodName)) ∈ lw_all := lw_g (lw_at lw_m10 92 rfl) rfl
theorem q2346 : (Jvm.Cond.codeWith ({ cls := "WindowExchangeLaw", name := "value", desc := "(LWindowExchange;II[J)I" } : Jvm.MethodName) method_30_code (5 : Nat) (Option.some Jvm.ClassFile.FieldType.int) [((0 : Nat), (10 : Nat), (13 : Nat), (21 : Nat)), ((0 : Nat), (10 : Nat), (17 : Nat), (13 : Nat))]) ∈ lw_all := lw_g (lw_at lw_m10 93 rfl) rfl
theorem q2347 : (Jvm.Cond.methodLink "WindowExchangeLaw" (110 : Nat) ({ cls := "WindowExchange", name := "value", desc := "(II)I" } : Jvm.MethodName)) ∈ lw_all := lw_g (lw_at lw_m10 94 rfl) rfl
theorem q2351 : (Jvm.Cond.methodLink "WindowExchangeLaw" (279 : Nat) ({ cls := "WindowExchangeLaw", name := "valueByExposure", desc := "(LWindowExchange;II[J)I" } : Jvm.MethodName)) ∈ lw_all := lw_g (lw_at lw_m10 98 rfl) rfl
theorem q2352 : (Jvm.Cond.static ({ cls := "WindowExchangeLaw", name := "valueByExposure", desc := "(LWindowExchange;II[J)I" } : Jvm.MethodName)) ∈ lw_all := lw_g (lw_at lw_m10 99 rfl) rfl
theorem q2353 : (Jvm.Cond.codeWith ({ cls := "WindowExchangeLaw", name := "valueByExposure", desc := "(LWindowExchange;II[J)I" } : Jvm.MethodName) method_31_code (5 : Nat) (Option.some Jvm.ClassFile.FieldType.int) [((0 : Nat), (10 : Nat), (13 : Nat), (21 : Nat)), ((0 : Nat), (10 : Nat), (17 : Nat), (13 : Nat))]) ∈ lw_all := lw_g (lw_at lw_m10 100 rfl) rfl
theorem q2354 : (Jvm.Cond.methodLink "WindowExchangeLaw" (113 : Nat) ({ cls := "WindowExchange", name := "valueByExposure", desc := "(II)I" } : Jvm.MethodName)) ∈ lw_all := lw_g (lw_at lw_m10 101 rfl) rfl
theorem q2358 : (Jvm.Cond.methodLink "WindowExchangeLaw" (286 : Nat) ({ cls := "WindowExchangeLaw", name := "defaultRate", desc := "(LWindowExchange;[D)I" } : Jvm.MethodName)) ∈ lw_all := lw_g (lw_at lw_m10 105 rfl) rfl
theorem q2359 : (Jvm.Cond.static ({ cls := "WindowExchangeLaw", name := "defaultRate", desc := "(LWindowExchange;[D)I" } : Jvm.MethodName)) ∈ lw_all := lw_g (lw_at lw_m10 106 rfl) rfl
theorem q2360 : (Jvm.Cond.codeWith ({ cls := "WindowExchangeLaw", name := "defaultRate", desc := "(LWindowExchange;[D)I" } : Jvm.MethodName) method_32_code (3 : Nat) (Option.some Jvm.ClassFile.FieldType.int) [((0 : Nat), (8 : Nat), (11 : Nat), (99 : Nat))]) ∈ lw_all := lw_g (lw_at lw_m10 107 rfl) rfl
theorem q2361 : (Jvm.Cond.methodLink "WindowExchangeLaw" (116 : Nat) ({ cls := "WindowExchange", name := "defaultRate", desc := "()F" } : Jvm.MethodName)) ∈ lw_all := lw_g (lw_at lw_m10 108 rfl) rfl
theorem q2365 : (Jvm.Cond.methodLink "WindowExchangeLaw" (294 : Nat) ({ cls := "WindowExchangeLaw", name := "holder", desc := "(LWindowExchange;I[J)I" } : Jvm.MethodName)) ∈ lw_all := lw_g (lw_at lw_m10 112 rfl) rfl
theorem q2366 : (Jvm.Cond.static ({ cls := "WindowExchangeLaw", name := "holder", desc := "(LWindowExchange;I[J)I" } : Jvm.MethodName)) ∈ lw_all := lw_g (lw_at lw_m10 113 rfl) rfl
theorem q2367 : (Jvm.Cond.codeWith ({ cls := "WindowExchangeLaw", name := "holder", desc := "(LWindowExchange;I[J)I" } : Jvm.MethodName) method_33_code (4 : Nat) (Option.some Jvm.ClassFile.FieldType.int) [((0 : Nat), (9 : Nat), (12 : Nat), (21 : Nat)), ((0 : Nat), (9 : Nat), (15 : Nat), (32 : Nat))]) ∈ lw_all := lw_g (lw_at lw_m10 114 rfl) rfl
theorem q2368 : (Jvm.Cond.methodLink "WindowExchangeLaw" (120 : Nat) ({ cls := "WindowExchange", name := "holder", desc := "(I)I" } : Jvm.MethodName)) ∈ lw_all := lw_g (lw_at lw_m10 115 rfl) rfl
theorem q2372 : (Jvm.Cond.methodLink "WindowExchangeLaw" (297 : Nat) ({ cls := "WindowExchangeLaw", name := "winner", desc := "(LWindowExchange;[J)I" } : Jvm.MethodName)) ∈ lw_all := lw_g (lw_at lw_m10 119 rfl) rfl
theorem q2373 : (Jvm.Cond.static ({ cls := "WindowExchangeLaw", name := "winner", desc := "(LWindowExchange;[J)I" } : Jvm.MethodName)) ∈ lw_all := lw_g (lw_at lw_m10 120 rfl) rfl
theorem q2374 : (Jvm.Cond.codeWith ({ cls := "WindowExchangeLaw", name := "winner", desc := "(LWindowExchange;[J)I" } : Jvm.MethodName) method_34_code (3 : Nat) (Option.some Jvm.ClassFile.FieldType.int) [((0 : Nat), (8 : Nat), (11 : Nat), (15 : Nat)), ((0 : Nat), (8 : Nat), (14 : Nat), (32 : Nat))]) ∈ lw_all := lw_g (lw_at lw_m10 121 rfl) rfl
theorem q2375 : (Jvm.Cond.methodLink "WindowExchangeLaw" (123 : Nat) ({ cls := "WindowExchange", name := "winner", desc := "()I" } : Jvm.MethodName)) ∈ lw_all := lw_g (lw_at lw_m10 122 rfl) rfl
theorem q2381 : (Jvm.Cond.methodLink "WindowExchangeLaw" (300 : Nat) ({ cls := "WindowExchangeLaw", name := "winnerPays", desc := "(LWindowExchange;[J)I" } : Jvm.MethodName)) ∈ lw_all := lw_g (lw_at lw_m10 128 rfl) rfl
theorem q2382 : (Jvm.Cond.static ({ cls := "WindowExchangeLaw", name := "winnerPays", desc := "(LWindowExchange;[J)I" } : Jvm.MethodName)) ∈ lw_all := lw_g (lw_at lw_m10 129 rfl) rfl
theorem q2383 : (Jvm.Cond.codeWith ({ cls := "WindowExchangeLaw", name := "winnerPays", desc := "(LWindowExchange;[J)I" } : Jvm.MethodName) method_35_code (3 : Nat) (Option.some Jvm.ClassFile.FieldType.int) [((0 : Nat), (8 : Nat), (11 : Nat), (15 : Nat)), ((0 : Nat), (8 : Nat), (14 : Nat), (32 : Nat))]) ∈ lw_all := lw_g (lw_at lw_m10 130 rfl) rfl
theorem q2384 : (Jvm.Cond.methodLink "WindowExchangeLaw" (126 : Nat) ({ cls := "WindowExchange", name := "winnerPays", desc := "()I" } : Jvm.MethodName)) ∈ lw_all := lw_g (lw_at lw_m10 131 rfl) rfl
theorem q2390 : (Jvm.Cond.methodLink "WindowExchangeLaw" (315 : Nat) ({ cls := "WindowExchangeLaw", name := "writeTrader", desc := "(LWindowExchange;I[J)I" } : Jvm.MethodName)) ∈ lw_all := lw_g (lw_at lw_m10 137 rfl) rfl
theorem q2391 : (Jvm.Cond.static ({ cls := "WindowExchangeLaw", name := "writeTrader", desc := "(LWindowExchange;I[J)I" } : Jvm.MethodName)) ∈ lw_all := lw_g (lw_at lw_m10 138 rfl) rfl
theorem q2392 : (Jvm.Cond.codeWith ({ cls := "WindowExchangeLaw", name := "writeTrader", desc := "(LWindowExchange;I[J)I" } : Jvm.MethodName) method_36_code (4 : Nat) (Option.some Jvm.ClassFile.FieldType.int) [((0 : Nat), (9 : Nat), (12 : Nat), (21 : Nat))]) ∈ lw_all := lw_g (lw_at lw_m10 139 rfl) rfl
theorem q2393 : (Jvm.Cond.methodLink "WindowExchangeLaw" (129 : Nat) ({ cls := "WindowExchange", name := "writeTrader", desc := "(I)I" } : Jvm.MethodName)) ∈ lw_all := lw_g (lw_at lw_m10 140 rfl) rfl
theorem q2404 : (Jvm.Cond.methodLink "WindowExchangeLaw" (318 : Nat) ({ cls := "WindowExchangeLaw", name := "charAt", desc := "(LWindowExchange;I[J)I" } : Jvm.MethodName)) ∈ lw_all := lw_g (lw_at lw_m10 151 rfl) rfl
theorem q2405 : (Jvm.Cond.static ({ cls := "WindowExchangeLaw", name := "charAt", desc := "(LWindowExchange;I[J)I" } : Jvm.MethodName)) ∈ lw_all := lw_g (lw_at lw_m10 152 rfl) rfl
theorem q2406 : (Jvm.Cond.codeWith ({ cls := "WindowExchangeLaw", name := "charAt", desc := "(LWindowExchange;I[J)I" } : Jvm.MethodName) method_37_code (4 : Nat) (Option.some Jvm.ClassFile.FieldType.int) [((0 : Nat), (9 : Nat), (12 : Nat), (21 : Nat))]) ∈ lw_all := lw_g (lw_at lw_m10 153 rfl) rfl
theorem q2407 : (Jvm.Cond.methodLink "WindowExchangeLaw" (132 : Nat) ({ cls := "WindowExchange", name := "charAt", desc := "(I)C" } : Jvm.MethodName)) ∈ lw_all := lw_g (lw_at lw_m10 154 rfl) rfl
theorem q2421 : (Jvm.Cond.methodLink "WindowExchangeLaw" (321 : Nat) ({ cls := "WindowExchangeLaw", name := "type", desc := "(LWindowExchange;C[J)I" } : Jvm.MethodName)) ∈ lw_all := lw_g (lw_at lw_m10 168 rfl) rfl
theorem q2422 : (Jvm.Cond.static ({ cls := "WindowExchangeLaw", name := "type", desc := "(LWindowExchange;C[J)I" } : Jvm.MethodName)) ∈ lw_all := lw_g (lw_at lw_m10 169 rfl) rfl
theorem q2423 : (Jvm.Cond.codeWith ({ cls := "WindowExchangeLaw", name := "type", desc := "(LWindowExchange;C[J)I" } : Jvm.MethodName) method_38_code (4 : Nat) (Option.some Jvm.ClassFile.FieldType.int) [((0 : Nat), (9 : Nat), (12 : Nat), (15 : Nat))]) ∈ lw_all := lw_g (lw_at lw_m10 170 rfl) rfl
theorem q2424 : (Jvm.Cond.methodLink "WindowExchangeLaw" (136 : Nat) ({ cls := "WindowExchange", name := "type", desc := "(C)I" } : Jvm.MethodName)) ∈ lw_all := lw_g (lw_at lw_m10 171 rfl) rfl
theorem q2428 : (Jvm.Cond.methodLink "WindowExchangeLaw" (325 : Nat) ({ cls := "WindowExchangeLaw", name := "run", desc := "(LWindowExchange;[J)I" } : Jvm.MethodName)) ∈ lw_all := lw_g (lw_at lw_m10 175 rfl) rfl
theorem q2429 : (Jvm.Cond.static ({ cls := "WindowExchangeLaw", name := "run", desc := "(LWindowExchange;[J)I" } : Jvm.MethodName)) ∈ lw_all := lw_g (lw_at lw_m10 176 rfl) rfl
theorem q2430 : (Jvm.Cond.codeWith ({ cls := "WindowExchangeLaw", name := "run", desc := "(LWindowExchange;[J)I" } : Jvm.MethodName) method_39_code (3 : Nat) (Option.some Jvm.ClassFile.FieldType.int) [((0 : Nat), (8 : Nat), (11 : Nat), (13 : Nat)), ((0 : Nat), (8 : Nat), (14 : Nat), (23 : Nat))]) ∈ lw_all := lw_g (lw_at lw_m10 177 rfl) rfl
theorem q2431 : (Jvm.Cond.methodLink "WindowExchangeLaw" (140 : Nat) ({ cls := "WindowExchange", name := "run", desc := "()I" } : Jvm.MethodName)) ∈ lw_all := lw_g (lw_at lw_m10 178 rfl) rfl
theorem q2670 : (Jvm.Cond.methodLink "WindowExchangeLaw" (328 : Nat) ({ cls := "WindowExchangeLaw", name := "errorPosition", desc := "(LWindowExchange;[J)I" } : Jvm.MethodName)) ∈ lw_all := lw_g (lw_at lw_m11 177 rfl) rfl
theorem q2671 : (Jvm.Cond.static ({ cls := "WindowExchangeLaw", name := "errorPosition", desc := "(LWindowExchange;[J)I" } : Jvm.MethodName)) ∈ lw_all := lw_g (lw_at lw_m11 178 rfl) rfl
theorem q2672 : (Jvm.Cond.codeWith ({ cls := "WindowExchangeLaw", name := "errorPosition", desc := "(LWindowExchange;[J)I" } : Jvm.MethodName) method_40_code (3 : Nat) (Option.some Jvm.ClassFile.FieldType.int) [((0 : Nat), (8 : Nat), (11 : Nat), (32 : Nat))]) ∈ lw_all := lw_g (lw_at lw_m11 179 rfl) rfl
theorem q2673 : (Jvm.Cond.methodLink "WindowExchangeLaw" (143 : Nat) ({ cls := "WindowExchange", name := "errorPosition", desc := "()I" } : Jvm.MethodName)) ∈ lw_all := lw_g (lw_at lw_m11 180 rfl) rfl
theorem q2677 : (Jvm.Cond.methodLink "WindowExchangeLaw" (331 : Nat) ({ cls := "WindowExchangeLaw", name := "failedCommand", desc := "(LWindowExchange;[J)I" } : Jvm.MethodName)) ∈ lw_all := lw_g (lw_at lw_m11 184 rfl) rfl
theorem q2678 : (Jvm.Cond.static ({ cls := "WindowExchangeLaw", name := "failedCommand", desc := "(LWindowExchange;[J)I" } : Jvm.MethodName)) ∈ lw_all := lw_g (lw_at lw_m11 185 rfl) rfl
theorem q2679 : (Jvm.Cond.codeWith ({ cls := "WindowExchangeLaw", name := "failedCommand", desc := "(LWindowExchange;[J)I" } : Jvm.MethodName) method_41_code (3 : Nat) (Option.some Jvm.ClassFile.FieldType.int) [((0 : Nat), (8 : Nat), (11 : Nat), (32 : Nat))]) ∈ lw_all := lw_g (lw_at lw_m11 186 rfl) rfl
theorem q2680 : (Jvm.Cond.methodLink "WindowExchangeLaw" (146 : Nat) ({ cls := "WindowExchange", name := "failedCommand", desc := "()I" } : Jvm.MethodName)) ∈ lw_all := lw_g (lw_at lw_m11 187 rfl) rfl
theorem q2684 : (Jvm.Cond.methodLink "WindowExchangeLaw" (334 : Nat) ({ cls := "WindowExchangeLaw", name := "undo", desc := "(LWindowExchange;[J)I" } : Jvm.MethodName)) ∈ lw_all := lw_g (lw_at lw_m11 191 rfl) rfl
theorem q2685 : (Jvm.Cond.static ({ cls := "WindowExchangeLaw", name := "undo", desc := "(LWindowExchange;[J)I" } : Jvm.MethodName)) ∈ lw_all := lw_g (lw_at lw_m11 192 rfl) rfl
theorem q2686 : (Jvm.Cond.codeWith ({ cls := "WindowExchangeLaw", name := "undo", desc := "(LWindowExchange;[J)I" } : Jvm.MethodName) method_42_code (3 : Nat) (Option.some Jvm.ClassFile.FieldType.int) [((0 : Nat), (8 : Nat), (11 : Nat), (15 : Nat))]) ∈ lw_all := lw_g (lw_at lw_m11 193 rfl) rfl
theorem q2687 : (Jvm.Cond.methodLink "WindowExchangeLaw" (149 : Nat) ({ cls := "WindowExchange", name := "undo", desc := "()I" } : Jvm.MethodName)) ∈ lw_all := lw_g (lw_at lw_m11 194 rfl) rfl
theorem q2703 : (Jvm.Cond.methodLink "WindowExchangeLaw" (341 : Nat) ({ cls := "WindowExchangeLaw", name := "restore", desc := "(LWindowExchange;[J)I" } : Jvm.MethodName)) ∈ lw_all := lw_g (lw_at lw_m11 210 rfl) rfl
theorem q2704 : (Jvm.Cond.static ({ cls := "WindowExchangeLaw", name := "restore", desc := "(LWindowExchange;[J)I" } : Jvm.MethodName)) ∈ lw_all := lw_g (lw_at lw_m11 211 rfl) rfl
theorem q2705 : (Jvm.Cond.codeWith ({ cls := "WindowExchangeLaw", name := "restore", desc := "(LWindowExchange;[J)I" } : Jvm.MethodName) method_43_code (3 : Nat) (Option.some Jvm.ClassFile.FieldType.int) [((0 : Nat), (8 : Nat), (11 : Nat), (15 : Nat))]) ∈ lw_all := lw_g (lw_at lw_m11 212 rfl) rfl
theorem q2706 : (Jvm.Cond.methodLink "WindowExchangeLaw" (152 : Nat) ({ cls := "WindowExchange", name := "restore", desc := "()I" } : Jvm.MethodName)) ∈ lw_all := lw_g (lw_at lw_m11 213 rfl) rfl
theorem q2717 : (Jvm.Cond.classLink "WindowExchangeLaw" (156 : Nat) "WindowExchangeModel") ∈ lw_all := lw_g (lw_at lw_m11 224 rfl) rfl
theorem q2719 : (Jvm.Cond.methodLink "WindowExchangeLaw" (158 : Nat) ({ cls := "WindowExchangeModel", name := "<init>", desc := "()V" } : Jvm.MethodName)) ∈ lw_all := lw_g (lw_at lw_m11 226 rfl) rfl
theorem q2784 : (Jvm.Cond.methodLink "WindowExchangeLaw" (165 : Nat) ({ cls := "WindowExchangeModel", name := "thrown", desc := "()I" } : Jvm.MethodName)) ∈ lw_all := lw_g (lw_at lw_m12 51 rfl) rfl
theorem q2788 : (Jvm.Cond.methodLink "WindowExchangeLaw" (164 : Nat) ({ cls := "WindowExchangeModel", name := "addTrader", desc := "(II)I" } : Jvm.MethodName)) ∈ lw_all := lw_g (lw_at lw_m12 55 rfl) rfl
theorem q2816 : (Jvm.Cond.methodLink "WindowExchangeLaw" (171 : Nat) ({ cls := "WindowExchangeModel", name := "placeBid", desc := "(III)I" } : Jvm.MethodName)) ∈ lw_all := lw_g (lw_at lw_m12 83 rfl) rfl
theorem q2860 : (Jvm.Cond.methodLink "WindowExchangeLaw" (174 : Nat) ({ cls := "WindowExchangeModel", name := "placeAsk", desc := "(III)I" } : Jvm.MethodName)) ∈ lw_all := lw_g (lw_at lw_m12 127 rfl) rfl
theorem q2864 : (Jvm.Cond.methodLink "WindowExchangeLaw" (178 : Nat) ({ cls := "WindowExchangeModel", name := "cancelOrder", desc := "(I)I" } : Jvm.MethodName)) ∈ lw_all := lw_g (lw_at lw_m12 131 rfl) rfl
theorem q2876 : (Jvm.Cond.methodLink "WindowExchangeLaw" (182 : Nat) ({ cls := "WindowExchangeModel", name := "agree", desc := "(IIIII)I" } : Jvm.MethodName)) ∈ lw_all := lw_g (lw_at lw_m12 143 rfl) rfl
theorem q2887 : (Jvm.Cond.methodLink "WindowExchangeLaw" (185 : Nat) ({ cls := "WindowExchangeModel", name := "advance", desc := "(I)I" } : Jvm.MethodName)) ∈ lw_all := lw_g (lw_at lw_m12 154 rfl) rfl
theorem q2904 : (Jvm.Cond.methodLink "WindowExchangeLaw" (188 : Nat) ({ cls := "WindowExchangeModel", name := "openAuction", desc := "(II)I" } : Jvm.MethodName)) ∈ lw_all := lw_g (lw_at lw_m12 171 rfl) rfl
theorem q2916 : (Jvm.Cond.methodLink "WindowExchangeLaw" (191 : Nat) ({ cls := "WindowExchangeModel", name := "sealBid", desc := "(II)I" } : Jvm.MethodName)) ∈ lw_all := lw_g (lw_at lw_m12 183 rfl) rfl
theorem q2924 : (Jvm.Cond.methodLink "WindowExchangeLaw" (195 : Nat) ({ cls := "WindowExchangeModel", name := "closeAuction", desc := "()I" } : Jvm.MethodName)) ∈ lw_all := lw_g (lw_at lw_m12 191 rfl) rfl
theorem q2945 : (Jvm.Cond.methodLink "WindowExchangeLaw" (199 : Nat) ({ cls := "WindowExchangeModel", name := "traders", desc := "()I" } : Jvm.MethodName)) ∈ lw_all := lw_g (lw_at lw_m12 212 rfl) rfl
theorem q2949 : (Jvm.Cond.methodLink "WindowExchangeLaw" (202 : Nat) ({ cls := "WindowExchangeModel", name := "cash", desc := "(I)I" } : Jvm.MethodName)) ∈ lw_all := lw_g (lw_at lw_m12 216 rfl) rfl
theorem q2953 : (Jvm.Cond.methodLink "WindowExchangeLaw" (208 : Nat) ({ cls := "WindowExchangeModel", name := "windows", desc := "(I)I" } : Jvm.MethodName)) ∈ lw_all := lw_g (lw_at lw_m12 220 rfl) rfl
theorem q2957 : (Jvm.Cond.methodLink "WindowExchangeLaw" (205 : Nat) ({ cls := "WindowExchangeModel", name := "reservedCash", desc := "(I)I" } : Jvm.MethodName)) ∈ lw_all := lw_g (lw_at lw_m12 224 rfl) rfl
theorem q2965 : (Jvm.Cond.methodLink "WindowExchangeLaw" (211 : Nat) ({ cls := "WindowExchangeModel", name := "reservedWindows", desc := "(I)I" } : Jvm.MethodName)) ∈ lw_all := lw_g (lw_at lw_m12 232 rfl) rfl
theorem q2969 : (Jvm.Cond.methodLink "WindowExchangeLaw" (215 : Nat) ({ cls := "WindowExchangeModel", name := "openOrders", desc := "()I" } : Jvm.MethodName)) ∈ lw_all := lw_g (lw_at lw_m12 236 rfl) rfl
theorem q2973 : (Jvm.Cond.methodLink "WindowExchangeLaw" (218 : Nat) ({ cls := "WindowExchangeModel", name := "traderOf", desc := "(I)I" } : Jvm.MethodName)) ∈ lw_all := lw_g (lw_at lw_m13 0 rfl) rfl
theorem q2981 : (Jvm.Cond.methodLink "WindowExchangeLaw" (221 : Nat) ({ cls := "WindowExchangeModel", name := "isBid", desc := "(I)Z" } : Jvm.MethodName)) ∈ lw_all := lw_g (lw_at lw_m13 8 rfl) rfl
theorem q2985 : (Jvm.Cond.methodLink "WindowExchangeLaw" (224 : Nat) ({ cls := "WindowExchangeModel", name := "priceOf", desc := "(I)I" } : Jvm.MethodName)) ∈ lw_all := lw_g (lw_at lw_m13 12 rfl) rfl
theorem q2989 : (Jvm.Cond.methodLink "WindowExchangeLaw" (227 : Nat) ({ cls := "WindowExchangeModel", name := "unitsOf", desc := "(I)I" } : Jvm.MethodName)) ∈ lw_all := lw_g (lw_at lw_m13 16 rfl) rfl
theorem q2993 : (Jvm.Cond.methodLink "WindowExchangeLaw" (231 : Nat) ({ cls := "WindowExchangeModel", name := "orderAt", desc := "(ZI)I" } : Jvm.MethodName)) ∈ lw_all := lw_g (lw_at lw_m13 20 rfl) rfl
theorem q3001 : (Jvm.Cond.methodLink "WindowExchangeLaw" (234 : Nat) ({ cls := "WindowExchangeModel", name := "bestBid", desc := "()I" } : Jvm.MethodName)) ∈ lw_all := lw_g (lw_at lw_m13 28 rfl) rfl
theorem q3005 : (Jvm.Cond.methodLink "WindowExchangeLaw" (237 : Nat) ({ cls := "WindowExchangeModel", name := "bestAsk", desc := "()I" } : Jvm.MethodName)) ∈ lw_all := lw_g (lw_at lw_m13 32 rfl) rfl
theorem q3009 : (Jvm.Cond.methodLink "WindowExchangeLaw" (241 : Nat) ({ cls := "WindowExchangeModel", name := "depth", desc := "(ZI)I" } : Jvm.MethodName)) ∈ lw_all := lw_g (lw_at lw_m13 36 rfl) rfl
theorem q3013 : (Jvm.Cond.methodLink "WindowExchangeLaw" (244 : Nat) ({ cls := "WindowExchangeModel", name := "costToBuy", desc := "(I)I" } : Jvm.MethodName)) ∈ lw_all := lw_g (lw_at lw_m13 40 rfl) rfl
theorem q3017 : (Jvm.Cond.methodLink "WindowExchangeLaw" (247 : Nat) ({ cls := "WindowExchangeModel", name := "costToBuyByPrices", desc := "(I)I" } : Jvm.MethodName)) ∈ lw_all := lw_g (lw_at lw_m13 44 rfl) rfl
theorem q3022 : (Jvm.Cond.methodLink "WindowExchangeLaw" (250 : Nat) ({ cls := "WindowExchangeModel", name := "lastPrice", desc := "()I" } : Jvm.MethodName)) ∈ lw_all := lw_g (lw_at lw_m13 49 rfl) rfl
theorem q3026 : (Jvm.Cond.methodLink "WindowExchangeLaw" (254 : Nat) ({ cls := "WindowExchangeModel", name := "tradedUnits", desc := "()I" } : Jvm.MethodName)) ∈ lw_all := lw_g (lw_at lw_m13 53 rfl) rfl
theorem q3030 : (Jvm.Cond.methodLink "WindowExchangeLaw" (258 : Nat) ({ cls := "WindowExchangeModel", name := "meanPrice", desc := "()D" } : Jvm.MethodName)) ∈ lw_all := lw_g (lw_at lw_m13 57 rfl) rfl
theorem q3034 : (Jvm.Cond.methodLink "WindowExchangeLaw" (262 : Nat) ({ cls := "WindowExchangeModel", name := "day", desc := "()I" } : Jvm.MethodName)) ∈ lw_all := lw_g (lw_at lw_m13 61 rfl) rfl
theorem q3038 : (Jvm.Cond.methodLink "WindowExchangeLaw" (266 : Nat) ({ cls := "WindowExchangeModel", name := "contracts", desc := "()I" } : Jvm.MethodName)) ∈ lw_all := lw_g (lw_at lw_m13 65 rfl) rfl
theorem q3042 : (Jvm.Cond.methodLink "WindowExchangeLaw" (269 : Nat) ({ cls := "WindowExchangeModel", name := "daysLeft", desc := "(I)I" } : Jvm.MethodName)) ∈ lw_all := lw_g (lw_at lw_m13 69 rfl) rfl
theorem q3050 : (Jvm.Cond.methodLink "WindowExchangeLaw" (272 : Nat) ({ cls := "WindowExchangeModel", name := "gain", desc := "(II)I" } : Jvm.MethodName)) ∈ lw_all := lw_g (lw_at lw_m13 77 rfl) rfl
theorem q3054 : (Jvm.Cond.methodLink "WindowExchangeLaw" (275 : Nat) ({ cls := "WindowExchangeModel", name := "exposure", desc := "(I)I" } : Jvm.MethodName)) ∈ lw_all := lw_g (lw_at lw_m13 81 rfl) rfl
theorem q3062 : (Jvm.Cond.methodLink "WindowExchangeLaw" (278 : Nat) ({ cls := "WindowExchangeModel", name := "value", desc := "(II)I" } : Jvm.MethodName)) ∈ lw_all := lw_g (lw_at lw_m13 89 rfl) rfl
theorem q3066 : (Jvm.Cond.methodLink "WindowExchangeLaw" (281 : Nat) ({ cls := "WindowExchangeModel", name := "valueByExposure", desc := "(II)I" } : Jvm.MethodName)) ∈ lw_all := lw_g (lw_at lw_m13 93 rfl) rfl
theorem q3071 : (Jvm.Cond.methodLink "WindowExchangeLaw" (285 : Nat) ({ cls := "WindowExchangeModel", name := "defaults", desc := "()I" } : Jvm.MethodName)) ∈ lw_all := lw_g (lw_at lw_m13 98 rfl) rfl
theorem q3075 : (Jvm.Cond.methodLink "WindowExchangeLaw" (288 : Nat) ({ cls := "WindowExchangeModel", name := "defaultRate", desc := "()F" } : Jvm.MethodName)) ∈ lw_all := lw_g (lw_at lw_m13 102 rfl) rfl
theorem q3079 : (Jvm.Cond.methodLink "WindowExchangeLaw" (293 : Nat) ({ cls := "WindowExchangeModel", name := "isAuctionOpen", desc := "()Z" } : Jvm.MethodName)) ∈ lw_all := lw_g (lw_at lw_m13 106 rfl) rfl
theorem q3083 : (Jvm.Cond.methodLink "WindowExchangeLaw" (296 : Nat) ({ cls := "WindowExchangeModel", name := "holder", desc := "(I)I" } : Jvm.MethodName)) ∈ lw_all := lw_g (lw_at lw_m13 110 rfl) rfl
theorem q3087 : (Jvm.Cond.methodLink "WindowExchangeLaw" (299 : Nat) ({ cls := "WindowExchangeModel", name := "winner", desc := "()I" } : Jvm.MethodName)) ∈ lw_all := lw_g (lw_at lw_m13 114 rfl) rfl
theorem q3095 : (Jvm.Cond.methodLink "WindowExchangeLaw" (302 : Nat) ({ cls := "WindowExchangeModel", name := "winnerPays", desc := "()I" } : Jvm.MethodName)) ∈ lw_all := lw_g (lw_at lw_m13 122 rfl) rfl
theorem q3099 : (Jvm.Cond.methodLink "WindowExchangeLaw" (306 : Nat) ({ cls := "WindowExchangeModel", name := "till", desc := "()I" } : Jvm.MethodName)) ∈ lw_all := lw_g (lw_at lw_m13 126 rfl) rfl
theorem q3103 : (Jvm.Cond.methodLink "WindowExchangeLaw" (310 : Nat) ({ cls := "WindowExchangeModel", name := "isConsistent", desc := "()Z" } : Jvm.MethodName)) ∈ lw_all := lw_g (lw_at lw_m13 130 rfl) rfl
theorem q3107 : (Jvm.Cond.methodLink "WindowExchangeLaw" (314 : Nat) ({ cls := "WindowExchangeModel", name := "writeBook", desc := "()I" } : Jvm.MethodName)) ∈ lw_all := lw_g (lw_at lw_m13 134 rfl) rfl
theorem q3123 : (Jvm.Cond.methodLink "WindowExchangeLaw" (317 : Nat) ({ cls := "WindowExchangeModel", name := "writeTrader", desc := "(I)I" } : Jvm.MethodName)) ∈ lw_all := lw_g (lw_at lw_m13 150 rfl) rfl
theorem q3131 : (Jvm.Cond.methodLink "WindowExchangeLaw" (320 : Nat) ({ cls := "WindowExchangeModel", name := "charAt", desc := "(I)C" } : Jvm.MethodName)) ∈ lw_all := lw_g (lw_at lw_m13 158 rfl) rfl
theorem q3135 : (Jvm.Cond.methodLink "WindowExchangeLaw" (324 : Nat) ({ cls := "WindowExchangeModel", name := "type", desc := "(C)I" } : Jvm.MethodName)) ∈ lw_all := lw_g (lw_at lw_m13 162 rfl) rfl
theorem q3139 : (Jvm.Cond.methodLink "WindowExchangeLaw" (327 : Nat) ({ cls := "WindowExchangeModel", name := "run", desc := "()I" } : Jvm.MethodName)) ∈ lw_all := lw_g (lw_at lw_m13 166 rfl) rfl
theorem q3181 : (Jvm.Cond.methodLink "WindowExchangeLaw" (330 : Nat) ({ cls := "WindowExchangeModel", name := "errorPosition", desc := "()I" } : Jvm.MethodName)) ∈ lw_all := lw_g (lw_at lw_m13 208 rfl) rfl
theorem q3185 : (Jvm.Cond.methodLink "WindowExchangeLaw" (333 : Nat) ({ cls := "WindowExchangeModel", name := "failedCommand", desc := "()I" } : Jvm.MethodName)) ∈ lw_all := lw_g (lw_at lw_m13 212 rfl) rfl
theorem q3189 : (Jvm.Cond.methodLink "WindowExchangeLaw" (336 : Nat) ({ cls := "WindowExchangeModel", name := "undo", desc := "()I" } : Jvm.MethodName)) ∈ lw_all := lw_g (lw_at lw_m13 216 rfl) rfl
theorem q3193 : (Jvm.Cond.methodLink "WindowExchangeLaw" (340 : Nat) ({ cls := "WindowExchangeModel", name := "save", desc := "()I" } : Jvm.MethodName)) ∈ lw_all := lw_g (lw_at lw_m13 220 rfl) rfl
theorem q3197 : (Jvm.Cond.methodLink "WindowExchangeLaw" (343 : Nat) ({ cls := "WindowExchangeModel", name := "restore", desc := "()I" } : Jvm.MethodName)) ∈ lw_all := lw_g (lw_at lw_m13 224 rfl) rfl
