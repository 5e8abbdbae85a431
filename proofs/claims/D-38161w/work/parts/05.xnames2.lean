/-! QuorumspireModel$Machine -/
set_option maxRecDepth 100000
def RX5 : String := "QuorumspireModel$Machine"
def TX5 : u_T := fun k => match k with
  | 0 => ("QuorumspireModel$Machine", "role", "I", false)
  | 1 => ("QuorumspireModel$Machine", "kept", "LQuorumspireModel$Kept;", false)
  | 2 => ("QuorumspireModel$Machine", "saved", "LQuorumspireModel$Kept;", false)
  | 3 => ("QuorumspireModel$Machine", "store", "LQuorumspireModel$Store;", false)
  | 4 => ("QuorumspireModel$Machine", "done", "I", false)
  | 5 => ("QuorumspireModel$Machine", "sure", "I", false)
  | 6 => ("QuorumspireModel$Machine", "votes", "I", false)
  | 7 => ("QuorumspireModel$Machine", "next", "[I", true)
  | 8 => ("QuorumspireModel$Machine", "keeps", "[I", true)
  | _ => ("QuorumspireModel$Machine", "isLazy", "Z", false)
def tyX5 : Nat → FieldType := fun k => match k with
  | 0 => .int
  | 1 => .object "QuorumspireModel$Kept"
  | 2 => .object "QuorumspireModel$Kept"
  | 3 => .object "QuorumspireModel$Store"
  | 4 => .int
  | 5 => .int
  | 6 => .int
  | 7 => .array .int
  | 8 => .array .int
  | _ => .boolean
abbrev wsX50 : List Cond := u_ws RX5 TX5 10
theorem nmX5 : ∀ a, a < 10 → ∀ b, b < 10 → a ≠ b → (TX5 a).2.1 ≠ (TX5 b).2.1 := by decide +kernel
theorem tyX5_ok : ∀ k, k < 10 → parseFieldDescriptor (TX5 k).2.2.1 = some (tyX5 k) := by decide +kernel
abbrev cX5_init : ByteArray := prog_15_method_1_code
def yX5_init : MethodName := ⟨RX5, "<init>", "()V"⟩
def dkwX5_init_2 : List UInt8 := [181, 0, 32, 42, 8, 188, 10, 181, 0, 36, 177]
abbrev dktX5_init_2 : List UInt8 := dkwX5_init_2 ++ []
def dkwX5_init_1 : List UInt8 := [89, 183, 0, 17, 181, 0, 22, 42, 187, 0, 25, 89, 183, 0, 27, 181, 0, 28, 42, 8, 188, 10]
abbrev dktX5_init_1 : List UInt8 := dkwX5_init_1 ++ dktX5_init_2
def dkwX5_init_0 : List UInt8 := [42, 183, 0, 3, 42, 4, 181, 0, 9, 42, 187, 0, 15, 89, 183, 0, 17, 181, 0, 18, 42, 187, 0, 15]
abbrev dktX5_init_0 : List UInt8 := dkwX5_init_0 ++ dktX5_init_1
theorem dksX5_init_0 : cX5_init.data.toList.drop 0 = dktX5_init_0 := by decide +kernel
theorem dksX5_init_1 : cX5_init.data.toList.drop 24 = dktX5_init_1 := dk_seg dksX5_init_0 24 rfl rfl
theorem dksX5_init_2 : cX5_init.data.toList.drop 46 = dktX5_init_2 := dk_seg dksX5_init_1 22 rfl rfl
theorem dX5_init_0 : decode cX5_init 0 = .ok (.aload_n 0, 1) := dk_42 (dk_at dksX5_init_0 0 rfl rfl)
theorem dX5_init_1 : decode cX5_init 1 = .ok (.invokespecial 3, 3) := dk_183 0 3 (dk_at dksX5_init_0 1 rfl rfl)
theorem dX5_init_4 : decode cX5_init 4 = .ok (.aload_n 0, 1) := dk_42 (dk_at dksX5_init_0 4 rfl rfl)
theorem dX5_init_5 : decode cX5_init 5 = .ok (.iconst 1, 1) := dk_4 (dk_at dksX5_init_0 5 rfl rfl)
theorem dX5_init_6 : decode cX5_init 6 = .ok (.putfield 9, 3) := dk_181 0 9 (dk_at dksX5_init_0 6 rfl rfl)
theorem dX5_init_9 : decode cX5_init 9 = .ok (.aload_n 0, 1) := dk_42 (dk_at dksX5_init_0 9 rfl rfl)
theorem dX5_init_10 : decode cX5_init 10 = .ok (.new 15, 3) := dk_187 0 15 (dk_at dksX5_init_0 10 rfl rfl)
theorem dX5_init_13 : decode cX5_init 13 = .ok (.dup, 1) := dk_89 (dk_at dksX5_init_0 13 rfl rfl)
theorem dX5_init_14 : decode cX5_init 14 = .ok (.invokespecial 17, 3) := dk_183 0 17 (dk_at dksX5_init_0 14 rfl rfl)
theorem dX5_init_17 : decode cX5_init 17 = .ok (.putfield 18, 3) := dk_181 0 18 (dk_at dksX5_init_0 17 rfl rfl)
theorem dX5_init_20 : decode cX5_init 20 = .ok (.aload_n 0, 1) := dk_42 (dk_at dksX5_init_0 20 rfl rfl)
theorem dX5_init_21 : decode cX5_init 21 = .ok (.new 15, 3) := dk_187 0 15 (dk_at dksX5_init_0 21 rfl rfl)
theorem dX5_init_24 : decode cX5_init 24 = .ok (.dup, 1) := dk_89 (dk_at dksX5_init_1 0 rfl rfl)
theorem dX5_init_25 : decode cX5_init 25 = .ok (.invokespecial 17, 3) := dk_183 0 17 (dk_at dksX5_init_1 1 rfl rfl)
theorem dX5_init_28 : decode cX5_init 28 = .ok (.putfield 22, 3) := dk_181 0 22 (dk_at dksX5_init_1 4 rfl rfl)
theorem dX5_init_31 : decode cX5_init 31 = .ok (.aload_n 0, 1) := dk_42 (dk_at dksX5_init_1 7 rfl rfl)
theorem dX5_init_32 : decode cX5_init 32 = .ok (.new 25, 3) := dk_187 0 25 (dk_at dksX5_init_1 8 rfl rfl)
theorem dX5_init_35 : decode cX5_init 35 = .ok (.dup, 1) := dk_89 (dk_at dksX5_init_1 11 rfl rfl)
theorem dX5_init_36 : decode cX5_init 36 = .ok (.invokespecial 27, 3) := dk_183 0 27 (dk_at dksX5_init_1 12 rfl rfl)
theorem dX5_init_39 : decode cX5_init 39 = .ok (.putfield 28, 3) := dk_181 0 28 (dk_at dksX5_init_1 15 rfl rfl)
theorem dX5_init_42 : decode cX5_init 42 = .ok (.aload_n 0, 1) := dk_42 (dk_at dksX5_init_1 18 rfl rfl)
theorem dX5_init_43 : decode cX5_init 43 = .ok (.iconst 5, 1) := dk_8 (dk_at dksX5_init_1 19 rfl rfl)
theorem dX5_init_44 : decode cX5_init 44 = .ok (.newarray .int, 2) := dk_188_10 (dk_at dksX5_init_1 20 rfl rfl)
theorem dX5_init_46 : decode cX5_init 46 = .ok (.putfield 32, 3) := dk_181 0 32 (dk_at dksX5_init_2 0 rfl rfl)
theorem dX5_init_49 : decode cX5_init 49 = .ok (.aload_n 0, 1) := dk_42 (dk_at dksX5_init_2 3 rfl rfl)
theorem dX5_init_50 : decode cX5_init 50 = .ok (.iconst 5, 1) := dk_8 (dk_at dksX5_init_2 4 rfl rfl)
theorem dX5_init_51 : decode cX5_init 51 = .ok (.newarray .int, 2) := dk_188_10 (dk_at dksX5_init_2 5 rfl rfl)
theorem dX5_init_53 : decode cX5_init 53 = .ok (.putfield 36, 3) := dk_181 0 36 (dk_at dksX5_init_2 7 rfl rfl)
theorem dX5_init_56 : decode cX5_init 56 = .ok (.return_, 1) := dk_177 (dk_at dksX5_init_2 10 rfl rfl)
abbrev cX5_own : ByteArray := prog_15_method_3_code
def yX5_own : MethodName := ⟨RX5, "own", "()LQuorumspireModel$Kept;"⟩
def dkwX5_own_0 : List UInt8 := [42, 180, 0, 9, 154, 0, 10, 42, 180, 0, 22, 167, 0, 7, 42, 180, 0, 18, 176]
abbrev dktX5_own_0 : List UInt8 := dkwX5_own_0 ++ []
theorem dksX5_own_0 : cX5_own.data.toList.drop 0 = dktX5_own_0 := by decide +kernel
theorem dX5_own_0 : decode cX5_own 0 = .ok (.aload_n 0, 1) := dk_42 (dk_at dksX5_own_0 0 rfl rfl)
theorem dX5_own_1 : decode cX5_own 1 = .ok (.getfield 9, 3) := dk_180 0 9 (dk_at dksX5_own_0 1 rfl rfl)
theorem dX5_own_4 : decode cX5_own 4 = .ok (.ifCond .ne 10, 3) := dk_154 0 10 (dk_at dksX5_own_0 4 rfl rfl)
theorem dX5_own_7 : decode cX5_own 7 = .ok (.aload_n 0, 1) := dk_42 (dk_at dksX5_own_0 7 rfl rfl)
theorem dX5_own_8 : decode cX5_own 8 = .ok (.getfield 22, 3) := dk_180 0 22 (dk_at dksX5_own_0 8 rfl rfl)
theorem dX5_own_11 : decode cX5_own 11 = .ok (.goto 7, 3) := dk_167 0 7 (dk_at dksX5_own_0 11 rfl rfl)
theorem dX5_own_14 : decode cX5_own 14 = .ok (.aload_n 0, 1) := dk_42 (dk_at dksX5_own_0 14 rfl rfl)
theorem dX5_own_15 : decode cX5_own 15 = .ok (.getfield 18, 3) := dk_180 0 18 (dk_at dksX5_own_0 15 rfl rfl)
theorem dX5_own_18 : decode cX5_own 18 = .ok (.areturn, 1) := dk_176 (dk_at dksX5_own_0 18 rfl rfl)
abbrev cX5_copy : ByteArray := prog_15_method_2_code
def yX5_copy : MethodName := ⟨RX5, "copy", "()LQuorumspireModel$Machine;"⟩
def dkwX5_copy_4 : List UInt8 := [184, 0, 56, 43, 42, 180, 0, 62, 181, 0, 62, 43, 176]
abbrev dktX5_copy_4 : List UInt8 := dkwX5_copy_4 ++ []
def dkwX5_copy_3 : List UInt8 := [180, 0, 32, 3, 43, 180, 0, 32, 3, 8, 184, 0, 56, 42, 180, 0, 36, 3, 43, 180, 0, 36, 3, 8]
abbrev dktX5_copy_3 : List UInt8 := dkwX5_copy_3 ++ dktX5_copy_4
def dkwX5_copy_2 : List UInt8 := [180, 0, 47, 181, 0, 47, 43, 42, 180, 0, 50, 181, 0, 50, 43, 42, 180, 0, 53, 181, 0, 53, 42]
abbrev dktX5_copy_2 : List UInt8 := dkwX5_copy_2 ++ dktX5_copy_3
def dkwX5_copy_1 : List UInt8 := [181, 0, 18, 43, 42, 180, 0, 22, 181, 0, 22, 43, 42, 180, 0, 28, 182, 0, 44, 181, 0, 28, 43, 42]
abbrev dktX5_copy_1 : List UInt8 := dkwX5_copy_1 ++ dktX5_copy_2
def dkwX5_copy_0 : List UInt8 := [187, 0, 10, 89, 183, 0, 39, 76, 43, 42, 180, 0, 9, 181, 0, 9, 43, 42, 180, 0, 18, 182, 0, 40]
abbrev dktX5_copy_0 : List UInt8 := dkwX5_copy_0 ++ dktX5_copy_1
theorem dksX5_copy_0 : cX5_copy.data.toList.drop 0 = dktX5_copy_0 := by decide +kernel
theorem dksX5_copy_1 : cX5_copy.data.toList.drop 24 = dktX5_copy_1 := dk_seg dksX5_copy_0 24 rfl rfl
theorem dksX5_copy_2 : cX5_copy.data.toList.drop 48 = dktX5_copy_2 := dk_seg dksX5_copy_1 24 rfl rfl
theorem dksX5_copy_3 : cX5_copy.data.toList.drop 71 = dktX5_copy_3 := dk_seg dksX5_copy_2 23 rfl rfl
theorem dksX5_copy_4 : cX5_copy.data.toList.drop 95 = dktX5_copy_4 := dk_seg dksX5_copy_3 24 rfl rfl
theorem dX5_copy_0 : decode cX5_copy 0 = .ok (.new 10, 3) := dk_187 0 10 (dk_at dksX5_copy_0 0 rfl rfl)
theorem dX5_copy_3 : decode cX5_copy 3 = .ok (.dup, 1) := dk_89 (dk_at dksX5_copy_0 3 rfl rfl)
theorem dX5_copy_4 : decode cX5_copy 4 = .ok (.invokespecial 39, 3) := dk_183 0 39 (dk_at dksX5_copy_0 4 rfl rfl)
theorem dX5_copy_7 : decode cX5_copy 7 = .ok (.astore_n 1, 1) := dk_76 (dk_at dksX5_copy_0 7 rfl rfl)
theorem dX5_copy_8 : decode cX5_copy 8 = .ok (.aload_n 1, 1) := dk_43 (dk_at dksX5_copy_0 8 rfl rfl)
theorem dX5_copy_9 : decode cX5_copy 9 = .ok (.aload_n 0, 1) := dk_42 (dk_at dksX5_copy_0 9 rfl rfl)
theorem dX5_copy_10 : decode cX5_copy 10 = .ok (.getfield 9, 3) := dk_180 0 9 (dk_at dksX5_copy_0 10 rfl rfl)
theorem dX5_copy_13 : decode cX5_copy 13 = .ok (.putfield 9, 3) := dk_181 0 9 (dk_at dksX5_copy_0 13 rfl rfl)
theorem dX5_copy_16 : decode cX5_copy 16 = .ok (.aload_n 1, 1) := dk_43 (dk_at dksX5_copy_0 16 rfl rfl)
theorem dX5_copy_17 : decode cX5_copy 17 = .ok (.aload_n 0, 1) := dk_42 (dk_at dksX5_copy_0 17 rfl rfl)
theorem dX5_copy_18 : decode cX5_copy 18 = .ok (.getfield 18, 3) := dk_180 0 18 (dk_at dksX5_copy_0 18 rfl rfl)
theorem dX5_copy_21 : decode cX5_copy 21 = .ok (.invokevirtual 40, 3) := dk_182 0 40 (dk_at dksX5_copy_0 21 rfl rfl)
theorem dX5_copy_24 : decode cX5_copy 24 = .ok (.putfield 18, 3) := dk_181 0 18 (dk_at dksX5_copy_1 0 rfl rfl)
theorem dX5_copy_27 : decode cX5_copy 27 = .ok (.aload_n 1, 1) := dk_43 (dk_at dksX5_copy_1 3 rfl rfl)
theorem dX5_copy_28 : decode cX5_copy 28 = .ok (.aload_n 0, 1) := dk_42 (dk_at dksX5_copy_1 4 rfl rfl)
theorem dX5_copy_29 : decode cX5_copy 29 = .ok (.getfield 22, 3) := dk_180 0 22 (dk_at dksX5_copy_1 5 rfl rfl)
theorem dX5_copy_32 : decode cX5_copy 32 = .ok (.putfield 22, 3) := dk_181 0 22 (dk_at dksX5_copy_1 8 rfl rfl)
theorem dX5_copy_35 : decode cX5_copy 35 = .ok (.aload_n 1, 1) := dk_43 (dk_at dksX5_copy_1 11 rfl rfl)
theorem dX5_copy_36 : decode cX5_copy 36 = .ok (.aload_n 0, 1) := dk_42 (dk_at dksX5_copy_1 12 rfl rfl)
theorem dX5_copy_37 : decode cX5_copy 37 = .ok (.getfield 28, 3) := dk_180 0 28 (dk_at dksX5_copy_1 13 rfl rfl)
theorem dX5_copy_40 : decode cX5_copy 40 = .ok (.invokevirtual 44, 3) := dk_182 0 44 (dk_at dksX5_copy_1 16 rfl rfl)
theorem dX5_copy_43 : decode cX5_copy 43 = .ok (.putfield 28, 3) := dk_181 0 28 (dk_at dksX5_copy_1 19 rfl rfl)
theorem dX5_copy_46 : decode cX5_copy 46 = .ok (.aload_n 1, 1) := dk_43 (dk_at dksX5_copy_1 22 rfl rfl)
theorem dX5_copy_47 : decode cX5_copy 47 = .ok (.aload_n 0, 1) := dk_42 (dk_at dksX5_copy_1 23 rfl rfl)
theorem dX5_copy_48 : decode cX5_copy 48 = .ok (.getfield 47, 3) := dk_180 0 47 (dk_at dksX5_copy_2 0 rfl rfl)
theorem dX5_copy_51 : decode cX5_copy 51 = .ok (.putfield 47, 3) := dk_181 0 47 (dk_at dksX5_copy_2 3 rfl rfl)
theorem dX5_copy_54 : decode cX5_copy 54 = .ok (.aload_n 1, 1) := dk_43 (dk_at dksX5_copy_2 6 rfl rfl)
theorem dX5_copy_55 : decode cX5_copy 55 = .ok (.aload_n 0, 1) := dk_42 (dk_at dksX5_copy_2 7 rfl rfl)
theorem dX5_copy_56 : decode cX5_copy 56 = .ok (.getfield 50, 3) := dk_180 0 50 (dk_at dksX5_copy_2 8 rfl rfl)
theorem dX5_copy_59 : decode cX5_copy 59 = .ok (.putfield 50, 3) := dk_181 0 50 (dk_at dksX5_copy_2 11 rfl rfl)
theorem dX5_copy_62 : decode cX5_copy 62 = .ok (.aload_n 1, 1) := dk_43 (dk_at dksX5_copy_2 14 rfl rfl)
theorem dX5_copy_63 : decode cX5_copy 63 = .ok (.aload_n 0, 1) := dk_42 (dk_at dksX5_copy_2 15 rfl rfl)
theorem dX5_copy_64 : decode cX5_copy 64 = .ok (.getfield 53, 3) := dk_180 0 53 (dk_at dksX5_copy_2 16 rfl rfl)
theorem dX5_copy_67 : decode cX5_copy 67 = .ok (.putfield 53, 3) := dk_181 0 53 (dk_at dksX5_copy_2 19 rfl rfl)
theorem dX5_copy_70 : decode cX5_copy 70 = .ok (.aload_n 0, 1) := dk_42 (dk_at dksX5_copy_2 22 rfl rfl)
theorem dX5_copy_71 : decode cX5_copy 71 = .ok (.getfield 32, 3) := dk_180 0 32 (dk_at dksX5_copy_3 0 rfl rfl)
theorem dX5_copy_74 : decode cX5_copy 74 = .ok (.iconst 0, 1) := dk_3 (dk_at dksX5_copy_3 3 rfl rfl)
theorem dX5_copy_75 : decode cX5_copy 75 = .ok (.aload_n 1, 1) := dk_43 (dk_at dksX5_copy_3 4 rfl rfl)
theorem dX5_copy_76 : decode cX5_copy 76 = .ok (.getfield 32, 3) := dk_180 0 32 (dk_at dksX5_copy_3 5 rfl rfl)
theorem dX5_copy_79 : decode cX5_copy 79 = .ok (.iconst 0, 1) := dk_3 (dk_at dksX5_copy_3 8 rfl rfl)
theorem dX5_copy_80 : decode cX5_copy 80 = .ok (.iconst 5, 1) := dk_8 (dk_at dksX5_copy_3 9 rfl rfl)
theorem dX5_copy_81 : decode cX5_copy 81 = .ok (.invokestatic 56, 3) := dk_184 0 56 (dk_at dksX5_copy_3 10 rfl rfl)
theorem dX5_copy_84 : decode cX5_copy 84 = .ok (.aload_n 0, 1) := dk_42 (dk_at dksX5_copy_3 13 rfl rfl)
theorem dX5_copy_85 : decode cX5_copy 85 = .ok (.getfield 36, 3) := dk_180 0 36 (dk_at dksX5_copy_3 14 rfl rfl)
theorem dX5_copy_88 : decode cX5_copy 88 = .ok (.iconst 0, 1) := dk_3 (dk_at dksX5_copy_3 17 rfl rfl)
theorem dX5_copy_89 : decode cX5_copy 89 = .ok (.aload_n 1, 1) := dk_43 (dk_at dksX5_copy_3 18 rfl rfl)
theorem dX5_copy_90 : decode cX5_copy 90 = .ok (.getfield 36, 3) := dk_180 0 36 (dk_at dksX5_copy_3 19 rfl rfl)
theorem dX5_copy_93 : decode cX5_copy 93 = .ok (.iconst 0, 1) := dk_3 (dk_at dksX5_copy_3 22 rfl rfl)
theorem dX5_copy_94 : decode cX5_copy 94 = .ok (.iconst 5, 1) := dk_8 (dk_at dksX5_copy_3 23 rfl rfl)
theorem dX5_copy_95 : decode cX5_copy 95 = .ok (.invokestatic 56, 3) := dk_184 0 56 (dk_at dksX5_copy_4 0 rfl rfl)
theorem dX5_copy_98 : decode cX5_copy 98 = .ok (.aload_n 1, 1) := dk_43 (dk_at dksX5_copy_4 3 rfl rfl)
theorem dX5_copy_99 : decode cX5_copy 99 = .ok (.aload_n 0, 1) := dk_42 (dk_at dksX5_copy_4 4 rfl rfl)
theorem dX5_copy_100 : decode cX5_copy 100 = .ok (.getfield 62, 3) := dk_180 0 62 (dk_at dksX5_copy_4 5 rfl rfl)
theorem dX5_copy_103 : decode cX5_copy 103 = .ok (.putfield 62, 3) := dk_181 0 62 (dk_at dksX5_copy_4 8 rfl rfl)
theorem dX5_copy_106 : decode cX5_copy 106 = .ok (.aload_n 1, 1) := dk_43 (dk_at dksX5_copy_4 11 rfl rfl)
theorem dX5_copy_107 : decode cX5_copy 107 = .ok (.areturn, 1) := dk_176 (dk_at dksX5_copy_4 12 rfl rfl)
theorem q76 : (Jvm.Cond.initialized "QuorumspireModel$Machine") ∈ lw_all := lw_g (lw_at lw_m1 8 rfl) rfl
theorem q659 : (Jvm.Cond.selects "QuorumspireModel$Machine" ({ cls := "java/lang/Object", name := "getClass", desc := "()Ljava/lang/Class;" } : Jvm.MethodName) ({ cls := "java/lang/Object", name := "getClass", desc := "()Ljava/lang/Class;" } : Jvm.MethodName)) ∈ lw_all := lw_g (lw_at lw_m3 111 rfl) rfl
theorem q1609 : (Jvm.Cond.instantiable "QuorumspireModel$Machine" (10 : Nat)) ∈ lw_all := lw_g (lw_at lw_m7 101 rfl) rfl
theorem q1611 : (Jvm.Cond.instanceMethod ({ cls := "QuorumspireModel$Machine", name := "<init>", desc := "()V" } : Jvm.MethodName)) ∈ lw_all := lw_g (lw_at lw_m7 103 rfl) rfl
theorem q1612 : (Jvm.Cond.code ({ cls := "QuorumspireModel$Machine", name := "<init>", desc := "()V" } : Jvm.MethodName) prog_15_method_1_code (1 : Nat) (Option.none : Option Jvm.ClassFile.FieldType)) ∈ lw_all := lw_g (lw_at lw_m7 104 rfl) rfl
theorem q1613 : (Jvm.Cond.methodLink "QuorumspireModel$Machine" (3 : Nat) ({ cls := "java/lang/Object", name := "<init>", desc := "()V" } : Jvm.MethodName)) ∈ lw_all := lw_g (lw_at lw_m7 105 rfl) rfl
theorem q1614 : (Jvm.Cond.classLink "QuorumspireModel$Machine" (15 : Nat) "QuorumspireModel$Kept") ∈ lw_all := lw_g (lw_at lw_m7 106 rfl) rfl
theorem q1616 : (Jvm.Cond.methodLinkNest "QuorumspireModel$Machine" (17 : Nat) ({ cls := "QuorumspireModel$Kept", name := "<init>", desc := "()V" } : Jvm.MethodName) "QuorumspireModel") ∈ lw_tbl := lw_at lw_m7 108 rfl
theorem q1686 : (Jvm.Cond.classLink "QuorumspireModel$Machine" (25 : Nat) "QuorumspireModel$Store") ∈ lw_all := lw_g (lw_at lw_m7 178 rfl) rfl
theorem q1687 : (Jvm.Cond.methodLinkNest "QuorumspireModel$Machine" (27 : Nat) ({ cls := "QuorumspireModel$Store", name := "<init>", desc := "()V" } : Jvm.MethodName) "QuorumspireModel") ∈ lw_tbl := lw_at lw_m7 179 rfl
theorem q1688 : (Jvm.Cond.fieldLink "QuorumspireModel$Machine" (9 : Nat) "QuorumspireModel$Machine" "role" "I") ∈ lw_all := lw_g (lw_at lw_m7 180 rfl) rfl
theorem q1691 : (Jvm.Cond.fieldLink "QuorumspireModel$Machine" (18 : Nat) "QuorumspireModel$Machine" "kept" "LQuorumspireModel$Kept;") ∈ lw_all := lw_g (lw_at lw_m7 183 rfl) rfl
theorem q1694 : (Jvm.Cond.fieldLink "QuorumspireModel$Machine" (22 : Nat) "QuorumspireModel$Machine" "saved" "LQuorumspireModel$Kept;") ∈ lw_all := lw_g (lw_at lw_m7 186 rfl) rfl
theorem q1697 : (Jvm.Cond.fieldLink "QuorumspireModel$Machine" (28 : Nat) "QuorumspireModel$Machine" "store" "LQuorumspireModel$Store;") ∈ lw_all := lw_g (lw_at lw_m7 189 rfl) rfl
theorem q1700 : (Jvm.Cond.fieldLink "QuorumspireModel$Machine" (47 : Nat) "QuorumspireModel$Machine" "done" "I") ∈ lw_all := lw_g (lw_at lw_m7 192 rfl) rfl
theorem q1703 : (Jvm.Cond.fieldLink "QuorumspireModel$Machine" (50 : Nat) "QuorumspireModel$Machine" "sure" "I") ∈ lw_all := lw_g (lw_at lw_m7 195 rfl) rfl
theorem q1706 : (Jvm.Cond.fieldLink "QuorumspireModel$Machine" (53 : Nat) "QuorumspireModel$Machine" "votes" "I") ∈ lw_all := lw_g (lw_at lw_m7 198 rfl) rfl
theorem q1709 : (Jvm.Cond.fieldLink "QuorumspireModel$Machine" (32 : Nat) "QuorumspireModel$Machine" "next" "[I") ∈ lw_all := lw_g (lw_at lw_m7 201 rfl) rfl
theorem q1712 : (Jvm.Cond.fieldLink "QuorumspireModel$Machine" (36 : Nat) "QuorumspireModel$Machine" "keeps" "[I") ∈ lw_all := lw_g (lw_at lw_m7 204 rfl) rfl
theorem q1715 : (Jvm.Cond.fieldLink "QuorumspireModel$Machine" (62 : Nat) "QuorumspireModel$Machine" "isLazy" "Z") ∈ lw_all := lw_g (lw_at lw_m7 207 rfl) rfl
theorem q1718 : (Jvm.Cond.lays "QuorumspireModel$Machine" "QuorumspireModel$Machine" "role" "I") ∈ lw_all := lw_g (lw_at lw_m7 210 rfl) rfl
theorem q1719 : (Jvm.Cond.soleField "QuorumspireModel$Machine" "role") ∈ lw_all := lw_g (lw_at lw_m7 211 rfl) rfl
theorem q1720 : (Jvm.Cond.lays "QuorumspireModel$Machine" "QuorumspireModel$Machine" "kept" "LQuorumspireModel$Kept;") ∈ lw_all := lw_g (lw_at lw_m7 212 rfl) rfl
theorem q1721 : (Jvm.Cond.soleField "QuorumspireModel$Machine" "kept") ∈ lw_all := lw_g (lw_at lw_m7 213 rfl) rfl
theorem q1722 : (Jvm.Cond.lays "QuorumspireModel$Machine" "QuorumspireModel$Machine" "saved" "LQuorumspireModel$Kept;") ∈ lw_all := lw_g (lw_at lw_m7 214 rfl) rfl
theorem q1723 : (Jvm.Cond.soleField "QuorumspireModel$Machine" "saved") ∈ lw_all := lw_g (lw_at lw_m7 215 rfl) rfl
theorem q1724 : (Jvm.Cond.lays "QuorumspireModel$Machine" "QuorumspireModel$Machine" "store" "LQuorumspireModel$Store;") ∈ lw_all := lw_g (lw_at lw_m7 216 rfl) rfl
theorem q1725 : (Jvm.Cond.soleField "QuorumspireModel$Machine" "store") ∈ lw_all := lw_g (lw_at lw_m7 217 rfl) rfl
theorem q1726 : (Jvm.Cond.lays "QuorumspireModel$Machine" "QuorumspireModel$Machine" "done" "I") ∈ lw_all := lw_g (lw_at lw_m7 218 rfl) rfl
theorem q1727 : (Jvm.Cond.soleField "QuorumspireModel$Machine" "done") ∈ lw_all := lw_g (lw_at lw_m7 219 rfl) rfl
theorem q1728 : (Jvm.Cond.lays "QuorumspireModel$Machine" "QuorumspireModel$Machine" "sure" "I") ∈ lw_all := lw_g (lw_at lw_m7 220 rfl) rfl
theorem q1729 : (Jvm.Cond.soleField "QuorumspireModel$Machine" "sure") ∈ lw_all := lw_g (lw_at lw_m7 221 rfl) rfl
theorem q1730 : (Jvm.Cond.lays "QuorumspireModel$Machine" "QuorumspireModel$Machine" "votes" "I") ∈ lw_all := lw_g (lw_at lw_m7 222 rfl) rfl
theorem q1731 : (Jvm.Cond.soleField "QuorumspireModel$Machine" "votes") ∈ lw_all := lw_g (lw_at lw_m7 223 rfl) rfl
theorem q1732 : (Jvm.Cond.laysFinal "QuorumspireModel$Machine" "QuorumspireModel$Machine" "next" "[I") ∈ lw_all := lw_g (lw_at lw_m7 224 rfl) rfl
theorem q1733 : (Jvm.Cond.soleField "QuorumspireModel$Machine" "next") ∈ lw_all := lw_g (lw_at lw_m7 225 rfl) rfl
theorem q1734 : (Jvm.Cond.laysFinal "QuorumspireModel$Machine" "QuorumspireModel$Machine" "keeps" "[I") ∈ lw_all := lw_g (lw_at lw_m7 226 rfl) rfl
theorem q1735 : (Jvm.Cond.soleField "QuorumspireModel$Machine" "keeps") ∈ lw_all := lw_g (lw_at lw_m7 227 rfl) rfl
theorem q1736 : (Jvm.Cond.lays "QuorumspireModel$Machine" "QuorumspireModel$Machine" "isLazy" "Z") ∈ lw_all := lw_g (lw_at lw_m7 228 rfl) rfl
theorem q1737 : (Jvm.Cond.soleField "QuorumspireModel$Machine" "isLazy") ∈ lw_all := lw_g (lw_at lw_m7 229 rfl) rfl
theorem q1738 : (Jvm.Cond.superclass "QuorumspireModel$Machine" "java/lang/Object") ∈ lw_all := lw_g (lw_at lw_m7 230 rfl) rfl
theorem q2175 : (Jvm.Cond.instanceMethod ({ cls := "QuorumspireModel$Machine", name := "own", desc := "()LQuorumspireModel$Kept;" } : Jvm.MethodName)) ∈ lw_all := lw_g (lw_at lw_m9 187 rfl) rfl
theorem q2176 : (Jvm.Cond.selects "QuorumspireModel$Machine" ({ cls := "QuorumspireModel$Machine", name := "own", desc := "()LQuorumspireModel$Kept;" } : Jvm.MethodName) ({ cls := "QuorumspireModel$Machine", name := "own", desc := "()LQuorumspireModel$Kept;" } : Jvm.MethodName)) ∈ lw_all := lw_g (lw_at lw_m9 188 rfl) rfl
theorem q2177 : (Jvm.Cond.code ({ cls := "QuorumspireModel$Machine", name := "own", desc := "()LQuorumspireModel$Kept;" } : Jvm.MethodName) prog_15_method_3_code (1 : Nat) (Option.some (Jvm.ClassFile.FieldType.object "QuorumspireModel$Kept"))) ∈ lw_all := lw_g (lw_at lw_m9 189 rfl) rfl
theorem q2276 : (Jvm.Cond.selects "QuorumspireModel$Machine" ({ cls := "java/lang/Object", name := "equals", desc := "(Ljava/lang/Object;)Z" } : Jvm.MethodName) ({ cls := "java/lang/Object", name := "equals", desc := "(Ljava/lang/Object;)Z" } : Jvm.MethodName)) ∈ lw_all := lw_g (lw_at lw_m10 48 rfl) rfl
theorem q2355 : (Jvm.Cond.instanceMethod ({ cls := "QuorumspireModel$Machine", name := "copy", desc := "()LQuorumspireModel$Machine;" } : Jvm.MethodName)) ∈ lw_all := lw_g (lw_at lw_m10 127 rfl) rfl
theorem q2356 : (Jvm.Cond.selects "QuorumspireModel$Machine" ({ cls := "QuorumspireModel$Machine", name := "copy", desc := "()LQuorumspireModel$Machine;" } : Jvm.MethodName) ({ cls := "QuorumspireModel$Machine", name := "copy", desc := "()LQuorumspireModel$Machine;" } : Jvm.MethodName)) ∈ lw_all := lw_g (lw_at lw_m10 128 rfl) rfl
theorem q2357 : (Jvm.Cond.code ({ cls := "QuorumspireModel$Machine", name := "copy", desc := "()LQuorumspireModel$Machine;" } : Jvm.MethodName) prog_15_method_2_code (2 : Nat) (Option.some (Jvm.ClassFile.FieldType.object "QuorumspireModel$Machine"))) ∈ lw_all := lw_g (lw_at lw_m10 129 rfl) rfl
theorem q2358 : (Jvm.Cond.classLink "QuorumspireModel$Machine" (10 : Nat) "QuorumspireModel$Machine") ∈ lw_all := lw_g (lw_at lw_m10 130 rfl) rfl
theorem q2359 : (Jvm.Cond.methodLink "QuorumspireModel$Machine" (39 : Nat) ({ cls := "QuorumspireModel$Machine", name := "<init>", desc := "()V" } : Jvm.MethodName)) ∈ lw_all := lw_g (lw_at lw_m10 131 rfl) rfl
theorem q2360 : (Jvm.Cond.methodLink "QuorumspireModel$Machine" (40 : Nat) ({ cls := "QuorumspireModel$Kept", name := "copy", desc := "()LQuorumspireModel$Kept;" } : Jvm.MethodName)) ∈ lw_all := lw_g (lw_at lw_m10 132 rfl) rfl
theorem q2361 : (Jvm.Cond.methodLink "QuorumspireModel$Machine" (44 : Nat) ({ cls := "QuorumspireModel$Store", name := "copy", desc := "()LQuorumspireModel$Store;" } : Jvm.MethodName)) ∈ lw_all := lw_g (lw_at lw_m10 133 rfl) rfl
theorem q2362 : (Jvm.Cond.methodLink "QuorumspireModel$Machine" (56 : Nat) ({ cls := "java/lang/System", name := "arraycopy", desc := "(Ljava/lang/Object;ILjava/lang/Object;II)V" } : Jvm.MethodName)) ∈ lw_all := lw_g (lw_at lw_m10 134 rfl) rfl
theorem q2417 : (Jvm.Cond.castable "QuorumspireModel$Machine" "java/lang/Object") ∈ lw_tbl := lw_at lw_m10 189 rfl
theorem in_X5 : ∀ w ∈ wsX50, w ∈ lw_all := lw_in wsX50 [1718, 1720, 1722, 1724, 1726, 1728, 1730, 1732, 1734, 1736] (by decide +kernel) (by decide +kernel)
/-! QuorumspireModel$Kept -/
set_option maxRecDepth 100000
def RX6 : String := "QuorumspireModel$Kept"
def TX6 : u_T := fun k => match k with
  | 0 => ("QuorumspireModel$Kept", "term", "I", false)
  | 1 => ("QuorumspireModel$Kept", "vote", "I", false)
  | 2 => ("QuorumspireModel$Kept", "base", "I", false)
  | 3 => ("QuorumspireModel$Kept", "baseTerm", "I", false)
  | 4 => ("QuorumspireModel$Kept", "snapshot", "LQuorumspireModel$Store;", false)
  | _ => ("QuorumspireModel$Kept", "log", "Ljava/util/ArrayList;", false)
def tyX6 : Nat → FieldType := fun k => match k with
  | 0 => .int
  | 1 => .int
  | 2 => .int
  | 3 => .int
  | 4 => .object "QuorumspireModel$Store"
  | _ => .object "java/util/ArrayList"
abbrev wsX60 : List Cond := u_ws RX6 TX6 6
theorem nmX6 : ∀ a, a < 6 → ∀ b, b < 6 → a ≠ b → (TX6 a).2.1 ≠ (TX6 b).2.1 := by decide +kernel
theorem tyX6_ok : ∀ k, k < 6 → parseFieldDescriptor (TX6 k).2.2.1 = some (tyX6 k) := by decide +kernel
abbrev cX6_init : ByteArray := prog_14_method_1_code
def yX6_init : MethodName := ⟨RX6, "<init>", "()V"⟩
def dkwX6_init_1 : List UInt8 := [89, 183, 0, 24, 181, 0, 25, 177]
abbrev dktX6_init_1 : List UInt8 := dkwX6_init_1 ++ []
def dkwX6_init_0 : List UInt8 := [42, 183, 0, 3, 42, 2, 181, 0, 9, 42, 187, 0, 15, 89, 183, 0, 17, 181, 0, 18, 42, 187, 0, 22]
abbrev dktX6_init_0 : List UInt8 := dkwX6_init_0 ++ dktX6_init_1
theorem dksX6_init_0 : cX6_init.data.toList.drop 0 = dktX6_init_0 := by decide +kernel
theorem dksX6_init_1 : cX6_init.data.toList.drop 24 = dktX6_init_1 := dk_seg dksX6_init_0 24 rfl rfl
theorem dX6_init_0 : decode cX6_init 0 = .ok (.aload_n 0, 1) := dk_42 (dk_at dksX6_init_0 0 rfl rfl)
theorem dX6_init_1 : decode cX6_init 1 = .ok (.invokespecial 3, 3) := dk_183 0 3 (dk_at dksX6_init_0 1 rfl rfl)
theorem dX6_init_4 : decode cX6_init 4 = .ok (.aload_n 0, 1) := dk_42 (dk_at dksX6_init_0 4 rfl rfl)
theorem dX6_init_5 : decode cX6_init 5 = .ok (.iconst (-1), 1) := dk_2 (dk_at dksX6_init_0 5 rfl rfl)
theorem dX6_init_6 : decode cX6_init 6 = .ok (.putfield 9, 3) := dk_181 0 9 (dk_at dksX6_init_0 6 rfl rfl)
theorem dX6_init_9 : decode cX6_init 9 = .ok (.aload_n 0, 1) := dk_42 (dk_at dksX6_init_0 9 rfl rfl)
theorem dX6_init_10 : decode cX6_init 10 = .ok (.new 15, 3) := dk_187 0 15 (dk_at dksX6_init_0 10 rfl rfl)
theorem dX6_init_13 : decode cX6_init 13 = .ok (.dup, 1) := dk_89 (dk_at dksX6_init_0 13 rfl rfl)
theorem dX6_init_14 : decode cX6_init 14 = .ok (.invokespecial 17, 3) := dk_183 0 17 (dk_at dksX6_init_0 14 rfl rfl)
theorem dX6_init_17 : decode cX6_init 17 = .ok (.putfield 18, 3) := dk_181 0 18 (dk_at dksX6_init_0 17 rfl rfl)
theorem dX6_init_20 : decode cX6_init 20 = .ok (.aload_n 0, 1) := dk_42 (dk_at dksX6_init_0 20 rfl rfl)
theorem dX6_init_21 : decode cX6_init 21 = .ok (.new 22, 3) := dk_187 0 22 (dk_at dksX6_init_0 21 rfl rfl)
theorem dX6_init_24 : decode cX6_init 24 = .ok (.dup, 1) := dk_89 (dk_at dksX6_init_1 0 rfl rfl)
theorem dX6_init_25 : decode cX6_init 25 = .ok (.invokespecial 24, 3) := dk_183 0 24 (dk_at dksX6_init_1 1 rfl rfl)
theorem dX6_init_28 : decode cX6_init 28 = .ok (.putfield 25, 3) := dk_181 0 25 (dk_at dksX6_init_1 4 rfl rfl)
theorem dX6_init_31 : decode cX6_init 31 = .ok (.return_, 1) := dk_177 (dk_at dksX6_init_1 7 rfl rfl)
abbrev cX6_copy : ByteArray := prog_14_method_2_code
def yX6_copy : MethodName := ⟨RX6, "copy", "()LQuorumspireModel$Kept;"⟩
def dkwX6_copy_2 : List UInt8 := [43, 187, 0, 22, 89, 42, 180, 0, 25, 183, 0, 39, 181, 0, 25, 43, 176]
abbrev dktX6_copy_2 : List UInt8 := dkwX6_copy_2 ++ []
def dkwX6_copy_1 : List UInt8 := [43, 42, 180, 0, 33, 181, 0, 33, 43, 42, 180, 0, 36, 181, 0, 36, 43, 42, 180, 0, 18, 181, 0, 18]
abbrev dktX6_copy_1 : List UInt8 := dkwX6_copy_1 ++ dktX6_copy_2
def dkwX6_copy_0 : List UInt8 := [187, 0, 10, 89, 183, 0, 29, 76, 43, 42, 180, 0, 30, 181, 0, 30, 43, 42, 180, 0, 9, 181, 0, 9]
abbrev dktX6_copy_0 : List UInt8 := dkwX6_copy_0 ++ dktX6_copy_1
theorem dksX6_copy_0 : cX6_copy.data.toList.drop 0 = dktX6_copy_0 := by decide +kernel
theorem dksX6_copy_1 : cX6_copy.data.toList.drop 24 = dktX6_copy_1 := dk_seg dksX6_copy_0 24 rfl rfl
theorem dksX6_copy_2 : cX6_copy.data.toList.drop 48 = dktX6_copy_2 := dk_seg dksX6_copy_1 24 rfl rfl
theorem dX6_copy_0 : decode cX6_copy 0 = .ok (.new 10, 3) := dk_187 0 10 (dk_at dksX6_copy_0 0 rfl rfl)
theorem dX6_copy_3 : decode cX6_copy 3 = .ok (.dup, 1) := dk_89 (dk_at dksX6_copy_0 3 rfl rfl)
theorem dX6_copy_4 : decode cX6_copy 4 = .ok (.invokespecial 29, 3) := dk_183 0 29 (dk_at dksX6_copy_0 4 rfl rfl)
theorem dX6_copy_7 : decode cX6_copy 7 = .ok (.astore_n 1, 1) := dk_76 (dk_at dksX6_copy_0 7 rfl rfl)
theorem dX6_copy_8 : decode cX6_copy 8 = .ok (.aload_n 1, 1) := dk_43 (dk_at dksX6_copy_0 8 rfl rfl)
theorem dX6_copy_9 : decode cX6_copy 9 = .ok (.aload_n 0, 1) := dk_42 (dk_at dksX6_copy_0 9 rfl rfl)
theorem dX6_copy_10 : decode cX6_copy 10 = .ok (.getfield 30, 3) := dk_180 0 30 (dk_at dksX6_copy_0 10 rfl rfl)
theorem dX6_copy_13 : decode cX6_copy 13 = .ok (.putfield 30, 3) := dk_181 0 30 (dk_at dksX6_copy_0 13 rfl rfl)
theorem dX6_copy_16 : decode cX6_copy 16 = .ok (.aload_n 1, 1) := dk_43 (dk_at dksX6_copy_0 16 rfl rfl)
theorem dX6_copy_17 : decode cX6_copy 17 = .ok (.aload_n 0, 1) := dk_42 (dk_at dksX6_copy_0 17 rfl rfl)
theorem dX6_copy_18 : decode cX6_copy 18 = .ok (.getfield 9, 3) := dk_180 0 9 (dk_at dksX6_copy_0 18 rfl rfl)
theorem dX6_copy_21 : decode cX6_copy 21 = .ok (.putfield 9, 3) := dk_181 0 9 (dk_at dksX6_copy_0 21 rfl rfl)
theorem dX6_copy_24 : decode cX6_copy 24 = .ok (.aload_n 1, 1) := dk_43 (dk_at dksX6_copy_1 0 rfl rfl)
theorem dX6_copy_25 : decode cX6_copy 25 = .ok (.aload_n 0, 1) := dk_42 (dk_at dksX6_copy_1 1 rfl rfl)
theorem dX6_copy_26 : decode cX6_copy 26 = .ok (.getfield 33, 3) := dk_180 0 33 (dk_at dksX6_copy_1 2 rfl rfl)
theorem dX6_copy_29 : decode cX6_copy 29 = .ok (.putfield 33, 3) := dk_181 0 33 (dk_at dksX6_copy_1 5 rfl rfl)
theorem dX6_copy_32 : decode cX6_copy 32 = .ok (.aload_n 1, 1) := dk_43 (dk_at dksX6_copy_1 8 rfl rfl)
theorem dX6_copy_33 : decode cX6_copy 33 = .ok (.aload_n 0, 1) := dk_42 (dk_at dksX6_copy_1 9 rfl rfl)
theorem dX6_copy_34 : decode cX6_copy 34 = .ok (.getfield 36, 3) := dk_180 0 36 (dk_at dksX6_copy_1 10 rfl rfl)
theorem dX6_copy_37 : decode cX6_copy 37 = .ok (.putfield 36, 3) := dk_181 0 36 (dk_at dksX6_copy_1 13 rfl rfl)
theorem dX6_copy_40 : decode cX6_copy 40 = .ok (.aload_n 1, 1) := dk_43 (dk_at dksX6_copy_1 16 rfl rfl)
theorem dX6_copy_41 : decode cX6_copy 41 = .ok (.aload_n 0, 1) := dk_42 (dk_at dksX6_copy_1 17 rfl rfl)
theorem dX6_copy_42 : decode cX6_copy 42 = .ok (.getfield 18, 3) := dk_180 0 18 (dk_at dksX6_copy_1 18 rfl rfl)
theorem dX6_copy_45 : decode cX6_copy 45 = .ok (.putfield 18, 3) := dk_181 0 18 (dk_at dksX6_copy_1 21 rfl rfl)
theorem dX6_copy_48 : decode cX6_copy 48 = .ok (.aload_n 1, 1) := dk_43 (dk_at dksX6_copy_2 0 rfl rfl)
theorem dX6_copy_49 : decode cX6_copy 49 = .ok (.new 22, 3) := dk_187 0 22 (dk_at dksX6_copy_2 1 rfl rfl)
theorem dX6_copy_52 : decode cX6_copy 52 = .ok (.dup, 1) := dk_89 (dk_at dksX6_copy_2 4 rfl rfl)
theorem dX6_copy_53 : decode cX6_copy 53 = .ok (.aload_n 0, 1) := dk_42 (dk_at dksX6_copy_2 5 rfl rfl)
theorem dX6_copy_54 : decode cX6_copy 54 = .ok (.getfield 25, 3) := dk_180 0 25 (dk_at dksX6_copy_2 6 rfl rfl)
theorem dX6_copy_57 : decode cX6_copy 57 = .ok (.invokespecial 39, 3) := dk_183 0 39 (dk_at dksX6_copy_2 9 rfl rfl)
theorem dX6_copy_60 : decode cX6_copy 60 = .ok (.putfield 25, 3) := dk_181 0 25 (dk_at dksX6_copy_2 12 rfl rfl)
theorem dX6_copy_63 : decode cX6_copy 63 = .ok (.aload_n 1, 1) := dk_43 (dk_at dksX6_copy_2 15 rfl rfl)
theorem dX6_copy_64 : decode cX6_copy 64 = .ok (.areturn, 1) := dk_176 (dk_at dksX6_copy_2 16 rfl rfl)
abbrev cX6_last : ByteArray := prog_14_method_3_code
def yX6_last : MethodName := ⟨RX6, "last", "()I"⟩
def dkwX6_last_0 : List UInt8 := [42, 180, 0, 33, 42, 180, 0, 25, 182, 0, 42, 96, 172]
abbrev dktX6_last_0 : List UInt8 := dkwX6_last_0 ++ []
theorem dksX6_last_0 : cX6_last.data.toList.drop 0 = dktX6_last_0 := by decide +kernel
theorem dX6_last_0 : decode cX6_last 0 = .ok (.aload_n 0, 1) := dk_42 (dk_at dksX6_last_0 0 rfl rfl)
theorem dX6_last_1 : decode cX6_last 1 = .ok (.getfield 33, 3) := dk_180 0 33 (dk_at dksX6_last_0 1 rfl rfl)
theorem dX6_last_4 : decode cX6_last 4 = .ok (.aload_n 0, 1) := dk_42 (dk_at dksX6_last_0 4 rfl rfl)
theorem dX6_last_5 : decode cX6_last 5 = .ok (.getfield 25, 3) := dk_180 0 25 (dk_at dksX6_last_0 5 rfl rfl)
theorem dX6_last_8 : decode cX6_last 8 = .ok (.invokevirtual 42, 3) := dk_182 0 42 (dk_at dksX6_last_0 8 rfl rfl)
theorem dX6_last_11 : decode cX6_last 11 = .ok (.iadd, 1) := dk_96 (dk_at dksX6_last_0 11 rfl rfl)
theorem dX6_last_12 : decode cX6_last 12 = .ok (.ireturn, 1) := dk_172 (dk_at dksX6_last_0 12 rfl rfl)
abbrev cX6_termOf : ByteArray := prog_14_method_6_code
def yX6_termOf : MethodName := ⟨RX6, "termOf", "(I)I"⟩
def dkwX6_termOf_0 : List UInt8 := [27, 42, 180, 0, 33, 160, 0, 10, 42, 180, 0, 36, 167, 0, 10, 42, 27, 182, 0, 55, 3, 46, 172]
abbrev dktX6_termOf_0 : List UInt8 := dkwX6_termOf_0 ++ []
theorem dksX6_termOf_0 : cX6_termOf.data.toList.drop 0 = dktX6_termOf_0 := by decide +kernel
theorem dX6_termOf_0 : decode cX6_termOf 0 = .ok (.iload_n 1, 1) := dk_27 (dk_at dksX6_termOf_0 0 rfl rfl)
theorem dX6_termOf_1 : decode cX6_termOf 1 = .ok (.aload_n 0, 1) := dk_42 (dk_at dksX6_termOf_0 1 rfl rfl)
theorem dX6_termOf_2 : decode cX6_termOf 2 = .ok (.getfield 33, 3) := dk_180 0 33 (dk_at dksX6_termOf_0 2 rfl rfl)
theorem dX6_termOf_5 : decode cX6_termOf 5 = .ok (.if_icmp .ne 10, 3) := dk_160 0 10 (dk_at dksX6_termOf_0 5 rfl rfl)
theorem dX6_termOf_8 : decode cX6_termOf 8 = .ok (.aload_n 0, 1) := dk_42 (dk_at dksX6_termOf_0 8 rfl rfl)
theorem dX6_termOf_9 : decode cX6_termOf 9 = .ok (.getfield 36, 3) := dk_180 0 36 (dk_at dksX6_termOf_0 9 rfl rfl)
theorem dX6_termOf_12 : decode cX6_termOf 12 = .ok (.goto 10, 3) := dk_167 0 10 (dk_at dksX6_termOf_0 12 rfl rfl)
theorem dX6_termOf_15 : decode cX6_termOf 15 = .ok (.aload_n 0, 1) := dk_42 (dk_at dksX6_termOf_0 15 rfl rfl)
theorem dX6_termOf_16 : decode cX6_termOf 16 = .ok (.iload_n 1, 1) := dk_27 (dk_at dksX6_termOf_0 16 rfl rfl)
theorem dX6_termOf_17 : decode cX6_termOf 17 = .ok (.invokevirtual 55, 3) := dk_182 0 55 (dk_at dksX6_termOf_0 17 rfl rfl)
theorem dX6_termOf_20 : decode cX6_termOf 20 = .ok (.iconst 0, 1) := dk_3 (dk_at dksX6_termOf_0 20 rfl rfl)
theorem dX6_termOf_21 : decode cX6_termOf 21 = .ok (.iaload, 1) := dk_46 (dk_at dksX6_termOf_0 21 rfl rfl)
theorem dX6_termOf_22 : decode cX6_termOf 22 = .ok (.ireturn, 1) := dk_172 (dk_at dksX6_termOf_0 22 rfl rfl)
abbrev cX6_at : ByteArray := prog_14_method_4_code
def yX6_at : MethodName := ⟨RX6, "at", "(I)[I"⟩
def dkwX6_at_0 : List UInt8 := [42, 180, 0, 25, 27, 42, 180, 0, 33, 100, 4, 100, 182, 0, 46, 192, 0, 50, 176]
abbrev dktX6_at_0 : List UInt8 := dkwX6_at_0 ++ []
theorem dksX6_at_0 : cX6_at.data.toList.drop 0 = dktX6_at_0 := by decide +kernel
theorem dX6_at_0 : decode cX6_at 0 = .ok (.aload_n 0, 1) := dk_42 (dk_at dksX6_at_0 0 rfl rfl)
theorem dX6_at_1 : decode cX6_at 1 = .ok (.getfield 25, 3) := dk_180 0 25 (dk_at dksX6_at_0 1 rfl rfl)
theorem dX6_at_4 : decode cX6_at 4 = .ok (.iload_n 1, 1) := dk_27 (dk_at dksX6_at_0 4 rfl rfl)
theorem dX6_at_5 : decode cX6_at 5 = .ok (.aload_n 0, 1) := dk_42 (dk_at dksX6_at_0 5 rfl rfl)
theorem dX6_at_6 : decode cX6_at 6 = .ok (.getfield 33, 3) := dk_180 0 33 (dk_at dksX6_at_0 6 rfl rfl)
theorem dX6_at_9 : decode cX6_at 9 = .ok (.isub, 1) := dk_100 (dk_at dksX6_at_0 9 rfl rfl)
theorem dX6_at_10 : decode cX6_at 10 = .ok (.iconst 1, 1) := dk_4 (dk_at dksX6_at_0 10 rfl rfl)
theorem dX6_at_11 : decode cX6_at 11 = .ok (.isub, 1) := dk_100 (dk_at dksX6_at_0 11 rfl rfl)
theorem dX6_at_12 : decode cX6_at 12 = .ok (.invokevirtual 46, 3) := dk_182 0 46 (dk_at dksX6_at_0 12 rfl rfl)
theorem dX6_at_15 : decode cX6_at 15 = .ok (.checkcast 50, 3) := dk_192 0 50 (dk_at dksX6_at_0 15 rfl rfl)
theorem dX6_at_18 : decode cX6_at 18 = .ok (.areturn, 1) := dk_176 (dk_at dksX6_at_0 18 rfl rfl)
abbrev cX6_has : ByteArray := prog_14_method_5_code
def yX6_has : MethodName := ⟨RX6, "has", "(I)Z"⟩
def dkwX6_has_0 : List UInt8 := [27, 42, 180, 0, 33, 164, 0, 15, 27, 42, 182, 0, 52, 163, 0, 7, 4, 167, 0, 4, 3, 172]
abbrev dktX6_has_0 : List UInt8 := dkwX6_has_0 ++ []
theorem dksX6_has_0 : cX6_has.data.toList.drop 0 = dktX6_has_0 := by decide +kernel
theorem dX6_has_0 : decode cX6_has 0 = .ok (.iload_n 1, 1) := dk_27 (dk_at dksX6_has_0 0 rfl rfl)
theorem dX6_has_1 : decode cX6_has 1 = .ok (.aload_n 0, 1) := dk_42 (dk_at dksX6_has_0 1 rfl rfl)
theorem dX6_has_2 : decode cX6_has 2 = .ok (.getfield 33, 3) := dk_180 0 33 (dk_at dksX6_has_0 2 rfl rfl)
theorem dX6_has_5 : decode cX6_has 5 = .ok (.if_icmp .le 15, 3) := dk_164 0 15 (dk_at dksX6_has_0 5 rfl rfl)
theorem dX6_has_8 : decode cX6_has 8 = .ok (.iload_n 1, 1) := dk_27 (dk_at dksX6_has_0 8 rfl rfl)
theorem dX6_has_9 : decode cX6_has 9 = .ok (.aload_n 0, 1) := dk_42 (dk_at dksX6_has_0 9 rfl rfl)
theorem dX6_has_10 : decode cX6_has 10 = .ok (.invokevirtual 52, 3) := dk_182 0 52 (dk_at dksX6_has_0 10 rfl rfl)
theorem dX6_has_13 : decode cX6_has 13 = .ok (.if_icmp .gt 7, 3) := dk_163 0 7 (dk_at dksX6_has_0 13 rfl rfl)
theorem dX6_has_16 : decode cX6_has 16 = .ok (.iconst 1, 1) := dk_4 (dk_at dksX6_has_0 16 rfl rfl)
theorem dX6_has_17 : decode cX6_has 17 = .ok (.goto 4, 3) := dk_167 0 4 (dk_at dksX6_has_0 17 rfl rfl)
theorem dX6_has_20 : decode cX6_has 20 = .ok (.iconst 0, 1) := dk_3 (dk_at dksX6_has_0 20 rfl rfl)
theorem dX6_has_21 : decode cX6_has 21 = .ok (.ireturn, 1) := dk_172 (dk_at dksX6_has_0 21 rfl rfl)
theorem q77 : (Jvm.Cond.initialized "QuorumspireModel$Kept") ∈ lw_all := lw_g (lw_at lw_m1 9 rfl) rfl
theorem q658 : (Jvm.Cond.selects "QuorumspireModel$Kept" ({ cls := "java/lang/Object", name := "getClass", desc := "()Ljava/lang/Class;" } : Jvm.MethodName) ({ cls := "java/lang/Object", name := "getClass", desc := "()Ljava/lang/Class;" } : Jvm.MethodName)) ∈ lw_all := lw_g (lw_at lw_m3 110 rfl) rfl
theorem q1615 : (Jvm.Cond.instantiable "QuorumspireModel$Kept" (6 : Nat)) ∈ lw_all := lw_g (lw_at lw_m7 107 rfl) rfl
theorem q1617 : (Jvm.Cond.instanceMethod ({ cls := "QuorumspireModel$Kept", name := "<init>", desc := "()V" } : Jvm.MethodName)) ∈ lw_all := lw_g (lw_at lw_m7 109 rfl) rfl
theorem q1618 : (Jvm.Cond.code ({ cls := "QuorumspireModel$Kept", name := "<init>", desc := "()V" } : Jvm.MethodName) prog_14_method_1_code (1 : Nat) (Option.none : Option Jvm.ClassFile.FieldType)) ∈ lw_all := lw_g (lw_at lw_m7 110 rfl) rfl
theorem q1619 : (Jvm.Cond.methodLink "QuorumspireModel$Kept" (3 : Nat) ({ cls := "java/lang/Object", name := "<init>", desc := "()V" } : Jvm.MethodName)) ∈ lw_all := lw_g (lw_at lw_m7 111 rfl) rfl
theorem q1620 : (Jvm.Cond.classLink "QuorumspireModel$Kept" (15 : Nat) "QuorumspireModel$Store") ∈ lw_all := lw_g (lw_at lw_m7 112 rfl) rfl
theorem q1622 : (Jvm.Cond.methodLinkNest "QuorumspireModel$Kept" (17 : Nat) ({ cls := "QuorumspireModel$Store", name := "<init>", desc := "()V" } : Jvm.MethodName) "QuorumspireModel") ∈ lw_tbl := lw_at lw_m7 114 rfl
theorem q1653 : (Jvm.Cond.classLink "QuorumspireModel$Kept" (22 : Nat) "java/util/ArrayList") ∈ lw_all := lw_g (lw_at lw_m7 145 rfl) rfl
theorem q1654 : (Jvm.Cond.methodLink "QuorumspireModel$Kept" (24 : Nat) ({ cls := "java/util/ArrayList", name := "<init>", desc := "()V" } : Jvm.MethodName)) ∈ lw_all := lw_g (lw_at lw_m7 146 rfl) rfl
theorem q1655 : (Jvm.Cond.fieldLink "QuorumspireModel$Kept" (30 : Nat) "QuorumspireModel$Kept" "term" "I") ∈ lw_all := lw_g (lw_at lw_m7 147 rfl) rfl
theorem q1658 : (Jvm.Cond.fieldLink "QuorumspireModel$Kept" (9 : Nat) "QuorumspireModel$Kept" "vote" "I") ∈ lw_all := lw_g (lw_at lw_m7 150 rfl) rfl
theorem q1661 : (Jvm.Cond.fieldLink "QuorumspireModel$Kept" (33 : Nat) "QuorumspireModel$Kept" "base" "I") ∈ lw_all := lw_g (lw_at lw_m7 153 rfl) rfl
theorem q1664 : (Jvm.Cond.fieldLink "QuorumspireModel$Kept" (36 : Nat) "QuorumspireModel$Kept" "baseTerm" "I") ∈ lw_all := lw_g (lw_at lw_m7 156 rfl) rfl
theorem q1667 : (Jvm.Cond.fieldLink "QuorumspireModel$Kept" (18 : Nat) "QuorumspireModel$Kept" "snapshot" "LQuorumspireModel$Store;") ∈ lw_all := lw_g (lw_at lw_m7 159 rfl) rfl
theorem q1670 : (Jvm.Cond.fieldLink "QuorumspireModel$Kept" (25 : Nat) "QuorumspireModel$Kept" "log" "Ljava/util/ArrayList;") ∈ lw_all := lw_g (lw_at lw_m7 162 rfl) rfl
theorem q1673 : (Jvm.Cond.lays "QuorumspireModel$Kept" "QuorumspireModel$Kept" "term" "I") ∈ lw_all := lw_g (lw_at lw_m7 165 rfl) rfl
theorem q1674 : (Jvm.Cond.soleField "QuorumspireModel$Kept" "term") ∈ lw_all := lw_g (lw_at lw_m7 166 rfl) rfl
theorem q1675 : (Jvm.Cond.lays "QuorumspireModel$Kept" "QuorumspireModel$Kept" "vote" "I") ∈ lw_all := lw_g (lw_at lw_m7 167 rfl) rfl
theorem q1676 : (Jvm.Cond.soleField "QuorumspireModel$Kept" "vote") ∈ lw_all := lw_g (lw_at lw_m7 168 rfl) rfl
theorem q1677 : (Jvm.Cond.lays "QuorumspireModel$Kept" "QuorumspireModel$Kept" "base" "I") ∈ lw_all := lw_g (lw_at lw_m7 169 rfl) rfl
theorem q1678 : (Jvm.Cond.soleField "QuorumspireModel$Kept" "base") ∈ lw_all := lw_g (lw_at lw_m7 170 rfl) rfl
theorem q1679 : (Jvm.Cond.lays "QuorumspireModel$Kept" "QuorumspireModel$Kept" "baseTerm" "I") ∈ lw_all := lw_g (lw_at lw_m7 171 rfl) rfl
theorem q1680 : (Jvm.Cond.soleField "QuorumspireModel$Kept" "baseTerm") ∈ lw_all := lw_g (lw_at lw_m7 172 rfl) rfl
theorem q1681 : (Jvm.Cond.lays "QuorumspireModel$Kept" "QuorumspireModel$Kept" "snapshot" "LQuorumspireModel$Store;") ∈ lw_all := lw_g (lw_at lw_m7 173 rfl) rfl
theorem q1682 : (Jvm.Cond.soleField "QuorumspireModel$Kept" "snapshot") ∈ lw_all := lw_g (lw_at lw_m7 174 rfl) rfl
theorem q1683 : (Jvm.Cond.lays "QuorumspireModel$Kept" "QuorumspireModel$Kept" "log" "Ljava/util/ArrayList;") ∈ lw_all := lw_g (lw_at lw_m7 175 rfl) rfl
theorem q1684 : (Jvm.Cond.soleField "QuorumspireModel$Kept" "log") ∈ lw_all := lw_g (lw_at lw_m7 176 rfl) rfl
theorem q1685 : (Jvm.Cond.superclass "QuorumspireModel$Kept" "java/lang/Object") ∈ lw_all := lw_g (lw_at lw_m7 177 rfl) rfl
theorem q1831 : (Jvm.Cond.instanceMethod ({ cls := "QuorumspireModel$Kept", name := "copy", desc := "()LQuorumspireModel$Kept;" } : Jvm.MethodName)) ∈ lw_all := lw_g (lw_at lw_m8 83 rfl) rfl
theorem q1832 : (Jvm.Cond.selects "QuorumspireModel$Kept" ({ cls := "QuorumspireModel$Kept", name := "copy", desc := "()LQuorumspireModel$Kept;" } : Jvm.MethodName) ({ cls := "QuorumspireModel$Kept", name := "copy", desc := "()LQuorumspireModel$Kept;" } : Jvm.MethodName)) ∈ lw_all := lw_g (lw_at lw_m8 84 rfl) rfl
theorem q1833 : (Jvm.Cond.code ({ cls := "QuorumspireModel$Kept", name := "copy", desc := "()LQuorumspireModel$Kept;" } : Jvm.MethodName) prog_14_method_2_code (2 : Nat) (Option.some (Jvm.ClassFile.FieldType.object "QuorumspireModel$Kept"))) ∈ lw_all := lw_g (lw_at lw_m8 85 rfl) rfl
theorem q1834 : (Jvm.Cond.classLink "QuorumspireModel$Kept" (10 : Nat) "QuorumspireModel$Kept") ∈ lw_all := lw_g (lw_at lw_m8 86 rfl) rfl
theorem q1835 : (Jvm.Cond.methodLink "QuorumspireModel$Kept" (29 : Nat) ({ cls := "QuorumspireModel$Kept", name := "<init>", desc := "()V" } : Jvm.MethodName)) ∈ lw_all := lw_g (lw_at lw_m8 87 rfl) rfl
theorem q1836 : (Jvm.Cond.methodLink "QuorumspireModel$Kept" (39 : Nat) ({ cls := "java/util/ArrayList", name := "<init>", desc := "(Ljava/util/Collection;)V" } : Jvm.MethodName)) ∈ lw_all := lw_g (lw_at lw_m8 88 rfl) rfl
theorem q1920 : (Jvm.Cond.instanceMethod ({ cls := "QuorumspireModel$Kept", name := "last", desc := "()I" } : Jvm.MethodName)) ∈ lw_all := lw_g (lw_at lw_m8 172 rfl) rfl
theorem q1921 : (Jvm.Cond.selects "QuorumspireModel$Kept" ({ cls := "QuorumspireModel$Kept", name := "last", desc := "()I" } : Jvm.MethodName) ({ cls := "QuorumspireModel$Kept", name := "last", desc := "()I" } : Jvm.MethodName)) ∈ lw_all := lw_g (lw_at lw_m8 173 rfl) rfl
theorem q1922 : (Jvm.Cond.code ({ cls := "QuorumspireModel$Kept", name := "last", desc := "()I" } : Jvm.MethodName) prog_14_method_3_code (1 : Nat) (Option.some Jvm.ClassFile.FieldType.int)) ∈ lw_all := lw_g (lw_at lw_m8 174 rfl) rfl
theorem q1923 : (Jvm.Cond.methodLink "QuorumspireModel$Kept" (42 : Nat) ({ cls := "java/util/ArrayList", name := "size", desc := "()I" } : Jvm.MethodName)) ∈ lw_all := lw_g (lw_at lw_m8 175 rfl) rfl
theorem q1925 : (Jvm.Cond.instanceMethod ({ cls := "QuorumspireModel$Kept", name := "termOf", desc := "(I)I" } : Jvm.MethodName)) ∈ lw_all := lw_g (lw_at lw_m8 177 rfl) rfl
theorem q1926 : (Jvm.Cond.selects "QuorumspireModel$Kept" ({ cls := "QuorumspireModel$Kept", name := "termOf", desc := "(I)I" } : Jvm.MethodName) ({ cls := "QuorumspireModel$Kept", name := "termOf", desc := "(I)I" } : Jvm.MethodName)) ∈ lw_all := lw_g (lw_at lw_m8 178 rfl) rfl
theorem q1927 : (Jvm.Cond.code ({ cls := "QuorumspireModel$Kept", name := "termOf", desc := "(I)I" } : Jvm.MethodName) prog_14_method_6_code (2 : Nat) (Option.some Jvm.ClassFile.FieldType.int)) ∈ lw_all := lw_g (lw_at lw_m8 179 rfl) rfl
theorem q1928 : (Jvm.Cond.methodLink "QuorumspireModel$Kept" (55 : Nat) ({ cls := "QuorumspireModel$Kept", name := "at", desc := "(I)[I" } : Jvm.MethodName)) ∈ lw_all := lw_g (lw_at lw_m8 180 rfl) rfl
theorem q1929 : (Jvm.Cond.instanceMethod ({ cls := "QuorumspireModel$Kept", name := "at", desc := "(I)[I" } : Jvm.MethodName)) ∈ lw_all := lw_g (lw_at lw_m8 181 rfl) rfl
theorem q1930 : (Jvm.Cond.selects "QuorumspireModel$Kept" ({ cls := "QuorumspireModel$Kept", name := "at", desc := "(I)[I" } : Jvm.MethodName) ({ cls := "QuorumspireModel$Kept", name := "at", desc := "(I)[I" } : Jvm.MethodName)) ∈ lw_all := lw_g (lw_at lw_m8 182 rfl) rfl
theorem q1931 : (Jvm.Cond.code ({ cls := "QuorumspireModel$Kept", name := "at", desc := "(I)[I" } : Jvm.MethodName) prog_14_method_4_code (2 : Nat) (Option.some (Jvm.ClassFile.FieldType.array Jvm.ClassFile.FieldType.int))) ∈ lw_all := lw_g (lw_at lw_m8 183 rfl) rfl
theorem q1932 : (Jvm.Cond.methodLink "QuorumspireModel$Kept" (46 : Nat) ({ cls := "java/util/ArrayList", name := "get", desc := "(I)Ljava/lang/Object;" } : Jvm.MethodName)) ∈ lw_all := lw_g (lw_at lw_m8 184 rfl) rfl
theorem q1933 : (Jvm.Cond.classLink "QuorumspireModel$Kept" (50 : Nat) "[I") ∈ lw_all := lw_g (lw_at lw_m8 185 rfl) rfl
theorem q2099 : (Jvm.Cond.instanceMethod ({ cls := "QuorumspireModel$Kept", name := "has", desc := "(I)Z" } : Jvm.MethodName)) ∈ lw_all := lw_g (lw_at lw_m9 111 rfl) rfl
theorem q2100 : (Jvm.Cond.selects "QuorumspireModel$Kept" ({ cls := "QuorumspireModel$Kept", name := "has", desc := "(I)Z" } : Jvm.MethodName) ({ cls := "QuorumspireModel$Kept", name := "has", desc := "(I)Z" } : Jvm.MethodName)) ∈ lw_all := lw_g (lw_at lw_m9 112 rfl) rfl
theorem q2101 : (Jvm.Cond.code ({ cls := "QuorumspireModel$Kept", name := "has", desc := "(I)Z" } : Jvm.MethodName) prog_14_method_5_code (2 : Nat) (Option.some Jvm.ClassFile.FieldType.boolean)) ∈ lw_all := lw_g (lw_at lw_m9 113 rfl) rfl
theorem q2102 : (Jvm.Cond.methodLink "QuorumspireModel$Kept" (52 : Nat) ({ cls := "QuorumspireModel$Kept", name := "last", desc := "()I" } : Jvm.MethodName)) ∈ lw_all := lw_g (lw_at lw_m9 114 rfl) rfl
theorem q2275 : (Jvm.Cond.selects "QuorumspireModel$Kept" ({ cls := "java/lang/Object", name := "equals", desc := "(Ljava/lang/Object;)Z" } : Jvm.MethodName) ({ cls := "java/lang/Object", name := "equals", desc := "(Ljava/lang/Object;)Z" } : Jvm.MethodName)) ∈ lw_all := lw_g (lw_at lw_m10 47 rfl) rfl
theorem q2423 : (Jvm.Cond.castable "QuorumspireModel$Kept" "java/lang/Object") ∈ lw_tbl := lw_at lw_m10 195 rfl
theorem in_X6 : ∀ w ∈ wsX60, w ∈ lw_all := lw_in wsX60 [1673, 1675, 1677, 1679, 1681, 1683] (by decide +kernel) (by decide +kernel)
/-! QuorumspireModel$Store -/
set_option maxRecDepth 100000
def RX7 : String := "QuorumspireModel$Store"
def TX7 : u_T := fun k => match k with
  | 0 => ("QuorumspireModel$Store", "values", "[I", true)
  | 1 => ("QuorumspireModel$Store", "owners", "[I", true)
  | 2 => ("QuorumspireModel$Store", "fences", "[I", true)
  | 3 => ("QuorumspireModel$Store", "ends", "[I", true)
  | 4 => ("QuorumspireModel$Store", "time", "I", false)
  | 5 => ("QuorumspireModel$Store", "latest", "[I", true)
  | _ => ("QuorumspireModel$Store", "results", "[I", true)
def tyX7 : Nat → FieldType := fun k => match k with
  | 0 => .array .int
  | 1 => .array .int
  | 2 => .array .int
  | 3 => .array .int
  | 4 => .int
  | 5 => .array .int
  | _ => .array .int
abbrev wsX70 : List Cond := u_ws RX7 TX7 7
theorem nmX7 : ∀ a, a < 7 → ∀ b, b < 7 → a ≠ b → (TX7 a).2.1 ≠ (TX7 b).2.1 := by decide +kernel
theorem tyX7_ok : ∀ k, k < 7 → parseFieldDescriptor (TX7 k).2.2.1 = some (tyX7 k) := by decide +kernel
abbrev cX7_init : ByteArray := prog_17_method_1_code
def yX7_init : MethodName := ⟨RX7, "<init>", "()V"⟩
def dkwX7_init_3 : List UInt8 := [89, 4, 2, 79, 89, 5, 2, 79, 89, 6, 2, 79, 181, 0, 24, 42, 7, 188, 10, 181, 0, 27, 177]
abbrev dktX7_init_3 : List UInt8 := dkwX7_init_3 ++ []
def dkwX7_init_2 : List UInt8 := [79, 89, 4, 2, 79, 89, 5, 2, 79, 89, 6, 2, 79, 181, 0, 21, 42, 7, 188, 10, 89, 3, 2, 79]
abbrev dktX7_init_2 : List UInt8 := dkwX7_init_2 ++ dktX7_init_3
def dkwX7_init_1 : List UInt8 := [5, 2, 79, 89, 6, 2, 79, 181, 0, 15, 42, 7, 188, 10, 181, 0, 18, 42, 7, 188, 10, 89, 3, 2]
abbrev dktX7_init_1 : List UInt8 := dkwX7_init_1 ++ dktX7_init_2
def dkwX7_init_0 : List UInt8 := [42, 183, 0, 3, 42, 7, 188, 10, 181, 0, 9, 42, 7, 188, 10, 89, 3, 2, 79, 89, 4, 2, 79, 89]
abbrev dktX7_init_0 : List UInt8 := dkwX7_init_0 ++ dktX7_init_1
theorem dksX7_init_0 : cX7_init.data.toList.drop 0 = dktX7_init_0 := by decide +kernel
theorem dksX7_init_1 : cX7_init.data.toList.drop 24 = dktX7_init_1 := dk_seg dksX7_init_0 24 rfl rfl
theorem dksX7_init_2 : cX7_init.data.toList.drop 48 = dktX7_init_2 := dk_seg dksX7_init_1 24 rfl rfl
theorem dksX7_init_3 : cX7_init.data.toList.drop 72 = dktX7_init_3 := dk_seg dksX7_init_2 24 rfl rfl
theorem dX7_init_0 : decode cX7_init 0 = .ok (.aload_n 0, 1) := dk_42 (dk_at dksX7_init_0 0 rfl rfl)
theorem dX7_init_1 : decode cX7_init 1 = .ok (.invokespecial 3, 3) := dk_183 0 3 (dk_at dksX7_init_0 1 rfl rfl)
theorem dX7_init_4 : decode cX7_init 4 = .ok (.aload_n 0, 1) := dk_42 (dk_at dksX7_init_0 4 rfl rfl)
theorem dX7_init_5 : decode cX7_init 5 = .ok (.iconst 4, 1) := dk_7 (dk_at dksX7_init_0 5 rfl rfl)
theorem dX7_init_6 : decode cX7_init 6 = .ok (.newarray .int, 2) := dk_188_10 (dk_at dksX7_init_0 6 rfl rfl)
theorem dX7_init_8 : decode cX7_init 8 = .ok (.putfield 9, 3) := dk_181 0 9 (dk_at dksX7_init_0 8 rfl rfl)
theorem dX7_init_11 : decode cX7_init 11 = .ok (.aload_n 0, 1) := dk_42 (dk_at dksX7_init_0 11 rfl rfl)
theorem dX7_init_12 : decode cX7_init 12 = .ok (.iconst 4, 1) := dk_7 (dk_at dksX7_init_0 12 rfl rfl)
theorem dX7_init_13 : decode cX7_init 13 = .ok (.newarray .int, 2) := dk_188_10 (dk_at dksX7_init_0 13 rfl rfl)
theorem dX7_init_15 : decode cX7_init 15 = .ok (.dup, 1) := dk_89 (dk_at dksX7_init_0 15 rfl rfl)
theorem dX7_init_16 : decode cX7_init 16 = .ok (.iconst 0, 1) := dk_3 (dk_at dksX7_init_0 16 rfl rfl)
theorem dX7_init_17 : decode cX7_init 17 = .ok (.iconst (-1), 1) := dk_2 (dk_at dksX7_init_0 17 rfl rfl)
theorem dX7_init_18 : decode cX7_init 18 = .ok (.iastore, 1) := dk_79 (dk_at dksX7_init_0 18 rfl rfl)
theorem dX7_init_19 : decode cX7_init 19 = .ok (.dup, 1) := dk_89 (dk_at dksX7_init_0 19 rfl rfl)
theorem dX7_init_20 : decode cX7_init 20 = .ok (.iconst 1, 1) := dk_4 (dk_at dksX7_init_0 20 rfl rfl)
theorem dX7_init_21 : decode cX7_init 21 = .ok (.iconst (-1), 1) := dk_2 (dk_at dksX7_init_0 21 rfl rfl)
theorem dX7_init_22 : decode cX7_init 22 = .ok (.iastore, 1) := dk_79 (dk_at dksX7_init_0 22 rfl rfl)
theorem dX7_init_23 : decode cX7_init 23 = .ok (.dup, 1) := dk_89 (dk_at dksX7_init_0 23 rfl rfl)
theorem dX7_init_24 : decode cX7_init 24 = .ok (.iconst 2, 1) := dk_5 (dk_at dksX7_init_1 0 rfl rfl)
theorem dX7_init_25 : decode cX7_init 25 = .ok (.iconst (-1), 1) := dk_2 (dk_at dksX7_init_1 1 rfl rfl)
theorem dX7_init_26 : decode cX7_init 26 = .ok (.iastore, 1) := dk_79 (dk_at dksX7_init_1 2 rfl rfl)
theorem dX7_init_27 : decode cX7_init 27 = .ok (.dup, 1) := dk_89 (dk_at dksX7_init_1 3 rfl rfl)
theorem dX7_init_28 : decode cX7_init 28 = .ok (.iconst 3, 1) := dk_6 (dk_at dksX7_init_1 4 rfl rfl)
theorem dX7_init_29 : decode cX7_init 29 = .ok (.iconst (-1), 1) := dk_2 (dk_at dksX7_init_1 5 rfl rfl)
theorem dX7_init_30 : decode cX7_init 30 = .ok (.iastore, 1) := dk_79 (dk_at dksX7_init_1 6 rfl rfl)
theorem dX7_init_31 : decode cX7_init 31 = .ok (.putfield 15, 3) := dk_181 0 15 (dk_at dksX7_init_1 7 rfl rfl)
theorem dX7_init_34 : decode cX7_init 34 = .ok (.aload_n 0, 1) := dk_42 (dk_at dksX7_init_1 10 rfl rfl)
theorem dX7_init_35 : decode cX7_init 35 = .ok (.iconst 4, 1) := dk_7 (dk_at dksX7_init_1 11 rfl rfl)
theorem dX7_init_36 : decode cX7_init 36 = .ok (.newarray .int, 2) := dk_188_10 (dk_at dksX7_init_1 12 rfl rfl)
theorem dX7_init_38 : decode cX7_init 38 = .ok (.putfield 18, 3) := dk_181 0 18 (dk_at dksX7_init_1 14 rfl rfl)
theorem dX7_init_41 : decode cX7_init 41 = .ok (.aload_n 0, 1) := dk_42 (dk_at dksX7_init_1 17 rfl rfl)
theorem dX7_init_42 : decode cX7_init 42 = .ok (.iconst 4, 1) := dk_7 (dk_at dksX7_init_1 18 rfl rfl)
theorem dX7_init_43 : decode cX7_init 43 = .ok (.newarray .int, 2) := dk_188_10 (dk_at dksX7_init_1 19 rfl rfl)
theorem dX7_init_45 : decode cX7_init 45 = .ok (.dup, 1) := dk_89 (dk_at dksX7_init_1 21 rfl rfl)
theorem dX7_init_46 : decode cX7_init 46 = .ok (.iconst 0, 1) := dk_3 (dk_at dksX7_init_1 22 rfl rfl)
theorem dX7_init_47 : decode cX7_init 47 = .ok (.iconst (-1), 1) := dk_2 (dk_at dksX7_init_1 23 rfl rfl)
theorem dX7_init_48 : decode cX7_init 48 = .ok (.iastore, 1) := dk_79 (dk_at dksX7_init_2 0 rfl rfl)
theorem dX7_init_49 : decode cX7_init 49 = .ok (.dup, 1) := dk_89 (dk_at dksX7_init_2 1 rfl rfl)
theorem dX7_init_50 : decode cX7_init 50 = .ok (.iconst 1, 1) := dk_4 (dk_at dksX7_init_2 2 rfl rfl)
theorem dX7_init_51 : decode cX7_init 51 = .ok (.iconst (-1), 1) := dk_2 (dk_at dksX7_init_2 3 rfl rfl)
theorem dX7_init_52 : decode cX7_init 52 = .ok (.iastore, 1) := dk_79 (dk_at dksX7_init_2 4 rfl rfl)
theorem dX7_init_53 : decode cX7_init 53 = .ok (.dup, 1) := dk_89 (dk_at dksX7_init_2 5 rfl rfl)
theorem dX7_init_54 : decode cX7_init 54 = .ok (.iconst 2, 1) := dk_5 (dk_at dksX7_init_2 6 rfl rfl)
theorem dX7_init_55 : decode cX7_init 55 = .ok (.iconst (-1), 1) := dk_2 (dk_at dksX7_init_2 7 rfl rfl)
theorem dX7_init_56 : decode cX7_init 56 = .ok (.iastore, 1) := dk_79 (dk_at dksX7_init_2 8 rfl rfl)
theorem dX7_init_57 : decode cX7_init 57 = .ok (.dup, 1) := dk_89 (dk_at dksX7_init_2 9 rfl rfl)
theorem dX7_init_58 : decode cX7_init 58 = .ok (.iconst 3, 1) := dk_6 (dk_at dksX7_init_2 10 rfl rfl)
theorem dX7_init_59 : decode cX7_init 59 = .ok (.iconst (-1), 1) := dk_2 (dk_at dksX7_init_2 11 rfl rfl)
theorem dX7_init_60 : decode cX7_init 60 = .ok (.iastore, 1) := dk_79 (dk_at dksX7_init_2 12 rfl rfl)
theorem dX7_init_61 : decode cX7_init 61 = .ok (.putfield 21, 3) := dk_181 0 21 (dk_at dksX7_init_2 13 rfl rfl)
theorem dX7_init_64 : decode cX7_init 64 = .ok (.aload_n 0, 1) := dk_42 (dk_at dksX7_init_2 16 rfl rfl)
theorem dX7_init_65 : decode cX7_init 65 = .ok (.iconst 4, 1) := dk_7 (dk_at dksX7_init_2 17 rfl rfl)
theorem dX7_init_66 : decode cX7_init 66 = .ok (.newarray .int, 2) := dk_188_10 (dk_at dksX7_init_2 18 rfl rfl)
theorem dX7_init_68 : decode cX7_init 68 = .ok (.dup, 1) := dk_89 (dk_at dksX7_init_2 20 rfl rfl)
theorem dX7_init_69 : decode cX7_init 69 = .ok (.iconst 0, 1) := dk_3 (dk_at dksX7_init_2 21 rfl rfl)
theorem dX7_init_70 : decode cX7_init 70 = .ok (.iconst (-1), 1) := dk_2 (dk_at dksX7_init_2 22 rfl rfl)
theorem dX7_init_71 : decode cX7_init 71 = .ok (.iastore, 1) := dk_79 (dk_at dksX7_init_2 23 rfl rfl)
theorem dX7_init_72 : decode cX7_init 72 = .ok (.dup, 1) := dk_89 (dk_at dksX7_init_3 0 rfl rfl)
theorem dX7_init_73 : decode cX7_init 73 = .ok (.iconst 1, 1) := dk_4 (dk_at dksX7_init_3 1 rfl rfl)
theorem dX7_init_74 : decode cX7_init 74 = .ok (.iconst (-1), 1) := dk_2 (dk_at dksX7_init_3 2 rfl rfl)
theorem dX7_init_75 : decode cX7_init 75 = .ok (.iastore, 1) := dk_79 (dk_at dksX7_init_3 3 rfl rfl)
theorem dX7_init_76 : decode cX7_init 76 = .ok (.dup, 1) := dk_89 (dk_at dksX7_init_3 4 rfl rfl)
theorem dX7_init_77 : decode cX7_init 77 = .ok (.iconst 2, 1) := dk_5 (dk_at dksX7_init_3 5 rfl rfl)
theorem dX7_init_78 : decode cX7_init 78 = .ok (.iconst (-1), 1) := dk_2 (dk_at dksX7_init_3 6 rfl rfl)
theorem dX7_init_79 : decode cX7_init 79 = .ok (.iastore, 1) := dk_79 (dk_at dksX7_init_3 7 rfl rfl)
theorem dX7_init_80 : decode cX7_init 80 = .ok (.dup, 1) := dk_89 (dk_at dksX7_init_3 8 rfl rfl)
theorem dX7_init_81 : decode cX7_init 81 = .ok (.iconst 3, 1) := dk_6 (dk_at dksX7_init_3 9 rfl rfl)
theorem dX7_init_82 : decode cX7_init 82 = .ok (.iconst (-1), 1) := dk_2 (dk_at dksX7_init_3 10 rfl rfl)
theorem dX7_init_83 : decode cX7_init 83 = .ok (.iastore, 1) := dk_79 (dk_at dksX7_init_3 11 rfl rfl)
theorem dX7_init_84 : decode cX7_init 84 = .ok (.putfield 24, 3) := dk_181 0 24 (dk_at dksX7_init_3 12 rfl rfl)
theorem dX7_init_87 : decode cX7_init 87 = .ok (.aload_n 0, 1) := dk_42 (dk_at dksX7_init_3 15 rfl rfl)
theorem dX7_init_88 : decode cX7_init 88 = .ok (.iconst 4, 1) := dk_7 (dk_at dksX7_init_3 16 rfl rfl)
theorem dX7_init_89 : decode cX7_init 89 = .ok (.newarray .int, 2) := dk_188_10 (dk_at dksX7_init_3 17 rfl rfl)
theorem dX7_init_91 : decode cX7_init 91 = .ok (.putfield 27, 3) := dk_181 0 27 (dk_at dksX7_init_3 19 rfl rfl)
theorem dX7_init_94 : decode cX7_init 94 = .ok (.return_, 1) := dk_177 (dk_at dksX7_init_3 22 rfl rfl)
abbrev cX7_does : ByteArray := prog_17_method_3_code
def yX7_does : MethodName := ⟨RX7, "does", "(I[I)I"⟩
def dkwX7_does_2 : List UInt8 := [182, 0, 42, 79, 42, 180, 0, 27, 29, 46, 172]
abbrev dktX7_does_2 : List UInt8 := dkwX7_does_2 ++ []
def dkwX7_does_1 : List UInt8 := [160, 0, 10, 42, 180, 0, 27, 29, 46, 172, 42, 180, 0, 24, 29, 27, 79, 42, 180, 0, 27, 29, 42, 44]
abbrev dktX7_does_1 : List UInt8 := dkwX7_does_1 ++ dktX7_does_2
def dkwX7_does_0 : List UInt8 := [44, 3, 46, 62, 42, 180, 0, 24, 29, 46, 27, 164, 0, 5, 2, 172, 42, 180, 0, 24, 29, 46, 27]
abbrev dktX7_does_0 : List UInt8 := dkwX7_does_0 ++ dktX7_does_1
theorem dksX7_does_0 : cX7_does.data.toList.drop 0 = dktX7_does_0 := by decide +kernel
theorem dksX7_does_1 : cX7_does.data.toList.drop 23 = dktX7_does_1 := dk_seg dksX7_does_0 23 rfl rfl
theorem dksX7_does_2 : cX7_does.data.toList.drop 47 = dktX7_does_2 := dk_seg dksX7_does_1 24 rfl rfl
theorem dX7_does_0 : decode cX7_does 0 = .ok (.aload_n 2, 1) := dk_44 (dk_at dksX7_does_0 0 rfl rfl)
theorem dX7_does_1 : decode cX7_does 1 = .ok (.iconst 0, 1) := dk_3 (dk_at dksX7_does_0 1 rfl rfl)
theorem dX7_does_2 : decode cX7_does 2 = .ok (.iaload, 1) := dk_46 (dk_at dksX7_does_0 2 rfl rfl)
theorem dX7_does_3 : decode cX7_does 3 = .ok (.istore_n 3, 1) := dk_62 (dk_at dksX7_does_0 3 rfl rfl)
theorem dX7_does_4 : decode cX7_does 4 = .ok (.aload_n 0, 1) := dk_42 (dk_at dksX7_does_0 4 rfl rfl)
theorem dX7_does_5 : decode cX7_does 5 = .ok (.getfield 24, 3) := dk_180 0 24 (dk_at dksX7_does_0 5 rfl rfl)
theorem dX7_does_8 : decode cX7_does 8 = .ok (.iload_n 3, 1) := dk_29 (dk_at dksX7_does_0 8 rfl rfl)
theorem dX7_does_9 : decode cX7_does 9 = .ok (.iaload, 1) := dk_46 (dk_at dksX7_does_0 9 rfl rfl)
theorem dX7_does_10 : decode cX7_does 10 = .ok (.iload_n 1, 1) := dk_27 (dk_at dksX7_does_0 10 rfl rfl)
theorem dX7_does_11 : decode cX7_does 11 = .ok (.if_icmp .le 5, 3) := dk_164 0 5 (dk_at dksX7_does_0 11 rfl rfl)
theorem dX7_does_14 : decode cX7_does 14 = .ok (.iconst (-1), 1) := dk_2 (dk_at dksX7_does_0 14 rfl rfl)
theorem dX7_does_15 : decode cX7_does 15 = .ok (.ireturn, 1) := dk_172 (dk_at dksX7_does_0 15 rfl rfl)
theorem dX7_does_16 : decode cX7_does 16 = .ok (.aload_n 0, 1) := dk_42 (dk_at dksX7_does_0 16 rfl rfl)
theorem dX7_does_17 : decode cX7_does 17 = .ok (.getfield 24, 3) := dk_180 0 24 (dk_at dksX7_does_0 17 rfl rfl)
theorem dX7_does_20 : decode cX7_does 20 = .ok (.iload_n 3, 1) := dk_29 (dk_at dksX7_does_0 20 rfl rfl)
theorem dX7_does_21 : decode cX7_does 21 = .ok (.iaload, 1) := dk_46 (dk_at dksX7_does_0 21 rfl rfl)
theorem dX7_does_22 : decode cX7_does 22 = .ok (.iload_n 1, 1) := dk_27 (dk_at dksX7_does_0 22 rfl rfl)
theorem dX7_does_23 : decode cX7_does 23 = .ok (.if_icmp .ne 10, 3) := dk_160 0 10 (dk_at dksX7_does_1 0 rfl rfl)
theorem dX7_does_26 : decode cX7_does 26 = .ok (.aload_n 0, 1) := dk_42 (dk_at dksX7_does_1 3 rfl rfl)
theorem dX7_does_27 : decode cX7_does 27 = .ok (.getfield 27, 3) := dk_180 0 27 (dk_at dksX7_does_1 4 rfl rfl)
theorem dX7_does_30 : decode cX7_does 30 = .ok (.iload_n 3, 1) := dk_29 (dk_at dksX7_does_1 7 rfl rfl)
theorem dX7_does_31 : decode cX7_does 31 = .ok (.iaload, 1) := dk_46 (dk_at dksX7_does_1 8 rfl rfl)
theorem dX7_does_32 : decode cX7_does 32 = .ok (.ireturn, 1) := dk_172 (dk_at dksX7_does_1 9 rfl rfl)
theorem dX7_does_33 : decode cX7_does 33 = .ok (.aload_n 0, 1) := dk_42 (dk_at dksX7_does_1 10 rfl rfl)
theorem dX7_does_34 : decode cX7_does 34 = .ok (.getfield 24, 3) := dk_180 0 24 (dk_at dksX7_does_1 11 rfl rfl)
theorem dX7_does_37 : decode cX7_does 37 = .ok (.iload_n 3, 1) := dk_29 (dk_at dksX7_does_1 14 rfl rfl)
theorem dX7_does_38 : decode cX7_does 38 = .ok (.iload_n 1, 1) := dk_27 (dk_at dksX7_does_1 15 rfl rfl)
theorem dX7_does_39 : decode cX7_does 39 = .ok (.iastore, 1) := dk_79 (dk_at dksX7_does_1 16 rfl rfl)
theorem dX7_does_40 : decode cX7_does 40 = .ok (.aload_n 0, 1) := dk_42 (dk_at dksX7_does_1 17 rfl rfl)
theorem dX7_does_41 : decode cX7_does 41 = .ok (.getfield 27, 3) := dk_180 0 27 (dk_at dksX7_does_1 18 rfl rfl)
theorem dX7_does_44 : decode cX7_does 44 = .ok (.iload_n 3, 1) := dk_29 (dk_at dksX7_does_1 21 rfl rfl)
theorem dX7_does_45 : decode cX7_does 45 = .ok (.aload_n 0, 1) := dk_42 (dk_at dksX7_does_1 22 rfl rfl)
theorem dX7_does_46 : decode cX7_does 46 = .ok (.aload_n 2, 1) := dk_44 (dk_at dksX7_does_1 23 rfl rfl)
theorem dX7_does_47 : decode cX7_does 47 = .ok (.invokevirtual 42, 3) := dk_182 0 42 (dk_at dksX7_does_2 0 rfl rfl)
theorem dX7_does_50 : decode cX7_does 50 = .ok (.iastore, 1) := dk_79 (dk_at dksX7_does_2 3 rfl rfl)
theorem dX7_does_51 : decode cX7_does 51 = .ok (.aload_n 0, 1) := dk_42 (dk_at dksX7_does_2 4 rfl rfl)
theorem dX7_does_52 : decode cX7_does 52 = .ok (.getfield 27, 3) := dk_180 0 27 (dk_at dksX7_does_2 5 rfl rfl)
theorem dX7_does_55 : decode cX7_does 55 = .ok (.iload_n 3, 1) := dk_29 (dk_at dksX7_does_2 8 rfl rfl)
theorem dX7_does_56 : decode cX7_does 56 = .ok (.iaload, 1) := dk_46 (dk_at dksX7_does_2 9 rfl rfl)
theorem dX7_does_57 : decode cX7_does 57 = .ok (.ireturn, 1) := dk_172 (dk_at dksX7_does_2 10 rfl rfl)
abbrev cX7_doesNow : ByteArray := prog_17_method_4_code
def yX7_doesNow : MethodName := ⟨RX7, "doesNow", "([I)I"⟩
def dkwX7_doesNow_7 : List UInt8 := [182, 0, 50, 132, 4, 1, 167, 255, 216, 42, 180, 0, 38, 172]
abbrev dktX7_doesNow_7 : List UInt8 := dkwX7_doesNow_7 ++ []
def dkwX7_doesNow_6 : List UInt8 := [21, 4, 46, 2, 159, 0, 23, 42, 180, 0, 21, 21, 4, 46, 42, 180, 0, 38, 163, 0, 9, 42, 21, 4]
abbrev dktX7_doesNow_6 : List UInt8 := dkwX7_doesNow_6 ++ dktX7_doesNow_7
def dkwX7_doesNow_5 : List UInt8 := [180, 0, 38, 43, 6, 46, 96, 181, 0, 38, 3, 54, 4, 21, 4, 7, 162, 0, 40, 42, 180, 0, 21]
abbrev dktX7_doesNow_5 : List UInt8 := dkwX7_doesNow_5 ++ dktX7_doesNow_6
def dkwX7_doesNow_4 : List UInt8 := [180, 0, 15, 28, 46, 43, 3, 46, 159, 0, 5, 3, 172, 42, 28, 182, 0, 50, 4, 172, 42, 89]
abbrev dktX7_doesNow_4 : List UInt8 := dkwX7_doesNow_4 ++ dktX7_doesNow_5
def dkwX7_doesNow_3 : List UInt8 := [180, 0, 9, 28, 43, 7, 46, 79, 4, 172, 42, 43, 3, 46, 28, 43, 6, 46, 182, 0, 46, 172, 42]
abbrev dktX7_doesNow_3 : List UInt8 := dkwX7_doesNow_3 ++ dktX7_doesNow_4
def dkwX7_doesNow_2 : List UInt8 := [42, 180, 0, 9, 28, 43, 6, 46, 79, 29, 172, 29, 172, 29, 43, 6, 46, 159, 0, 5, 3, 172, 42]
abbrev dktX7_doesNow_2 : List UInt8 := dkwX7_doesNow_2 ++ dktX7_doesNow_3
def dkwX7_doesNow_1 : List UInt8 := [170, 0, 0, 0, 0, 100, 0, 0, 0, 0, 0, 0, 0, 4, 0, 0, 0, 34, 0, 0, 0, 45, 0, 0, 0, 47, 0, 0, 0, 67, 0, 0, 0, 79]
abbrev dktX7_doesNow_1 : List UInt8 := dkwX7_doesNow_1 ++ dktX7_doesNow_2
def dkwX7_doesNow_0 : List UInt8 := [43, 5, 46, 61, 42, 180, 0, 9, 28, 46, 62, 43, 4, 46]
abbrev dktX7_doesNow_0 : List UInt8 := dkwX7_doesNow_0 ++ dktX7_doesNow_1
theorem dksX7_doesNow_0 : cX7_doesNow.data.toList.drop 0 = dktX7_doesNow_0 := by decide +kernel
theorem dksX7_doesNow_1 : cX7_doesNow.data.toList.drop 14 = dktX7_doesNow_1 := dk_seg dksX7_doesNow_0 14 rfl rfl
theorem dksX7_doesNow_2 : cX7_doesNow.data.toList.drop 48 = dktX7_doesNow_2 := dk_seg dksX7_doesNow_1 34 rfl rfl
theorem dksX7_doesNow_3 : cX7_doesNow.data.toList.drop 71 = dktX7_doesNow_3 := dk_seg dksX7_doesNow_2 23 rfl rfl
theorem dksX7_doesNow_4 : cX7_doesNow.data.toList.drop 94 = dktX7_doesNow_4 := dk_seg dksX7_doesNow_3 23 rfl rfl
theorem dksX7_doesNow_5 : cX7_doesNow.data.toList.drop 116 = dktX7_doesNow_5 := dk_seg dksX7_doesNow_4 22 rfl rfl
theorem dksX7_doesNow_6 : cX7_doesNow.data.toList.drop 139 = dktX7_doesNow_6 := dk_seg dksX7_doesNow_5 23 rfl rfl
theorem dksX7_doesNow_7 : cX7_doesNow.data.toList.drop 163 = dktX7_doesNow_7 := dk_seg dksX7_doesNow_6 24 rfl rfl
theorem dX7_doesNow_0 : decode cX7_doesNow 0 = .ok (.aload_n 1, 1) := dk_43 (dk_at dksX7_doesNow_0 0 rfl rfl)
theorem dX7_doesNow_1 : decode cX7_doesNow 1 = .ok (.iconst 2, 1) := dk_5 (dk_at dksX7_doesNow_0 1 rfl rfl)
theorem dX7_doesNow_2 : decode cX7_doesNow 2 = .ok (.iaload, 1) := dk_46 (dk_at dksX7_doesNow_0 2 rfl rfl)
theorem dX7_doesNow_3 : decode cX7_doesNow 3 = .ok (.istore_n 2, 1) := dk_61 (dk_at dksX7_doesNow_0 3 rfl rfl)
theorem dX7_doesNow_4 : decode cX7_doesNow 4 = .ok (.aload_n 0, 1) := dk_42 (dk_at dksX7_doesNow_0 4 rfl rfl)
theorem dX7_doesNow_5 : decode cX7_doesNow 5 = .ok (.getfield 9, 3) := dk_180 0 9 (dk_at dksX7_doesNow_0 5 rfl rfl)
theorem dX7_doesNow_8 : decode cX7_doesNow 8 = .ok (.iload_n 2, 1) := dk_28 (dk_at dksX7_doesNow_0 8 rfl rfl)
theorem dX7_doesNow_9 : decode cX7_doesNow 9 = .ok (.iaload, 1) := dk_46 (dk_at dksX7_doesNow_0 9 rfl rfl)
theorem dX7_doesNow_10 : decode cX7_doesNow 10 = .ok (.istore_n 3, 1) := dk_62 (dk_at dksX7_doesNow_0 10 rfl rfl)
theorem dX7_doesNow_11 : decode cX7_doesNow 11 = .ok (.aload_n 1, 1) := dk_43 (dk_at dksX7_doesNow_0 11 rfl rfl)
theorem dX7_doesNow_12 : decode cX7_doesNow 12 = .ok (.iconst 1, 1) := dk_4 (dk_at dksX7_doesNow_0 12 rfl rfl)
theorem dX7_doesNow_13 : decode cX7_doesNow 13 = .ok (.iaload, 1) := dk_46 (dk_at dksX7_doesNow_0 13 rfl rfl)
theorem dX7_doesNow_14 : decode cX7_doesNow 14 = .ok (.tableswitch 100 0 4 #[34, 45, 47, 67, 79], 34) := by decide +kernel
theorem dX7_doesNow_48 : decode cX7_doesNow 48 = .ok (.aload_n 0, 1) := dk_42 (dk_at dksX7_doesNow_2 0 rfl rfl)
theorem dX7_doesNow_49 : decode cX7_doesNow 49 = .ok (.getfield 9, 3) := dk_180 0 9 (dk_at dksX7_doesNow_2 1 rfl rfl)
theorem dX7_doesNow_52 : decode cX7_doesNow 52 = .ok (.iload_n 2, 1) := dk_28 (dk_at dksX7_doesNow_2 4 rfl rfl)
theorem dX7_doesNow_53 : decode cX7_doesNow 53 = .ok (.aload_n 1, 1) := dk_43 (dk_at dksX7_doesNow_2 5 rfl rfl)
theorem dX7_doesNow_54 : decode cX7_doesNow 54 = .ok (.iconst 3, 1) := dk_6 (dk_at dksX7_doesNow_2 6 rfl rfl)
theorem dX7_doesNow_55 : decode cX7_doesNow 55 = .ok (.iaload, 1) := dk_46 (dk_at dksX7_doesNow_2 7 rfl rfl)
theorem dX7_doesNow_56 : decode cX7_doesNow 56 = .ok (.iastore, 1) := dk_79 (dk_at dksX7_doesNow_2 8 rfl rfl)
theorem dX7_doesNow_57 : decode cX7_doesNow 57 = .ok (.iload_n 3, 1) := dk_29 (dk_at dksX7_doesNow_2 9 rfl rfl)
theorem dX7_doesNow_58 : decode cX7_doesNow 58 = .ok (.ireturn, 1) := dk_172 (dk_at dksX7_doesNow_2 10 rfl rfl)
theorem dX7_doesNow_59 : decode cX7_doesNow 59 = .ok (.iload_n 3, 1) := dk_29 (dk_at dksX7_doesNow_2 11 rfl rfl)
theorem dX7_doesNow_60 : decode cX7_doesNow 60 = .ok (.ireturn, 1) := dk_172 (dk_at dksX7_doesNow_2 12 rfl rfl)
theorem dX7_doesNow_61 : decode cX7_doesNow 61 = .ok (.iload_n 3, 1) := dk_29 (dk_at dksX7_doesNow_2 13 rfl rfl)
theorem dX7_doesNow_62 : decode cX7_doesNow 62 = .ok (.aload_n 1, 1) := dk_43 (dk_at dksX7_doesNow_2 14 rfl rfl)
theorem dX7_doesNow_63 : decode cX7_doesNow 63 = .ok (.iconst 3, 1) := dk_6 (dk_at dksX7_doesNow_2 15 rfl rfl)
theorem dX7_doesNow_64 : decode cX7_doesNow 64 = .ok (.iaload, 1) := dk_46 (dk_at dksX7_doesNow_2 16 rfl rfl)
theorem dX7_doesNow_65 : decode cX7_doesNow 65 = .ok (.if_icmp .eq 5, 3) := dk_159 0 5 (dk_at dksX7_doesNow_2 17 rfl rfl)
theorem dX7_doesNow_68 : decode cX7_doesNow 68 = .ok (.iconst 0, 1) := dk_3 (dk_at dksX7_doesNow_2 20 rfl rfl)
theorem dX7_doesNow_69 : decode cX7_doesNow 69 = .ok (.ireturn, 1) := dk_172 (dk_at dksX7_doesNow_2 21 rfl rfl)
theorem dX7_doesNow_70 : decode cX7_doesNow 70 = .ok (.aload_n 0, 1) := dk_42 (dk_at dksX7_doesNow_2 22 rfl rfl)
theorem dX7_doesNow_71 : decode cX7_doesNow 71 = .ok (.getfield 9, 3) := dk_180 0 9 (dk_at dksX7_doesNow_3 0 rfl rfl)
theorem dX7_doesNow_74 : decode cX7_doesNow 74 = .ok (.iload_n 2, 1) := dk_28 (dk_at dksX7_doesNow_3 3 rfl rfl)
theorem dX7_doesNow_75 : decode cX7_doesNow 75 = .ok (.aload_n 1, 1) := dk_43 (dk_at dksX7_doesNow_3 4 rfl rfl)
theorem dX7_doesNow_76 : decode cX7_doesNow 76 = .ok (.iconst 4, 1) := dk_7 (dk_at dksX7_doesNow_3 5 rfl rfl)
theorem dX7_doesNow_77 : decode cX7_doesNow 77 = .ok (.iaload, 1) := dk_46 (dk_at dksX7_doesNow_3 6 rfl rfl)
theorem dX7_doesNow_78 : decode cX7_doesNow 78 = .ok (.iastore, 1) := dk_79 (dk_at dksX7_doesNow_3 7 rfl rfl)
theorem dX7_doesNow_79 : decode cX7_doesNow 79 = .ok (.iconst 1, 1) := dk_4 (dk_at dksX7_doesNow_3 8 rfl rfl)
theorem dX7_doesNow_80 : decode cX7_doesNow 80 = .ok (.ireturn, 1) := dk_172 (dk_at dksX7_doesNow_3 9 rfl rfl)
theorem dX7_doesNow_81 : decode cX7_doesNow 81 = .ok (.aload_n 0, 1) := dk_42 (dk_at dksX7_doesNow_3 10 rfl rfl)
theorem dX7_doesNow_82 : decode cX7_doesNow 82 = .ok (.aload_n 1, 1) := dk_43 (dk_at dksX7_doesNow_3 11 rfl rfl)
theorem dX7_doesNow_83 : decode cX7_doesNow 83 = .ok (.iconst 0, 1) := dk_3 (dk_at dksX7_doesNow_3 12 rfl rfl)
theorem dX7_doesNow_84 : decode cX7_doesNow 84 = .ok (.iaload, 1) := dk_46 (dk_at dksX7_doesNow_3 13 rfl rfl)
theorem dX7_doesNow_85 : decode cX7_doesNow 85 = .ok (.iload_n 2, 1) := dk_28 (dk_at dksX7_doesNow_3 14 rfl rfl)
theorem dX7_doesNow_86 : decode cX7_doesNow 86 = .ok (.aload_n 1, 1) := dk_43 (dk_at dksX7_doesNow_3 15 rfl rfl)
theorem dX7_doesNow_87 : decode cX7_doesNow 87 = .ok (.iconst 3, 1) := dk_6 (dk_at dksX7_doesNow_3 16 rfl rfl)
theorem dX7_doesNow_88 : decode cX7_doesNow 88 = .ok (.iaload, 1) := dk_46 (dk_at dksX7_doesNow_3 17 rfl rfl)
theorem dX7_doesNow_89 : decode cX7_doesNow 89 = .ok (.invokevirtual 46, 3) := dk_182 0 46 (dk_at dksX7_doesNow_3 18 rfl rfl)
theorem dX7_doesNow_92 : decode cX7_doesNow 92 = .ok (.ireturn, 1) := dk_172 (dk_at dksX7_doesNow_3 21 rfl rfl)
theorem dX7_doesNow_93 : decode cX7_doesNow 93 = .ok (.aload_n 0, 1) := dk_42 (dk_at dksX7_doesNow_3 22 rfl rfl)
theorem dX7_doesNow_94 : decode cX7_doesNow 94 = .ok (.getfield 15, 3) := dk_180 0 15 (dk_at dksX7_doesNow_4 0 rfl rfl)
theorem dX7_doesNow_97 : decode cX7_doesNow 97 = .ok (.iload_n 2, 1) := dk_28 (dk_at dksX7_doesNow_4 3 rfl rfl)
theorem dX7_doesNow_98 : decode cX7_doesNow 98 = .ok (.iaload, 1) := dk_46 (dk_at dksX7_doesNow_4 4 rfl rfl)
theorem dX7_doesNow_99 : decode cX7_doesNow 99 = .ok (.aload_n 1, 1) := dk_43 (dk_at dksX7_doesNow_4 5 rfl rfl)
theorem dX7_doesNow_100 : decode cX7_doesNow 100 = .ok (.iconst 0, 1) := dk_3 (dk_at dksX7_doesNow_4 6 rfl rfl)
theorem dX7_doesNow_101 : decode cX7_doesNow 101 = .ok (.iaload, 1) := dk_46 (dk_at dksX7_doesNow_4 7 rfl rfl)
theorem dX7_doesNow_102 : decode cX7_doesNow 102 = .ok (.if_icmp .eq 5, 3) := dk_159 0 5 (dk_at dksX7_doesNow_4 8 rfl rfl)
theorem dX7_doesNow_105 : decode cX7_doesNow 105 = .ok (.iconst 0, 1) := dk_3 (dk_at dksX7_doesNow_4 11 rfl rfl)
theorem dX7_doesNow_106 : decode cX7_doesNow 106 = .ok (.ireturn, 1) := dk_172 (dk_at dksX7_doesNow_4 12 rfl rfl)
theorem dX7_doesNow_107 : decode cX7_doesNow 107 = .ok (.aload_n 0, 1) := dk_42 (dk_at dksX7_doesNow_4 13 rfl rfl)
theorem dX7_doesNow_108 : decode cX7_doesNow 108 = .ok (.iload_n 2, 1) := dk_28 (dk_at dksX7_doesNow_4 14 rfl rfl)
theorem dX7_doesNow_109 : decode cX7_doesNow 109 = .ok (.invokevirtual 50, 3) := dk_182 0 50 (dk_at dksX7_doesNow_4 15 rfl rfl)
theorem dX7_doesNow_112 : decode cX7_doesNow 112 = .ok (.iconst 1, 1) := dk_4 (dk_at dksX7_doesNow_4 18 rfl rfl)
theorem dX7_doesNow_113 : decode cX7_doesNow 113 = .ok (.ireturn, 1) := dk_172 (dk_at dksX7_doesNow_4 19 rfl rfl)
theorem dX7_doesNow_114 : decode cX7_doesNow 114 = .ok (.aload_n 0, 1) := dk_42 (dk_at dksX7_doesNow_4 20 rfl rfl)
theorem dX7_doesNow_115 : decode cX7_doesNow 115 = .ok (.dup, 1) := dk_89 (dk_at dksX7_doesNow_4 21 rfl rfl)
theorem dX7_doesNow_116 : decode cX7_doesNow 116 = .ok (.getfield 38, 3) := dk_180 0 38 (dk_at dksX7_doesNow_5 0 rfl rfl)
theorem dX7_doesNow_119 : decode cX7_doesNow 119 = .ok (.aload_n 1, 1) := dk_43 (dk_at dksX7_doesNow_5 3 rfl rfl)
theorem dX7_doesNow_120 : decode cX7_doesNow 120 = .ok (.iconst 3, 1) := dk_6 (dk_at dksX7_doesNow_5 4 rfl rfl)
theorem dX7_doesNow_121 : decode cX7_doesNow 121 = .ok (.iaload, 1) := dk_46 (dk_at dksX7_doesNow_5 5 rfl rfl)
theorem dX7_doesNow_122 : decode cX7_doesNow 122 = .ok (.iadd, 1) := dk_96 (dk_at dksX7_doesNow_5 6 rfl rfl)
theorem dX7_doesNow_123 : decode cX7_doesNow 123 = .ok (.putfield 38, 3) := dk_181 0 38 (dk_at dksX7_doesNow_5 7 rfl rfl)
theorem dX7_doesNow_126 : decode cX7_doesNow 126 = .ok (.iconst 0, 1) := dk_3 (dk_at dksX7_doesNow_5 10 rfl rfl)
theorem dX7_doesNow_127 : decode cX7_doesNow 127 = .ok (.istore 4, 2) := dk_54 4 (dk_at dksX7_doesNow_5 11 rfl rfl)
theorem dX7_doesNow_129 : decode cX7_doesNow 129 = .ok (.iload 4, 2) := dk_21 4 (dk_at dksX7_doesNow_5 13 rfl rfl)
theorem dX7_doesNow_131 : decode cX7_doesNow 131 = .ok (.iconst 4, 1) := dk_7 (dk_at dksX7_doesNow_5 15 rfl rfl)
theorem dX7_doesNow_132 : decode cX7_doesNow 132 = .ok (.if_icmp .ge 40, 3) := dk_162 0 40 (dk_at dksX7_doesNow_5 16 rfl rfl)
theorem dX7_doesNow_135 : decode cX7_doesNow 135 = .ok (.aload_n 0, 1) := dk_42 (dk_at dksX7_doesNow_5 19 rfl rfl)
theorem dX7_doesNow_136 : decode cX7_doesNow 136 = .ok (.getfield 21, 3) := dk_180 0 21 (dk_at dksX7_doesNow_5 20 rfl rfl)
theorem dX7_doesNow_139 : decode cX7_doesNow 139 = .ok (.iload 4, 2) := dk_21 4 (dk_at dksX7_doesNow_6 0 rfl rfl)
theorem dX7_doesNow_141 : decode cX7_doesNow 141 = .ok (.iaload, 1) := dk_46 (dk_at dksX7_doesNow_6 2 rfl rfl)
theorem dX7_doesNow_142 : decode cX7_doesNow 142 = .ok (.iconst (-1), 1) := dk_2 (dk_at dksX7_doesNow_6 3 rfl rfl)
theorem dX7_doesNow_143 : decode cX7_doesNow 143 = .ok (.if_icmp .eq 23, 3) := dk_159 0 23 (dk_at dksX7_doesNow_6 4 rfl rfl)
theorem dX7_doesNow_146 : decode cX7_doesNow 146 = .ok (.aload_n 0, 1) := dk_42 (dk_at dksX7_doesNow_6 7 rfl rfl)
theorem dX7_doesNow_147 : decode cX7_doesNow 147 = .ok (.getfield 21, 3) := dk_180 0 21 (dk_at dksX7_doesNow_6 8 rfl rfl)
theorem dX7_doesNow_150 : decode cX7_doesNow 150 = .ok (.iload 4, 2) := dk_21 4 (dk_at dksX7_doesNow_6 11 rfl rfl)
theorem dX7_doesNow_152 : decode cX7_doesNow 152 = .ok (.iaload, 1) := dk_46 (dk_at dksX7_doesNow_6 13 rfl rfl)
theorem dX7_doesNow_153 : decode cX7_doesNow 153 = .ok (.aload_n 0, 1) := dk_42 (dk_at dksX7_doesNow_6 14 rfl rfl)
theorem dX7_doesNow_154 : decode cX7_doesNow 154 = .ok (.getfield 38, 3) := dk_180 0 38 (dk_at dksX7_doesNow_6 15 rfl rfl)
theorem dX7_doesNow_157 : decode cX7_doesNow 157 = .ok (.if_icmp .gt 9, 3) := dk_163 0 9 (dk_at dksX7_doesNow_6 18 rfl rfl)
theorem dX7_doesNow_160 : decode cX7_doesNow 160 = .ok (.aload_n 0, 1) := dk_42 (dk_at dksX7_doesNow_6 21 rfl rfl)
theorem dX7_doesNow_161 : decode cX7_doesNow 161 = .ok (.iload 4, 2) := dk_21 4 (dk_at dksX7_doesNow_6 22 rfl rfl)
theorem dX7_doesNow_163 : decode cX7_doesNow 163 = .ok (.invokevirtual 50, 3) := dk_182 0 50 (dk_at dksX7_doesNow_7 0 rfl rfl)
theorem dX7_doesNow_166 : decode cX7_doesNow 166 = .ok (.iinc 4 1, 3) := dk_132 4 1 (dk_at dksX7_doesNow_7 3 rfl rfl)
theorem dX7_doesNow_169 : decode cX7_doesNow 169 = .ok (.goto (-40), 3) := dk_167 255 216 (dk_at dksX7_doesNow_7 6 rfl rfl)
theorem dX7_doesNow_172 : decode cX7_doesNow 172 = .ok (.aload_n 0, 1) := dk_42 (dk_at dksX7_doesNow_7 9 rfl rfl)
theorem dX7_doesNow_173 : decode cX7_doesNow 173 = .ok (.getfield 38, 3) := dk_180 0 38 (dk_at dksX7_doesNow_7 10 rfl rfl)
theorem dX7_doesNow_176 : decode cX7_doesNow 176 = .ok (.ireturn, 1) := dk_172 (dk_at dksX7_doesNow_7 13 rfl rfl)
abbrev cX7_lock : ByteArray := prog_17_method_5_code
def yX7_lock : MethodName := ⟨RX7, "lock", "(III)I"⟩
def dkwX7_lock_3 : List UInt8 := [180, 0, 18, 28, 46, 172]
abbrev dktX7_lock_3 : List UInt8 := dkwX7_lock_3 ++ []
def dkwX7_lock_2 : List UInt8 := [27, 79, 42, 180, 0, 21, 28, 29, 154, 0, 7, 2, 167, 0, 9, 42, 180, 0, 38, 29, 96, 79, 42]
abbrev dktX7_lock_2 : List UInt8 := dkwX7_lock_2 ++ dktX7_lock_3
def dkwX7_lock_1 : List UInt8 := [180, 0, 15, 28, 46, 2, 160, 0, 13, 42, 180, 0, 18, 28, 92, 46, 4, 96, 79, 42, 180, 0, 15, 28]
abbrev dktX7_lock_1 : List UInt8 := dkwX7_lock_1 ++ dktX7_lock_2
def dkwX7_lock_0 : List UInt8 := [42, 180, 0, 15, 28, 46, 2, 159, 0, 15, 42, 180, 0, 15, 28, 46, 27, 159, 0, 5, 3, 172, 42]
abbrev dktX7_lock_0 : List UInt8 := dkwX7_lock_0 ++ dktX7_lock_1
theorem dksX7_lock_0 : cX7_lock.data.toList.drop 0 = dktX7_lock_0 := by decide +kernel
theorem dksX7_lock_1 : cX7_lock.data.toList.drop 23 = dktX7_lock_1 := dk_seg dksX7_lock_0 23 rfl rfl
theorem dksX7_lock_2 : cX7_lock.data.toList.drop 47 = dktX7_lock_2 := dk_seg dksX7_lock_1 24 rfl rfl
theorem dksX7_lock_3 : cX7_lock.data.toList.drop 70 = dktX7_lock_3 := dk_seg dksX7_lock_2 23 rfl rfl
theorem dX7_lock_0 : decode cX7_lock 0 = .ok (.aload_n 0, 1) := dk_42 (dk_at dksX7_lock_0 0 rfl rfl)
theorem dX7_lock_1 : decode cX7_lock 1 = .ok (.getfield 15, 3) := dk_180 0 15 (dk_at dksX7_lock_0 1 rfl rfl)
theorem dX7_lock_4 : decode cX7_lock 4 = .ok (.iload_n 2, 1) := dk_28 (dk_at dksX7_lock_0 4 rfl rfl)
theorem dX7_lock_5 : decode cX7_lock 5 = .ok (.iaload, 1) := dk_46 (dk_at dksX7_lock_0 5 rfl rfl)
theorem dX7_lock_6 : decode cX7_lock 6 = .ok (.iconst (-1), 1) := dk_2 (dk_at dksX7_lock_0 6 rfl rfl)
theorem dX7_lock_7 : decode cX7_lock 7 = .ok (.if_icmp .eq 15, 3) := dk_159 0 15 (dk_at dksX7_lock_0 7 rfl rfl)
theorem dX7_lock_10 : decode cX7_lock 10 = .ok (.aload_n 0, 1) := dk_42 (dk_at dksX7_lock_0 10 rfl rfl)
theorem dX7_lock_11 : decode cX7_lock 11 = .ok (.getfield 15, 3) := dk_180 0 15 (dk_at dksX7_lock_0 11 rfl rfl)
theorem dX7_lock_14 : decode cX7_lock 14 = .ok (.iload_n 2, 1) := dk_28 (dk_at dksX7_lock_0 14 rfl rfl)
theorem dX7_lock_15 : decode cX7_lock 15 = .ok (.iaload, 1) := dk_46 (dk_at dksX7_lock_0 15 rfl rfl)
theorem dX7_lock_16 : decode cX7_lock 16 = .ok (.iload_n 1, 1) := dk_27 (dk_at dksX7_lock_0 16 rfl rfl)
theorem dX7_lock_17 : decode cX7_lock 17 = .ok (.if_icmp .eq 5, 3) := dk_159 0 5 (dk_at dksX7_lock_0 17 rfl rfl)
theorem dX7_lock_20 : decode cX7_lock 20 = .ok (.iconst 0, 1) := dk_3 (dk_at dksX7_lock_0 20 rfl rfl)
theorem dX7_lock_21 : decode cX7_lock 21 = .ok (.ireturn, 1) := dk_172 (dk_at dksX7_lock_0 21 rfl rfl)
theorem dX7_lock_22 : decode cX7_lock 22 = .ok (.aload_n 0, 1) := dk_42 (dk_at dksX7_lock_0 22 rfl rfl)
theorem dX7_lock_23 : decode cX7_lock 23 = .ok (.getfield 15, 3) := dk_180 0 15 (dk_at dksX7_lock_1 0 rfl rfl)
theorem dX7_lock_26 : decode cX7_lock 26 = .ok (.iload_n 2, 1) := dk_28 (dk_at dksX7_lock_1 3 rfl rfl)
theorem dX7_lock_27 : decode cX7_lock 27 = .ok (.iaload, 1) := dk_46 (dk_at dksX7_lock_1 4 rfl rfl)
theorem dX7_lock_28 : decode cX7_lock 28 = .ok (.iconst (-1), 1) := dk_2 (dk_at dksX7_lock_1 5 rfl rfl)
theorem dX7_lock_29 : decode cX7_lock 29 = .ok (.if_icmp .ne 13, 3) := dk_160 0 13 (dk_at dksX7_lock_1 6 rfl rfl)
theorem dX7_lock_32 : decode cX7_lock 32 = .ok (.aload_n 0, 1) := dk_42 (dk_at dksX7_lock_1 9 rfl rfl)
theorem dX7_lock_33 : decode cX7_lock 33 = .ok (.getfield 18, 3) := dk_180 0 18 (dk_at dksX7_lock_1 10 rfl rfl)
theorem dX7_lock_36 : decode cX7_lock 36 = .ok (.iload_n 2, 1) := dk_28 (dk_at dksX7_lock_1 13 rfl rfl)
theorem dX7_lock_37 : decode cX7_lock 37 = .ok (.dup2, 1) := dk_92 (dk_at dksX7_lock_1 14 rfl rfl)
theorem dX7_lock_38 : decode cX7_lock 38 = .ok (.iaload, 1) := dk_46 (dk_at dksX7_lock_1 15 rfl rfl)
theorem dX7_lock_39 : decode cX7_lock 39 = .ok (.iconst 1, 1) := dk_4 (dk_at dksX7_lock_1 16 rfl rfl)
theorem dX7_lock_40 : decode cX7_lock 40 = .ok (.iadd, 1) := dk_96 (dk_at dksX7_lock_1 17 rfl rfl)
theorem dX7_lock_41 : decode cX7_lock 41 = .ok (.iastore, 1) := dk_79 (dk_at dksX7_lock_1 18 rfl rfl)
theorem dX7_lock_42 : decode cX7_lock 42 = .ok (.aload_n 0, 1) := dk_42 (dk_at dksX7_lock_1 19 rfl rfl)
theorem dX7_lock_43 : decode cX7_lock 43 = .ok (.getfield 15, 3) := dk_180 0 15 (dk_at dksX7_lock_1 20 rfl rfl)
theorem dX7_lock_46 : decode cX7_lock 46 = .ok (.iload_n 2, 1) := dk_28 (dk_at dksX7_lock_1 23 rfl rfl)
theorem dX7_lock_47 : decode cX7_lock 47 = .ok (.iload_n 1, 1) := dk_27 (dk_at dksX7_lock_2 0 rfl rfl)
theorem dX7_lock_48 : decode cX7_lock 48 = .ok (.iastore, 1) := dk_79 (dk_at dksX7_lock_2 1 rfl rfl)
theorem dX7_lock_49 : decode cX7_lock 49 = .ok (.aload_n 0, 1) := dk_42 (dk_at dksX7_lock_2 2 rfl rfl)
theorem dX7_lock_50 : decode cX7_lock 50 = .ok (.getfield 21, 3) := dk_180 0 21 (dk_at dksX7_lock_2 3 rfl rfl)
theorem dX7_lock_53 : decode cX7_lock 53 = .ok (.iload_n 2, 1) := dk_28 (dk_at dksX7_lock_2 6 rfl rfl)
theorem dX7_lock_54 : decode cX7_lock 54 = .ok (.iload_n 3, 1) := dk_29 (dk_at dksX7_lock_2 7 rfl rfl)
theorem dX7_lock_55 : decode cX7_lock 55 = .ok (.ifCond .ne 7, 3) := dk_154 0 7 (dk_at dksX7_lock_2 8 rfl rfl)
theorem dX7_lock_58 : decode cX7_lock 58 = .ok (.iconst (-1), 1) := dk_2 (dk_at dksX7_lock_2 11 rfl rfl)
theorem dX7_lock_59 : decode cX7_lock 59 = .ok (.goto 9, 3) := dk_167 0 9 (dk_at dksX7_lock_2 12 rfl rfl)
theorem dX7_lock_62 : decode cX7_lock 62 = .ok (.aload_n 0, 1) := dk_42 (dk_at dksX7_lock_2 15 rfl rfl)
theorem dX7_lock_63 : decode cX7_lock 63 = .ok (.getfield 38, 3) := dk_180 0 38 (dk_at dksX7_lock_2 16 rfl rfl)
theorem dX7_lock_66 : decode cX7_lock 66 = .ok (.iload_n 3, 1) := dk_29 (dk_at dksX7_lock_2 19 rfl rfl)
theorem dX7_lock_67 : decode cX7_lock 67 = .ok (.iadd, 1) := dk_96 (dk_at dksX7_lock_2 20 rfl rfl)
theorem dX7_lock_68 : decode cX7_lock 68 = .ok (.iastore, 1) := dk_79 (dk_at dksX7_lock_2 21 rfl rfl)
theorem dX7_lock_69 : decode cX7_lock 69 = .ok (.aload_n 0, 1) := dk_42 (dk_at dksX7_lock_2 22 rfl rfl)
theorem dX7_lock_70 : decode cX7_lock 70 = .ok (.getfield 18, 3) := dk_180 0 18 (dk_at dksX7_lock_3 0 rfl rfl)
theorem dX7_lock_73 : decode cX7_lock 73 = .ok (.iload_n 2, 1) := dk_28 (dk_at dksX7_lock_3 3 rfl rfl)
theorem dX7_lock_74 : decode cX7_lock 74 = .ok (.iaload, 1) := dk_46 (dk_at dksX7_lock_3 4 rfl rfl)
theorem dX7_lock_75 : decode cX7_lock 75 = .ok (.ireturn, 1) := dk_172 (dk_at dksX7_lock_3 5 rfl rfl)
abbrev cX7_open : ByteArray := prog_17_method_6_code
def yX7_open : MethodName := ⟨RX7, "open", "(I)V"⟩
def dkwX7_open_0 : List UInt8 := [42, 180, 0, 15, 27, 2, 79, 42, 180, 0, 21, 27, 2, 79, 177]
abbrev dktX7_open_0 : List UInt8 := dkwX7_open_0 ++ []
theorem dksX7_open_0 : cX7_open.data.toList.drop 0 = dktX7_open_0 := by decide +kernel
theorem dX7_open_0 : decode cX7_open 0 = .ok (.aload_n 0, 1) := dk_42 (dk_at dksX7_open_0 0 rfl rfl)
theorem dX7_open_1 : decode cX7_open 1 = .ok (.getfield 15, 3) := dk_180 0 15 (dk_at dksX7_open_0 1 rfl rfl)
theorem dX7_open_4 : decode cX7_open 4 = .ok (.iload_n 1, 1) := dk_27 (dk_at dksX7_open_0 4 rfl rfl)
theorem dX7_open_5 : decode cX7_open 5 = .ok (.iconst (-1), 1) := dk_2 (dk_at dksX7_open_0 5 rfl rfl)
theorem dX7_open_6 : decode cX7_open 6 = .ok (.iastore, 1) := dk_79 (dk_at dksX7_open_0 6 rfl rfl)
theorem dX7_open_7 : decode cX7_open 7 = .ok (.aload_n 0, 1) := dk_42 (dk_at dksX7_open_0 7 rfl rfl)
theorem dX7_open_8 : decode cX7_open 8 = .ok (.getfield 21, 3) := dk_180 0 21 (dk_at dksX7_open_0 8 rfl rfl)
theorem dX7_open_11 : decode cX7_open 11 = .ok (.iload_n 1, 1) := dk_27 (dk_at dksX7_open_0 11 rfl rfl)
theorem dX7_open_12 : decode cX7_open 12 = .ok (.iconst (-1), 1) := dk_2 (dk_at dksX7_open_0 12 rfl rfl)
theorem dX7_open_13 : decode cX7_open 13 = .ok (.iastore, 1) := dk_79 (dk_at dksX7_open_0 13 rfl rfl)
theorem dX7_open_14 : decode cX7_open 14 = .ok (.return_, 1) := dk_177 (dk_at dksX7_open_0 14 rfl rfl)
abbrev cX7_copy : ByteArray := prog_17_method_2_code
def yX7_copy : MethodName := ⟨RX7, "copy", "()LQuorumspireModel$Store;"⟩
def dkwX7_copy_6 : List UInt8 := [176]
abbrev dktX7_copy_6 : List UInt8 := dkwX7_copy_6 ++ []
def dkwX7_copy_5 : List UInt8 := [45, 21, 4, 50, 3, 7, 184, 0, 32, 132, 4, 1, 167, 255, 232, 43, 42, 180, 0, 38, 181, 0, 38, 43]
abbrev dktX7_copy_5 : List UInt8 := dkwX7_copy_5 ++ dktX7_copy_6
def dkwX7_copy_4 : List UInt8 := [83, 89, 8, 43, 180, 0, 27, 83, 78, 3, 54, 4, 21, 4, 44, 190, 162, 0, 23, 44, 21, 4, 50, 3]
abbrev dktX7_copy_4 : List UInt8 := dkwX7_copy_4 ++ dktX7_copy_5
def dkwX7_copy_3 : List UInt8 := [180, 0, 15, 83, 89, 5, 43, 180, 0, 18, 83, 89, 6, 43, 180, 0, 21, 83, 89, 7, 43, 180, 0, 24]
abbrev dktX7_copy_3 : List UInt8 := dkwX7_copy_3 ++ dktX7_copy_4
def dkwX7_copy_2 : List UInt8 := [83, 89, 8, 42, 180, 0, 27, 83, 77, 16, 6, 189, 0, 31, 89, 3, 43, 180, 0, 9, 83, 89, 4, 43]
abbrev dktX7_copy_2 : List UInt8 := dkwX7_copy_2 ++ dktX7_copy_3
def dkwX7_copy_1 : List UInt8 := [180, 0, 15, 83, 89, 5, 42, 180, 0, 18, 83, 89, 6, 42, 180, 0, 21, 83, 89, 7, 42, 180, 0, 24]
abbrev dktX7_copy_1 : List UInt8 := dkwX7_copy_1 ++ dktX7_copy_2
def dkwX7_copy_0 : List UInt8 := [187, 0, 10, 89, 183, 0, 30, 76, 16, 6, 189, 0, 31, 89, 3, 42, 180, 0, 9, 83, 89, 4, 42]
abbrev dktX7_copy_0 : List UInt8 := dkwX7_copy_0 ++ dktX7_copy_1
theorem dksX7_copy_0 : cX7_copy.data.toList.drop 0 = dktX7_copy_0 := by decide +kernel
theorem dksX7_copy_1 : cX7_copy.data.toList.drop 23 = dktX7_copy_1 := dk_seg dksX7_copy_0 23 rfl rfl
theorem dksX7_copy_2 : cX7_copy.data.toList.drop 47 = dktX7_copy_2 := dk_seg dksX7_copy_1 24 rfl rfl
theorem dksX7_copy_3 : cX7_copy.data.toList.drop 71 = dktX7_copy_3 := dk_seg dksX7_copy_2 24 rfl rfl
theorem dksX7_copy_4 : cX7_copy.data.toList.drop 95 = dktX7_copy_4 := dk_seg dksX7_copy_3 24 rfl rfl
theorem dksX7_copy_5 : cX7_copy.data.toList.drop 119 = dktX7_copy_5 := dk_seg dksX7_copy_4 24 rfl rfl
theorem dksX7_copy_6 : cX7_copy.data.toList.drop 143 = dktX7_copy_6 := dk_seg dksX7_copy_5 24 rfl rfl
theorem dX7_copy_0 : decode cX7_copy 0 = .ok (.new 10, 3) := dk_187 0 10 (dk_at dksX7_copy_0 0 rfl rfl)
theorem dX7_copy_3 : decode cX7_copy 3 = .ok (.dup, 1) := dk_89 (dk_at dksX7_copy_0 3 rfl rfl)
theorem dX7_copy_4 : decode cX7_copy 4 = .ok (.invokespecial 30, 3) := dk_183 0 30 (dk_at dksX7_copy_0 4 rfl rfl)
theorem dX7_copy_7 : decode cX7_copy 7 = .ok (.astore_n 1, 1) := dk_76 (dk_at dksX7_copy_0 7 rfl rfl)
theorem dX7_copy_8 : decode cX7_copy 8 = .ok (.bipush 6, 2) := dk_16 6 (dk_at dksX7_copy_0 8 rfl rfl)
theorem dX7_copy_10 : decode cX7_copy 10 = .ok (.anewarray 31, 3) := dk_189 0 31 (dk_at dksX7_copy_0 10 rfl rfl)
theorem dX7_copy_13 : decode cX7_copy 13 = .ok (.dup, 1) := dk_89 (dk_at dksX7_copy_0 13 rfl rfl)
theorem dX7_copy_14 : decode cX7_copy 14 = .ok (.iconst 0, 1) := dk_3 (dk_at dksX7_copy_0 14 rfl rfl)
theorem dX7_copy_15 : decode cX7_copy 15 = .ok (.aload_n 0, 1) := dk_42 (dk_at dksX7_copy_0 15 rfl rfl)
theorem dX7_copy_16 : decode cX7_copy 16 = .ok (.getfield 9, 3) := dk_180 0 9 (dk_at dksX7_copy_0 16 rfl rfl)
theorem dX7_copy_19 : decode cX7_copy 19 = .ok (.aastore, 1) := dk_83 (dk_at dksX7_copy_0 19 rfl rfl)
theorem dX7_copy_20 : decode cX7_copy 20 = .ok (.dup, 1) := dk_89 (dk_at dksX7_copy_0 20 rfl rfl)
theorem dX7_copy_21 : decode cX7_copy 21 = .ok (.iconst 1, 1) := dk_4 (dk_at dksX7_copy_0 21 rfl rfl)
theorem dX7_copy_22 : decode cX7_copy 22 = .ok (.aload_n 0, 1) := dk_42 (dk_at dksX7_copy_0 22 rfl rfl)
theorem dX7_copy_23 : decode cX7_copy 23 = .ok (.getfield 15, 3) := dk_180 0 15 (dk_at dksX7_copy_1 0 rfl rfl)
theorem dX7_copy_26 : decode cX7_copy 26 = .ok (.aastore, 1) := dk_83 (dk_at dksX7_copy_1 3 rfl rfl)
theorem dX7_copy_27 : decode cX7_copy 27 = .ok (.dup, 1) := dk_89 (dk_at dksX7_copy_1 4 rfl rfl)
theorem dX7_copy_28 : decode cX7_copy 28 = .ok (.iconst 2, 1) := dk_5 (dk_at dksX7_copy_1 5 rfl rfl)
theorem dX7_copy_29 : decode cX7_copy 29 = .ok (.aload_n 0, 1) := dk_42 (dk_at dksX7_copy_1 6 rfl rfl)
theorem dX7_copy_30 : decode cX7_copy 30 = .ok (.getfield 18, 3) := dk_180 0 18 (dk_at dksX7_copy_1 7 rfl rfl)
theorem dX7_copy_33 : decode cX7_copy 33 = .ok (.aastore, 1) := dk_83 (dk_at dksX7_copy_1 10 rfl rfl)
theorem dX7_copy_34 : decode cX7_copy 34 = .ok (.dup, 1) := dk_89 (dk_at dksX7_copy_1 11 rfl rfl)
theorem dX7_copy_35 : decode cX7_copy 35 = .ok (.iconst 3, 1) := dk_6 (dk_at dksX7_copy_1 12 rfl rfl)
theorem dX7_copy_36 : decode cX7_copy 36 = .ok (.aload_n 0, 1) := dk_42 (dk_at dksX7_copy_1 13 rfl rfl)
theorem dX7_copy_37 : decode cX7_copy 37 = .ok (.getfield 21, 3) := dk_180 0 21 (dk_at dksX7_copy_1 14 rfl rfl)
theorem dX7_copy_40 : decode cX7_copy 40 = .ok (.aastore, 1) := dk_83 (dk_at dksX7_copy_1 17 rfl rfl)
theorem dX7_copy_41 : decode cX7_copy 41 = .ok (.dup, 1) := dk_89 (dk_at dksX7_copy_1 18 rfl rfl)
theorem dX7_copy_42 : decode cX7_copy 42 = .ok (.iconst 4, 1) := dk_7 (dk_at dksX7_copy_1 19 rfl rfl)
theorem dX7_copy_43 : decode cX7_copy 43 = .ok (.aload_n 0, 1) := dk_42 (dk_at dksX7_copy_1 20 rfl rfl)
theorem dX7_copy_44 : decode cX7_copy 44 = .ok (.getfield 24, 3) := dk_180 0 24 (dk_at dksX7_copy_1 21 rfl rfl)
theorem dX7_copy_47 : decode cX7_copy 47 = .ok (.aastore, 1) := dk_83 (dk_at dksX7_copy_2 0 rfl rfl)
theorem dX7_copy_48 : decode cX7_copy 48 = .ok (.dup, 1) := dk_89 (dk_at dksX7_copy_2 1 rfl rfl)
theorem dX7_copy_49 : decode cX7_copy 49 = .ok (.iconst 5, 1) := dk_8 (dk_at dksX7_copy_2 2 rfl rfl)
theorem dX7_copy_50 : decode cX7_copy 50 = .ok (.aload_n 0, 1) := dk_42 (dk_at dksX7_copy_2 3 rfl rfl)
theorem dX7_copy_51 : decode cX7_copy 51 = .ok (.getfield 27, 3) := dk_180 0 27 (dk_at dksX7_copy_2 4 rfl rfl)
theorem dX7_copy_54 : decode cX7_copy 54 = .ok (.aastore, 1) := dk_83 (dk_at dksX7_copy_2 7 rfl rfl)
theorem dX7_copy_55 : decode cX7_copy 55 = .ok (.astore_n 2, 1) := dk_77 (dk_at dksX7_copy_2 8 rfl rfl)
theorem dX7_copy_56 : decode cX7_copy 56 = .ok (.bipush 6, 2) := dk_16 6 (dk_at dksX7_copy_2 9 rfl rfl)
theorem dX7_copy_58 : decode cX7_copy 58 = .ok (.anewarray 31, 3) := dk_189 0 31 (dk_at dksX7_copy_2 11 rfl rfl)
theorem dX7_copy_61 : decode cX7_copy 61 = .ok (.dup, 1) := dk_89 (dk_at dksX7_copy_2 14 rfl rfl)
theorem dX7_copy_62 : decode cX7_copy 62 = .ok (.iconst 0, 1) := dk_3 (dk_at dksX7_copy_2 15 rfl rfl)
theorem dX7_copy_63 : decode cX7_copy 63 = .ok (.aload_n 1, 1) := dk_43 (dk_at dksX7_copy_2 16 rfl rfl)
theorem dX7_copy_64 : decode cX7_copy 64 = .ok (.getfield 9, 3) := dk_180 0 9 (dk_at dksX7_copy_2 17 rfl rfl)
theorem dX7_copy_67 : decode cX7_copy 67 = .ok (.aastore, 1) := dk_83 (dk_at dksX7_copy_2 20 rfl rfl)
theorem dX7_copy_68 : decode cX7_copy 68 = .ok (.dup, 1) := dk_89 (dk_at dksX7_copy_2 21 rfl rfl)
theorem dX7_copy_69 : decode cX7_copy 69 = .ok (.iconst 1, 1) := dk_4 (dk_at dksX7_copy_2 22 rfl rfl)
theorem dX7_copy_70 : decode cX7_copy 70 = .ok (.aload_n 1, 1) := dk_43 (dk_at dksX7_copy_2 23 rfl rfl)
theorem dX7_copy_71 : decode cX7_copy 71 = .ok (.getfield 15, 3) := dk_180 0 15 (dk_at dksX7_copy_3 0 rfl rfl)
theorem dX7_copy_74 : decode cX7_copy 74 = .ok (.aastore, 1) := dk_83 (dk_at dksX7_copy_3 3 rfl rfl)
theorem dX7_copy_75 : decode cX7_copy 75 = .ok (.dup, 1) := dk_89 (dk_at dksX7_copy_3 4 rfl rfl)
theorem dX7_copy_76 : decode cX7_copy 76 = .ok (.iconst 2, 1) := dk_5 (dk_at dksX7_copy_3 5 rfl rfl)
theorem dX7_copy_77 : decode cX7_copy 77 = .ok (.aload_n 1, 1) := dk_43 (dk_at dksX7_copy_3 6 rfl rfl)
theorem dX7_copy_78 : decode cX7_copy 78 = .ok (.getfield 18, 3) := dk_180 0 18 (dk_at dksX7_copy_3 7 rfl rfl)
theorem dX7_copy_81 : decode cX7_copy 81 = .ok (.aastore, 1) := dk_83 (dk_at dksX7_copy_3 10 rfl rfl)
theorem dX7_copy_82 : decode cX7_copy 82 = .ok (.dup, 1) := dk_89 (dk_at dksX7_copy_3 11 rfl rfl)
theorem dX7_copy_83 : decode cX7_copy 83 = .ok (.iconst 3, 1) := dk_6 (dk_at dksX7_copy_3 12 rfl rfl)
theorem dX7_copy_84 : decode cX7_copy 84 = .ok (.aload_n 1, 1) := dk_43 (dk_at dksX7_copy_3 13 rfl rfl)
theorem dX7_copy_85 : decode cX7_copy 85 = .ok (.getfield 21, 3) := dk_180 0 21 (dk_at dksX7_copy_3 14 rfl rfl)
theorem dX7_copy_88 : decode cX7_copy 88 = .ok (.aastore, 1) := dk_83 (dk_at dksX7_copy_3 17 rfl rfl)
theorem dX7_copy_89 : decode cX7_copy 89 = .ok (.dup, 1) := dk_89 (dk_at dksX7_copy_3 18 rfl rfl)
theorem dX7_copy_90 : decode cX7_copy 90 = .ok (.iconst 4, 1) := dk_7 (dk_at dksX7_copy_3 19 rfl rfl)
theorem dX7_copy_91 : decode cX7_copy 91 = .ok (.aload_n 1, 1) := dk_43 (dk_at dksX7_copy_3 20 rfl rfl)
theorem dX7_copy_92 : decode cX7_copy 92 = .ok (.getfield 24, 3) := dk_180 0 24 (dk_at dksX7_copy_3 21 rfl rfl)
theorem dX7_copy_95 : decode cX7_copy 95 = .ok (.aastore, 1) := dk_83 (dk_at dksX7_copy_4 0 rfl rfl)
theorem dX7_copy_96 : decode cX7_copy 96 = .ok (.dup, 1) := dk_89 (dk_at dksX7_copy_4 1 rfl rfl)
theorem dX7_copy_97 : decode cX7_copy 97 = .ok (.iconst 5, 1) := dk_8 (dk_at dksX7_copy_4 2 rfl rfl)
theorem dX7_copy_98 : decode cX7_copy 98 = .ok (.aload_n 1, 1) := dk_43 (dk_at dksX7_copy_4 3 rfl rfl)
theorem dX7_copy_99 : decode cX7_copy 99 = .ok (.getfield 27, 3) := dk_180 0 27 (dk_at dksX7_copy_4 4 rfl rfl)
theorem dX7_copy_102 : decode cX7_copy 102 = .ok (.aastore, 1) := dk_83 (dk_at dksX7_copy_4 7 rfl rfl)
theorem dX7_copy_103 : decode cX7_copy 103 = .ok (.astore_n 3, 1) := dk_78 (dk_at dksX7_copy_4 8 rfl rfl)
theorem dX7_copy_104 : decode cX7_copy 104 = .ok (.iconst 0, 1) := dk_3 (dk_at dksX7_copy_4 9 rfl rfl)
theorem dX7_copy_105 : decode cX7_copy 105 = .ok (.istore 4, 2) := dk_54 4 (dk_at dksX7_copy_4 10 rfl rfl)
theorem dX7_copy_107 : decode cX7_copy 107 = .ok (.iload 4, 2) := dk_21 4 (dk_at dksX7_copy_4 12 rfl rfl)
theorem dX7_copy_109 : decode cX7_copy 109 = .ok (.aload_n 2, 1) := dk_44 (dk_at dksX7_copy_4 14 rfl rfl)
theorem dX7_copy_110 : decode cX7_copy 110 = .ok (.arraylength, 1) := dk_190 (dk_at dksX7_copy_4 15 rfl rfl)
theorem dX7_copy_111 : decode cX7_copy 111 = .ok (.if_icmp .ge 23, 3) := dk_162 0 23 (dk_at dksX7_copy_4 16 rfl rfl)
theorem dX7_copy_114 : decode cX7_copy 114 = .ok (.aload_n 2, 1) := dk_44 (dk_at dksX7_copy_4 19 rfl rfl)
theorem dX7_copy_115 : decode cX7_copy 115 = .ok (.iload 4, 2) := dk_21 4 (dk_at dksX7_copy_4 20 rfl rfl)
theorem dX7_copy_117 : decode cX7_copy 117 = .ok (.aaload, 1) := dk_50 (dk_at dksX7_copy_4 22 rfl rfl)
theorem dX7_copy_118 : decode cX7_copy 118 = .ok (.iconst 0, 1) := dk_3 (dk_at dksX7_copy_4 23 rfl rfl)
theorem dX7_copy_119 : decode cX7_copy 119 = .ok (.aload_n 3, 1) := dk_45 (dk_at dksX7_copy_5 0 rfl rfl)
theorem dX7_copy_120 : decode cX7_copy 120 = .ok (.iload 4, 2) := dk_21 4 (dk_at dksX7_copy_5 1 rfl rfl)
theorem dX7_copy_122 : decode cX7_copy 122 = .ok (.aaload, 1) := dk_50 (dk_at dksX7_copy_5 3 rfl rfl)
theorem dX7_copy_123 : decode cX7_copy 123 = .ok (.iconst 0, 1) := dk_3 (dk_at dksX7_copy_5 4 rfl rfl)
theorem dX7_copy_124 : decode cX7_copy 124 = .ok (.iconst 4, 1) := dk_7 (dk_at dksX7_copy_5 5 rfl rfl)
theorem dX7_copy_125 : decode cX7_copy 125 = .ok (.invokestatic 32, 3) := dk_184 0 32 (dk_at dksX7_copy_5 6 rfl rfl)
theorem dX7_copy_128 : decode cX7_copy 128 = .ok (.iinc 4 1, 3) := dk_132 4 1 (dk_at dksX7_copy_5 9 rfl rfl)
theorem dX7_copy_131 : decode cX7_copy 131 = .ok (.goto (-24), 3) := dk_167 255 232 (dk_at dksX7_copy_5 12 rfl rfl)
theorem dX7_copy_134 : decode cX7_copy 134 = .ok (.aload_n 1, 1) := dk_43 (dk_at dksX7_copy_5 15 rfl rfl)
theorem dX7_copy_135 : decode cX7_copy 135 = .ok (.aload_n 0, 1) := dk_42 (dk_at dksX7_copy_5 16 rfl rfl)
theorem dX7_copy_136 : decode cX7_copy 136 = .ok (.getfield 38, 3) := dk_180 0 38 (dk_at dksX7_copy_5 17 rfl rfl)
theorem dX7_copy_139 : decode cX7_copy 139 = .ok (.putfield 38, 3) := dk_181 0 38 (dk_at dksX7_copy_5 20 rfl rfl)
theorem dX7_copy_142 : decode cX7_copy 142 = .ok (.aload_n 1, 1) := dk_43 (dk_at dksX7_copy_5 23 rfl rfl)
theorem dX7_copy_143 : decode cX7_copy 143 = .ok (.areturn, 1) := dk_176 (dk_at dksX7_copy_6 0 rfl rfl)
theorem q78 : (Jvm.Cond.initialized "QuorumspireModel$Store") ∈ lw_all := lw_g (lw_at lw_m1 10 rfl) rfl
theorem q661 : (Jvm.Cond.selects "QuorumspireModel$Store" ({ cls := "java/lang/Object", name := "getClass", desc := "()Ljava/lang/Class;" } : Jvm.MethodName) ({ cls := "java/lang/Object", name := "getClass", desc := "()Ljava/lang/Class;" } : Jvm.MethodName)) ∈ lw_all := lw_g (lw_at lw_m3 113 rfl) rfl
theorem q1621 : (Jvm.Cond.instantiable "QuorumspireModel$Store" (7 : Nat)) ∈ lw_all := lw_g (lw_at lw_m7 113 rfl) rfl
theorem q1623 : (Jvm.Cond.instanceMethod ({ cls := "QuorumspireModel$Store", name := "<init>", desc := "()V" } : Jvm.MethodName)) ∈ lw_all := lw_g (lw_at lw_m7 115 rfl) rfl
theorem q1624 : (Jvm.Cond.code ({ cls := "QuorumspireModel$Store", name := "<init>", desc := "()V" } : Jvm.MethodName) prog_17_method_1_code (1 : Nat) (Option.none : Option Jvm.ClassFile.FieldType)) ∈ lw_all := lw_g (lw_at lw_m7 116 rfl) rfl
theorem q1625 : (Jvm.Cond.methodLink "QuorumspireModel$Store" (3 : Nat) ({ cls := "java/lang/Object", name := "<init>", desc := "()V" } : Jvm.MethodName)) ∈ lw_all := lw_g (lw_at lw_m7 117 rfl) rfl
theorem q1626 : (Jvm.Cond.fieldLink "QuorumspireModel$Store" (9 : Nat) "QuorumspireModel$Store" "values" "[I") ∈ lw_all := lw_g (lw_at lw_m7 118 rfl) rfl
theorem q1628 : (Jvm.Cond.fieldLink "QuorumspireModel$Store" (15 : Nat) "QuorumspireModel$Store" "owners" "[I") ∈ lw_all := lw_g (lw_at lw_m7 120 rfl) rfl
theorem q1630 : (Jvm.Cond.fieldLink "QuorumspireModel$Store" (18 : Nat) "QuorumspireModel$Store" "fences" "[I") ∈ lw_all := lw_g (lw_at lw_m7 122 rfl) rfl
theorem q1632 : (Jvm.Cond.fieldLink "QuorumspireModel$Store" (21 : Nat) "QuorumspireModel$Store" "ends" "[I") ∈ lw_all := lw_g (lw_at lw_m7 124 rfl) rfl
theorem q1634 : (Jvm.Cond.fieldLink "QuorumspireModel$Store" (38 : Nat) "QuorumspireModel$Store" "time" "I") ∈ lw_all := lw_g (lw_at lw_m7 126 rfl) rfl
theorem q1636 : (Jvm.Cond.fieldLink "QuorumspireModel$Store" (24 : Nat) "QuorumspireModel$Store" "latest" "[I") ∈ lw_all := lw_g (lw_at lw_m7 128 rfl) rfl
theorem q1637 : (Jvm.Cond.fieldLink "QuorumspireModel$Store" (27 : Nat) "QuorumspireModel$Store" "results" "[I") ∈ lw_all := lw_g (lw_at lw_m7 129 rfl) rfl
theorem q1638 : (Jvm.Cond.laysFinal "QuorumspireModel$Store" "QuorumspireModel$Store" "values" "[I") ∈ lw_all := lw_g (lw_at lw_m7 130 rfl) rfl
theorem q1639 : (Jvm.Cond.soleField "QuorumspireModel$Store" "values") ∈ lw_all := lw_g (lw_at lw_m7 131 rfl) rfl
theorem q1640 : (Jvm.Cond.laysFinal "QuorumspireModel$Store" "QuorumspireModel$Store" "owners" "[I") ∈ lw_all := lw_g (lw_at lw_m7 132 rfl) rfl
theorem q1641 : (Jvm.Cond.soleField "QuorumspireModel$Store" "owners") ∈ lw_all := lw_g (lw_at lw_m7 133 rfl) rfl
theorem q1642 : (Jvm.Cond.laysFinal "QuorumspireModel$Store" "QuorumspireModel$Store" "fences" "[I") ∈ lw_all := lw_g (lw_at lw_m7 134 rfl) rfl
theorem q1643 : (Jvm.Cond.soleField "QuorumspireModel$Store" "fences") ∈ lw_all := lw_g (lw_at lw_m7 135 rfl) rfl
theorem q1644 : (Jvm.Cond.laysFinal "QuorumspireModel$Store" "QuorumspireModel$Store" "ends" "[I") ∈ lw_all := lw_g (lw_at lw_m7 136 rfl) rfl
theorem q1645 : (Jvm.Cond.soleField "QuorumspireModel$Store" "ends") ∈ lw_all := lw_g (lw_at lw_m7 137 rfl) rfl
theorem q1646 : (Jvm.Cond.lays "QuorumspireModel$Store" "QuorumspireModel$Store" "time" "I") ∈ lw_all := lw_g (lw_at lw_m7 138 rfl) rfl
theorem q1647 : (Jvm.Cond.soleField "QuorumspireModel$Store" "time") ∈ lw_all := lw_g (lw_at lw_m7 139 rfl) rfl
theorem q1648 : (Jvm.Cond.laysFinal "QuorumspireModel$Store" "QuorumspireModel$Store" "latest" "[I") ∈ lw_all := lw_g (lw_at lw_m7 140 rfl) rfl
theorem q1649 : (Jvm.Cond.soleField "QuorumspireModel$Store" "latest") ∈ lw_all := lw_g (lw_at lw_m7 141 rfl) rfl
theorem q1650 : (Jvm.Cond.laysFinal "QuorumspireModel$Store" "QuorumspireModel$Store" "results" "[I") ∈ lw_all := lw_g (lw_at lw_m7 142 rfl) rfl
theorem q1651 : (Jvm.Cond.soleField "QuorumspireModel$Store" "results") ∈ lw_all := lw_g (lw_at lw_m7 143 rfl) rfl
theorem q1652 : (Jvm.Cond.superclass "QuorumspireModel$Store" "java/lang/Object") ∈ lw_all := lw_g (lw_at lw_m7 144 rfl) rfl
theorem q1977 : (Jvm.Cond.instanceMethod ({ cls := "QuorumspireModel$Store", name := "does", desc := "(I[I)I" } : Jvm.MethodName)) ∈ lw_all := lw_g (lw_at lw_m8 229 rfl) rfl
theorem q1978 : (Jvm.Cond.selects "QuorumspireModel$Store" ({ cls := "QuorumspireModel$Store", name := "does", desc := "(I[I)I" } : Jvm.MethodName) ({ cls := "QuorumspireModel$Store", name := "does", desc := "(I[I)I" } : Jvm.MethodName)) ∈ lw_all := lw_g (lw_at lw_m8 230 rfl) rfl
theorem q1979 : (Jvm.Cond.code ({ cls := "QuorumspireModel$Store", name := "does", desc := "(I[I)I" } : Jvm.MethodName) prog_17_method_3_code (4 : Nat) (Option.some Jvm.ClassFile.FieldType.int)) ∈ lw_all := lw_g (lw_at lw_m8 231 rfl) rfl
theorem q1980 : (Jvm.Cond.methodLink "QuorumspireModel$Store" (42 : Nat) ({ cls := "QuorumspireModel$Store", name := "doesNow", desc := "([I)I" } : Jvm.MethodName)) ∈ lw_all := lw_g (lw_at lw_m8 232 rfl) rfl
theorem q1981 : (Jvm.Cond.privateMethod ({ cls := "QuorumspireModel$Store", name := "doesNow", desc := "([I)I" } : Jvm.MethodName)) ∈ lw_tbl := lw_at lw_m8 233 rfl
theorem q1982 : (Jvm.Cond.instanceMethod ({ cls := "QuorumspireModel$Store", name := "doesNow", desc := "([I)I" } : Jvm.MethodName)) ∈ lw_all := lw_g (lw_at lw_m8 234 rfl) rfl
theorem q1983 : (Jvm.Cond.code ({ cls := "QuorumspireModel$Store", name := "doesNow", desc := "([I)I" } : Jvm.MethodName) prog_17_method_4_code (5 : Nat) (Option.some Jvm.ClassFile.FieldType.int)) ∈ lw_all := lw_g (lw_at lw_m8 235 rfl) rfl
theorem q1984 : (Jvm.Cond.methodLink "QuorumspireModel$Store" (46 : Nat) ({ cls := "QuorumspireModel$Store", name := "lock", desc := "(III)I" } : Jvm.MethodName)) ∈ lw_all := lw_g (lw_at lw_m8 236 rfl) rfl
theorem q1985 : (Jvm.Cond.privateMethod ({ cls := "QuorumspireModel$Store", name := "lock", desc := "(III)I" } : Jvm.MethodName)) ∈ lw_tbl := lw_at lw_m8 237 rfl
theorem q1986 : (Jvm.Cond.instanceMethod ({ cls := "QuorumspireModel$Store", name := "lock", desc := "(III)I" } : Jvm.MethodName)) ∈ lw_all := lw_g (lw_at lw_m8 238 rfl) rfl
theorem q1987 : (Jvm.Cond.code ({ cls := "QuorumspireModel$Store", name := "lock", desc := "(III)I" } : Jvm.MethodName) prog_17_method_5_code (4 : Nat) (Option.some Jvm.ClassFile.FieldType.int)) ∈ lw_all := lw_g (lw_at lw_m8 239 rfl) rfl
theorem q1988 : (Jvm.Cond.methodLink "QuorumspireModel$Store" (50 : Nat) ({ cls := "QuorumspireModel$Store", name := "open", desc := "(I)V" } : Jvm.MethodName)) ∈ lw_all := lw_g (lw_at lw_m9 0 rfl) rfl
theorem q1989 : (Jvm.Cond.privateMethod ({ cls := "QuorumspireModel$Store", name := "open", desc := "(I)V" } : Jvm.MethodName)) ∈ lw_tbl := lw_at lw_m9 1 rfl
theorem q1990 : (Jvm.Cond.instanceMethod ({ cls := "QuorumspireModel$Store", name := "open", desc := "(I)V" } : Jvm.MethodName)) ∈ lw_all := lw_g (lw_at lw_m9 2 rfl) rfl
theorem q1991 : (Jvm.Cond.code ({ cls := "QuorumspireModel$Store", name := "open", desc := "(I)V" } : Jvm.MethodName) prog_17_method_6_code (2 : Nat) (Option.none : Option Jvm.ClassFile.FieldType)) ∈ lw_all := lw_g (lw_at lw_m9 3 rfl) rfl
theorem q2044 : (Jvm.Cond.instanceMethod ({ cls := "QuorumspireModel$Store", name := "copy", desc := "()LQuorumspireModel$Store;" } : Jvm.MethodName)) ∈ lw_all := lw_g (lw_at lw_m9 56 rfl) rfl
theorem q2045 : (Jvm.Cond.selects "QuorumspireModel$Store" ({ cls := "QuorumspireModel$Store", name := "copy", desc := "()LQuorumspireModel$Store;" } : Jvm.MethodName) ({ cls := "QuorumspireModel$Store", name := "copy", desc := "()LQuorumspireModel$Store;" } : Jvm.MethodName)) ∈ lw_all := lw_g (lw_at lw_m9 57 rfl) rfl
theorem q2046 : (Jvm.Cond.code ({ cls := "QuorumspireModel$Store", name := "copy", desc := "()LQuorumspireModel$Store;" } : Jvm.MethodName) prog_17_method_2_code (5 : Nat) (Option.some (Jvm.ClassFile.FieldType.object "QuorumspireModel$Store"))) ∈ lw_all := lw_g (lw_at lw_m9 58 rfl) rfl
theorem q2047 : (Jvm.Cond.classLink "QuorumspireModel$Store" (10 : Nat) "QuorumspireModel$Store") ∈ lw_all := lw_g (lw_at lw_m9 59 rfl) rfl
theorem q2048 : (Jvm.Cond.methodLink "QuorumspireModel$Store" (30 : Nat) ({ cls := "QuorumspireModel$Store", name := "<init>", desc := "()V" } : Jvm.MethodName)) ∈ lw_all := lw_g (lw_at lw_m9 60 rfl) rfl
theorem q2049 : (Jvm.Cond.classLink "QuorumspireModel$Store" (31 : Nat) "[I") ∈ lw_all := lw_g (lw_at lw_m9 61 rfl) rfl
theorem q2051 : (Jvm.Cond.methodLink "QuorumspireModel$Store" (32 : Nat) ({ cls := "java/lang/System", name := "arraycopy", desc := "(Ljava/lang/Object;ILjava/lang/Object;II)V" } : Jvm.MethodName)) ∈ lw_all := lw_g (lw_at lw_m9 63 rfl) rfl
theorem q2278 : (Jvm.Cond.selects "QuorumspireModel$Store" ({ cls := "java/lang/Object", name := "equals", desc := "(Ljava/lang/Object;)Z" } : Jvm.MethodName) ({ cls := "java/lang/Object", name := "equals", desc := "(Ljava/lang/Object;)Z" } : Jvm.MethodName)) ∈ lw_all := lw_g (lw_at lw_m10 50 rfl) rfl
theorem q2424 : (Jvm.Cond.castable "QuorumspireModel$Store" "java/lang/Object") ∈ lw_tbl := lw_at lw_m10 196 rfl
theorem in_X7 : ∀ w ∈ wsX70, w ∈ lw_all := lw_in wsX70 [1638, 1640, 1642, 1644, 1646, 1648, 1650] (by decide +kernel) (by decide +kernel)
/-! Quorumspire$Store -/
set_option maxRecDepth 100000
def RX8 : String := "Quorumspire$Store"
def TX8 : u_T := fun k => match k with
  | 0 => ("Quorumspire$Store", "values", "[I", true)
  | 1 => ("Quorumspire$Store", "owners", "[I", true)
  | 2 => ("Quorumspire$Store", "fences", "[I", true)
  | 3 => ("Quorumspire$Store", "ends", "[I", true)
  | 4 => ("Quorumspire$Store", "latest", "[I", true)
  | 5 => ("Quorumspire$Store", "results", "[I", true)
  | _ => ("Quorumspire$Store", "time", "I", false)
def tyX8 : Nat → FieldType := fun k => match k with
  | 0 => .array .int
  | 1 => .array .int
  | 2 => .array .int
  | 3 => .array .int
  | 4 => .array .int
  | 5 => .array .int
  | _ => .int
abbrev wsX80 : List Cond := u_ws RX8 TX8 7
theorem nmX8 : ∀ a, a < 7 → ∀ b, b < 7 → a ≠ b → (TX8 a).2.1 ≠ (TX8 b).2.1 := by decide +kernel
theorem tyX8_ok : ∀ k, k < 7 → parseFieldDescriptor (TX8 k).2.2.1 = some (tyX8 k) := by decide +kernel
abbrev cX8_told : ByteArray := prog_10_method_8_code
def yX8_told : MethodName := ⟨RX8, "told", "(II)I"⟩
def dkwX8_told_2 : List UInt8 := [180, 0, 21, 27, 46, 167, 0, 7, 42, 180, 0, 37, 172]
abbrev dktX8_told_2 : List UInt8 := dkwX8_told_2 ++ []
def dkwX8_told_1 : List UInt8 := [167, 0, 35, 28, 5, 160, 0, 12, 42, 180, 0, 18, 27, 46, 167, 0, 21, 28, 6, 160, 0, 12, 42]
abbrev dktX8_told_1 : List UInt8 := dkwX8_told_1 ++ dktX8_told_2
def dkwX8_told_0 : List UInt8 := [28, 154, 0, 12, 42, 180, 0, 9, 27, 46, 167, 0, 49, 28, 4, 160, 0, 12, 42, 180, 0, 15, 27, 46]
abbrev dktX8_told_0 : List UInt8 := dkwX8_told_0 ++ dktX8_told_1
theorem dksX8_told_0 : cX8_told.data.toList.drop 0 = dktX8_told_0 := by decide +kernel
theorem dksX8_told_1 : cX8_told.data.toList.drop 24 = dktX8_told_1 := dk_seg dksX8_told_0 24 rfl rfl
theorem dksX8_told_2 : cX8_told.data.toList.drop 47 = dktX8_told_2 := dk_seg dksX8_told_1 23 rfl rfl
theorem dX8_told_0 : decode cX8_told 0 = .ok (.iload_n 2, 1) := dk_28 (dk_at dksX8_told_0 0 rfl rfl)
theorem dX8_told_1 : decode cX8_told 1 = .ok (.ifCond .ne 12, 3) := dk_154 0 12 (dk_at dksX8_told_0 1 rfl rfl)
theorem dX8_told_4 : decode cX8_told 4 = .ok (.aload_n 0, 1) := dk_42 (dk_at dksX8_told_0 4 rfl rfl)
theorem dX8_told_5 : decode cX8_told 5 = .ok (.getfield 9, 3) := dk_180 0 9 (dk_at dksX8_told_0 5 rfl rfl)
theorem dX8_told_8 : decode cX8_told 8 = .ok (.iload_n 1, 1) := dk_27 (dk_at dksX8_told_0 8 rfl rfl)
theorem dX8_told_9 : decode cX8_told 9 = .ok (.iaload, 1) := dk_46 (dk_at dksX8_told_0 9 rfl rfl)
theorem dX8_told_10 : decode cX8_told 10 = .ok (.goto 49, 3) := dk_167 0 49 (dk_at dksX8_told_0 10 rfl rfl)
theorem dX8_told_13 : decode cX8_told 13 = .ok (.iload_n 2, 1) := dk_28 (dk_at dksX8_told_0 13 rfl rfl)
theorem dX8_told_14 : decode cX8_told 14 = .ok (.iconst 1, 1) := dk_4 (dk_at dksX8_told_0 14 rfl rfl)
theorem dX8_told_15 : decode cX8_told 15 = .ok (.if_icmp .ne 12, 3) := dk_160 0 12 (dk_at dksX8_told_0 15 rfl rfl)
theorem dX8_told_18 : decode cX8_told 18 = .ok (.aload_n 0, 1) := dk_42 (dk_at dksX8_told_0 18 rfl rfl)
theorem dX8_told_19 : decode cX8_told 19 = .ok (.getfield 15, 3) := dk_180 0 15 (dk_at dksX8_told_0 19 rfl rfl)
theorem dX8_told_22 : decode cX8_told 22 = .ok (.iload_n 1, 1) := dk_27 (dk_at dksX8_told_0 22 rfl rfl)
theorem dX8_told_23 : decode cX8_told 23 = .ok (.iaload, 1) := dk_46 (dk_at dksX8_told_0 23 rfl rfl)
theorem dX8_told_24 : decode cX8_told 24 = .ok (.goto 35, 3) := dk_167 0 35 (dk_at dksX8_told_1 0 rfl rfl)
theorem dX8_told_27 : decode cX8_told 27 = .ok (.iload_n 2, 1) := dk_28 (dk_at dksX8_told_1 3 rfl rfl)
theorem dX8_told_28 : decode cX8_told 28 = .ok (.iconst 2, 1) := dk_5 (dk_at dksX8_told_1 4 rfl rfl)
theorem dX8_told_29 : decode cX8_told 29 = .ok (.if_icmp .ne 12, 3) := dk_160 0 12 (dk_at dksX8_told_1 5 rfl rfl)
theorem dX8_told_32 : decode cX8_told 32 = .ok (.aload_n 0, 1) := dk_42 (dk_at dksX8_told_1 8 rfl rfl)
theorem dX8_told_33 : decode cX8_told 33 = .ok (.getfield 18, 3) := dk_180 0 18 (dk_at dksX8_told_1 9 rfl rfl)
theorem dX8_told_36 : decode cX8_told 36 = .ok (.iload_n 1, 1) := dk_27 (dk_at dksX8_told_1 12 rfl rfl)
theorem dX8_told_37 : decode cX8_told 37 = .ok (.iaload, 1) := dk_46 (dk_at dksX8_told_1 13 rfl rfl)
theorem dX8_told_38 : decode cX8_told 38 = .ok (.goto 21, 3) := dk_167 0 21 (dk_at dksX8_told_1 14 rfl rfl)
theorem dX8_told_41 : decode cX8_told 41 = .ok (.iload_n 2, 1) := dk_28 (dk_at dksX8_told_1 17 rfl rfl)
theorem dX8_told_42 : decode cX8_told 42 = .ok (.iconst 3, 1) := dk_6 (dk_at dksX8_told_1 18 rfl rfl)
theorem dX8_told_43 : decode cX8_told 43 = .ok (.if_icmp .ne 12, 3) := dk_160 0 12 (dk_at dksX8_told_1 19 rfl rfl)
theorem dX8_told_46 : decode cX8_told 46 = .ok (.aload_n 0, 1) := dk_42 (dk_at dksX8_told_1 22 rfl rfl)
theorem dX8_told_47 : decode cX8_told 47 = .ok (.getfield 21, 3) := dk_180 0 21 (dk_at dksX8_told_2 0 rfl rfl)
theorem dX8_told_50 : decode cX8_told 50 = .ok (.iload_n 1, 1) := dk_27 (dk_at dksX8_told_2 3 rfl rfl)
theorem dX8_told_51 : decode cX8_told 51 = .ok (.iaload, 1) := dk_46 (dk_at dksX8_told_2 4 rfl rfl)
theorem dX8_told_52 : decode cX8_told 52 = .ok (.goto 7, 3) := dk_167 0 7 (dk_at dksX8_told_2 5 rfl rfl)
theorem dX8_told_55 : decode cX8_told 55 = .ok (.aload_n 0, 1) := dk_42 (dk_at dksX8_told_2 8 rfl rfl)
theorem dX8_told_56 : decode cX8_told 56 = .ok (.getfield 37, 3) := dk_180 0 37 (dk_at dksX8_told_2 9 rfl rfl)
theorem dX8_told_59 : decode cX8_told 59 = .ok (.ireturn, 1) := dk_172 (dk_at dksX8_told_2 12 rfl rfl)
abbrev cX8_copy : ByteArray := prog_10_method_2_code
def yX8_copy : MethodName := ⟨RX8, "copy", "()LQuorumspire$Store;"⟩
def dkwX8_copy_4 : List UInt8 := [180, 0, 37, 181, 0, 37, 43, 176]
abbrev dktX8_copy_4 : List UInt8 := dkwX8_copy_4 ++ []
def dkwX8_copy_3 : List UInt8 := [180, 0, 24, 3, 7, 184, 0, 31, 42, 180, 0, 27, 3, 43, 180, 0, 27, 3, 7, 184, 0, 31, 43, 42]
abbrev dktX8_copy_3 : List UInt8 := dkwX8_copy_3 ++ dktX8_copy_4
def dkwX8_copy_2 : List UInt8 := [184, 0, 31, 42, 180, 0, 21, 3, 43, 180, 0, 21, 3, 7, 184, 0, 31, 42, 180, 0, 24, 3, 43]
abbrev dktX8_copy_2 : List UInt8 := dkwX8_copy_2 ++ dktX8_copy_3
def dkwX8_copy_1 : List UInt8 := [180, 0, 15, 3, 43, 180, 0, 15, 3, 7, 184, 0, 31, 42, 180, 0, 18, 3, 43, 180, 0, 18, 3, 7]
abbrev dktX8_copy_1 : List UInt8 := dkwX8_copy_1 ++ dktX8_copy_2
def dkwX8_copy_0 : List UInt8 := [187, 0, 10, 89, 183, 0, 30, 76, 42, 180, 0, 9, 3, 43, 180, 0, 9, 3, 7, 184, 0, 31, 42]
abbrev dktX8_copy_0 : List UInt8 := dkwX8_copy_0 ++ dktX8_copy_1
theorem dksX8_copy_0 : cX8_copy.data.toList.drop 0 = dktX8_copy_0 := by decide +kernel
theorem dksX8_copy_1 : cX8_copy.data.toList.drop 23 = dktX8_copy_1 := dk_seg dksX8_copy_0 23 rfl rfl
theorem dksX8_copy_2 : cX8_copy.data.toList.drop 47 = dktX8_copy_2 := dk_seg dksX8_copy_1 24 rfl rfl
theorem dksX8_copy_3 : cX8_copy.data.toList.drop 70 = dktX8_copy_3 := dk_seg dksX8_copy_2 23 rfl rfl
theorem dksX8_copy_4 : cX8_copy.data.toList.drop 94 = dktX8_copy_4 := dk_seg dksX8_copy_3 24 rfl rfl
theorem dX8_copy_0 : decode cX8_copy 0 = .ok (.new 10, 3) := dk_187 0 10 (dk_at dksX8_copy_0 0 rfl rfl)
theorem dX8_copy_3 : decode cX8_copy 3 = .ok (.dup, 1) := dk_89 (dk_at dksX8_copy_0 3 rfl rfl)
theorem dX8_copy_4 : decode cX8_copy 4 = .ok (.invokespecial 30, 3) := dk_183 0 30 (dk_at dksX8_copy_0 4 rfl rfl)
theorem dX8_copy_7 : decode cX8_copy 7 = .ok (.astore_n 1, 1) := dk_76 (dk_at dksX8_copy_0 7 rfl rfl)
theorem dX8_copy_8 : decode cX8_copy 8 = .ok (.aload_n 0, 1) := dk_42 (dk_at dksX8_copy_0 8 rfl rfl)
theorem dX8_copy_9 : decode cX8_copy 9 = .ok (.getfield 9, 3) := dk_180 0 9 (dk_at dksX8_copy_0 9 rfl rfl)
theorem dX8_copy_12 : decode cX8_copy 12 = .ok (.iconst 0, 1) := dk_3 (dk_at dksX8_copy_0 12 rfl rfl)
theorem dX8_copy_13 : decode cX8_copy 13 = .ok (.aload_n 1, 1) := dk_43 (dk_at dksX8_copy_0 13 rfl rfl)
theorem dX8_copy_14 : decode cX8_copy 14 = .ok (.getfield 9, 3) := dk_180 0 9 (dk_at dksX8_copy_0 14 rfl rfl)
theorem dX8_copy_17 : decode cX8_copy 17 = .ok (.iconst 0, 1) := dk_3 (dk_at dksX8_copy_0 17 rfl rfl)
theorem dX8_copy_18 : decode cX8_copy 18 = .ok (.iconst 4, 1) := dk_7 (dk_at dksX8_copy_0 18 rfl rfl)
theorem dX8_copy_19 : decode cX8_copy 19 = .ok (.invokestatic 31, 3) := dk_184 0 31 (dk_at dksX8_copy_0 19 rfl rfl)
theorem dX8_copy_22 : decode cX8_copy 22 = .ok (.aload_n 0, 1) := dk_42 (dk_at dksX8_copy_0 22 rfl rfl)
theorem dX8_copy_23 : decode cX8_copy 23 = .ok (.getfield 15, 3) := dk_180 0 15 (dk_at dksX8_copy_1 0 rfl rfl)
theorem dX8_copy_26 : decode cX8_copy 26 = .ok (.iconst 0, 1) := dk_3 (dk_at dksX8_copy_1 3 rfl rfl)
theorem dX8_copy_27 : decode cX8_copy 27 = .ok (.aload_n 1, 1) := dk_43 (dk_at dksX8_copy_1 4 rfl rfl)
theorem dX8_copy_28 : decode cX8_copy 28 = .ok (.getfield 15, 3) := dk_180 0 15 (dk_at dksX8_copy_1 5 rfl rfl)
theorem dX8_copy_31 : decode cX8_copy 31 = .ok (.iconst 0, 1) := dk_3 (dk_at dksX8_copy_1 8 rfl rfl)
theorem dX8_copy_32 : decode cX8_copy 32 = .ok (.iconst 4, 1) := dk_7 (dk_at dksX8_copy_1 9 rfl rfl)
theorem dX8_copy_33 : decode cX8_copy 33 = .ok (.invokestatic 31, 3) := dk_184 0 31 (dk_at dksX8_copy_1 10 rfl rfl)
theorem dX8_copy_36 : decode cX8_copy 36 = .ok (.aload_n 0, 1) := dk_42 (dk_at dksX8_copy_1 13 rfl rfl)
theorem dX8_copy_37 : decode cX8_copy 37 = .ok (.getfield 18, 3) := dk_180 0 18 (dk_at dksX8_copy_1 14 rfl rfl)
theorem dX8_copy_40 : decode cX8_copy 40 = .ok (.iconst 0, 1) := dk_3 (dk_at dksX8_copy_1 17 rfl rfl)
theorem dX8_copy_41 : decode cX8_copy 41 = .ok (.aload_n 1, 1) := dk_43 (dk_at dksX8_copy_1 18 rfl rfl)
theorem dX8_copy_42 : decode cX8_copy 42 = .ok (.getfield 18, 3) := dk_180 0 18 (dk_at dksX8_copy_1 19 rfl rfl)
theorem dX8_copy_45 : decode cX8_copy 45 = .ok (.iconst 0, 1) := dk_3 (dk_at dksX8_copy_1 22 rfl rfl)
theorem dX8_copy_46 : decode cX8_copy 46 = .ok (.iconst 4, 1) := dk_7 (dk_at dksX8_copy_1 23 rfl rfl)
theorem dX8_copy_47 : decode cX8_copy 47 = .ok (.invokestatic 31, 3) := dk_184 0 31 (dk_at dksX8_copy_2 0 rfl rfl)
theorem dX8_copy_50 : decode cX8_copy 50 = .ok (.aload_n 0, 1) := dk_42 (dk_at dksX8_copy_2 3 rfl rfl)
theorem dX8_copy_51 : decode cX8_copy 51 = .ok (.getfield 21, 3) := dk_180 0 21 (dk_at dksX8_copy_2 4 rfl rfl)
theorem dX8_copy_54 : decode cX8_copy 54 = .ok (.iconst 0, 1) := dk_3 (dk_at dksX8_copy_2 7 rfl rfl)
theorem dX8_copy_55 : decode cX8_copy 55 = .ok (.aload_n 1, 1) := dk_43 (dk_at dksX8_copy_2 8 rfl rfl)
theorem dX8_copy_56 : decode cX8_copy 56 = .ok (.getfield 21, 3) := dk_180 0 21 (dk_at dksX8_copy_2 9 rfl rfl)
theorem dX8_copy_59 : decode cX8_copy 59 = .ok (.iconst 0, 1) := dk_3 (dk_at dksX8_copy_2 12 rfl rfl)
theorem dX8_copy_60 : decode cX8_copy 60 = .ok (.iconst 4, 1) := dk_7 (dk_at dksX8_copy_2 13 rfl rfl)
theorem dX8_copy_61 : decode cX8_copy 61 = .ok (.invokestatic 31, 3) := dk_184 0 31 (dk_at dksX8_copy_2 14 rfl rfl)
theorem dX8_copy_64 : decode cX8_copy 64 = .ok (.aload_n 0, 1) := dk_42 (dk_at dksX8_copy_2 17 rfl rfl)
theorem dX8_copy_65 : decode cX8_copy 65 = .ok (.getfield 24, 3) := dk_180 0 24 (dk_at dksX8_copy_2 18 rfl rfl)
theorem dX8_copy_68 : decode cX8_copy 68 = .ok (.iconst 0, 1) := dk_3 (dk_at dksX8_copy_2 21 rfl rfl)
theorem dX8_copy_69 : decode cX8_copy 69 = .ok (.aload_n 1, 1) := dk_43 (dk_at dksX8_copy_2 22 rfl rfl)
theorem dX8_copy_70 : decode cX8_copy 70 = .ok (.getfield 24, 3) := dk_180 0 24 (dk_at dksX8_copy_3 0 rfl rfl)
theorem dX8_copy_73 : decode cX8_copy 73 = .ok (.iconst 0, 1) := dk_3 (dk_at dksX8_copy_3 3 rfl rfl)
theorem dX8_copy_74 : decode cX8_copy 74 = .ok (.iconst 4, 1) := dk_7 (dk_at dksX8_copy_3 4 rfl rfl)
theorem dX8_copy_75 : decode cX8_copy 75 = .ok (.invokestatic 31, 3) := dk_184 0 31 (dk_at dksX8_copy_3 5 rfl rfl)
theorem dX8_copy_78 : decode cX8_copy 78 = .ok (.aload_n 0, 1) := dk_42 (dk_at dksX8_copy_3 8 rfl rfl)
theorem dX8_copy_79 : decode cX8_copy 79 = .ok (.getfield 27, 3) := dk_180 0 27 (dk_at dksX8_copy_3 9 rfl rfl)
theorem dX8_copy_82 : decode cX8_copy 82 = .ok (.iconst 0, 1) := dk_3 (dk_at dksX8_copy_3 12 rfl rfl)
theorem dX8_copy_83 : decode cX8_copy 83 = .ok (.aload_n 1, 1) := dk_43 (dk_at dksX8_copy_3 13 rfl rfl)
theorem dX8_copy_84 : decode cX8_copy 84 = .ok (.getfield 27, 3) := dk_180 0 27 (dk_at dksX8_copy_3 14 rfl rfl)
theorem dX8_copy_87 : decode cX8_copy 87 = .ok (.iconst 0, 1) := dk_3 (dk_at dksX8_copy_3 17 rfl rfl)
theorem dX8_copy_88 : decode cX8_copy 88 = .ok (.iconst 4, 1) := dk_7 (dk_at dksX8_copy_3 18 rfl rfl)
theorem dX8_copy_89 : decode cX8_copy 89 = .ok (.invokestatic 31, 3) := dk_184 0 31 (dk_at dksX8_copy_3 19 rfl rfl)
theorem dX8_copy_92 : decode cX8_copy 92 = .ok (.aload_n 1, 1) := dk_43 (dk_at dksX8_copy_3 22 rfl rfl)
theorem dX8_copy_93 : decode cX8_copy 93 = .ok (.aload_n 0, 1) := dk_42 (dk_at dksX8_copy_3 23 rfl rfl)
theorem dX8_copy_94 : decode cX8_copy 94 = .ok (.getfield 37, 3) := dk_180 0 37 (dk_at dksX8_copy_4 0 rfl rfl)
theorem dX8_copy_97 : decode cX8_copy 97 = .ok (.putfield 37, 3) := dk_181 0 37 (dk_at dksX8_copy_4 3 rfl rfl)
theorem dX8_copy_100 : decode cX8_copy 100 = .ok (.aload_n 1, 1) := dk_43 (dk_at dksX8_copy_4 6 rfl rfl)
theorem dX8_copy_101 : decode cX8_copy 101 = .ok (.areturn, 1) := dk_176 (dk_at dksX8_copy_4 7 rfl rfl)
abbrev cX8_init : ByteArray := prog_10_method_1_code
def yX8_init : MethodName := ⟨RX8, "<init>", "()V"⟩
def dkwX8_init_3 : List UInt8 := [180, 0, 24, 27, 2, 79, 132, 1, 1, 167, 255, 227, 177]
abbrev dktX8_init_3 : List UInt8 := dkwX8_init_3 ++ []
def dkwX8_init_2 : List UInt8 := [3, 60, 27, 7, 162, 0, 30, 42, 180, 0, 15, 27, 2, 79, 42, 180, 0, 21, 27, 2, 79, 42]
abbrev dktX8_init_2 : List UInt8 := dkwX8_init_2 ++ dktX8_init_3
def dkwX8_init_1 : List UInt8 := [181, 0, 18, 42, 7, 188, 10, 181, 0, 21, 42, 7, 188, 10, 181, 0, 24, 42, 7, 188, 10, 181, 0, 27]
abbrev dktX8_init_1 : List UInt8 := dkwX8_init_1 ++ dktX8_init_2
def dkwX8_init_0 : List UInt8 := [42, 183, 0, 3, 42, 7, 188, 10, 181, 0, 9, 42, 7, 188, 10, 181, 0, 15, 42, 7, 188, 10]
abbrev dktX8_init_0 : List UInt8 := dkwX8_init_0 ++ dktX8_init_1
theorem dksX8_init_0 : cX8_init.data.toList.drop 0 = dktX8_init_0 := by decide +kernel
theorem dksX8_init_1 : cX8_init.data.toList.drop 22 = dktX8_init_1 := dk_seg dksX8_init_0 22 rfl rfl
theorem dksX8_init_2 : cX8_init.data.toList.drop 46 = dktX8_init_2 := dk_seg dksX8_init_1 24 rfl rfl
theorem dksX8_init_3 : cX8_init.data.toList.drop 68 = dktX8_init_3 := dk_seg dksX8_init_2 22 rfl rfl
theorem dX8_init_0 : decode cX8_init 0 = .ok (.aload_n 0, 1) := dk_42 (dk_at dksX8_init_0 0 rfl rfl)
theorem dX8_init_1 : decode cX8_init 1 = .ok (.invokespecial 3, 3) := dk_183 0 3 (dk_at dksX8_init_0 1 rfl rfl)
theorem dX8_init_4 : decode cX8_init 4 = .ok (.aload_n 0, 1) := dk_42 (dk_at dksX8_init_0 4 rfl rfl)
theorem dX8_init_5 : decode cX8_init 5 = .ok (.iconst 4, 1) := dk_7 (dk_at dksX8_init_0 5 rfl rfl)
theorem dX8_init_6 : decode cX8_init 6 = .ok (.newarray .int, 2) := dk_188_10 (dk_at dksX8_init_0 6 rfl rfl)
theorem dX8_init_8 : decode cX8_init 8 = .ok (.putfield 9, 3) := dk_181 0 9 (dk_at dksX8_init_0 8 rfl rfl)
theorem dX8_init_11 : decode cX8_init 11 = .ok (.aload_n 0, 1) := dk_42 (dk_at dksX8_init_0 11 rfl rfl)
theorem dX8_init_12 : decode cX8_init 12 = .ok (.iconst 4, 1) := dk_7 (dk_at dksX8_init_0 12 rfl rfl)
theorem dX8_init_13 : decode cX8_init 13 = .ok (.newarray .int, 2) := dk_188_10 (dk_at dksX8_init_0 13 rfl rfl)
theorem dX8_init_15 : decode cX8_init 15 = .ok (.putfield 15, 3) := dk_181 0 15 (dk_at dksX8_init_0 15 rfl rfl)
theorem dX8_init_18 : decode cX8_init 18 = .ok (.aload_n 0, 1) := dk_42 (dk_at dksX8_init_0 18 rfl rfl)
theorem dX8_init_19 : decode cX8_init 19 = .ok (.iconst 4, 1) := dk_7 (dk_at dksX8_init_0 19 rfl rfl)
theorem dX8_init_20 : decode cX8_init 20 = .ok (.newarray .int, 2) := dk_188_10 (dk_at dksX8_init_0 20 rfl rfl)
theorem dX8_init_22 : decode cX8_init 22 = .ok (.putfield 18, 3) := dk_181 0 18 (dk_at dksX8_init_1 0 rfl rfl)
theorem dX8_init_25 : decode cX8_init 25 = .ok (.aload_n 0, 1) := dk_42 (dk_at dksX8_init_1 3 rfl rfl)
theorem dX8_init_26 : decode cX8_init 26 = .ok (.iconst 4, 1) := dk_7 (dk_at dksX8_init_1 4 rfl rfl)
theorem dX8_init_27 : decode cX8_init 27 = .ok (.newarray .int, 2) := dk_188_10 (dk_at dksX8_init_1 5 rfl rfl)
theorem dX8_init_29 : decode cX8_init 29 = .ok (.putfield 21, 3) := dk_181 0 21 (dk_at dksX8_init_1 7 rfl rfl)
theorem dX8_init_32 : decode cX8_init 32 = .ok (.aload_n 0, 1) := dk_42 (dk_at dksX8_init_1 10 rfl rfl)
theorem dX8_init_33 : decode cX8_init 33 = .ok (.iconst 4, 1) := dk_7 (dk_at dksX8_init_1 11 rfl rfl)
theorem dX8_init_34 : decode cX8_init 34 = .ok (.newarray .int, 2) := dk_188_10 (dk_at dksX8_init_1 12 rfl rfl)
theorem dX8_init_36 : decode cX8_init 36 = .ok (.putfield 24, 3) := dk_181 0 24 (dk_at dksX8_init_1 14 rfl rfl)
theorem dX8_init_39 : decode cX8_init 39 = .ok (.aload_n 0, 1) := dk_42 (dk_at dksX8_init_1 17 rfl rfl)
theorem dX8_init_40 : decode cX8_init 40 = .ok (.iconst 4, 1) := dk_7 (dk_at dksX8_init_1 18 rfl rfl)
theorem dX8_init_41 : decode cX8_init 41 = .ok (.newarray .int, 2) := dk_188_10 (dk_at dksX8_init_1 19 rfl rfl)
theorem dX8_init_43 : decode cX8_init 43 = .ok (.putfield 27, 3) := dk_181 0 27 (dk_at dksX8_init_1 21 rfl rfl)
theorem dX8_init_46 : decode cX8_init 46 = .ok (.iconst 0, 1) := dk_3 (dk_at dksX8_init_2 0 rfl rfl)
theorem dX8_init_47 : decode cX8_init 47 = .ok (.istore_n 1, 1) := dk_60 (dk_at dksX8_init_2 1 rfl rfl)
theorem dX8_init_48 : decode cX8_init 48 = .ok (.iload_n 1, 1) := dk_27 (dk_at dksX8_init_2 2 rfl rfl)
theorem dX8_init_49 : decode cX8_init 49 = .ok (.iconst 4, 1) := dk_7 (dk_at dksX8_init_2 3 rfl rfl)
theorem dX8_init_50 : decode cX8_init 50 = .ok (.if_icmp .ge 30, 3) := dk_162 0 30 (dk_at dksX8_init_2 4 rfl rfl)
theorem dX8_init_53 : decode cX8_init 53 = .ok (.aload_n 0, 1) := dk_42 (dk_at dksX8_init_2 7 rfl rfl)
theorem dX8_init_54 : decode cX8_init 54 = .ok (.getfield 15, 3) := dk_180 0 15 (dk_at dksX8_init_2 8 rfl rfl)
theorem dX8_init_57 : decode cX8_init 57 = .ok (.iload_n 1, 1) := dk_27 (dk_at dksX8_init_2 11 rfl rfl)
theorem dX8_init_58 : decode cX8_init 58 = .ok (.iconst (-1), 1) := dk_2 (dk_at dksX8_init_2 12 rfl rfl)
theorem dX8_init_59 : decode cX8_init 59 = .ok (.iastore, 1) := dk_79 (dk_at dksX8_init_2 13 rfl rfl)
theorem dX8_init_60 : decode cX8_init 60 = .ok (.aload_n 0, 1) := dk_42 (dk_at dksX8_init_2 14 rfl rfl)
theorem dX8_init_61 : decode cX8_init 61 = .ok (.getfield 21, 3) := dk_180 0 21 (dk_at dksX8_init_2 15 rfl rfl)
theorem dX8_init_64 : decode cX8_init 64 = .ok (.iload_n 1, 1) := dk_27 (dk_at dksX8_init_2 18 rfl rfl)
theorem dX8_init_65 : decode cX8_init 65 = .ok (.iconst (-1), 1) := dk_2 (dk_at dksX8_init_2 19 rfl rfl)
theorem dX8_init_66 : decode cX8_init 66 = .ok (.iastore, 1) := dk_79 (dk_at dksX8_init_2 20 rfl rfl)
theorem dX8_init_67 : decode cX8_init 67 = .ok (.aload_n 0, 1) := dk_42 (dk_at dksX8_init_2 21 rfl rfl)
theorem dX8_init_68 : decode cX8_init 68 = .ok (.getfield 24, 3) := dk_180 0 24 (dk_at dksX8_init_3 0 rfl rfl)
theorem dX8_init_71 : decode cX8_init 71 = .ok (.iload_n 1, 1) := dk_27 (dk_at dksX8_init_3 3 rfl rfl)
theorem dX8_init_72 : decode cX8_init 72 = .ok (.iconst (-1), 1) := dk_2 (dk_at dksX8_init_3 4 rfl rfl)
theorem dX8_init_73 : decode cX8_init 73 = .ok (.iastore, 1) := dk_79 (dk_at dksX8_init_3 5 rfl rfl)
theorem dX8_init_74 : decode cX8_init 74 = .ok (.iinc 1 1, 3) := dk_132 1 1 (dk_at dksX8_init_3 6 rfl rfl)
theorem dX8_init_77 : decode cX8_init 77 = .ok (.goto (-29), 3) := dk_167 255 227 (dk_at dksX8_init_3 9 rfl rfl)
theorem dX8_init_80 : decode cX8_init 80 = .ok (.return_, 1) := dk_177 (dk_at dksX8_init_3 12 rfl rfl)
abbrev cX8_does : ByteArray := prog_10_method_3_code
def yX8_does : MethodName := ⟨RX8, "does", "(ILQuorumspire$Request;)I"⟩
def dkwX8_does_3 : List UInt8 := [2, 172]
abbrev dktX8_does_3 : List UInt8 := dkwX8_does_3 ++ []
def dkwX8_does_2 : List UInt8 := [42, 180, 0, 24, 44, 180, 0, 41, 46, 160, 0, 15, 42, 180, 0, 27, 44, 180, 0, 41, 46, 167, 0, 4]
abbrev dktX8_does_2 : List UInt8 := dkwX8_does_2 ++ dktX8_does_3
def dkwX8_does_1 : List UInt8 := [180, 0, 27, 44, 180, 0, 41, 42, 44, 182, 0, 46, 79, 42, 180, 0, 27, 44, 180, 0, 41, 46, 172, 27]
abbrev dktX8_does_1 : List UInt8 := dkwX8_does_1 ++ dktX8_does_2
def dkwX8_does_0 : List UInt8 := [27, 42, 180, 0, 24, 44, 180, 0, 41, 46, 164, 0, 37, 42, 180, 0, 24, 44, 180, 0, 41, 27, 79, 42]
abbrev dktX8_does_0 : List UInt8 := dkwX8_does_0 ++ dktX8_does_1
theorem dksX8_does_0 : cX8_does.data.toList.drop 0 = dktX8_does_0 := by decide +kernel
theorem dksX8_does_1 : cX8_does.data.toList.drop 24 = dktX8_does_1 := dk_seg dksX8_does_0 24 rfl rfl
theorem dksX8_does_2 : cX8_does.data.toList.drop 48 = dktX8_does_2 := dk_seg dksX8_does_1 24 rfl rfl
theorem dksX8_does_3 : cX8_does.data.toList.drop 72 = dktX8_does_3 := dk_seg dksX8_does_2 24 rfl rfl
theorem dX8_does_0 : decode cX8_does 0 = .ok (.iload_n 1, 1) := dk_27 (dk_at dksX8_does_0 0 rfl rfl)
theorem dX8_does_1 : decode cX8_does 1 = .ok (.aload_n 0, 1) := dk_42 (dk_at dksX8_does_0 1 rfl rfl)
theorem dX8_does_2 : decode cX8_does 2 = .ok (.getfield 24, 3) := dk_180 0 24 (dk_at dksX8_does_0 2 rfl rfl)
theorem dX8_does_5 : decode cX8_does 5 = .ok (.aload_n 2, 1) := dk_44 (dk_at dksX8_does_0 5 rfl rfl)
theorem dX8_does_6 : decode cX8_does 6 = .ok (.getfield 41, 3) := dk_180 0 41 (dk_at dksX8_does_0 6 rfl rfl)
theorem dX8_does_9 : decode cX8_does 9 = .ok (.iaload, 1) := dk_46 (dk_at dksX8_does_0 9 rfl rfl)
theorem dX8_does_10 : decode cX8_does 10 = .ok (.if_icmp .le 37, 3) := dk_164 0 37 (dk_at dksX8_does_0 10 rfl rfl)
theorem dX8_does_13 : decode cX8_does 13 = .ok (.aload_n 0, 1) := dk_42 (dk_at dksX8_does_0 13 rfl rfl)
theorem dX8_does_14 : decode cX8_does 14 = .ok (.getfield 24, 3) := dk_180 0 24 (dk_at dksX8_does_0 14 rfl rfl)
theorem dX8_does_17 : decode cX8_does 17 = .ok (.aload_n 2, 1) := dk_44 (dk_at dksX8_does_0 17 rfl rfl)
theorem dX8_does_18 : decode cX8_does 18 = .ok (.getfield 41, 3) := dk_180 0 41 (dk_at dksX8_does_0 18 rfl rfl)
theorem dX8_does_21 : decode cX8_does 21 = .ok (.iload_n 1, 1) := dk_27 (dk_at dksX8_does_0 21 rfl rfl)
theorem dX8_does_22 : decode cX8_does 22 = .ok (.iastore, 1) := dk_79 (dk_at dksX8_does_0 22 rfl rfl)
theorem dX8_does_23 : decode cX8_does 23 = .ok (.aload_n 0, 1) := dk_42 (dk_at dksX8_does_0 23 rfl rfl)
theorem dX8_does_24 : decode cX8_does 24 = .ok (.getfield 27, 3) := dk_180 0 27 (dk_at dksX8_does_1 0 rfl rfl)
theorem dX8_does_27 : decode cX8_does 27 = .ok (.aload_n 2, 1) := dk_44 (dk_at dksX8_does_1 3 rfl rfl)
theorem dX8_does_28 : decode cX8_does 28 = .ok (.getfield 41, 3) := dk_180 0 41 (dk_at dksX8_does_1 4 rfl rfl)
theorem dX8_does_31 : decode cX8_does 31 = .ok (.aload_n 0, 1) := dk_42 (dk_at dksX8_does_1 7 rfl rfl)
theorem dX8_does_32 : decode cX8_does 32 = .ok (.aload_n 2, 1) := dk_44 (dk_at dksX8_does_1 8 rfl rfl)
theorem dX8_does_33 : decode cX8_does 33 = .ok (.invokevirtual 46, 3) := dk_182 0 46 (dk_at dksX8_does_1 9 rfl rfl)
theorem dX8_does_36 : decode cX8_does 36 = .ok (.iastore, 1) := dk_79 (dk_at dksX8_does_1 12 rfl rfl)
theorem dX8_does_37 : decode cX8_does 37 = .ok (.aload_n 0, 1) := dk_42 (dk_at dksX8_does_1 13 rfl rfl)
theorem dX8_does_38 : decode cX8_does 38 = .ok (.getfield 27, 3) := dk_180 0 27 (dk_at dksX8_does_1 14 rfl rfl)
theorem dX8_does_41 : decode cX8_does 41 = .ok (.aload_n 2, 1) := dk_44 (dk_at dksX8_does_1 17 rfl rfl)
theorem dX8_does_42 : decode cX8_does 42 = .ok (.getfield 41, 3) := dk_180 0 41 (dk_at dksX8_does_1 18 rfl rfl)
theorem dX8_does_45 : decode cX8_does 45 = .ok (.iaload, 1) := dk_46 (dk_at dksX8_does_1 21 rfl rfl)
theorem dX8_does_46 : decode cX8_does 46 = .ok (.ireturn, 1) := dk_172 (dk_at dksX8_does_1 22 rfl rfl)
theorem dX8_does_47 : decode cX8_does 47 = .ok (.iload_n 1, 1) := dk_27 (dk_at dksX8_does_1 23 rfl rfl)
theorem dX8_does_48 : decode cX8_does 48 = .ok (.aload_n 0, 1) := dk_42 (dk_at dksX8_does_2 0 rfl rfl)
theorem dX8_does_49 : decode cX8_does 49 = .ok (.getfield 24, 3) := dk_180 0 24 (dk_at dksX8_does_2 1 rfl rfl)
theorem dX8_does_52 : decode cX8_does 52 = .ok (.aload_n 2, 1) := dk_44 (dk_at dksX8_does_2 4 rfl rfl)
theorem dX8_does_53 : decode cX8_does 53 = .ok (.getfield 41, 3) := dk_180 0 41 (dk_at dksX8_does_2 5 rfl rfl)
theorem dX8_does_56 : decode cX8_does 56 = .ok (.iaload, 1) := dk_46 (dk_at dksX8_does_2 8 rfl rfl)
theorem dX8_does_57 : decode cX8_does 57 = .ok (.if_icmp .ne 15, 3) := dk_160 0 15 (dk_at dksX8_does_2 9 rfl rfl)
theorem dX8_does_60 : decode cX8_does 60 = .ok (.aload_n 0, 1) := dk_42 (dk_at dksX8_does_2 12 rfl rfl)
theorem dX8_does_61 : decode cX8_does 61 = .ok (.getfield 27, 3) := dk_180 0 27 (dk_at dksX8_does_2 13 rfl rfl)
theorem dX8_does_64 : decode cX8_does 64 = .ok (.aload_n 2, 1) := dk_44 (dk_at dksX8_does_2 16 rfl rfl)
theorem dX8_does_65 : decode cX8_does 65 = .ok (.getfield 41, 3) := dk_180 0 41 (dk_at dksX8_does_2 17 rfl rfl)
theorem dX8_does_68 : decode cX8_does 68 = .ok (.iaload, 1) := dk_46 (dk_at dksX8_does_2 20 rfl rfl)
theorem dX8_does_69 : decode cX8_does 69 = .ok (.goto 4, 3) := dk_167 0 4 (dk_at dksX8_does_2 21 rfl rfl)
theorem dX8_does_72 : decode cX8_does 72 = .ok (.iconst (-1), 1) := dk_2 (dk_at dksX8_does_3 0 rfl rfl)
theorem dX8_does_73 : decode cX8_does 73 = .ok (.ireturn, 1) := dk_172 (dk_at dksX8_does_3 1 rfl rfl)
abbrev cX8_does_2 : ByteArray := prog_10_method_4_code
def yX8_does_2 : MethodName := ⟨RX8, "does", "(LQuorumspire$Request;)I"⟩
def dkwX8_does_2_4 : List UInt8 := [182, 0, 77, 79, 43, 28, 182, 0, 80, 172]
abbrev dktX8_does_2_4 : List UInt8 := dkwX8_does_2_4 ++ []
def dkwX8_does_2_3 : List UInt8 := [182, 0, 73, 172, 42, 180, 0, 9, 43, 180, 0, 63, 46, 61, 42, 180, 0, 9, 43, 180, 0, 63, 43, 28]
abbrev dktX8_does_2_3 : List UInt8 := dkwX8_does_2_3 ++ dktX8_does_2_4
def dkwX8_does_2_2 : List UInt8 := [42, 43, 182, 0, 60, 172, 42, 43, 180, 0, 63, 43, 180, 0, 41, 182, 0, 66, 172, 42, 43, 180, 0, 70]
abbrev dktX8_does_2_2 : List UInt8 := dkwX8_does_2_2 ++ dktX8_does_2_3
def dkwX8_does_2_1 : List UInt8 := [170, 0, 0, 0, 53, 0, 0, 0, 3, 0, 0, 0, 5, 0, 0, 0, 25, 0, 0, 0, 31, 0, 0, 0, 44]
abbrev dktX8_does_2_1 : List UInt8 := dkwX8_does_2_1 ++ dktX8_does_2_2
def dkwX8_does_2_0 : List UInt8 := [43, 180, 0, 50, 182, 0, 54]
abbrev dktX8_does_2_0 : List UInt8 := dkwX8_does_2_0 ++ dktX8_does_2_1
theorem dksX8_does_2_0 : cX8_does_2.data.toList.drop 0 = dktX8_does_2_0 := by decide +kernel
theorem dksX8_does_2_1 : cX8_does_2.data.toList.drop 7 = dktX8_does_2_1 := dk_seg dksX8_does_2_0 7 rfl rfl
theorem dksX8_does_2_2 : cX8_does_2.data.toList.drop 32 = dktX8_does_2_2 := dk_seg dksX8_does_2_1 25 rfl rfl
theorem dksX8_does_2_3 : cX8_does_2.data.toList.drop 56 = dktX8_does_2_3 := dk_seg dksX8_does_2_2 24 rfl rfl
theorem dksX8_does_2_4 : cX8_does_2.data.toList.drop 80 = dktX8_does_2_4 := dk_seg dksX8_does_2_3 24 rfl rfl
theorem dX8_does_2_0 : decode cX8_does_2 0 = .ok (.aload_n 1, 1) := dk_43 (dk_at dksX8_does_2_0 0 rfl rfl)
theorem dX8_does_2_1 : decode cX8_does_2 1 = .ok (.getfield 50, 3) := dk_180 0 50 (dk_at dksX8_does_2_0 1 rfl rfl)
theorem dX8_does_2_4 : decode cX8_does_2 4 = .ok (.invokevirtual 54, 3) := dk_182 0 54 (dk_at dksX8_does_2_0 4 rfl rfl)
theorem dX8_does_2_7 : decode cX8_does_2 7 = .ok (.tableswitch 53 3 5 #[25, 31, 44], 25) := by decide +kernel
theorem dX8_does_2_32 : decode cX8_does_2 32 = .ok (.aload_n 0, 1) := dk_42 (dk_at dksX8_does_2_2 0 rfl rfl)
theorem dX8_does_2_33 : decode cX8_does_2 33 = .ok (.aload_n 1, 1) := dk_43 (dk_at dksX8_does_2_2 1 rfl rfl)
theorem dX8_does_2_34 : decode cX8_does_2 34 = .ok (.invokevirtual 60, 3) := dk_182 0 60 (dk_at dksX8_does_2_2 2 rfl rfl)
theorem dX8_does_2_37 : decode cX8_does_2 37 = .ok (.ireturn, 1) := dk_172 (dk_at dksX8_does_2_2 5 rfl rfl)
theorem dX8_does_2_38 : decode cX8_does_2 38 = .ok (.aload_n 0, 1) := dk_42 (dk_at dksX8_does_2_2 6 rfl rfl)
theorem dX8_does_2_39 : decode cX8_does_2 39 = .ok (.aload_n 1, 1) := dk_43 (dk_at dksX8_does_2_2 7 rfl rfl)
theorem dX8_does_2_40 : decode cX8_does_2 40 = .ok (.getfield 63, 3) := dk_180 0 63 (dk_at dksX8_does_2_2 8 rfl rfl)
theorem dX8_does_2_43 : decode cX8_does_2 43 = .ok (.aload_n 1, 1) := dk_43 (dk_at dksX8_does_2_2 11 rfl rfl)
theorem dX8_does_2_44 : decode cX8_does_2 44 = .ok (.getfield 41, 3) := dk_180 0 41 (dk_at dksX8_does_2_2 12 rfl rfl)
theorem dX8_does_2_47 : decode cX8_does_2 47 = .ok (.invokevirtual 66, 3) := dk_182 0 66 (dk_at dksX8_does_2_2 15 rfl rfl)
theorem dX8_does_2_50 : decode cX8_does_2 50 = .ok (.ireturn, 1) := dk_172 (dk_at dksX8_does_2_2 18 rfl rfl)
theorem dX8_does_2_51 : decode cX8_does_2 51 = .ok (.aload_n 0, 1) := dk_42 (dk_at dksX8_does_2_2 19 rfl rfl)
theorem dX8_does_2_52 : decode cX8_does_2 52 = .ok (.aload_n 1, 1) := dk_43 (dk_at dksX8_does_2_2 20 rfl rfl)
theorem dX8_does_2_53 : decode cX8_does_2 53 = .ok (.getfield 70, 3) := dk_180 0 70 (dk_at dksX8_does_2_2 21 rfl rfl)
theorem dX8_does_2_56 : decode cX8_does_2 56 = .ok (.invokevirtual 73, 3) := dk_182 0 73 (dk_at dksX8_does_2_3 0 rfl rfl)
theorem dX8_does_2_59 : decode cX8_does_2 59 = .ok (.ireturn, 1) := dk_172 (dk_at dksX8_does_2_3 3 rfl rfl)
theorem dX8_does_2_60 : decode cX8_does_2 60 = .ok (.aload_n 0, 1) := dk_42 (dk_at dksX8_does_2_3 4 rfl rfl)
theorem dX8_does_2_61 : decode cX8_does_2 61 = .ok (.getfield 9, 3) := dk_180 0 9 (dk_at dksX8_does_2_3 5 rfl rfl)
theorem dX8_does_2_64 : decode cX8_does_2 64 = .ok (.aload_n 1, 1) := dk_43 (dk_at dksX8_does_2_3 8 rfl rfl)
theorem dX8_does_2_65 : decode cX8_does_2 65 = .ok (.getfield 63, 3) := dk_180 0 63 (dk_at dksX8_does_2_3 9 rfl rfl)
theorem dX8_does_2_68 : decode cX8_does_2 68 = .ok (.iaload, 1) := dk_46 (dk_at dksX8_does_2_3 12 rfl rfl)
theorem dX8_does_2_69 : decode cX8_does_2 69 = .ok (.istore_n 2, 1) := dk_61 (dk_at dksX8_does_2_3 13 rfl rfl)
theorem dX8_does_2_70 : decode cX8_does_2 70 = .ok (.aload_n 0, 1) := dk_42 (dk_at dksX8_does_2_3 14 rfl rfl)
theorem dX8_does_2_71 : decode cX8_does_2 71 = .ok (.getfield 9, 3) := dk_180 0 9 (dk_at dksX8_does_2_3 15 rfl rfl)
theorem dX8_does_2_74 : decode cX8_does_2 74 = .ok (.aload_n 1, 1) := dk_43 (dk_at dksX8_does_2_3 18 rfl rfl)
theorem dX8_does_2_75 : decode cX8_does_2 75 = .ok (.getfield 63, 3) := dk_180 0 63 (dk_at dksX8_does_2_3 19 rfl rfl)
theorem dX8_does_2_78 : decode cX8_does_2 78 = .ok (.aload_n 1, 1) := dk_43 (dk_at dksX8_does_2_3 22 rfl rfl)
theorem dX8_does_2_79 : decode cX8_does_2 79 = .ok (.iload_n 2, 1) := dk_28 (dk_at dksX8_does_2_3 23 rfl rfl)
theorem dX8_does_2_80 : decode cX8_does_2 80 = .ok (.invokevirtual 77, 3) := dk_182 0 77 (dk_at dksX8_does_2_4 0 rfl rfl)
theorem dX8_does_2_83 : decode cX8_does_2 83 = .ok (.iastore, 1) := dk_79 (dk_at dksX8_does_2_4 3 rfl rfl)
theorem dX8_does_2_84 : decode cX8_does_2 84 = .ok (.aload_n 1, 1) := dk_43 (dk_at dksX8_does_2_4 4 rfl rfl)
theorem dX8_does_2_85 : decode cX8_does_2 85 = .ok (.iload_n 2, 1) := dk_28 (dk_at dksX8_does_2_4 5 rfl rfl)
theorem dX8_does_2_86 : decode cX8_does_2 86 = .ok (.invokevirtual 80, 3) := dk_182 0 80 (dk_at dksX8_does_2_4 6 rfl rfl)
theorem dX8_does_2_89 : decode cX8_does_2 89 = .ok (.ireturn, 1) := dk_172 (dk_at dksX8_does_2_4 9 rfl rfl)
abbrev cX8_lock : ByteArray := prog_10_method_5_code
def yX8_lock : MethodName := ⟨RX8, "lock", "(LQuorumspire$Request;)I"⟩
def dkwX8_lock_4 : List UInt8 := [180, 0, 18, 28, 46, 172]
abbrev dktX8_lock_4 : List UInt8 := dkwX8_lock_4 ++ []
def dkwX8_lock_3 : List UInt8 := [28, 43, 180, 0, 70, 154, 0, 7, 2, 167, 0, 12, 42, 180, 0, 37, 43, 180, 0, 70, 96, 79, 42]
abbrev dktX8_lock_3 : List UInt8 := dkwX8_lock_3 ++ dktX8_lock_4
def dkwX8_lock_2 : List UInt8 := [160, 0, 7, 4, 167, 0, 4, 3, 96, 79, 42, 180, 0, 15, 28, 43, 180, 0, 41, 79, 42, 180, 0, 21]
abbrev dktX8_lock_2 : List UInt8 := dkwX8_lock_2 ++ dktX8_lock_3
def dkwX8_lock_1 : List UInt8 := [180, 0, 41, 159, 0, 5, 3, 172, 42, 180, 0, 18, 28, 92, 46, 42, 180, 0, 15, 28, 46, 2]
abbrev dktX8_lock_1 : List UInt8 := dkwX8_lock_1 ++ dktX8_lock_2
def dkwX8_lock_0 : List UInt8 := [43, 180, 0, 63, 61, 42, 180, 0, 15, 28, 46, 2, 159, 0, 18, 42, 180, 0, 15, 28, 46, 43]
abbrev dktX8_lock_0 : List UInt8 := dkwX8_lock_0 ++ dktX8_lock_1
theorem dksX8_lock_0 : cX8_lock.data.toList.drop 0 = dktX8_lock_0 := by decide +kernel
theorem dksX8_lock_1 : cX8_lock.data.toList.drop 22 = dktX8_lock_1 := dk_seg dksX8_lock_0 22 rfl rfl
theorem dksX8_lock_2 : cX8_lock.data.toList.drop 44 = dktX8_lock_2 := dk_seg dksX8_lock_1 22 rfl rfl
theorem dksX8_lock_3 : cX8_lock.data.toList.drop 68 = dktX8_lock_3 := dk_seg dksX8_lock_2 24 rfl rfl
theorem dksX8_lock_4 : cX8_lock.data.toList.drop 91 = dktX8_lock_4 := dk_seg dksX8_lock_3 23 rfl rfl
theorem dX8_lock_0 : decode cX8_lock 0 = .ok (.aload_n 1, 1) := dk_43 (dk_at dksX8_lock_0 0 rfl rfl)
theorem dX8_lock_1 : decode cX8_lock 1 = .ok (.getfield 63, 3) := dk_180 0 63 (dk_at dksX8_lock_0 1 rfl rfl)
theorem dX8_lock_4 : decode cX8_lock 4 = .ok (.istore_n 2, 1) := dk_61 (dk_at dksX8_lock_0 4 rfl rfl)
theorem dX8_lock_5 : decode cX8_lock 5 = .ok (.aload_n 0, 1) := dk_42 (dk_at dksX8_lock_0 5 rfl rfl)
theorem dX8_lock_6 : decode cX8_lock 6 = .ok (.getfield 15, 3) := dk_180 0 15 (dk_at dksX8_lock_0 6 rfl rfl)
theorem dX8_lock_9 : decode cX8_lock 9 = .ok (.iload_n 2, 1) := dk_28 (dk_at dksX8_lock_0 9 rfl rfl)
theorem dX8_lock_10 : decode cX8_lock 10 = .ok (.iaload, 1) := dk_46 (dk_at dksX8_lock_0 10 rfl rfl)
theorem dX8_lock_11 : decode cX8_lock 11 = .ok (.iconst (-1), 1) := dk_2 (dk_at dksX8_lock_0 11 rfl rfl)
theorem dX8_lock_12 : decode cX8_lock 12 = .ok (.if_icmp .eq 18, 3) := dk_159 0 18 (dk_at dksX8_lock_0 12 rfl rfl)
theorem dX8_lock_15 : decode cX8_lock 15 = .ok (.aload_n 0, 1) := dk_42 (dk_at dksX8_lock_0 15 rfl rfl)
theorem dX8_lock_16 : decode cX8_lock 16 = .ok (.getfield 15, 3) := dk_180 0 15 (dk_at dksX8_lock_0 16 rfl rfl)
theorem dX8_lock_19 : decode cX8_lock 19 = .ok (.iload_n 2, 1) := dk_28 (dk_at dksX8_lock_0 19 rfl rfl)
theorem dX8_lock_20 : decode cX8_lock 20 = .ok (.iaload, 1) := dk_46 (dk_at dksX8_lock_0 20 rfl rfl)
theorem dX8_lock_21 : decode cX8_lock 21 = .ok (.aload_n 1, 1) := dk_43 (dk_at dksX8_lock_0 21 rfl rfl)
theorem dX8_lock_22 : decode cX8_lock 22 = .ok (.getfield 41, 3) := dk_180 0 41 (dk_at dksX8_lock_1 0 rfl rfl)
theorem dX8_lock_25 : decode cX8_lock 25 = .ok (.if_icmp .eq 5, 3) := dk_159 0 5 (dk_at dksX8_lock_1 3 rfl rfl)
theorem dX8_lock_28 : decode cX8_lock 28 = .ok (.iconst 0, 1) := dk_3 (dk_at dksX8_lock_1 6 rfl rfl)
theorem dX8_lock_29 : decode cX8_lock 29 = .ok (.ireturn, 1) := dk_172 (dk_at dksX8_lock_1 7 rfl rfl)
theorem dX8_lock_30 : decode cX8_lock 30 = .ok (.aload_n 0, 1) := dk_42 (dk_at dksX8_lock_1 8 rfl rfl)
theorem dX8_lock_31 : decode cX8_lock 31 = .ok (.getfield 18, 3) := dk_180 0 18 (dk_at dksX8_lock_1 9 rfl rfl)
theorem dX8_lock_34 : decode cX8_lock 34 = .ok (.iload_n 2, 1) := dk_28 (dk_at dksX8_lock_1 12 rfl rfl)
theorem dX8_lock_35 : decode cX8_lock 35 = .ok (.dup2, 1) := dk_92 (dk_at dksX8_lock_1 13 rfl rfl)
theorem dX8_lock_36 : decode cX8_lock 36 = .ok (.iaload, 1) := dk_46 (dk_at dksX8_lock_1 14 rfl rfl)
theorem dX8_lock_37 : decode cX8_lock 37 = .ok (.aload_n 0, 1) := dk_42 (dk_at dksX8_lock_1 15 rfl rfl)
theorem dX8_lock_38 : decode cX8_lock 38 = .ok (.getfield 15, 3) := dk_180 0 15 (dk_at dksX8_lock_1 16 rfl rfl)
theorem dX8_lock_41 : decode cX8_lock 41 = .ok (.iload_n 2, 1) := dk_28 (dk_at dksX8_lock_1 19 rfl rfl)
theorem dX8_lock_42 : decode cX8_lock 42 = .ok (.iaload, 1) := dk_46 (dk_at dksX8_lock_1 20 rfl rfl)
theorem dX8_lock_43 : decode cX8_lock 43 = .ok (.iconst (-1), 1) := dk_2 (dk_at dksX8_lock_1 21 rfl rfl)
theorem dX8_lock_44 : decode cX8_lock 44 = .ok (.if_icmp .ne 7, 3) := dk_160 0 7 (dk_at dksX8_lock_2 0 rfl rfl)
theorem dX8_lock_47 : decode cX8_lock 47 = .ok (.iconst 1, 1) := dk_4 (dk_at dksX8_lock_2 3 rfl rfl)
theorem dX8_lock_48 : decode cX8_lock 48 = .ok (.goto 4, 3) := dk_167 0 4 (dk_at dksX8_lock_2 4 rfl rfl)
theorem dX8_lock_51 : decode cX8_lock 51 = .ok (.iconst 0, 1) := dk_3 (dk_at dksX8_lock_2 7 rfl rfl)
theorem dX8_lock_52 : decode cX8_lock 52 = .ok (.iadd, 1) := dk_96 (dk_at dksX8_lock_2 8 rfl rfl)
theorem dX8_lock_53 : decode cX8_lock 53 = .ok (.iastore, 1) := dk_79 (dk_at dksX8_lock_2 9 rfl rfl)
theorem dX8_lock_54 : decode cX8_lock 54 = .ok (.aload_n 0, 1) := dk_42 (dk_at dksX8_lock_2 10 rfl rfl)
theorem dX8_lock_55 : decode cX8_lock 55 = .ok (.getfield 15, 3) := dk_180 0 15 (dk_at dksX8_lock_2 11 rfl rfl)
theorem dX8_lock_58 : decode cX8_lock 58 = .ok (.iload_n 2, 1) := dk_28 (dk_at dksX8_lock_2 14 rfl rfl)
theorem dX8_lock_59 : decode cX8_lock 59 = .ok (.aload_n 1, 1) := dk_43 (dk_at dksX8_lock_2 15 rfl rfl)
theorem dX8_lock_60 : decode cX8_lock 60 = .ok (.getfield 41, 3) := dk_180 0 41 (dk_at dksX8_lock_2 16 rfl rfl)
theorem dX8_lock_63 : decode cX8_lock 63 = .ok (.iastore, 1) := dk_79 (dk_at dksX8_lock_2 19 rfl rfl)
theorem dX8_lock_64 : decode cX8_lock 64 = .ok (.aload_n 0, 1) := dk_42 (dk_at dksX8_lock_2 20 rfl rfl)
theorem dX8_lock_65 : decode cX8_lock 65 = .ok (.getfield 21, 3) := dk_180 0 21 (dk_at dksX8_lock_2 21 rfl rfl)
theorem dX8_lock_68 : decode cX8_lock 68 = .ok (.iload_n 2, 1) := dk_28 (dk_at dksX8_lock_3 0 rfl rfl)
theorem dX8_lock_69 : decode cX8_lock 69 = .ok (.aload_n 1, 1) := dk_43 (dk_at dksX8_lock_3 1 rfl rfl)
theorem dX8_lock_70 : decode cX8_lock 70 = .ok (.getfield 70, 3) := dk_180 0 70 (dk_at dksX8_lock_3 2 rfl rfl)
theorem dX8_lock_73 : decode cX8_lock 73 = .ok (.ifCond .ne 7, 3) := dk_154 0 7 (dk_at dksX8_lock_3 5 rfl rfl)
theorem dX8_lock_76 : decode cX8_lock 76 = .ok (.iconst (-1), 1) := dk_2 (dk_at dksX8_lock_3 8 rfl rfl)
theorem dX8_lock_77 : decode cX8_lock 77 = .ok (.goto 12, 3) := dk_167 0 12 (dk_at dksX8_lock_3 9 rfl rfl)
theorem dX8_lock_80 : decode cX8_lock 80 = .ok (.aload_n 0, 1) := dk_42 (dk_at dksX8_lock_3 12 rfl rfl)
theorem dX8_lock_81 : decode cX8_lock 81 = .ok (.getfield 37, 3) := dk_180 0 37 (dk_at dksX8_lock_3 13 rfl rfl)
theorem dX8_lock_84 : decode cX8_lock 84 = .ok (.aload_n 1, 1) := dk_43 (dk_at dksX8_lock_3 16 rfl rfl)
theorem dX8_lock_85 : decode cX8_lock 85 = .ok (.getfield 70, 3) := dk_180 0 70 (dk_at dksX8_lock_3 17 rfl rfl)
theorem dX8_lock_88 : decode cX8_lock 88 = .ok (.iadd, 1) := dk_96 (dk_at dksX8_lock_3 20 rfl rfl)
theorem dX8_lock_89 : decode cX8_lock 89 = .ok (.iastore, 1) := dk_79 (dk_at dksX8_lock_3 21 rfl rfl)
theorem dX8_lock_90 : decode cX8_lock 90 = .ok (.aload_n 0, 1) := dk_42 (dk_at dksX8_lock_3 22 rfl rfl)
theorem dX8_lock_91 : decode cX8_lock 91 = .ok (.getfield 18, 3) := dk_180 0 18 (dk_at dksX8_lock_4 0 rfl rfl)
theorem dX8_lock_94 : decode cX8_lock 94 = .ok (.iload_n 2, 1) := dk_28 (dk_at dksX8_lock_4 3 rfl rfl)
theorem dX8_lock_95 : decode cX8_lock 95 = .ok (.iaload, 1) := dk_46 (dk_at dksX8_lock_4 4 rfl rfl)
theorem dX8_lock_96 : decode cX8_lock 96 = .ok (.ireturn, 1) := dk_172 (dk_at dksX8_lock_4 5 rfl rfl)
abbrev cX8_free : ByteArray := prog_10_method_6_code
def yX8_free : MethodName := ⟨RX8, "free", "(II)I"⟩
def dkwX8_free_1 : List UInt8 := [2, 79, 4, 172]
abbrev dktX8_free_1 : List UInt8 := dkwX8_free_1 ++ []
def dkwX8_free_0 : List UInt8 := [42, 180, 0, 15, 27, 46, 28, 159, 0, 5, 3, 172, 42, 180, 0, 15, 27, 2, 79, 42, 180, 0, 21, 27]
abbrev dktX8_free_0 : List UInt8 := dkwX8_free_0 ++ dktX8_free_1
theorem dksX8_free_0 : cX8_free.data.toList.drop 0 = dktX8_free_0 := by decide +kernel
theorem dksX8_free_1 : cX8_free.data.toList.drop 24 = dktX8_free_1 := dk_seg dksX8_free_0 24 rfl rfl
theorem dX8_free_0 : decode cX8_free 0 = .ok (.aload_n 0, 1) := dk_42 (dk_at dksX8_free_0 0 rfl rfl)
theorem dX8_free_1 : decode cX8_free 1 = .ok (.getfield 15, 3) := dk_180 0 15 (dk_at dksX8_free_0 1 rfl rfl)
theorem dX8_free_4 : decode cX8_free 4 = .ok (.iload_n 1, 1) := dk_27 (dk_at dksX8_free_0 4 rfl rfl)
theorem dX8_free_5 : decode cX8_free 5 = .ok (.iaload, 1) := dk_46 (dk_at dksX8_free_0 5 rfl rfl)
theorem dX8_free_6 : decode cX8_free 6 = .ok (.iload_n 2, 1) := dk_28 (dk_at dksX8_free_0 6 rfl rfl)
theorem dX8_free_7 : decode cX8_free 7 = .ok (.if_icmp .eq 5, 3) := dk_159 0 5 (dk_at dksX8_free_0 7 rfl rfl)
theorem dX8_free_10 : decode cX8_free 10 = .ok (.iconst 0, 1) := dk_3 (dk_at dksX8_free_0 10 rfl rfl)
theorem dX8_free_11 : decode cX8_free 11 = .ok (.ireturn, 1) := dk_172 (dk_at dksX8_free_0 11 rfl rfl)
theorem dX8_free_12 : decode cX8_free 12 = .ok (.aload_n 0, 1) := dk_42 (dk_at dksX8_free_0 12 rfl rfl)
theorem dX8_free_13 : decode cX8_free 13 = .ok (.getfield 15, 3) := dk_180 0 15 (dk_at dksX8_free_0 13 rfl rfl)
theorem dX8_free_16 : decode cX8_free 16 = .ok (.iload_n 1, 1) := dk_27 (dk_at dksX8_free_0 16 rfl rfl)
theorem dX8_free_17 : decode cX8_free 17 = .ok (.iconst (-1), 1) := dk_2 (dk_at dksX8_free_0 17 rfl rfl)
theorem dX8_free_18 : decode cX8_free 18 = .ok (.iastore, 1) := dk_79 (dk_at dksX8_free_0 18 rfl rfl)
theorem dX8_free_19 : decode cX8_free 19 = .ok (.aload_n 0, 1) := dk_42 (dk_at dksX8_free_0 19 rfl rfl)
theorem dX8_free_20 : decode cX8_free 20 = .ok (.getfield 21, 3) := dk_180 0 21 (dk_at dksX8_free_0 20 rfl rfl)
theorem dX8_free_23 : decode cX8_free 23 = .ok (.iload_n 1, 1) := dk_27 (dk_at dksX8_free_0 23 rfl rfl)
theorem dX8_free_24 : decode cX8_free 24 = .ok (.iconst (-1), 1) := dk_2 (dk_at dksX8_free_1 0 rfl rfl)
theorem dX8_free_25 : decode cX8_free 25 = .ok (.iastore, 1) := dk_79 (dk_at dksX8_free_1 1 rfl rfl)
theorem dX8_free_26 : decode cX8_free 26 = .ok (.iconst 1, 1) := dk_4 (dk_at dksX8_free_1 2 rfl rfl)
theorem dX8_free_27 : decode cX8_free 27 = .ok (.ireturn, 1) := dk_172 (dk_at dksX8_free_1 3 rfl rfl)
abbrev cX8_pass : ByteArray := prog_10_method_7_code
def yX8_pass : MethodName := ⟨RX8, "pass", "(I)I"⟩
def dkwX8_pass_2 : List UInt8 := [180, 0, 21, 28, 2, 79, 132, 2, 1, 167, 255, 211, 42, 180, 0, 37, 172]
abbrev dktX8_pass_2 : List UInt8 := dkwX8_pass_2 ++ []
def dkwX8_pass_1 : List UInt8 := [159, 0, 30, 42, 180, 0, 21, 28, 46, 42, 180, 0, 37, 163, 0, 17, 42, 180, 0, 15, 28, 2, 79, 42]
abbrev dktX8_pass_1 : List UInt8 := dkwX8_pass_1 ++ dktX8_pass_2
def dkwX8_pass_0 : List UInt8 := [42, 89, 180, 0, 37, 27, 96, 181, 0, 37, 3, 61, 28, 7, 162, 0, 46, 42, 180, 0, 21, 28, 46, 2]
abbrev dktX8_pass_0 : List UInt8 := dkwX8_pass_0 ++ dktX8_pass_1
theorem dksX8_pass_0 : cX8_pass.data.toList.drop 0 = dktX8_pass_0 := by decide +kernel
theorem dksX8_pass_1 : cX8_pass.data.toList.drop 24 = dktX8_pass_1 := dk_seg dksX8_pass_0 24 rfl rfl
theorem dksX8_pass_2 : cX8_pass.data.toList.drop 48 = dktX8_pass_2 := dk_seg dksX8_pass_1 24 rfl rfl
theorem dX8_pass_0 : decode cX8_pass 0 = .ok (.aload_n 0, 1) := dk_42 (dk_at dksX8_pass_0 0 rfl rfl)
theorem dX8_pass_1 : decode cX8_pass 1 = .ok (.dup, 1) := dk_89 (dk_at dksX8_pass_0 1 rfl rfl)
theorem dX8_pass_2 : decode cX8_pass 2 = .ok (.getfield 37, 3) := dk_180 0 37 (dk_at dksX8_pass_0 2 rfl rfl)
theorem dX8_pass_5 : decode cX8_pass 5 = .ok (.iload_n 1, 1) := dk_27 (dk_at dksX8_pass_0 5 rfl rfl)
theorem dX8_pass_6 : decode cX8_pass 6 = .ok (.iadd, 1) := dk_96 (dk_at dksX8_pass_0 6 rfl rfl)
theorem dX8_pass_7 : decode cX8_pass 7 = .ok (.putfield 37, 3) := dk_181 0 37 (dk_at dksX8_pass_0 7 rfl rfl)
theorem dX8_pass_10 : decode cX8_pass 10 = .ok (.iconst 0, 1) := dk_3 (dk_at dksX8_pass_0 10 rfl rfl)
theorem dX8_pass_11 : decode cX8_pass 11 = .ok (.istore_n 2, 1) := dk_61 (dk_at dksX8_pass_0 11 rfl rfl)
theorem dX8_pass_12 : decode cX8_pass 12 = .ok (.iload_n 2, 1) := dk_28 (dk_at dksX8_pass_0 12 rfl rfl)
theorem dX8_pass_13 : decode cX8_pass 13 = .ok (.iconst 4, 1) := dk_7 (dk_at dksX8_pass_0 13 rfl rfl)
theorem dX8_pass_14 : decode cX8_pass 14 = .ok (.if_icmp .ge 46, 3) := dk_162 0 46 (dk_at dksX8_pass_0 14 rfl rfl)
theorem dX8_pass_17 : decode cX8_pass 17 = .ok (.aload_n 0, 1) := dk_42 (dk_at dksX8_pass_0 17 rfl rfl)
theorem dX8_pass_18 : decode cX8_pass 18 = .ok (.getfield 21, 3) := dk_180 0 21 (dk_at dksX8_pass_0 18 rfl rfl)
theorem dX8_pass_21 : decode cX8_pass 21 = .ok (.iload_n 2, 1) := dk_28 (dk_at dksX8_pass_0 21 rfl rfl)
theorem dX8_pass_22 : decode cX8_pass 22 = .ok (.iaload, 1) := dk_46 (dk_at dksX8_pass_0 22 rfl rfl)
theorem dX8_pass_23 : decode cX8_pass 23 = .ok (.iconst (-1), 1) := dk_2 (dk_at dksX8_pass_0 23 rfl rfl)
theorem dX8_pass_24 : decode cX8_pass 24 = .ok (.if_icmp .eq 30, 3) := dk_159 0 30 (dk_at dksX8_pass_1 0 rfl rfl)
theorem dX8_pass_27 : decode cX8_pass 27 = .ok (.aload_n 0, 1) := dk_42 (dk_at dksX8_pass_1 3 rfl rfl)
theorem dX8_pass_28 : decode cX8_pass 28 = .ok (.getfield 21, 3) := dk_180 0 21 (dk_at dksX8_pass_1 4 rfl rfl)
theorem dX8_pass_31 : decode cX8_pass 31 = .ok (.iload_n 2, 1) := dk_28 (dk_at dksX8_pass_1 7 rfl rfl)
theorem dX8_pass_32 : decode cX8_pass 32 = .ok (.iaload, 1) := dk_46 (dk_at dksX8_pass_1 8 rfl rfl)
theorem dX8_pass_33 : decode cX8_pass 33 = .ok (.aload_n 0, 1) := dk_42 (dk_at dksX8_pass_1 9 rfl rfl)
theorem dX8_pass_34 : decode cX8_pass 34 = .ok (.getfield 37, 3) := dk_180 0 37 (dk_at dksX8_pass_1 10 rfl rfl)
theorem dX8_pass_37 : decode cX8_pass 37 = .ok (.if_icmp .gt 17, 3) := dk_163 0 17 (dk_at dksX8_pass_1 13 rfl rfl)
theorem dX8_pass_40 : decode cX8_pass 40 = .ok (.aload_n 0, 1) := dk_42 (dk_at dksX8_pass_1 16 rfl rfl)
theorem dX8_pass_41 : decode cX8_pass 41 = .ok (.getfield 15, 3) := dk_180 0 15 (dk_at dksX8_pass_1 17 rfl rfl)
theorem dX8_pass_44 : decode cX8_pass 44 = .ok (.iload_n 2, 1) := dk_28 (dk_at dksX8_pass_1 20 rfl rfl)
theorem dX8_pass_45 : decode cX8_pass 45 = .ok (.iconst (-1), 1) := dk_2 (dk_at dksX8_pass_1 21 rfl rfl)
theorem dX8_pass_46 : decode cX8_pass 46 = .ok (.iastore, 1) := dk_79 (dk_at dksX8_pass_1 22 rfl rfl)
theorem dX8_pass_47 : decode cX8_pass 47 = .ok (.aload_n 0, 1) := dk_42 (dk_at dksX8_pass_1 23 rfl rfl)
theorem dX8_pass_48 : decode cX8_pass 48 = .ok (.getfield 21, 3) := dk_180 0 21 (dk_at dksX8_pass_2 0 rfl rfl)
theorem dX8_pass_51 : decode cX8_pass 51 = .ok (.iload_n 2, 1) := dk_28 (dk_at dksX8_pass_2 3 rfl rfl)
theorem dX8_pass_52 : decode cX8_pass 52 = .ok (.iconst (-1), 1) := dk_2 (dk_at dksX8_pass_2 4 rfl rfl)
theorem dX8_pass_53 : decode cX8_pass 53 = .ok (.iastore, 1) := dk_79 (dk_at dksX8_pass_2 5 rfl rfl)
theorem dX8_pass_54 : decode cX8_pass 54 = .ok (.iinc 2 1, 3) := dk_132 2 1 (dk_at dksX8_pass_2 6 rfl rfl)
theorem dX8_pass_57 : decode cX8_pass 57 = .ok (.goto (-45), 3) := dk_167 255 211 (dk_at dksX8_pass_2 9 rfl rfl)
theorem dX8_pass_60 : decode cX8_pass 60 = .ok (.aload_n 0, 1) := dk_42 (dk_at dksX8_pass_2 12 rfl rfl)
theorem dX8_pass_61 : decode cX8_pass 61 = .ok (.getfield 37, 3) := dk_180 0 37 (dk_at dksX8_pass_2 13 rfl rfl)
theorem dX8_pass_64 : decode cX8_pass 64 = .ok (.ireturn, 1) := dk_172 (dk_at dksX8_pass_2 16 rfl rfl)
theorem q83 : (Jvm.Cond.initialized "Quorumspire$Store") ∈ lw_all := lw_g (lw_at lw_m1 15 rfl) rfl
theorem q655 : (Jvm.Cond.selects "Quorumspire$Store" ({ cls := "java/lang/Object", name := "getClass", desc := "()Ljava/lang/Class;" } : Jvm.MethodName) ({ cls := "java/lang/Object", name := "getClass", desc := "()Ljava/lang/Class;" } : Jvm.MethodName)) ∈ lw_all := lw_g (lw_at lw_m3 107 rfl) rfl
theorem q791 : (Jvm.Cond.instanceMethod ({ cls := "Quorumspire$Store", name := "told", desc := "(II)I" } : Jvm.MethodName)) ∈ lw_all := lw_g (lw_at lw_m4 3 rfl) rfl
theorem q792 : (Jvm.Cond.selects "Quorumspire$Store" ({ cls := "Quorumspire$Store", name := "told", desc := "(II)I" } : Jvm.MethodName) ({ cls := "Quorumspire$Store", name := "told", desc := "(II)I" } : Jvm.MethodName)) ∈ lw_all := lw_g (lw_at lw_m4 4 rfl) rfl
theorem q793 : (Jvm.Cond.code ({ cls := "Quorumspire$Store", name := "told", desc := "(II)I" } : Jvm.MethodName) prog_10_method_8_code (3 : Nat) (Option.some Jvm.ClassFile.FieldType.int)) ∈ lw_all := lw_g (lw_at lw_m4 5 rfl) rfl
theorem q886 : (Jvm.Cond.instanceMethod ({ cls := "Quorumspire$Store", name := "copy", desc := "()LQuorumspire$Store;" } : Jvm.MethodName)) ∈ lw_all := lw_g (lw_at lw_m4 98 rfl) rfl
theorem q887 : (Jvm.Cond.selects "Quorumspire$Store" ({ cls := "Quorumspire$Store", name := "copy", desc := "()LQuorumspire$Store;" } : Jvm.MethodName) ({ cls := "Quorumspire$Store", name := "copy", desc := "()LQuorumspire$Store;" } : Jvm.MethodName)) ∈ lw_all := lw_g (lw_at lw_m4 99 rfl) rfl
theorem q888 : (Jvm.Cond.code ({ cls := "Quorumspire$Store", name := "copy", desc := "()LQuorumspire$Store;" } : Jvm.MethodName) prog_10_method_2_code (2 : Nat) (Option.some (Jvm.ClassFile.FieldType.object "Quorumspire$Store"))) ∈ lw_all := lw_g (lw_at lw_m4 100 rfl) rfl
theorem q889 : (Jvm.Cond.classLink "Quorumspire$Store" (10 : Nat) "Quorumspire$Store") ∈ lw_all := lw_g (lw_at lw_m4 101 rfl) rfl
theorem q890 : (Jvm.Cond.instantiable "Quorumspire$Store" (7 : Nat)) ∈ lw_all := lw_g (lw_at lw_m4 102 rfl) rfl
theorem q891 : (Jvm.Cond.methodLink "Quorumspire$Store" (30 : Nat) ({ cls := "Quorumspire$Store", name := "<init>", desc := "()V" } : Jvm.MethodName)) ∈ lw_all := lw_g (lw_at lw_m4 103 rfl) rfl
theorem q892 : (Jvm.Cond.instanceMethod ({ cls := "Quorumspire$Store", name := "<init>", desc := "()V" } : Jvm.MethodName)) ∈ lw_all := lw_g (lw_at lw_m4 104 rfl) rfl
theorem q893 : (Jvm.Cond.code ({ cls := "Quorumspire$Store", name := "<init>", desc := "()V" } : Jvm.MethodName) prog_10_method_1_code (2 : Nat) (Option.none : Option Jvm.ClassFile.FieldType)) ∈ lw_all := lw_g (lw_at lw_m4 105 rfl) rfl
theorem q894 : (Jvm.Cond.methodLink "Quorumspire$Store" (3 : Nat) ({ cls := "java/lang/Object", name := "<init>", desc := "()V" } : Jvm.MethodName)) ∈ lw_all := lw_g (lw_at lw_m4 106 rfl) rfl
theorem q895 : (Jvm.Cond.fieldLink "Quorumspire$Store" (9 : Nat) "Quorumspire$Store" "values" "[I") ∈ lw_all := lw_g (lw_at lw_m4 107 rfl) rfl
theorem q897 : (Jvm.Cond.fieldLink "Quorumspire$Store" (15 : Nat) "Quorumspire$Store" "owners" "[I") ∈ lw_all := lw_g (lw_at lw_m4 109 rfl) rfl
theorem q898 : (Jvm.Cond.fieldLink "Quorumspire$Store" (18 : Nat) "Quorumspire$Store" "fences" "[I") ∈ lw_all := lw_g (lw_at lw_m4 110 rfl) rfl
theorem q899 : (Jvm.Cond.fieldLink "Quorumspire$Store" (21 : Nat) "Quorumspire$Store" "ends" "[I") ∈ lw_all := lw_g (lw_at lw_m4 111 rfl) rfl
theorem q900 : (Jvm.Cond.fieldLink "Quorumspire$Store" (24 : Nat) "Quorumspire$Store" "latest" "[I") ∈ lw_all := lw_g (lw_at lw_m4 112 rfl) rfl
theorem q901 : (Jvm.Cond.fieldLink "Quorumspire$Store" (27 : Nat) "Quorumspire$Store" "results" "[I") ∈ lw_all := lw_g (lw_at lw_m4 113 rfl) rfl
theorem q902 : (Jvm.Cond.fieldLink "Quorumspire$Store" (37 : Nat) "Quorumspire$Store" "time" "I") ∈ lw_all := lw_g (lw_at lw_m4 114 rfl) rfl
theorem q903 : (Jvm.Cond.laysFinal "Quorumspire$Store" "Quorumspire$Store" "values" "[I") ∈ lw_all := lw_g (lw_at lw_m4 115 rfl) rfl
theorem q904 : (Jvm.Cond.soleField "Quorumspire$Store" "values") ∈ lw_all := lw_g (lw_at lw_m4 116 rfl) rfl
theorem q905 : (Jvm.Cond.laysFinal "Quorumspire$Store" "Quorumspire$Store" "owners" "[I") ∈ lw_all := lw_g (lw_at lw_m4 117 rfl) rfl
theorem q906 : (Jvm.Cond.soleField "Quorumspire$Store" "owners") ∈ lw_all := lw_g (lw_at lw_m4 118 rfl) rfl
theorem q907 : (Jvm.Cond.laysFinal "Quorumspire$Store" "Quorumspire$Store" "fences" "[I") ∈ lw_all := lw_g (lw_at lw_m4 119 rfl) rfl
theorem q908 : (Jvm.Cond.soleField "Quorumspire$Store" "fences") ∈ lw_all := lw_g (lw_at lw_m4 120 rfl) rfl
theorem q909 : (Jvm.Cond.laysFinal "Quorumspire$Store" "Quorumspire$Store" "ends" "[I") ∈ lw_all := lw_g (lw_at lw_m4 121 rfl) rfl
theorem q910 : (Jvm.Cond.soleField "Quorumspire$Store" "ends") ∈ lw_all := lw_g (lw_at lw_m4 122 rfl) rfl
theorem q911 : (Jvm.Cond.laysFinal "Quorumspire$Store" "Quorumspire$Store" "latest" "[I") ∈ lw_all := lw_g (lw_at lw_m4 123 rfl) rfl
theorem q912 : (Jvm.Cond.soleField "Quorumspire$Store" "latest") ∈ lw_all := lw_g (lw_at lw_m4 124 rfl) rfl
theorem q913 : (Jvm.Cond.laysFinal "Quorumspire$Store" "Quorumspire$Store" "results" "[I") ∈ lw_all := lw_g (lw_at lw_m4 125 rfl) rfl
theorem q914 : (Jvm.Cond.soleField "Quorumspire$Store" "results") ∈ lw_all := lw_g (lw_at lw_m4 126 rfl) rfl
theorem q915 : (Jvm.Cond.lays "Quorumspire$Store" "Quorumspire$Store" "time" "I") ∈ lw_all := lw_g (lw_at lw_m4 127 rfl) rfl
theorem q916 : (Jvm.Cond.soleField "Quorumspire$Store" "time") ∈ lw_all := lw_g (lw_at lw_m4 128 rfl) rfl
theorem q917 : (Jvm.Cond.superclass "Quorumspire$Store" "java/lang/Object") ∈ lw_all := lw_g (lw_at lw_m4 129 rfl) rfl
theorem q919 : (Jvm.Cond.methodLink "Quorumspire$Store" (31 : Nat) ({ cls := "java/lang/System", name := "arraycopy", desc := "(Ljava/lang/Object;ILjava/lang/Object;II)V" } : Jvm.MethodName)) ∈ lw_all := lw_g (lw_at lw_m4 131 rfl) rfl
theorem q989 : (Jvm.Cond.fieldLinkNest "Quorumspire$Store" (41 : Nat) "Quorumspire$Request" "client" "I" "Quorumspire") ∈ lw_tbl := lw_at lw_m4 201 rfl
theorem q993 : (Jvm.Cond.fieldLinkNest "Quorumspire$Store" (50 : Nat) "Quorumspire$Request" "kind" "LQuorumspire$Kind;" "Quorumspire") ∈ lw_tbl := lw_at lw_m4 205 rfl
theorem q998 : (Jvm.Cond.fieldLinkNest "Quorumspire$Store" (63 : Nat) "Quorumspire$Request" "key" "I" "Quorumspire") ∈ lw_tbl := lw_at lw_m4 210 rfl
theorem q1002 : (Jvm.Cond.fieldLinkNest "Quorumspire$Store" (70 : Nat) "Quorumspire$Request" "a" "I" "Quorumspire") ∈ lw_tbl := lw_at lw_m4 214 rfl
theorem q1148 : (Jvm.Cond.instanceMethod ({ cls := "Quorumspire$Store", name := "does", desc := "(ILQuorumspire$Request;)I" } : Jvm.MethodName)) ∈ lw_all := lw_g (lw_at lw_m5 120 rfl) rfl
theorem q1149 : (Jvm.Cond.selects "Quorumspire$Store" ({ cls := "Quorumspire$Store", name := "does", desc := "(ILQuorumspire$Request;)I" } : Jvm.MethodName) ({ cls := "Quorumspire$Store", name := "does", desc := "(ILQuorumspire$Request;)I" } : Jvm.MethodName)) ∈ lw_all := lw_g (lw_at lw_m5 121 rfl) rfl
theorem q1150 : (Jvm.Cond.code ({ cls := "Quorumspire$Store", name := "does", desc := "(ILQuorumspire$Request;)I" } : Jvm.MethodName) prog_10_method_3_code (3 : Nat) (Option.some Jvm.ClassFile.FieldType.int)) ∈ lw_all := lw_g (lw_at lw_m5 122 rfl) rfl
theorem q1151 : (Jvm.Cond.methodLink "Quorumspire$Store" (46 : Nat) ({ cls := "Quorumspire$Store", name := "does", desc := "(LQuorumspire$Request;)I" } : Jvm.MethodName)) ∈ lw_all := lw_g (lw_at lw_m5 123 rfl) rfl
theorem q1152 : (Jvm.Cond.privateMethod ({ cls := "Quorumspire$Store", name := "does", desc := "(LQuorumspire$Request;)I" } : Jvm.MethodName)) ∈ lw_tbl := lw_at lw_m5 124 rfl
theorem q1153 : (Jvm.Cond.instanceMethod ({ cls := "Quorumspire$Store", name := "does", desc := "(LQuorumspire$Request;)I" } : Jvm.MethodName)) ∈ lw_all := lw_g (lw_at lw_m5 125 rfl) rfl
theorem q1154 : (Jvm.Cond.code ({ cls := "Quorumspire$Store", name := "does", desc := "(LQuorumspire$Request;)I" } : Jvm.MethodName) prog_10_method_4_code (3 : Nat) (Option.some Jvm.ClassFile.FieldType.int)) ∈ lw_all := lw_g (lw_at lw_m5 126 rfl) rfl
theorem q1155 : (Jvm.Cond.methodLink "Quorumspire$Store" (54 : Nat) ({ cls := "Quorumspire$Kind", name := "ordinal", desc := "()I" } : Jvm.MethodName)) ∈ lw_all := lw_g (lw_at lw_m5 127 rfl) rfl
theorem q1156 : (Jvm.Cond.methodLink "Quorumspire$Store" (60 : Nat) ({ cls := "Quorumspire$Store", name := "lock", desc := "(LQuorumspire$Request;)I" } : Jvm.MethodName)) ∈ lw_all := lw_g (lw_at lw_m5 128 rfl) rfl
theorem q1157 : (Jvm.Cond.privateMethod ({ cls := "Quorumspire$Store", name := "lock", desc := "(LQuorumspire$Request;)I" } : Jvm.MethodName)) ∈ lw_tbl := lw_at lw_m5 129 rfl
theorem q1158 : (Jvm.Cond.instanceMethod ({ cls := "Quorumspire$Store", name := "lock", desc := "(LQuorumspire$Request;)I" } : Jvm.MethodName)) ∈ lw_all := lw_g (lw_at lw_m5 130 rfl) rfl
theorem q1159 : (Jvm.Cond.code ({ cls := "Quorumspire$Store", name := "lock", desc := "(LQuorumspire$Request;)I" } : Jvm.MethodName) prog_10_method_5_code (3 : Nat) (Option.some Jvm.ClassFile.FieldType.int)) ∈ lw_all := lw_g (lw_at lw_m5 131 rfl) rfl
theorem q1160 : (Jvm.Cond.methodLink "Quorumspire$Store" (66 : Nat) ({ cls := "Quorumspire$Store", name := "free", desc := "(II)I" } : Jvm.MethodName)) ∈ lw_all := lw_g (lw_at lw_m5 132 rfl) rfl
theorem q1161 : (Jvm.Cond.privateMethod ({ cls := "Quorumspire$Store", name := "free", desc := "(II)I" } : Jvm.MethodName)) ∈ lw_tbl := lw_at lw_m5 133 rfl
theorem q1162 : (Jvm.Cond.instanceMethod ({ cls := "Quorumspire$Store", name := "free", desc := "(II)I" } : Jvm.MethodName)) ∈ lw_all := lw_g (lw_at lw_m5 134 rfl) rfl
theorem q1163 : (Jvm.Cond.code ({ cls := "Quorumspire$Store", name := "free", desc := "(II)I" } : Jvm.MethodName) prog_10_method_6_code (3 : Nat) (Option.some Jvm.ClassFile.FieldType.int)) ∈ lw_all := lw_g (lw_at lw_m5 135 rfl) rfl
theorem q1164 : (Jvm.Cond.methodLink "Quorumspire$Store" (73 : Nat) ({ cls := "Quorumspire$Store", name := "pass", desc := "(I)I" } : Jvm.MethodName)) ∈ lw_all := lw_g (lw_at lw_m5 136 rfl) rfl
theorem q1165 : (Jvm.Cond.privateMethod ({ cls := "Quorumspire$Store", name := "pass", desc := "(I)I" } : Jvm.MethodName)) ∈ lw_tbl := lw_at lw_m5 137 rfl
theorem q1166 : (Jvm.Cond.instanceMethod ({ cls := "Quorumspire$Store", name := "pass", desc := "(I)I" } : Jvm.MethodName)) ∈ lw_all := lw_g (lw_at lw_m5 138 rfl) rfl
theorem q1167 : (Jvm.Cond.code ({ cls := "Quorumspire$Store", name := "pass", desc := "(I)I" } : Jvm.MethodName) prog_10_method_7_code (3 : Nat) (Option.some Jvm.ClassFile.FieldType.int)) ∈ lw_all := lw_g (lw_at lw_m5 139 rfl) rfl
theorem q1168 : (Jvm.Cond.methodLink "Quorumspire$Store" (77 : Nat) ({ cls := "Quorumspire$Request", name := "behind", desc := "(I)I" } : Jvm.MethodName)) ∈ lw_all := lw_g (lw_at lw_m5 140 rfl) rfl
theorem q1169 : (Jvm.Cond.methodLink "Quorumspire$Store" (80 : Nat) ({ cls := "Quorumspire$Request", name := "told", desc := "(I)I" } : Jvm.MethodName)) ∈ lw_all := lw_g (lw_at lw_m5 141 rfl) rfl
theorem q2272 : (Jvm.Cond.selects "Quorumspire$Store" ({ cls := "java/lang/Object", name := "equals", desc := "(Ljava/lang/Object;)Z" } : Jvm.MethodName) ({ cls := "java/lang/Object", name := "equals", desc := "(Ljava/lang/Object;)Z" } : Jvm.MethodName)) ∈ lw_all := lw_g (lw_at lw_m10 44 rfl) rfl
theorem q2426 : (Jvm.Cond.castable "Quorumspire$Store" "java/lang/Object") ∈ lw_tbl := lw_at lw_m10 198 rfl
theorem in_X8 : ∀ w ∈ wsX80, w ∈ lw_all := lw_in wsX80 [903, 905, 907, 909, 911, 913, 915] (by decide +kernel) (by decide +kernel)
/-! Quorumspire$Machine -/
set_option maxRecDepth 100000
def RX9 : String := "Quorumspire$Machine"
def TX9 : u_T := fun k => match k with
  | 0 => ("Quorumspire$Machine", "number", "I", true)
  | 1 => ("Quorumspire$Machine", "nexts", "[I", true)
  | 2 => ("Quorumspire$Machine", "keeps", "[I", true)
  | 3 => ("Quorumspire$Machine", "log", "LQuorumspire$Log;", false)
  | 4 => ("Quorumspire$Machine", "saved", "LQuorumspire$Log;", false)
  | 5 => ("Quorumspire$Machine", "store", "LQuorumspire$Store;", false)
  | 6 => ("Quorumspire$Machine", "role", "I", false)
  | 7 => ("Quorumspire$Machine", "votes", "I", false)
  | 8 => ("Quorumspire$Machine", "sure", "I", false)
  | 9 => ("Quorumspire$Machine", "done", "I", false)
  | _ => ("Quorumspire$Machine", "isLazy", "Z", false)
def tyX9 : Nat → FieldType := fun k => match k with
  | 0 => .int
  | 1 => .array .int
  | 2 => .array .int
  | 3 => .object "Quorumspire$Log"
  | 4 => .object "Quorumspire$Log"
  | 5 => .object "Quorumspire$Store"
  | 6 => .int
  | 7 => .int
  | 8 => .int
  | 9 => .int
  | _ => .boolean
abbrev wsX90 : List Cond := u_ws RX9 TX9 11
theorem nmX9 : ∀ a, a < 11 → ∀ b, b < 11 → a ≠ b → (TX9 a).2.1 ≠ (TX9 b).2.1 := by decide +kernel
theorem tyX9_ok : ∀ k, k < 11 → parseFieldDescriptor (TX9 k).2.2.1 = some (tyX9 k) := by decide +kernel
abbrev cX9_isLeader : ByteArray := prog_6_method_4_code
def yX9_isLeader : MethodName := ⟨RX9, "isLeader", "()Z"⟩
def dkwX9_isLeader_0 : List UInt8 := [42, 180, 0, 18, 6, 160, 0, 7, 4, 167, 0, 4, 3, 172]
abbrev dktX9_isLeader_0 : List UInt8 := dkwX9_isLeader_0 ++ []
theorem dksX9_isLeader_0 : cX9_isLeader.data.toList.drop 0 = dktX9_isLeader_0 := by decide +kernel
theorem dX9_isLeader_0 : decode cX9_isLeader 0 = .ok (.aload_n 0, 1) := dk_42 (dk_at dksX9_isLeader_0 0 rfl rfl)
theorem dX9_isLeader_1 : decode cX9_isLeader 1 = .ok (.getfield 18, 3) := dk_180 0 18 (dk_at dksX9_isLeader_0 1 rfl rfl)
theorem dX9_isLeader_4 : decode cX9_isLeader 4 = .ok (.iconst 3, 1) := dk_6 (dk_at dksX9_isLeader_0 4 rfl rfl)
theorem dX9_isLeader_5 : decode cX9_isLeader 5 = .ok (.if_icmp .ne 7, 3) := dk_160 0 7 (dk_at dksX9_isLeader_0 5 rfl rfl)
theorem dX9_isLeader_8 : decode cX9_isLeader 8 = .ok (.iconst 1, 1) := dk_4 (dk_at dksX9_isLeader_0 8 rfl rfl)
theorem dX9_isLeader_9 : decode cX9_isLeader 9 = .ok (.goto 4, 3) := dk_167 0 4 (dk_at dksX9_isLeader_0 9 rfl rfl)
theorem dX9_isLeader_12 : decode cX9_isLeader 12 = .ok (.iconst 0, 1) := dk_3 (dk_at dksX9_isLeader_0 12 rfl rfl)
theorem dX9_isLeader_13 : decode cX9_isLeader 13 = .ok (.ireturn, 1) := dk_172 (dk_at dksX9_isLeader_0 13 rfl rfl)
abbrev cX9_isUp : ByteArray := prog_6_method_3_code
def yX9_isUp : MethodName := ⟨RX9, "isUp", "()Z"⟩
def dkwX9_isUp_0 : List UInt8 := [42, 180, 0, 18, 153, 0, 7, 4, 167, 0, 4, 3, 172]
abbrev dktX9_isUp_0 : List UInt8 := dkwX9_isUp_0 ++ []
theorem dksX9_isUp_0 : cX9_isUp.data.toList.drop 0 = dktX9_isUp_0 := by decide +kernel
theorem dX9_isUp_0 : decode cX9_isUp 0 = .ok (.aload_n 0, 1) := dk_42 (dk_at dksX9_isUp_0 0 rfl rfl)
theorem dX9_isUp_1 : decode cX9_isUp 1 = .ok (.getfield 18, 3) := dk_180 0 18 (dk_at dksX9_isUp_0 1 rfl rfl)
theorem dX9_isUp_4 : decode cX9_isUp 4 = .ok (.ifCond .eq 7, 3) := dk_153 0 7 (dk_at dksX9_isUp_0 4 rfl rfl)
theorem dX9_isUp_7 : decode cX9_isUp 7 = .ok (.iconst 1, 1) := dk_4 (dk_at dksX9_isUp_0 7 rfl rfl)
theorem dX9_isUp_8 : decode cX9_isUp 8 = .ok (.goto 4, 3) := dk_167 0 4 (dk_at dksX9_isUp_0 8 rfl rfl)
theorem dX9_isUp_11 : decode cX9_isUp 11 = .ok (.iconst 0, 1) := dk_3 (dk_at dksX9_isUp_0 11 rfl rfl)
theorem dX9_isUp_12 : decode cX9_isUp 12 = .ok (.ireturn, 1) := dk_172 (dk_at dksX9_isUp_0 12 rfl rfl)
abbrev cX9_copy : ByteArray := prog_6_method_2_code
def yX9_copy : MethodName := ⟨RX9, "copy", "()LQuorumspire$Machine;"⟩
def dkwX9_copy_4 : List UInt8 := [180, 0, 65, 181, 0, 65, 43, 176]
abbrev dktX9_copy_4 : List UInt8 := dkwX9_copy_4 ++ []
def dkwX9_copy_3 : List UInt8 := [180, 0, 56, 181, 0, 56, 43, 42, 180, 0, 59, 181, 0, 59, 43, 42, 180, 0, 62, 181, 0, 62, 43, 42]
abbrev dktX9_copy_3 : List UInt8 := dkwX9_copy_3 ++ dktX9_copy_4
def dkwX9_copy_2 : List UInt8 := [42, 180, 0, 15, 3, 43, 180, 0, 15, 3, 8, 184, 0, 50, 43, 42, 180, 0, 18, 181, 0, 18, 43, 42]
abbrev dktX9_copy_2 : List UInt8 := dkwX9_copy_2 ++ dktX9_copy_3
def dkwX9_copy_1 : List UInt8 := [180, 0, 32, 182, 0, 42, 183, 0, 47, 76, 42, 180, 0, 9, 3, 43, 180, 0, 9, 3, 8, 184, 0, 50]
abbrev dktX9_copy_1 : List UInt8 := dkwX9_copy_1 ++ dktX9_copy_2
def dkwX9_copy_0 : List UInt8 := [187, 0, 10, 89, 42, 180, 0, 22, 42, 180, 0, 25, 182, 0, 36, 42, 180, 0, 29, 182, 0, 36, 42]
abbrev dktX9_copy_0 : List UInt8 := dkwX9_copy_0 ++ dktX9_copy_1
theorem dksX9_copy_0 : cX9_copy.data.toList.drop 0 = dktX9_copy_0 := by decide +kernel
theorem dksX9_copy_1 : cX9_copy.data.toList.drop 23 = dktX9_copy_1 := dk_seg dksX9_copy_0 23 rfl rfl
theorem dksX9_copy_2 : cX9_copy.data.toList.drop 47 = dktX9_copy_2 := dk_seg dksX9_copy_1 24 rfl rfl
theorem dksX9_copy_3 : cX9_copy.data.toList.drop 71 = dktX9_copy_3 := dk_seg dksX9_copy_2 24 rfl rfl
theorem dksX9_copy_4 : cX9_copy.data.toList.drop 95 = dktX9_copy_4 := dk_seg dksX9_copy_3 24 rfl rfl
theorem dX9_copy_0 : decode cX9_copy 0 = .ok (.new 10, 3) := dk_187 0 10 (dk_at dksX9_copy_0 0 rfl rfl)
theorem dX9_copy_3 : decode cX9_copy 3 = .ok (.dup, 1) := dk_89 (dk_at dksX9_copy_0 3 rfl rfl)
theorem dX9_copy_4 : decode cX9_copy 4 = .ok (.aload_n 0, 1) := dk_42 (dk_at dksX9_copy_0 4 rfl rfl)
theorem dX9_copy_5 : decode cX9_copy 5 = .ok (.getfield 22, 3) := dk_180 0 22 (dk_at dksX9_copy_0 5 rfl rfl)
theorem dX9_copy_8 : decode cX9_copy 8 = .ok (.aload_n 0, 1) := dk_42 (dk_at dksX9_copy_0 8 rfl rfl)
theorem dX9_copy_9 : decode cX9_copy 9 = .ok (.getfield 25, 3) := dk_180 0 25 (dk_at dksX9_copy_0 9 rfl rfl)
theorem dX9_copy_12 : decode cX9_copy 12 = .ok (.invokevirtual 36, 3) := dk_182 0 36 (dk_at dksX9_copy_0 12 rfl rfl)
theorem dX9_copy_15 : decode cX9_copy 15 = .ok (.aload_n 0, 1) := dk_42 (dk_at dksX9_copy_0 15 rfl rfl)
theorem dX9_copy_16 : decode cX9_copy 16 = .ok (.getfield 29, 3) := dk_180 0 29 (dk_at dksX9_copy_0 16 rfl rfl)
theorem dX9_copy_19 : decode cX9_copy 19 = .ok (.invokevirtual 36, 3) := dk_182 0 36 (dk_at dksX9_copy_0 19 rfl rfl)
theorem dX9_copy_22 : decode cX9_copy 22 = .ok (.aload_n 0, 1) := dk_42 (dk_at dksX9_copy_0 22 rfl rfl)
theorem dX9_copy_23 : decode cX9_copy 23 = .ok (.getfield 32, 3) := dk_180 0 32 (dk_at dksX9_copy_1 0 rfl rfl)
theorem dX9_copy_26 : decode cX9_copy 26 = .ok (.invokevirtual 42, 3) := dk_182 0 42 (dk_at dksX9_copy_1 3 rfl rfl)
theorem dX9_copy_29 : decode cX9_copy 29 = .ok (.invokespecial 47, 3) := dk_183 0 47 (dk_at dksX9_copy_1 6 rfl rfl)
theorem dX9_copy_32 : decode cX9_copy 32 = .ok (.astore_n 1, 1) := dk_76 (dk_at dksX9_copy_1 9 rfl rfl)
theorem dX9_copy_33 : decode cX9_copy 33 = .ok (.aload_n 0, 1) := dk_42 (dk_at dksX9_copy_1 10 rfl rfl)
theorem dX9_copy_34 : decode cX9_copy 34 = .ok (.getfield 9, 3) := dk_180 0 9 (dk_at dksX9_copy_1 11 rfl rfl)
theorem dX9_copy_37 : decode cX9_copy 37 = .ok (.iconst 0, 1) := dk_3 (dk_at dksX9_copy_1 14 rfl rfl)
theorem dX9_copy_38 : decode cX9_copy 38 = .ok (.aload_n 1, 1) := dk_43 (dk_at dksX9_copy_1 15 rfl rfl)
theorem dX9_copy_39 : decode cX9_copy 39 = .ok (.getfield 9, 3) := dk_180 0 9 (dk_at dksX9_copy_1 16 rfl rfl)
theorem dX9_copy_42 : decode cX9_copy 42 = .ok (.iconst 0, 1) := dk_3 (dk_at dksX9_copy_1 19 rfl rfl)
theorem dX9_copy_43 : decode cX9_copy 43 = .ok (.iconst 5, 1) := dk_8 (dk_at dksX9_copy_1 20 rfl rfl)
theorem dX9_copy_44 : decode cX9_copy 44 = .ok (.invokestatic 50, 3) := dk_184 0 50 (dk_at dksX9_copy_1 21 rfl rfl)
theorem dX9_copy_47 : decode cX9_copy 47 = .ok (.aload_n 0, 1) := dk_42 (dk_at dksX9_copy_2 0 rfl rfl)
theorem dX9_copy_48 : decode cX9_copy 48 = .ok (.getfield 15, 3) := dk_180 0 15 (dk_at dksX9_copy_2 1 rfl rfl)
theorem dX9_copy_51 : decode cX9_copy 51 = .ok (.iconst 0, 1) := dk_3 (dk_at dksX9_copy_2 4 rfl rfl)
theorem dX9_copy_52 : decode cX9_copy 52 = .ok (.aload_n 1, 1) := dk_43 (dk_at dksX9_copy_2 5 rfl rfl)
theorem dX9_copy_53 : decode cX9_copy 53 = .ok (.getfield 15, 3) := dk_180 0 15 (dk_at dksX9_copy_2 6 rfl rfl)
theorem dX9_copy_56 : decode cX9_copy 56 = .ok (.iconst 0, 1) := dk_3 (dk_at dksX9_copy_2 9 rfl rfl)
theorem dX9_copy_57 : decode cX9_copy 57 = .ok (.iconst 5, 1) := dk_8 (dk_at dksX9_copy_2 10 rfl rfl)
theorem dX9_copy_58 : decode cX9_copy 58 = .ok (.invokestatic 50, 3) := dk_184 0 50 (dk_at dksX9_copy_2 11 rfl rfl)
theorem dX9_copy_61 : decode cX9_copy 61 = .ok (.aload_n 1, 1) := dk_43 (dk_at dksX9_copy_2 14 rfl rfl)
theorem dX9_copy_62 : decode cX9_copy 62 = .ok (.aload_n 0, 1) := dk_42 (dk_at dksX9_copy_2 15 rfl rfl)
theorem dX9_copy_63 : decode cX9_copy 63 = .ok (.getfield 18, 3) := dk_180 0 18 (dk_at dksX9_copy_2 16 rfl rfl)
theorem dX9_copy_66 : decode cX9_copy 66 = .ok (.putfield 18, 3) := dk_181 0 18 (dk_at dksX9_copy_2 19 rfl rfl)
theorem dX9_copy_69 : decode cX9_copy 69 = .ok (.aload_n 1, 1) := dk_43 (dk_at dksX9_copy_2 22 rfl rfl)
theorem dX9_copy_70 : decode cX9_copy 70 = .ok (.aload_n 0, 1) := dk_42 (dk_at dksX9_copy_2 23 rfl rfl)
theorem dX9_copy_71 : decode cX9_copy 71 = .ok (.getfield 56, 3) := dk_180 0 56 (dk_at dksX9_copy_3 0 rfl rfl)
theorem dX9_copy_74 : decode cX9_copy 74 = .ok (.putfield 56, 3) := dk_181 0 56 (dk_at dksX9_copy_3 3 rfl rfl)
theorem dX9_copy_77 : decode cX9_copy 77 = .ok (.aload_n 1, 1) := dk_43 (dk_at dksX9_copy_3 6 rfl rfl)
theorem dX9_copy_78 : decode cX9_copy 78 = .ok (.aload_n 0, 1) := dk_42 (dk_at dksX9_copy_3 7 rfl rfl)
theorem dX9_copy_79 : decode cX9_copy 79 = .ok (.getfield 59, 3) := dk_180 0 59 (dk_at dksX9_copy_3 8 rfl rfl)
theorem dX9_copy_82 : decode cX9_copy 82 = .ok (.putfield 59, 3) := dk_181 0 59 (dk_at dksX9_copy_3 11 rfl rfl)
theorem dX9_copy_85 : decode cX9_copy 85 = .ok (.aload_n 1, 1) := dk_43 (dk_at dksX9_copy_3 14 rfl rfl)
theorem dX9_copy_86 : decode cX9_copy 86 = .ok (.aload_n 0, 1) := dk_42 (dk_at dksX9_copy_3 15 rfl rfl)
theorem dX9_copy_87 : decode cX9_copy 87 = .ok (.getfield 62, 3) := dk_180 0 62 (dk_at dksX9_copy_3 16 rfl rfl)
theorem dX9_copy_90 : decode cX9_copy 90 = .ok (.putfield 62, 3) := dk_181 0 62 (dk_at dksX9_copy_3 19 rfl rfl)
theorem dX9_copy_93 : decode cX9_copy 93 = .ok (.aload_n 1, 1) := dk_43 (dk_at dksX9_copy_3 22 rfl rfl)
theorem dX9_copy_94 : decode cX9_copy 94 = .ok (.aload_n 0, 1) := dk_42 (dk_at dksX9_copy_3 23 rfl rfl)
theorem dX9_copy_95 : decode cX9_copy 95 = .ok (.getfield 65, 3) := dk_180 0 65 (dk_at dksX9_copy_4 0 rfl rfl)
theorem dX9_copy_98 : decode cX9_copy 98 = .ok (.putfield 65, 3) := dk_181 0 65 (dk_at dksX9_copy_4 3 rfl rfl)
theorem dX9_copy_101 : decode cX9_copy 101 = .ok (.aload_n 1, 1) := dk_43 (dk_at dksX9_copy_4 6 rfl rfl)
theorem dX9_copy_102 : decode cX9_copy 102 = .ok (.areturn, 1) := dk_176 (dk_at dksX9_copy_4 7 rfl rfl)
abbrev cX9_init : ByteArray := prog_6_method_1_code
def yX9_init : MethodName := ⟨RX9, "<init>", "(ILQuorumspire$Log;LQuorumspire$Log;LQuorumspire$Store;)V"⟩
def dkwX9_init_1 : List UInt8 := [27, 181, 0, 22, 42, 44, 181, 0, 25, 42, 45, 181, 0, 29, 42, 25, 4, 181, 0, 32, 177]
abbrev dktX9_init_1 : List UInt8 := dkwX9_init_1 ++ []
def dkwX9_init_0 : List UInt8 := [42, 183, 0, 3, 42, 8, 188, 10, 181, 0, 9, 42, 8, 188, 10, 181, 0, 15, 42, 4, 181, 0, 18, 42]
abbrev dktX9_init_0 : List UInt8 := dkwX9_init_0 ++ dktX9_init_1
theorem dksX9_init_0 : cX9_init.data.toList.drop 0 = dktX9_init_0 := by decide +kernel
theorem dksX9_init_1 : cX9_init.data.toList.drop 24 = dktX9_init_1 := dk_seg dksX9_init_0 24 rfl rfl
theorem dX9_init_0 : decode cX9_init 0 = .ok (.aload_n 0, 1) := dk_42 (dk_at dksX9_init_0 0 rfl rfl)
theorem dX9_init_1 : decode cX9_init 1 = .ok (.invokespecial 3, 3) := dk_183 0 3 (dk_at dksX9_init_0 1 rfl rfl)
theorem dX9_init_4 : decode cX9_init 4 = .ok (.aload_n 0, 1) := dk_42 (dk_at dksX9_init_0 4 rfl rfl)
theorem dX9_init_5 : decode cX9_init 5 = .ok (.iconst 5, 1) := dk_8 (dk_at dksX9_init_0 5 rfl rfl)
theorem dX9_init_6 : decode cX9_init 6 = .ok (.newarray .int, 2) := dk_188_10 (dk_at dksX9_init_0 6 rfl rfl)
theorem dX9_init_8 : decode cX9_init 8 = .ok (.putfield 9, 3) := dk_181 0 9 (dk_at dksX9_init_0 8 rfl rfl)
theorem dX9_init_11 : decode cX9_init 11 = .ok (.aload_n 0, 1) := dk_42 (dk_at dksX9_init_0 11 rfl rfl)
theorem dX9_init_12 : decode cX9_init 12 = .ok (.iconst 5, 1) := dk_8 (dk_at dksX9_init_0 12 rfl rfl)
theorem dX9_init_13 : decode cX9_init 13 = .ok (.newarray .int, 2) := dk_188_10 (dk_at dksX9_init_0 13 rfl rfl)
theorem dX9_init_15 : decode cX9_init 15 = .ok (.putfield 15, 3) := dk_181 0 15 (dk_at dksX9_init_0 15 rfl rfl)
theorem dX9_init_18 : decode cX9_init 18 = .ok (.aload_n 0, 1) := dk_42 (dk_at dksX9_init_0 18 rfl rfl)
theorem dX9_init_19 : decode cX9_init 19 = .ok (.iconst 1, 1) := dk_4 (dk_at dksX9_init_0 19 rfl rfl)
theorem dX9_init_20 : decode cX9_init 20 = .ok (.putfield 18, 3) := dk_181 0 18 (dk_at dksX9_init_0 20 rfl rfl)
theorem dX9_init_23 : decode cX9_init 23 = .ok (.aload_n 0, 1) := dk_42 (dk_at dksX9_init_0 23 rfl rfl)
theorem dX9_init_24 : decode cX9_init 24 = .ok (.iload_n 1, 1) := dk_27 (dk_at dksX9_init_1 0 rfl rfl)
theorem dX9_init_25 : decode cX9_init 25 = .ok (.putfield 22, 3) := dk_181 0 22 (dk_at dksX9_init_1 1 rfl rfl)
theorem dX9_init_28 : decode cX9_init 28 = .ok (.aload_n 0, 1) := dk_42 (dk_at dksX9_init_1 4 rfl rfl)
theorem dX9_init_29 : decode cX9_init 29 = .ok (.aload_n 2, 1) := dk_44 (dk_at dksX9_init_1 5 rfl rfl)
theorem dX9_init_30 : decode cX9_init 30 = .ok (.putfield 25, 3) := dk_181 0 25 (dk_at dksX9_init_1 6 rfl rfl)
theorem dX9_init_33 : decode cX9_init 33 = .ok (.aload_n 0, 1) := dk_42 (dk_at dksX9_init_1 9 rfl rfl)
theorem dX9_init_34 : decode cX9_init 34 = .ok (.aload_n 3, 1) := dk_45 (dk_at dksX9_init_1 10 rfl rfl)
theorem dX9_init_35 : decode cX9_init 35 = .ok (.putfield 29, 3) := dk_181 0 29 (dk_at dksX9_init_1 11 rfl rfl)
theorem dX9_init_38 : decode cX9_init 38 = .ok (.aload_n 0, 1) := dk_42 (dk_at dksX9_init_1 14 rfl rfl)
theorem dX9_init_39 : decode cX9_init 39 = .ok (.aload 4, 2) := dk_25 4 (dk_at dksX9_init_1 15 rfl rfl)
theorem dX9_init_41 : decode cX9_init 41 = .ok (.putfield 32, 3) := dk_181 0 32 (dk_at dksX9_init_1 17 rfl rfl)
theorem dX9_init_44 : decode cX9_init 44 = .ok (.return_, 1) := dk_177 (dk_at dksX9_init_1 20 rfl rfl)
abbrev cX9_save : ByteArray := prog_6_method_5_code
def yX9_save : MethodName := ⟨RX9, "save", "()V"⟩
def dkwX9_save_0 : List UInt8 := [42, 42, 180, 0, 25, 182, 0, 36, 181, 0, 29, 177]
abbrev dktX9_save_0 : List UInt8 := dkwX9_save_0 ++ []
theorem dksX9_save_0 : cX9_save.data.toList.drop 0 = dktX9_save_0 := by decide +kernel
theorem dX9_save_0 : decode cX9_save 0 = .ok (.aload_n 0, 1) := dk_42 (dk_at dksX9_save_0 0 rfl rfl)
theorem dX9_save_1 : decode cX9_save 1 = .ok (.aload_n 0, 1) := dk_42 (dk_at dksX9_save_0 1 rfl rfl)
theorem dX9_save_2 : decode cX9_save 2 = .ok (.getfield 25, 3) := dk_180 0 25 (dk_at dksX9_save_0 2 rfl rfl)
theorem dX9_save_5 : decode cX9_save 5 = .ok (.invokevirtual 36, 3) := dk_182 0 36 (dk_at dksX9_save_0 5 rfl rfl)
theorem dX9_save_8 : decode cX9_save 8 = .ok (.putfield 29, 3) := dk_181 0 29 (dk_at dksX9_save_0 8 rfl rfl)
theorem dX9_save_11 : decode cX9_save 11 = .ok (.return_, 1) := dk_177 (dk_at dksX9_save_0 11 rfl rfl)
abbrev cX9_meet : ByteArray := prog_6_method_7_code
def yX9_meet : MethodName := ⟨RX9, "meet", "(I)V"⟩
def dkwX9_meet_1 : List UInt8 := [181, 0, 72, 42, 182, 0, 75, 177]
abbrev dktX9_meet_1 : List UInt8 := dkwX9_meet_1 ++ []
def dkwX9_meet_0 : List UInt8 := [27, 42, 180, 0, 25, 180, 0, 69, 164, 0, 23, 42, 180, 0, 25, 27, 181, 0, 69, 42, 180, 0, 25, 2]
abbrev dktX9_meet_0 : List UInt8 := dkwX9_meet_0 ++ dktX9_meet_1
theorem dksX9_meet_0 : cX9_meet.data.toList.drop 0 = dktX9_meet_0 := by decide +kernel
theorem dksX9_meet_1 : cX9_meet.data.toList.drop 24 = dktX9_meet_1 := dk_seg dksX9_meet_0 24 rfl rfl
theorem dX9_meet_0 : decode cX9_meet 0 = .ok (.iload_n 1, 1) := dk_27 (dk_at dksX9_meet_0 0 rfl rfl)
theorem dX9_meet_1 : decode cX9_meet 1 = .ok (.aload_n 0, 1) := dk_42 (dk_at dksX9_meet_0 1 rfl rfl)
theorem dX9_meet_2 : decode cX9_meet 2 = .ok (.getfield 25, 3) := dk_180 0 25 (dk_at dksX9_meet_0 2 rfl rfl)
theorem dX9_meet_5 : decode cX9_meet 5 = .ok (.getfield 69, 3) := dk_180 0 69 (dk_at dksX9_meet_0 5 rfl rfl)
theorem dX9_meet_8 : decode cX9_meet 8 = .ok (.if_icmp .le 23, 3) := dk_164 0 23 (dk_at dksX9_meet_0 8 rfl rfl)
theorem dX9_meet_11 : decode cX9_meet 11 = .ok (.aload_n 0, 1) := dk_42 (dk_at dksX9_meet_0 11 rfl rfl)
theorem dX9_meet_12 : decode cX9_meet 12 = .ok (.getfield 25, 3) := dk_180 0 25 (dk_at dksX9_meet_0 12 rfl rfl)
theorem dX9_meet_15 : decode cX9_meet 15 = .ok (.iload_n 1, 1) := dk_27 (dk_at dksX9_meet_0 15 rfl rfl)
theorem dX9_meet_16 : decode cX9_meet 16 = .ok (.putfield 69, 3) := dk_181 0 69 (dk_at dksX9_meet_0 16 rfl rfl)
theorem dX9_meet_19 : decode cX9_meet 19 = .ok (.aload_n 0, 1) := dk_42 (dk_at dksX9_meet_0 19 rfl rfl)
theorem dX9_meet_20 : decode cX9_meet 20 = .ok (.getfield 25, 3) := dk_180 0 25 (dk_at dksX9_meet_0 20 rfl rfl)
theorem dX9_meet_23 : decode cX9_meet 23 = .ok (.iconst (-1), 1) := dk_2 (dk_at dksX9_meet_0 23 rfl rfl)
theorem dX9_meet_24 : decode cX9_meet 24 = .ok (.putfield 72, 3) := dk_181 0 72 (dk_at dksX9_meet_1 0 rfl rfl)
theorem dX9_meet_27 : decode cX9_meet 27 = .ok (.aload_n 0, 1) := dk_42 (dk_at dksX9_meet_1 3 rfl rfl)
theorem dX9_meet_28 : decode cX9_meet 28 = .ok (.invokevirtual 75, 3) := dk_182 0 75 (dk_at dksX9_meet_1 4 rfl rfl)
theorem dX9_meet_31 : decode cX9_meet 31 = .ok (.return_, 1) := dk_177 (dk_at dksX9_meet_1 7 rfl rfl)
abbrev cX9_follow : ByteArray := prog_6_method_6_code
def yX9_follow : MethodName := ⟨RX9, "follow", "()V"⟩
def dkwX9_follow_0 : List UInt8 := [42, 4, 181, 0, 18, 42, 3, 181, 0, 56, 177]
abbrev dktX9_follow_0 : List UInt8 := dkwX9_follow_0 ++ []
theorem dksX9_follow_0 : cX9_follow.data.toList.drop 0 = dktX9_follow_0 := by decide +kernel
theorem dX9_follow_0 : decode cX9_follow 0 = .ok (.aload_n 0, 1) := dk_42 (dk_at dksX9_follow_0 0 rfl rfl)
theorem dX9_follow_1 : decode cX9_follow 1 = .ok (.iconst 1, 1) := dk_4 (dk_at dksX9_follow_0 1 rfl rfl)
theorem dX9_follow_2 : decode cX9_follow 2 = .ok (.putfield 18, 3) := dk_181 0 18 (dk_at dksX9_follow_0 2 rfl rfl)
theorem dX9_follow_5 : decode cX9_follow 5 = .ok (.aload_n 0, 1) := dk_42 (dk_at dksX9_follow_0 5 rfl rfl)
theorem dX9_follow_6 : decode cX9_follow 6 = .ok (.iconst 0, 1) := dk_3 (dk_at dksX9_follow_0 6 rfl rfl)
theorem dX9_follow_7 : decode cX9_follow 7 = .ok (.putfield 56, 3) := dk_181 0 56 (dk_at dksX9_follow_0 7 rfl rfl)
theorem dX9_follow_10 : decode cX9_follow 10 = .ok (.return_, 1) := dk_177 (dk_at dksX9_follow_0 10 rfl rfl)
abbrev cX9_forget : ByteArray := prog_6_method_10_code
def yX9_forget : MethodName := ⟨RX9, "forget", "()V"⟩
def dkwX9_forget_1 : List UInt8 := [181, 0, 62, 42, 42, 180, 0, 25, 180, 0, 78, 181, 0, 59, 177]
abbrev dktX9_forget_1 : List UInt8 := dkwX9_forget_1 ++ []
def dkwX9_forget_0 : List UInt8 := [42, 42, 180, 0, 25, 180, 0, 102, 182, 0, 42, 181, 0, 32, 42, 42, 180, 0, 25, 180, 0, 78]
abbrev dktX9_forget_0 : List UInt8 := dkwX9_forget_0 ++ dktX9_forget_1
theorem dksX9_forget_0 : cX9_forget.data.toList.drop 0 = dktX9_forget_0 := by decide +kernel
theorem dksX9_forget_1 : cX9_forget.data.toList.drop 22 = dktX9_forget_1 := dk_seg dksX9_forget_0 22 rfl rfl
theorem dX9_forget_0 : decode cX9_forget 0 = .ok (.aload_n 0, 1) := dk_42 (dk_at dksX9_forget_0 0 rfl rfl)
theorem dX9_forget_1 : decode cX9_forget 1 = .ok (.aload_n 0, 1) := dk_42 (dk_at dksX9_forget_0 1 rfl rfl)
theorem dX9_forget_2 : decode cX9_forget 2 = .ok (.getfield 25, 3) := dk_180 0 25 (dk_at dksX9_forget_0 2 rfl rfl)
theorem dX9_forget_5 : decode cX9_forget 5 = .ok (.getfield 102, 3) := dk_180 0 102 (dk_at dksX9_forget_0 5 rfl rfl)
theorem dX9_forget_8 : decode cX9_forget 8 = .ok (.invokevirtual 42, 3) := dk_182 0 42 (dk_at dksX9_forget_0 8 rfl rfl)
theorem dX9_forget_11 : decode cX9_forget 11 = .ok (.putfield 32, 3) := dk_181 0 32 (dk_at dksX9_forget_0 11 rfl rfl)
theorem dX9_forget_14 : decode cX9_forget 14 = .ok (.aload_n 0, 1) := dk_42 (dk_at dksX9_forget_0 14 rfl rfl)
theorem dX9_forget_15 : decode cX9_forget 15 = .ok (.aload_n 0, 1) := dk_42 (dk_at dksX9_forget_0 15 rfl rfl)
theorem dX9_forget_16 : decode cX9_forget 16 = .ok (.getfield 25, 3) := dk_180 0 25 (dk_at dksX9_forget_0 16 rfl rfl)
theorem dX9_forget_19 : decode cX9_forget 19 = .ok (.getfield 78, 3) := dk_180 0 78 (dk_at dksX9_forget_0 19 rfl rfl)
theorem dX9_forget_22 : decode cX9_forget 22 = .ok (.putfield 62, 3) := dk_181 0 62 (dk_at dksX9_forget_1 0 rfl rfl)
theorem dX9_forget_25 : decode cX9_forget 25 = .ok (.aload_n 0, 1) := dk_42 (dk_at dksX9_forget_1 3 rfl rfl)
theorem dX9_forget_26 : decode cX9_forget 26 = .ok (.aload_n 0, 1) := dk_42 (dk_at dksX9_forget_1 4 rfl rfl)
theorem dX9_forget_27 : decode cX9_forget 27 = .ok (.getfield 25, 3) := dk_180 0 25 (dk_at dksX9_forget_1 5 rfl rfl)
theorem dX9_forget_30 : decode cX9_forget 30 = .ok (.getfield 78, 3) := dk_180 0 78 (dk_at dksX9_forget_1 8 rfl rfl)
theorem dX9_forget_33 : decode cX9_forget 33 = .ok (.putfield 59, 3) := dk_181 0 59 (dk_at dksX9_forget_1 11 rfl rfl)
theorem dX9_forget_36 : decode cX9_forget 36 = .ok (.return_, 1) := dk_177 (dk_at dksX9_forget_1 14 rfl rfl)
abbrev cX9_lost : ByteArray := prog_6_method_8_code
def yX9_lost : MethodName := ⟨RX9, "lost", "()I"⟩
def dkwX9_lost_2 : List UInt8 := [182, 0, 89, 182, 0, 93, 153, 0, 7, 3, 167, 0, 4, 4, 96, 60, 132, 2, 1, 167, 255, 201, 27, 172]
abbrev dktX9_lost_2 : List UInt8 := dkwX9_lost_2 ++ []
def dkwX9_lost_1 : List UInt8 := [42, 180, 0, 29, 28, 182, 0, 85, 153, 0, 29, 42, 180, 0, 29, 28, 182, 0, 89, 42, 180, 0, 25, 28]
abbrev dktX9_lost_1 : List UInt8 := dkwX9_lost_1 ++ dktX9_lost_2
def dkwX9_lost_0 : List UInt8 := [3, 60, 42, 180, 0, 25, 180, 0, 78, 4, 96, 61, 28, 42, 180, 0, 25, 182, 0, 81, 163, 0, 50, 27]
abbrev dktX9_lost_0 : List UInt8 := dkwX9_lost_0 ++ dktX9_lost_1
theorem dksX9_lost_0 : cX9_lost.data.toList.drop 0 = dktX9_lost_0 := by decide +kernel
theorem dksX9_lost_1 : cX9_lost.data.toList.drop 24 = dktX9_lost_1 := dk_seg dksX9_lost_0 24 rfl rfl
theorem dksX9_lost_2 : cX9_lost.data.toList.drop 48 = dktX9_lost_2 := dk_seg dksX9_lost_1 24 rfl rfl
theorem dX9_lost_0 : decode cX9_lost 0 = .ok (.iconst 0, 1) := dk_3 (dk_at dksX9_lost_0 0 rfl rfl)
theorem dX9_lost_1 : decode cX9_lost 1 = .ok (.istore_n 1, 1) := dk_60 (dk_at dksX9_lost_0 1 rfl rfl)
theorem dX9_lost_2 : decode cX9_lost 2 = .ok (.aload_n 0, 1) := dk_42 (dk_at dksX9_lost_0 2 rfl rfl)
theorem dX9_lost_3 : decode cX9_lost 3 = .ok (.getfield 25, 3) := dk_180 0 25 (dk_at dksX9_lost_0 3 rfl rfl)
theorem dX9_lost_6 : decode cX9_lost 6 = .ok (.getfield 78, 3) := dk_180 0 78 (dk_at dksX9_lost_0 6 rfl rfl)
theorem dX9_lost_9 : decode cX9_lost 9 = .ok (.iconst 1, 1) := dk_4 (dk_at dksX9_lost_0 9 rfl rfl)
theorem dX9_lost_10 : decode cX9_lost 10 = .ok (.iadd, 1) := dk_96 (dk_at dksX9_lost_0 10 rfl rfl)
theorem dX9_lost_11 : decode cX9_lost 11 = .ok (.istore_n 2, 1) := dk_61 (dk_at dksX9_lost_0 11 rfl rfl)
theorem dX9_lost_12 : decode cX9_lost 12 = .ok (.iload_n 2, 1) := dk_28 (dk_at dksX9_lost_0 12 rfl rfl)
theorem dX9_lost_13 : decode cX9_lost 13 = .ok (.aload_n 0, 1) := dk_42 (dk_at dksX9_lost_0 13 rfl rfl)
theorem dX9_lost_14 : decode cX9_lost 14 = .ok (.getfield 25, 3) := dk_180 0 25 (dk_at dksX9_lost_0 14 rfl rfl)
theorem dX9_lost_17 : decode cX9_lost 17 = .ok (.invokevirtual 81, 3) := dk_182 0 81 (dk_at dksX9_lost_0 17 rfl rfl)
theorem dX9_lost_20 : decode cX9_lost 20 = .ok (.if_icmp .gt 50, 3) := dk_163 0 50 (dk_at dksX9_lost_0 20 rfl rfl)
theorem dX9_lost_23 : decode cX9_lost 23 = .ok (.iload_n 1, 1) := dk_27 (dk_at dksX9_lost_0 23 rfl rfl)
theorem dX9_lost_24 : decode cX9_lost 24 = .ok (.aload_n 0, 1) := dk_42 (dk_at dksX9_lost_1 0 rfl rfl)
theorem dX9_lost_25 : decode cX9_lost 25 = .ok (.getfield 29, 3) := dk_180 0 29 (dk_at dksX9_lost_1 1 rfl rfl)
theorem dX9_lost_28 : decode cX9_lost 28 = .ok (.iload_n 2, 1) := dk_28 (dk_at dksX9_lost_1 4 rfl rfl)
theorem dX9_lost_29 : decode cX9_lost 29 = .ok (.invokevirtual 85, 3) := dk_182 0 85 (dk_at dksX9_lost_1 5 rfl rfl)
theorem dX9_lost_32 : decode cX9_lost 32 = .ok (.ifCond .eq 29, 3) := dk_153 0 29 (dk_at dksX9_lost_1 8 rfl rfl)
theorem dX9_lost_35 : decode cX9_lost 35 = .ok (.aload_n 0, 1) := dk_42 (dk_at dksX9_lost_1 11 rfl rfl)
theorem dX9_lost_36 : decode cX9_lost 36 = .ok (.getfield 29, 3) := dk_180 0 29 (dk_at dksX9_lost_1 12 rfl rfl)
theorem dX9_lost_39 : decode cX9_lost 39 = .ok (.iload_n 2, 1) := dk_28 (dk_at dksX9_lost_1 15 rfl rfl)
theorem dX9_lost_40 : decode cX9_lost 40 = .ok (.invokevirtual 89, 3) := dk_182 0 89 (dk_at dksX9_lost_1 16 rfl rfl)
theorem dX9_lost_43 : decode cX9_lost 43 = .ok (.aload_n 0, 1) := dk_42 (dk_at dksX9_lost_1 19 rfl rfl)
theorem dX9_lost_44 : decode cX9_lost 44 = .ok (.getfield 25, 3) := dk_180 0 25 (dk_at dksX9_lost_1 20 rfl rfl)
theorem dX9_lost_47 : decode cX9_lost 47 = .ok (.iload_n 2, 1) := dk_28 (dk_at dksX9_lost_1 23 rfl rfl)
theorem dX9_lost_48 : decode cX9_lost 48 = .ok (.invokevirtual 89, 3) := dk_182 0 89 (dk_at dksX9_lost_2 0 rfl rfl)
theorem dX9_lost_51 : decode cX9_lost 51 = .ok (.invokevirtual 93, 3) := dk_182 0 93 (dk_at dksX9_lost_2 3 rfl rfl)
theorem dX9_lost_54 : decode cX9_lost 54 = .ok (.ifCond .eq 7, 3) := dk_153 0 7 (dk_at dksX9_lost_2 6 rfl rfl)
theorem dX9_lost_57 : decode cX9_lost 57 = .ok (.iconst 0, 1) := dk_3 (dk_at dksX9_lost_2 9 rfl rfl)
theorem dX9_lost_58 : decode cX9_lost 58 = .ok (.goto 4, 3) := dk_167 0 4 (dk_at dksX9_lost_2 10 rfl rfl)
theorem dX9_lost_61 : decode cX9_lost 61 = .ok (.iconst 1, 1) := dk_4 (dk_at dksX9_lost_2 13 rfl rfl)
theorem dX9_lost_62 : decode cX9_lost 62 = .ok (.iadd, 1) := dk_96 (dk_at dksX9_lost_2 14 rfl rfl)
theorem dX9_lost_63 : decode cX9_lost 63 = .ok (.istore_n 1, 1) := dk_60 (dk_at dksX9_lost_2 15 rfl rfl)
theorem dX9_lost_64 : decode cX9_lost 64 = .ok (.iinc 2 1, 3) := dk_132 2 1 (dk_at dksX9_lost_2 16 rfl rfl)
theorem dX9_lost_67 : decode cX9_lost 67 = .ok (.goto (-55), 3) := dk_167 255 201 (dk_at dksX9_lost_2 19 rfl rfl)
theorem dX9_lost_70 : decode cX9_lost 70 = .ok (.iload_n 1, 1) := dk_27 (dk_at dksX9_lost_2 22 rfl rfl)
theorem dX9_lost_71 : decode cX9_lost 71 = .ok (.ireturn, 1) := dk_172 (dk_at dksX9_lost_2 23 rfl rfl)
abbrev cX9_crash : ByteArray := prog_6_method_9_code
def yX9_crash : MethodName := ⟨RX9, "crash", "()V"⟩
def dkwX9_crash_1 : List UInt8 := [182, 0, 99, 177]
abbrev dktX9_crash_1 : List UInt8 := dkwX9_crash_1 ++ []
def dkwX9_crash_0 : List UInt8 := [42, 3, 181, 0, 18, 42, 3, 181, 0, 56, 42, 42, 180, 0, 29, 182, 0, 36, 181, 0, 25, 42]
abbrev dktX9_crash_0 : List UInt8 := dkwX9_crash_0 ++ dktX9_crash_1
theorem dksX9_crash_0 : cX9_crash.data.toList.drop 0 = dktX9_crash_0 := by decide +kernel
theorem dksX9_crash_1 : cX9_crash.data.toList.drop 22 = dktX9_crash_1 := dk_seg dksX9_crash_0 22 rfl rfl
theorem dX9_crash_0 : decode cX9_crash 0 = .ok (.aload_n 0, 1) := dk_42 (dk_at dksX9_crash_0 0 rfl rfl)
theorem dX9_crash_1 : decode cX9_crash 1 = .ok (.iconst 0, 1) := dk_3 (dk_at dksX9_crash_0 1 rfl rfl)
theorem dX9_crash_2 : decode cX9_crash 2 = .ok (.putfield 18, 3) := dk_181 0 18 (dk_at dksX9_crash_0 2 rfl rfl)
theorem dX9_crash_5 : decode cX9_crash 5 = .ok (.aload_n 0, 1) := dk_42 (dk_at dksX9_crash_0 5 rfl rfl)
theorem dX9_crash_6 : decode cX9_crash 6 = .ok (.iconst 0, 1) := dk_3 (dk_at dksX9_crash_0 6 rfl rfl)
theorem dX9_crash_7 : decode cX9_crash 7 = .ok (.putfield 56, 3) := dk_181 0 56 (dk_at dksX9_crash_0 7 rfl rfl)
theorem dX9_crash_10 : decode cX9_crash 10 = .ok (.aload_n 0, 1) := dk_42 (dk_at dksX9_crash_0 10 rfl rfl)
theorem dX9_crash_11 : decode cX9_crash 11 = .ok (.aload_n 0, 1) := dk_42 (dk_at dksX9_crash_0 11 rfl rfl)
theorem dX9_crash_12 : decode cX9_crash 12 = .ok (.getfield 29, 3) := dk_180 0 29 (dk_at dksX9_crash_0 12 rfl rfl)
theorem dX9_crash_15 : decode cX9_crash 15 = .ok (.invokevirtual 36, 3) := dk_182 0 36 (dk_at dksX9_crash_0 15 rfl rfl)
theorem dX9_crash_18 : decode cX9_crash 18 = .ok (.putfield 25, 3) := dk_181 0 25 (dk_at dksX9_crash_0 18 rfl rfl)
theorem dX9_crash_21 : decode cX9_crash 21 = .ok (.aload_n 0, 1) := dk_42 (dk_at dksX9_crash_0 21 rfl rfl)
theorem dX9_crash_22 : decode cX9_crash 22 = .ok (.invokevirtual 99, 3) := dk_182 0 99 (dk_at dksX9_crash_1 0 rfl rfl)
theorem dX9_crash_25 : decode cX9_crash 25 = .ok (.return_, 1) := dk_177 (dk_at dksX9_crash_1 3 rfl rfl)
theorem q84 : (Jvm.Cond.initialized "Quorumspire$Machine") ∈ lw_all := lw_g (lw_at lw_m1 16 rfl) rfl
theorem q226 : (Jvm.Cond.instanceMethod ({ cls := "Quorumspire$Machine", name := "isLeader", desc := "()Z" } : Jvm.MethodName)) ∈ lw_all := lw_g (lw_at lw_m1 158 rfl) rfl
theorem q227 : (Jvm.Cond.selects "Quorumspire$Machine" ({ cls := "Quorumspire$Machine", name := "isLeader", desc := "()Z" } : Jvm.MethodName) ({ cls := "Quorumspire$Machine", name := "isLeader", desc := "()Z" } : Jvm.MethodName)) ∈ lw_all := lw_g (lw_at lw_m1 159 rfl) rfl
theorem q228 : (Jvm.Cond.code ({ cls := "Quorumspire$Machine", name := "isLeader", desc := "()Z" } : Jvm.MethodName) prog_6_method_4_code (1 : Nat) (Option.some Jvm.ClassFile.FieldType.boolean)) ∈ lw_all := lw_g (lw_at lw_m1 160 rfl) rfl
theorem q245 : (Jvm.Cond.instanceMethod ({ cls := "Quorumspire$Machine", name := "isUp", desc := "()Z" } : Jvm.MethodName)) ∈ lw_all := lw_g (lw_at lw_m1 177 rfl) rfl
theorem q246 : (Jvm.Cond.selects "Quorumspire$Machine" ({ cls := "Quorumspire$Machine", name := "isUp", desc := "()Z" } : Jvm.MethodName) ({ cls := "Quorumspire$Machine", name := "isUp", desc := "()Z" } : Jvm.MethodName)) ∈ lw_all := lw_g (lw_at lw_m1 178 rfl) rfl
theorem q247 : (Jvm.Cond.code ({ cls := "Quorumspire$Machine", name := "isUp", desc := "()Z" } : Jvm.MethodName) prog_6_method_3_code (1 : Nat) (Option.some Jvm.ClassFile.FieldType.boolean)) ∈ lw_all := lw_g (lw_at lw_m1 179 rfl) rfl
theorem q651 : (Jvm.Cond.selects "Quorumspire$Machine" ({ cls := "java/lang/Object", name := "getClass", desc := "()Ljava/lang/Class;" } : Jvm.MethodName) ({ cls := "java/lang/Object", name := "getClass", desc := "()Ljava/lang/Class;" } : Jvm.MethodName)) ∈ lw_all := lw_g (lw_at lw_m3 103 rfl) rfl
theorem q822 : (Jvm.Cond.instanceMethod ({ cls := "Quorumspire$Machine", name := "copy", desc := "()LQuorumspire$Machine;" } : Jvm.MethodName)) ∈ lw_all := lw_g (lw_at lw_m4 34 rfl) rfl
theorem q823 : (Jvm.Cond.selects "Quorumspire$Machine" ({ cls := "Quorumspire$Machine", name := "copy", desc := "()LQuorumspire$Machine;" } : Jvm.MethodName) ({ cls := "Quorumspire$Machine", name := "copy", desc := "()LQuorumspire$Machine;" } : Jvm.MethodName)) ∈ lw_all := lw_g (lw_at lw_m4 35 rfl) rfl
theorem q824 : (Jvm.Cond.code ({ cls := "Quorumspire$Machine", name := "copy", desc := "()LQuorumspire$Machine;" } : Jvm.MethodName) prog_6_method_2_code (2 : Nat) (Option.some (Jvm.ClassFile.FieldType.object "Quorumspire$Machine"))) ∈ lw_all := lw_g (lw_at lw_m4 36 rfl) rfl
theorem q825 : (Jvm.Cond.classLink "Quorumspire$Machine" (10 : Nat) "Quorumspire$Machine") ∈ lw_all := lw_g (lw_at lw_m4 37 rfl) rfl
theorem q826 : (Jvm.Cond.instantiable "Quorumspire$Machine" (11 : Nat)) ∈ lw_all := lw_g (lw_at lw_m4 38 rfl) rfl
theorem q827 : (Jvm.Cond.methodLink "Quorumspire$Machine" (36 : Nat) ({ cls := "Quorumspire$Log", name := "copy", desc := "()LQuorumspire$Log;" } : Jvm.MethodName)) ∈ lw_all := lw_g (lw_at lw_m4 39 rfl) rfl
theorem q845 : (Jvm.Cond.fieldLinkNest "Quorumspire$Machine" (69 : Nat) "Quorumspire$Log" "term" "I" "Quorumspire") ∈ lw_tbl := lw_at lw_m4 57 rfl
theorem q849 : (Jvm.Cond.fieldLinkNest "Quorumspire$Machine" (72 : Nat) "Quorumspire$Log" "vote" "I" "Quorumspire") ∈ lw_tbl := lw_at lw_m4 61 rfl
theorem q851 : (Jvm.Cond.fieldLinkNest "Quorumspire$Machine" (78 : Nat) "Quorumspire$Log" "base" "I" "Quorumspire") ∈ lw_tbl := lw_at lw_m4 63 rfl
theorem q858 : (Jvm.Cond.fieldLinkNest "Quorumspire$Machine" (102 : Nat) "Quorumspire$Log" "snapshot" "LQuorumspire$Store;" "Quorumspire") ∈ lw_tbl := lw_at lw_m4 70 rfl
theorem q885 : (Jvm.Cond.methodLink "Quorumspire$Machine" (42 : Nat) ({ cls := "Quorumspire$Store", name := "copy", desc := "()LQuorumspire$Store;" } : Jvm.MethodName)) ∈ lw_all := lw_g (lw_at lw_m4 97 rfl) rfl
theorem q920 : (Jvm.Cond.methodLink "Quorumspire$Machine" (47 : Nat) ({ cls := "Quorumspire$Machine", name := "<init>", desc := "(ILQuorumspire$Log;LQuorumspire$Log;LQuorumspire$Store;)V" } : Jvm.MethodName)) ∈ lw_all := lw_g (lw_at lw_m4 132 rfl) rfl
theorem q921 : (Jvm.Cond.instanceMethod ({ cls := "Quorumspire$Machine", name := "<init>", desc := "(ILQuorumspire$Log;LQuorumspire$Log;LQuorumspire$Store;)V" } : Jvm.MethodName)) ∈ lw_all := lw_g (lw_at lw_m4 133 rfl) rfl
theorem q922 : (Jvm.Cond.code ({ cls := "Quorumspire$Machine", name := "<init>", desc := "(ILQuorumspire$Log;LQuorumspire$Log;LQuorumspire$Store;)V" } : Jvm.MethodName) prog_6_method_1_code (5 : Nat) (Option.none : Option Jvm.ClassFile.FieldType)) ∈ lw_all := lw_g (lw_at lw_m4 134 rfl) rfl
theorem q923 : (Jvm.Cond.methodLink "Quorumspire$Machine" (3 : Nat) ({ cls := "java/lang/Object", name := "<init>", desc := "()V" } : Jvm.MethodName)) ∈ lw_all := lw_g (lw_at lw_m4 135 rfl) rfl
theorem q925 : (Jvm.Cond.fieldLink "Quorumspire$Machine" (22 : Nat) "Quorumspire$Machine" "number" "I") ∈ lw_all := lw_g (lw_at lw_m4 137 rfl) rfl
theorem q927 : (Jvm.Cond.fieldLink "Quorumspire$Machine" (9 : Nat) "Quorumspire$Machine" "nexts" "[I") ∈ lw_all := lw_g (lw_at lw_m4 139 rfl) rfl
theorem q929 : (Jvm.Cond.fieldLink "Quorumspire$Machine" (15 : Nat) "Quorumspire$Machine" "keeps" "[I") ∈ lw_all := lw_g (lw_at lw_m4 141 rfl) rfl
theorem q931 : (Jvm.Cond.fieldLink "Quorumspire$Machine" (25 : Nat) "Quorumspire$Machine" "log" "LQuorumspire$Log;") ∈ lw_all := lw_g (lw_at lw_m4 143 rfl) rfl
theorem q935 : (Jvm.Cond.fieldLink "Quorumspire$Machine" (29 : Nat) "Quorumspire$Machine" "saved" "LQuorumspire$Log;") ∈ lw_all := lw_g (lw_at lw_m4 147 rfl) rfl
theorem q937 : (Jvm.Cond.fieldLink "Quorumspire$Machine" (32 : Nat) "Quorumspire$Machine" "store" "LQuorumspire$Store;") ∈ lw_all := lw_g (lw_at lw_m4 149 rfl) rfl
theorem q940 : (Jvm.Cond.fieldLink "Quorumspire$Machine" (18 : Nat) "Quorumspire$Machine" "role" "I") ∈ lw_all := lw_g (lw_at lw_m4 152 rfl) rfl
theorem q942 : (Jvm.Cond.fieldLink "Quorumspire$Machine" (56 : Nat) "Quorumspire$Machine" "votes" "I") ∈ lw_all := lw_g (lw_at lw_m4 154 rfl) rfl
theorem q944 : (Jvm.Cond.fieldLink "Quorumspire$Machine" (59 : Nat) "Quorumspire$Machine" "sure" "I") ∈ lw_all := lw_g (lw_at lw_m4 156 rfl) rfl
theorem q946 : (Jvm.Cond.fieldLink "Quorumspire$Machine" (62 : Nat) "Quorumspire$Machine" "done" "I") ∈ lw_all := lw_g (lw_at lw_m4 158 rfl) rfl
theorem q948 : (Jvm.Cond.fieldLink "Quorumspire$Machine" (65 : Nat) "Quorumspire$Machine" "isLazy" "Z") ∈ lw_all := lw_g (lw_at lw_m4 160 rfl) rfl
theorem q951 : (Jvm.Cond.laysFinal "Quorumspire$Machine" "Quorumspire$Machine" "number" "I") ∈ lw_all := lw_g (lw_at lw_m4 163 rfl) rfl
theorem q952 : (Jvm.Cond.soleField "Quorumspire$Machine" "number") ∈ lw_all := lw_g (lw_at lw_m4 164 rfl) rfl
theorem q953 : (Jvm.Cond.laysFinal "Quorumspire$Machine" "Quorumspire$Machine" "nexts" "[I") ∈ lw_all := lw_g (lw_at lw_m4 165 rfl) rfl
theorem q954 : (Jvm.Cond.soleField "Quorumspire$Machine" "nexts") ∈ lw_all := lw_g (lw_at lw_m4 166 rfl) rfl
theorem q955 : (Jvm.Cond.laysFinal "Quorumspire$Machine" "Quorumspire$Machine" "keeps" "[I") ∈ lw_all := lw_g (lw_at lw_m4 167 rfl) rfl
theorem q956 : (Jvm.Cond.soleField "Quorumspire$Machine" "keeps") ∈ lw_all := lw_g (lw_at lw_m4 168 rfl) rfl
theorem q957 : (Jvm.Cond.lays "Quorumspire$Machine" "Quorumspire$Machine" "log" "LQuorumspire$Log;") ∈ lw_all := lw_g (lw_at lw_m4 169 rfl) rfl
theorem q958 : (Jvm.Cond.soleField "Quorumspire$Machine" "log") ∈ lw_all := lw_g (lw_at lw_m4 170 rfl) rfl
theorem q959 : (Jvm.Cond.lays "Quorumspire$Machine" "Quorumspire$Machine" "saved" "LQuorumspire$Log;") ∈ lw_all := lw_g (lw_at lw_m4 171 rfl) rfl
theorem q960 : (Jvm.Cond.soleField "Quorumspire$Machine" "saved") ∈ lw_all := lw_g (lw_at lw_m4 172 rfl) rfl
theorem q961 : (Jvm.Cond.lays "Quorumspire$Machine" "Quorumspire$Machine" "store" "LQuorumspire$Store;") ∈ lw_all := lw_g (lw_at lw_m4 173 rfl) rfl
theorem q962 : (Jvm.Cond.soleField "Quorumspire$Machine" "store") ∈ lw_all := lw_g (lw_at lw_m4 174 rfl) rfl
theorem q963 : (Jvm.Cond.lays "Quorumspire$Machine" "Quorumspire$Machine" "role" "I") ∈ lw_all := lw_g (lw_at lw_m4 175 rfl) rfl
theorem q964 : (Jvm.Cond.soleField "Quorumspire$Machine" "role") ∈ lw_all := lw_g (lw_at lw_m4 176 rfl) rfl
theorem q965 : (Jvm.Cond.lays "Quorumspire$Machine" "Quorumspire$Machine" "votes" "I") ∈ lw_all := lw_g (lw_at lw_m4 177 rfl) rfl
theorem q966 : (Jvm.Cond.soleField "Quorumspire$Machine" "votes") ∈ lw_all := lw_g (lw_at lw_m4 178 rfl) rfl
theorem q967 : (Jvm.Cond.lays "Quorumspire$Machine" "Quorumspire$Machine" "sure" "I") ∈ lw_all := lw_g (lw_at lw_m4 179 rfl) rfl
theorem q968 : (Jvm.Cond.soleField "Quorumspire$Machine" "sure") ∈ lw_all := lw_g (lw_at lw_m4 180 rfl) rfl
theorem q969 : (Jvm.Cond.lays "Quorumspire$Machine" "Quorumspire$Machine" "done" "I") ∈ lw_all := lw_g (lw_at lw_m4 181 rfl) rfl
theorem q970 : (Jvm.Cond.soleField "Quorumspire$Machine" "done") ∈ lw_all := lw_g (lw_at lw_m4 182 rfl) rfl
theorem q971 : (Jvm.Cond.lays "Quorumspire$Machine" "Quorumspire$Machine" "isLazy" "Z") ∈ lw_all := lw_g (lw_at lw_m4 183 rfl) rfl
theorem q972 : (Jvm.Cond.soleField "Quorumspire$Machine" "isLazy") ∈ lw_all := lw_g (lw_at lw_m4 184 rfl) rfl
theorem q973 : (Jvm.Cond.superclass "Quorumspire$Machine" "java/lang/Object") ∈ lw_all := lw_g (lw_at lw_m4 185 rfl) rfl
theorem q974 : (Jvm.Cond.methodLink "Quorumspire$Machine" (50 : Nat) ({ cls := "java/lang/System", name := "arraycopy", desc := "(Ljava/lang/Object;ILjava/lang/Object;II)V" } : Jvm.MethodName)) ∈ lw_all := lw_g (lw_at lw_m4 186 rfl) rfl
theorem q1176 : (Jvm.Cond.instanceMethod ({ cls := "Quorumspire$Machine", name := "save", desc := "()V" } : Jvm.MethodName)) ∈ lw_all := lw_g (lw_at lw_m5 148 rfl) rfl
theorem q1177 : (Jvm.Cond.selects "Quorumspire$Machine" ({ cls := "Quorumspire$Machine", name := "save", desc := "()V" } : Jvm.MethodName) ({ cls := "Quorumspire$Machine", name := "save", desc := "()V" } : Jvm.MethodName)) ∈ lw_all := lw_g (lw_at lw_m5 149 rfl) rfl
theorem q1178 : (Jvm.Cond.code ({ cls := "Quorumspire$Machine", name := "save", desc := "()V" } : Jvm.MethodName) prog_6_method_5_code (1 : Nat) (Option.none : Option Jvm.ClassFile.FieldType)) ∈ lw_all := lw_g (lw_at lw_m5 150 rfl) rfl
theorem q1197 : (Jvm.Cond.instanceMethod ({ cls := "Quorumspire$Machine", name := "meet", desc := "(I)V" } : Jvm.MethodName)) ∈ lw_all := lw_g (lw_at lw_m5 169 rfl) rfl
theorem q1198 : (Jvm.Cond.selects "Quorumspire$Machine" ({ cls := "Quorumspire$Machine", name := "meet", desc := "(I)V" } : Jvm.MethodName) ({ cls := "Quorumspire$Machine", name := "meet", desc := "(I)V" } : Jvm.MethodName)) ∈ lw_all := lw_g (lw_at lw_m5 170 rfl) rfl
theorem q1199 : (Jvm.Cond.code ({ cls := "Quorumspire$Machine", name := "meet", desc := "(I)V" } : Jvm.MethodName) prog_6_method_7_code (2 : Nat) (Option.none : Option Jvm.ClassFile.FieldType)) ∈ lw_all := lw_g (lw_at lw_m5 171 rfl) rfl
theorem q1200 : (Jvm.Cond.methodLink "Quorumspire$Machine" (75 : Nat) ({ cls := "Quorumspire$Machine", name := "follow", desc := "()V" } : Jvm.MethodName)) ∈ lw_all := lw_g (lw_at lw_m5 172 rfl) rfl
theorem q1201 : (Jvm.Cond.instanceMethod ({ cls := "Quorumspire$Machine", name := "follow", desc := "()V" } : Jvm.MethodName)) ∈ lw_all := lw_g (lw_at lw_m5 173 rfl) rfl
theorem q1202 : (Jvm.Cond.selects "Quorumspire$Machine" ({ cls := "Quorumspire$Machine", name := "follow", desc := "()V" } : Jvm.MethodName) ({ cls := "Quorumspire$Machine", name := "follow", desc := "()V" } : Jvm.MethodName)) ∈ lw_all := lw_g (lw_at lw_m5 174 rfl) rfl
theorem q1203 : (Jvm.Cond.code ({ cls := "Quorumspire$Machine", name := "follow", desc := "()V" } : Jvm.MethodName) prog_6_method_6_code (1 : Nat) (Option.none : Option Jvm.ClassFile.FieldType)) ∈ lw_all := lw_g (lw_at lw_m5 175 rfl) rfl
theorem q1243 : (Jvm.Cond.instanceMethod ({ cls := "Quorumspire$Machine", name := "forget", desc := "()V" } : Jvm.MethodName)) ∈ lw_all := lw_g (lw_at lw_m5 215 rfl) rfl
theorem q1244 : (Jvm.Cond.selects "Quorumspire$Machine" ({ cls := "Quorumspire$Machine", name := "forget", desc := "()V" } : Jvm.MethodName) ({ cls := "Quorumspire$Machine", name := "forget", desc := "()V" } : Jvm.MethodName)) ∈ lw_all := lw_g (lw_at lw_m5 216 rfl) rfl
theorem q1245 : (Jvm.Cond.code ({ cls := "Quorumspire$Machine", name := "forget", desc := "()V" } : Jvm.MethodName) prog_6_method_10_code (1 : Nat) (Option.none : Option Jvm.ClassFile.FieldType)) ∈ lw_all := lw_g (lw_at lw_m5 217 rfl) rfl
theorem q1471 : (Jvm.Cond.instanceMethod ({ cls := "Quorumspire$Machine", name := "lost", desc := "()I" } : Jvm.MethodName)) ∈ lw_all := lw_g (lw_at lw_m6 203 rfl) rfl
theorem q1472 : (Jvm.Cond.selects "Quorumspire$Machine" ({ cls := "Quorumspire$Machine", name := "lost", desc := "()I" } : Jvm.MethodName) ({ cls := "Quorumspire$Machine", name := "lost", desc := "()I" } : Jvm.MethodName)) ∈ lw_all := lw_g (lw_at lw_m6 204 rfl) rfl
theorem q1473 : (Jvm.Cond.code ({ cls := "Quorumspire$Machine", name := "lost", desc := "()I" } : Jvm.MethodName) prog_6_method_8_code (3 : Nat) (Option.some Jvm.ClassFile.FieldType.int)) ∈ lw_all := lw_g (lw_at lw_m6 205 rfl) rfl
theorem q1474 : (Jvm.Cond.methodLink "Quorumspire$Machine" (81 : Nat) ({ cls := "Quorumspire$Log", name := "last", desc := "()I" } : Jvm.MethodName)) ∈ lw_all := lw_g (lw_at lw_m6 206 rfl) rfl
theorem q1475 : (Jvm.Cond.methodLink "Quorumspire$Machine" (85 : Nat) ({ cls := "Quorumspire$Log", name := "has", desc := "(I)Z" } : Jvm.MethodName)) ∈ lw_all := lw_g (lw_at lw_m6 207 rfl) rfl
theorem q1476 : (Jvm.Cond.methodLink "Quorumspire$Machine" (89 : Nat) ({ cls := "Quorumspire$Log", name := "at", desc := "(I)LQuorumspire$Entry;" } : Jvm.MethodName)) ∈ lw_all := lw_g (lw_at lw_m6 208 rfl) rfl
theorem q1477 : (Jvm.Cond.methodLink "Quorumspire$Machine" (93 : Nat) ({ cls := "Quorumspire$Entry", name := "isSame", desc := "(LQuorumspire$Entry;)Z" } : Jvm.MethodName)) ∈ lw_all := lw_g (lw_at lw_m6 209 rfl) rfl
theorem q1479 : (Jvm.Cond.instanceMethod ({ cls := "Quorumspire$Machine", name := "crash", desc := "()V" } : Jvm.MethodName)) ∈ lw_all := lw_g (lw_at lw_m6 211 rfl) rfl
theorem q1480 : (Jvm.Cond.selects "Quorumspire$Machine" ({ cls := "Quorumspire$Machine", name := "crash", desc := "()V" } : Jvm.MethodName) ({ cls := "Quorumspire$Machine", name := "crash", desc := "()V" } : Jvm.MethodName)) ∈ lw_all := lw_g (lw_at lw_m6 212 rfl) rfl
theorem q1481 : (Jvm.Cond.code ({ cls := "Quorumspire$Machine", name := "crash", desc := "()V" } : Jvm.MethodName) prog_6_method_9_code (1 : Nat) (Option.none : Option Jvm.ClassFile.FieldType)) ∈ lw_all := lw_g (lw_at lw_m6 213 rfl) rfl
theorem q1482 : (Jvm.Cond.methodLink "Quorumspire$Machine" (99 : Nat) ({ cls := "Quorumspire$Machine", name := "forget", desc := "()V" } : Jvm.MethodName)) ∈ lw_all := lw_g (lw_at lw_m6 214 rfl) rfl
theorem q2268 : (Jvm.Cond.selects "Quorumspire$Machine" ({ cls := "java/lang/Object", name := "equals", desc := "(Ljava/lang/Object;)Z" } : Jvm.MethodName) ({ cls := "java/lang/Object", name := "equals", desc := "(Ljava/lang/Object;)Z" } : Jvm.MethodName)) ∈ lw_all := lw_g (lw_at lw_m10 40 rfl) rfl
theorem q2427 : (Jvm.Cond.castable "Quorumspire$Machine" "java/lang/Object") ∈ lw_tbl := lw_at lw_m10 199 rfl
theorem in_X9 : ∀ w ∈ wsX90, w ∈ lw_all := lw_in wsX90 [951, 953, 955, 957, 959, 961, 963, 965, 967, 969, 971] (by decide +kernel) (by decide +kernel)
/-! Quorumspire$Log -/
set_option maxRecDepth 100000
def RX10 : String := "Quorumspire$Log"
def TX10 : u_T := fun k => match k with
  | 0 => ("Quorumspire$Log", "entries", "Ljava/util/List;", true)
  | 1 => ("Quorumspire$Log", "term", "I", false)
  | 2 => ("Quorumspire$Log", "vote", "I", false)
  | 3 => ("Quorumspire$Log", "base", "I", false)
  | 4 => ("Quorumspire$Log", "baseTerm", "I", false)
  | _ => ("Quorumspire$Log", "snapshot", "LQuorumspire$Store;", false)
def tyX10 : Nat → FieldType := fun k => match k with
  | 0 => .object "java/util/List"
  | 1 => .int
  | 2 => .int
  | 3 => .int
  | 4 => .int
  | _ => .object "Quorumspire$Store"
abbrev wsX100 : List Cond := u_ws RX10 TX10 6
theorem nmX10 : ∀ a, a < 6 → ∀ b, b < 6 → a ≠ b → (TX10 a).2.1 ≠ (TX10 b).2.1 := by decide +kernel
theorem tyX10_ok : ∀ k, k < 6 → parseFieldDescriptor (TX10 k).2.2.1 = some (tyX10 k) := by decide +kernel
abbrev cX10_last : ByteArray := prog_5_method_3_code
def yX10_last : MethodName := ⟨RX10, "last", "()I"⟩
def dkwX10_last_0 : List UInt8 := [42, 180, 0, 48, 42, 180, 0, 12, 185, 0, 29, 1, 0, 96, 172]
abbrev dktX10_last_0 : List UInt8 := dkwX10_last_0 ++ []
theorem dksX10_last_0 : cX10_last.data.toList.drop 0 = dktX10_last_0 := by decide +kernel
theorem dX10_last_0 : decode cX10_last 0 = .ok (.aload_n 0, 1) := dk_42 (dk_at dksX10_last_0 0 rfl rfl)
theorem dX10_last_1 : decode cX10_last 1 = .ok (.getfield 48, 3) := dk_180 0 48 (dk_at dksX10_last_0 1 rfl rfl)
theorem dX10_last_4 : decode cX10_last 4 = .ok (.aload_n 0, 1) := dk_42 (dk_at dksX10_last_0 4 rfl rfl)
theorem dX10_last_5 : decode cX10_last 5 = .ok (.getfield 12, 3) := dk_180 0 12 (dk_at dksX10_last_0 5 rfl rfl)
theorem dX10_last_8 : decode cX10_last 8 = .ok (.invokeinterface 29 1, 5) := by decide +kernel
theorem dX10_last_13 : decode cX10_last 13 = .ok (.iadd, 1) := dk_96 (dk_at dksX10_last_0 13 rfl rfl)
theorem dX10_last_14 : decode cX10_last 14 = .ok (.ireturn, 1) := dk_172 (dk_at dksX10_last_0 14 rfl rfl)
abbrev cX10_at : ByteArray := prog_5_method_5_code
def yX10_at : MethodName := ⟨RX10, "at", "(I)LQuorumspire$Entry;"⟩
def dkwX10_at_0 : List UInt8 := [42, 180, 0, 12, 27, 42, 180, 0, 48, 100, 4, 100, 185, 0, 35, 2, 0, 192, 0, 39, 176]
abbrev dktX10_at_0 : List UInt8 := dkwX10_at_0 ++ []
theorem dksX10_at_0 : cX10_at.data.toList.drop 0 = dktX10_at_0 := by decide +kernel
theorem dX10_at_0 : decode cX10_at 0 = .ok (.aload_n 0, 1) := dk_42 (dk_at dksX10_at_0 0 rfl rfl)
theorem dX10_at_1 : decode cX10_at 1 = .ok (.getfield 12, 3) := dk_180 0 12 (dk_at dksX10_at_0 1 rfl rfl)
theorem dX10_at_4 : decode cX10_at 4 = .ok (.iload_n 1, 1) := dk_27 (dk_at dksX10_at_0 4 rfl rfl)
theorem dX10_at_5 : decode cX10_at 5 = .ok (.aload_n 0, 1) := dk_42 (dk_at dksX10_at_0 5 rfl rfl)
theorem dX10_at_6 : decode cX10_at 6 = .ok (.getfield 48, 3) := dk_180 0 48 (dk_at dksX10_at_0 6 rfl rfl)
theorem dX10_at_9 : decode cX10_at 9 = .ok (.isub, 1) := dk_100 (dk_at dksX10_at_0 9 rfl rfl)
theorem dX10_at_10 : decode cX10_at 10 = .ok (.iconst 1, 1) := dk_4 (dk_at dksX10_at_0 10 rfl rfl)
theorem dX10_at_11 : decode cX10_at 11 = .ok (.isub, 1) := dk_100 (dk_at dksX10_at_0 11 rfl rfl)
theorem dX10_at_12 : decode cX10_at 12 = .ok (.invokeinterface 35 2, 5) := by decide +kernel
theorem dX10_at_17 : decode cX10_at 17 = .ok (.checkcast 39, 3) := dk_192 0 39 (dk_at dksX10_at_0 17 rfl rfl)
theorem dX10_at_20 : decode cX10_at 20 = .ok (.areturn, 1) := dk_176 (dk_at dksX10_at_0 20 rfl rfl)
abbrev cX10_copy : ByteArray := prog_5_method_2_code
def yX10_copy : MethodName := ⟨RX10, "copy", "()LQuorumspire$Log;"⟩
def dkwX10_copy_3 : List UInt8 := [180, 0, 18, 181, 0, 18, 43, 42, 180, 0, 48, 181, 0, 48, 43, 42, 180, 0, 51, 181, 0, 51, 43, 176]
abbrev dktX10_copy_3 : List UInt8 := dkwX10_copy_3 ++ []
def dkwX10_copy_2 : List UInt8 := [185, 0, 41, 2, 0, 87, 132, 2, 1, 167, 255, 217, 43, 42, 180, 0, 45, 181, 0, 45, 43, 42]
abbrev dktX10_copy_2 : List UInt8 := dkwX10_copy_2 ++ dktX10_copy_3
def dkwX10_copy_1 : List UInt8 := [162, 0, 32, 43, 180, 0, 12, 42, 180, 0, 12, 28, 185, 0, 35, 2, 0, 192, 0, 39]
abbrev dktX10_copy_1 : List UInt8 := dkwX10_copy_1 ++ dktX10_copy_2
def dkwX10_copy_0 : List UInt8 := [187, 0, 13, 89, 42, 180, 0, 22, 183, 0, 26, 76, 3, 61, 28, 42, 180, 0, 12, 185, 0, 29, 1, 0]
abbrev dktX10_copy_0 : List UInt8 := dkwX10_copy_0 ++ dktX10_copy_1
theorem dksX10_copy_0 : cX10_copy.data.toList.drop 0 = dktX10_copy_0 := by decide +kernel
theorem dksX10_copy_1 : cX10_copy.data.toList.drop 24 = dktX10_copy_1 := dk_seg dksX10_copy_0 24 rfl rfl
theorem dksX10_copy_2 : cX10_copy.data.toList.drop 44 = dktX10_copy_2 := dk_seg dksX10_copy_1 20 rfl rfl
theorem dksX10_copy_3 : cX10_copy.data.toList.drop 66 = dktX10_copy_3 := dk_seg dksX10_copy_2 22 rfl rfl
theorem dX10_copy_0 : decode cX10_copy 0 = .ok (.new 13, 3) := dk_187 0 13 (dk_at dksX10_copy_0 0 rfl rfl)
theorem dX10_copy_3 : decode cX10_copy 3 = .ok (.dup, 1) := dk_89 (dk_at dksX10_copy_0 3 rfl rfl)
theorem dX10_copy_4 : decode cX10_copy 4 = .ok (.aload_n 0, 1) := dk_42 (dk_at dksX10_copy_0 4 rfl rfl)
theorem dX10_copy_5 : decode cX10_copy 5 = .ok (.getfield 22, 3) := dk_180 0 22 (dk_at dksX10_copy_0 5 rfl rfl)
theorem dX10_copy_8 : decode cX10_copy 8 = .ok (.invokespecial 26, 3) := dk_183 0 26 (dk_at dksX10_copy_0 8 rfl rfl)
theorem dX10_copy_11 : decode cX10_copy 11 = .ok (.astore_n 1, 1) := dk_76 (dk_at dksX10_copy_0 11 rfl rfl)
theorem dX10_copy_12 : decode cX10_copy 12 = .ok (.iconst 0, 1) := dk_3 (dk_at dksX10_copy_0 12 rfl rfl)
theorem dX10_copy_13 : decode cX10_copy 13 = .ok (.istore_n 2, 1) := dk_61 (dk_at dksX10_copy_0 13 rfl rfl)
theorem dX10_copy_14 : decode cX10_copy 14 = .ok (.iload_n 2, 1) := dk_28 (dk_at dksX10_copy_0 14 rfl rfl)
theorem dX10_copy_15 : decode cX10_copy 15 = .ok (.aload_n 0, 1) := dk_42 (dk_at dksX10_copy_0 15 rfl rfl)
theorem dX10_copy_16 : decode cX10_copy 16 = .ok (.getfield 12, 3) := dk_180 0 12 (dk_at dksX10_copy_0 16 rfl rfl)
theorem dX10_copy_19 : decode cX10_copy 19 = .ok (.invokeinterface 29 1, 5) := by decide +kernel
theorem dX10_copy_24 : decode cX10_copy 24 = .ok (.if_icmp .ge 32, 3) := dk_162 0 32 (dk_at dksX10_copy_1 0 rfl rfl)
theorem dX10_copy_27 : decode cX10_copy 27 = .ok (.aload_n 1, 1) := dk_43 (dk_at dksX10_copy_1 3 rfl rfl)
theorem dX10_copy_28 : decode cX10_copy 28 = .ok (.getfield 12, 3) := dk_180 0 12 (dk_at dksX10_copy_1 4 rfl rfl)
theorem dX10_copy_31 : decode cX10_copy 31 = .ok (.aload_n 0, 1) := dk_42 (dk_at dksX10_copy_1 7 rfl rfl)
theorem dX10_copy_32 : decode cX10_copy 32 = .ok (.getfield 12, 3) := dk_180 0 12 (dk_at dksX10_copy_1 8 rfl rfl)
theorem dX10_copy_35 : decode cX10_copy 35 = .ok (.iload_n 2, 1) := dk_28 (dk_at dksX10_copy_1 11 rfl rfl)
theorem dX10_copy_36 : decode cX10_copy 36 = .ok (.invokeinterface 35 2, 5) := by decide +kernel
theorem dX10_copy_41 : decode cX10_copy 41 = .ok (.checkcast 39, 3) := dk_192 0 39 (dk_at dksX10_copy_1 17 rfl rfl)
theorem dX10_copy_44 : decode cX10_copy 44 = .ok (.invokeinterface 41 2, 5) := by decide +kernel
theorem dX10_copy_49 : decode cX10_copy 49 = .ok (.pop, 1) := dk_87 (dk_at dksX10_copy_2 5 rfl rfl)
theorem dX10_copy_50 : decode cX10_copy 50 = .ok (.iinc 2 1, 3) := dk_132 2 1 (dk_at dksX10_copy_2 6 rfl rfl)
theorem dX10_copy_53 : decode cX10_copy 53 = .ok (.goto (-39), 3) := dk_167 255 217 (dk_at dksX10_copy_2 9 rfl rfl)
theorem dX10_copy_56 : decode cX10_copy 56 = .ok (.aload_n 1, 1) := dk_43 (dk_at dksX10_copy_2 12 rfl rfl)
theorem dX10_copy_57 : decode cX10_copy 57 = .ok (.aload_n 0, 1) := dk_42 (dk_at dksX10_copy_2 13 rfl rfl)
theorem dX10_copy_58 : decode cX10_copy 58 = .ok (.getfield 45, 3) := dk_180 0 45 (dk_at dksX10_copy_2 14 rfl rfl)
theorem dX10_copy_61 : decode cX10_copy 61 = .ok (.putfield 45, 3) := dk_181 0 45 (dk_at dksX10_copy_2 17 rfl rfl)
theorem dX10_copy_64 : decode cX10_copy 64 = .ok (.aload_n 1, 1) := dk_43 (dk_at dksX10_copy_2 20 rfl rfl)
theorem dX10_copy_65 : decode cX10_copy 65 = .ok (.aload_n 0, 1) := dk_42 (dk_at dksX10_copy_2 21 rfl rfl)
theorem dX10_copy_66 : decode cX10_copy 66 = .ok (.getfield 18, 3) := dk_180 0 18 (dk_at dksX10_copy_3 0 rfl rfl)
theorem dX10_copy_69 : decode cX10_copy 69 = .ok (.putfield 18, 3) := dk_181 0 18 (dk_at dksX10_copy_3 3 rfl rfl)
theorem dX10_copy_72 : decode cX10_copy 72 = .ok (.aload_n 1, 1) := dk_43 (dk_at dksX10_copy_3 6 rfl rfl)
theorem dX10_copy_73 : decode cX10_copy 73 = .ok (.aload_n 0, 1) := dk_42 (dk_at dksX10_copy_3 7 rfl rfl)
theorem dX10_copy_74 : decode cX10_copy 74 = .ok (.getfield 48, 3) := dk_180 0 48 (dk_at dksX10_copy_3 8 rfl rfl)
theorem dX10_copy_77 : decode cX10_copy 77 = .ok (.putfield 48, 3) := dk_181 0 48 (dk_at dksX10_copy_3 11 rfl rfl)
theorem dX10_copy_80 : decode cX10_copy 80 = .ok (.aload_n 1, 1) := dk_43 (dk_at dksX10_copy_3 14 rfl rfl)
theorem dX10_copy_81 : decode cX10_copy 81 = .ok (.aload_n 0, 1) := dk_42 (dk_at dksX10_copy_3 15 rfl rfl)
theorem dX10_copy_82 : decode cX10_copy 82 = .ok (.getfield 51, 3) := dk_180 0 51 (dk_at dksX10_copy_3 16 rfl rfl)
theorem dX10_copy_85 : decode cX10_copy 85 = .ok (.putfield 51, 3) := dk_181 0 51 (dk_at dksX10_copy_3 19 rfl rfl)
theorem dX10_copy_88 : decode cX10_copy 88 = .ok (.aload_n 1, 1) := dk_43 (dk_at dksX10_copy_3 22 rfl rfl)
theorem dX10_copy_89 : decode cX10_copy 89 = .ok (.areturn, 1) := dk_176 (dk_at dksX10_copy_3 23 rfl rfl)
abbrev cX10_init : ByteArray := prog_5_method_1_code
def yX10_init : MethodName := ⟨RX10, "<init>", "(LQuorumspire$Store;)V"⟩
def dkwX10_init_1 : List UInt8 := [181, 0, 22, 177]
abbrev dktX10_init_1 : List UInt8 := dkwX10_init_1 ++ []
def dkwX10_init_0 : List UInt8 := [42, 183, 0, 3, 42, 187, 0, 9, 89, 183, 0, 11, 181, 0, 12, 42, 2, 181, 0, 18, 42, 43]
abbrev dktX10_init_0 : List UInt8 := dkwX10_init_0 ++ dktX10_init_1
theorem dksX10_init_0 : cX10_init.data.toList.drop 0 = dktX10_init_0 := by decide +kernel
theorem dksX10_init_1 : cX10_init.data.toList.drop 22 = dktX10_init_1 := dk_seg dksX10_init_0 22 rfl rfl
theorem dX10_init_0 : decode cX10_init 0 = .ok (.aload_n 0, 1) := dk_42 (dk_at dksX10_init_0 0 rfl rfl)
theorem dX10_init_1 : decode cX10_init 1 = .ok (.invokespecial 3, 3) := dk_183 0 3 (dk_at dksX10_init_0 1 rfl rfl)
theorem dX10_init_4 : decode cX10_init 4 = .ok (.aload_n 0, 1) := dk_42 (dk_at dksX10_init_0 4 rfl rfl)
theorem dX10_init_5 : decode cX10_init 5 = .ok (.new 9, 3) := dk_187 0 9 (dk_at dksX10_init_0 5 rfl rfl)
theorem dX10_init_8 : decode cX10_init 8 = .ok (.dup, 1) := dk_89 (dk_at dksX10_init_0 8 rfl rfl)
theorem dX10_init_9 : decode cX10_init 9 = .ok (.invokespecial 11, 3) := dk_183 0 11 (dk_at dksX10_init_0 9 rfl rfl)
theorem dX10_init_12 : decode cX10_init 12 = .ok (.putfield 12, 3) := dk_181 0 12 (dk_at dksX10_init_0 12 rfl rfl)
theorem dX10_init_15 : decode cX10_init 15 = .ok (.aload_n 0, 1) := dk_42 (dk_at dksX10_init_0 15 rfl rfl)
theorem dX10_init_16 : decode cX10_init 16 = .ok (.iconst (-1), 1) := dk_2 (dk_at dksX10_init_0 16 rfl rfl)
theorem dX10_init_17 : decode cX10_init 17 = .ok (.putfield 18, 3) := dk_181 0 18 (dk_at dksX10_init_0 17 rfl rfl)
theorem dX10_init_20 : decode cX10_init 20 = .ok (.aload_n 0, 1) := dk_42 (dk_at dksX10_init_0 20 rfl rfl)
theorem dX10_init_21 : decode cX10_init 21 = .ok (.aload_n 1, 1) := dk_43 (dk_at dksX10_init_0 21 rfl rfl)
theorem dX10_init_22 : decode cX10_init 22 = .ok (.putfield 22, 3) := dk_181 0 22 (dk_at dksX10_init_1 0 rfl rfl)
theorem dX10_init_25 : decode cX10_init 25 = .ok (.return_, 1) := dk_177 (dk_at dksX10_init_1 3 rfl rfl)
abbrev cX10_termAt : ByteArray := prog_5_method_6_code
def yX10_termAt : MethodName := ⟨RX10, "termAt", "(I)I"⟩
def dkwX10_termAt_0 : List UInt8 := [27, 42, 180, 0, 48, 160, 0, 10, 42, 180, 0, 51, 167, 0, 11, 42, 27, 182, 0, 57, 180, 0, 61, 172]
abbrev dktX10_termAt_0 : List UInt8 := dkwX10_termAt_0 ++ []
theorem dksX10_termAt_0 : cX10_termAt.data.toList.drop 0 = dktX10_termAt_0 := by decide +kernel
theorem dX10_termAt_0 : decode cX10_termAt 0 = .ok (.iload_n 1, 1) := dk_27 (dk_at dksX10_termAt_0 0 rfl rfl)
theorem dX10_termAt_1 : decode cX10_termAt 1 = .ok (.aload_n 0, 1) := dk_42 (dk_at dksX10_termAt_0 1 rfl rfl)
theorem dX10_termAt_2 : decode cX10_termAt 2 = .ok (.getfield 48, 3) := dk_180 0 48 (dk_at dksX10_termAt_0 2 rfl rfl)
theorem dX10_termAt_5 : decode cX10_termAt 5 = .ok (.if_icmp .ne 10, 3) := dk_160 0 10 (dk_at dksX10_termAt_0 5 rfl rfl)
theorem dX10_termAt_8 : decode cX10_termAt 8 = .ok (.aload_n 0, 1) := dk_42 (dk_at dksX10_termAt_0 8 rfl rfl)
theorem dX10_termAt_9 : decode cX10_termAt 9 = .ok (.getfield 51, 3) := dk_180 0 51 (dk_at dksX10_termAt_0 9 rfl rfl)
theorem dX10_termAt_12 : decode cX10_termAt 12 = .ok (.goto 11, 3) := dk_167 0 11 (dk_at dksX10_termAt_0 12 rfl rfl)
theorem dX10_termAt_15 : decode cX10_termAt 15 = .ok (.aload_n 0, 1) := dk_42 (dk_at dksX10_termAt_0 15 rfl rfl)
theorem dX10_termAt_16 : decode cX10_termAt 16 = .ok (.iload_n 1, 1) := dk_27 (dk_at dksX10_termAt_0 16 rfl rfl)
theorem dX10_termAt_17 : decode cX10_termAt 17 = .ok (.invokevirtual 57, 3) := dk_182 0 57 (dk_at dksX10_termAt_0 17 rfl rfl)
theorem dX10_termAt_20 : decode cX10_termAt 20 = .ok (.getfield 61, 3) := dk_180 0 61 (dk_at dksX10_termAt_0 20 rfl rfl)
theorem dX10_termAt_23 : decode cX10_termAt 23 = .ok (.ireturn, 1) := dk_172 (dk_at dksX10_termAt_0 23 rfl rfl)
abbrev cX10_cutFrom : ByteArray := prog_5_method_7_code
def yX10_cutFrom : MethodName := ⟨RX10, "cutFrom", "(I)V"⟩
def dkwX10_cutFrom_1 : List UInt8 := [185, 0, 62, 2, 0, 87, 167, 255, 227, 177]
abbrev dktX10_cutFrom_1 : List UInt8 := dkwX10_cutFrom_1 ++ []
def dkwX10_cutFrom_0 : List UInt8 := [42, 182, 0, 54, 27, 161, 0, 27, 42, 180, 0, 12, 42, 180, 0, 12, 185, 0, 29, 1, 0, 4, 100]
abbrev dktX10_cutFrom_0 : List UInt8 := dkwX10_cutFrom_0 ++ dktX10_cutFrom_1
theorem dksX10_cutFrom_0 : cX10_cutFrom.data.toList.drop 0 = dktX10_cutFrom_0 := by decide +kernel
theorem dksX10_cutFrom_1 : cX10_cutFrom.data.toList.drop 23 = dktX10_cutFrom_1 := dk_seg dksX10_cutFrom_0 23 rfl rfl
theorem dX10_cutFrom_0 : decode cX10_cutFrom 0 = .ok (.aload_n 0, 1) := dk_42 (dk_at dksX10_cutFrom_0 0 rfl rfl)
theorem dX10_cutFrom_1 : decode cX10_cutFrom 1 = .ok (.invokevirtual 54, 3) := dk_182 0 54 (dk_at dksX10_cutFrom_0 1 rfl rfl)
theorem dX10_cutFrom_4 : decode cX10_cutFrom 4 = .ok (.iload_n 1, 1) := dk_27 (dk_at dksX10_cutFrom_0 4 rfl rfl)
theorem dX10_cutFrom_5 : decode cX10_cutFrom 5 = .ok (.if_icmp .lt 27, 3) := dk_161 0 27 (dk_at dksX10_cutFrom_0 5 rfl rfl)
theorem dX10_cutFrom_8 : decode cX10_cutFrom 8 = .ok (.aload_n 0, 1) := dk_42 (dk_at dksX10_cutFrom_0 8 rfl rfl)
theorem dX10_cutFrom_9 : decode cX10_cutFrom 9 = .ok (.getfield 12, 3) := dk_180 0 12 (dk_at dksX10_cutFrom_0 9 rfl rfl)
theorem dX10_cutFrom_12 : decode cX10_cutFrom 12 = .ok (.aload_n 0, 1) := dk_42 (dk_at dksX10_cutFrom_0 12 rfl rfl)
theorem dX10_cutFrom_13 : decode cX10_cutFrom 13 = .ok (.getfield 12, 3) := dk_180 0 12 (dk_at dksX10_cutFrom_0 13 rfl rfl)
theorem dX10_cutFrom_16 : decode cX10_cutFrom 16 = .ok (.invokeinterface 29 1, 5) := by decide +kernel
theorem dX10_cutFrom_21 : decode cX10_cutFrom 21 = .ok (.iconst 1, 1) := dk_4 (dk_at dksX10_cutFrom_0 21 rfl rfl)
theorem dX10_cutFrom_22 : decode cX10_cutFrom 22 = .ok (.isub, 1) := dk_100 (dk_at dksX10_cutFrom_0 22 rfl rfl)
theorem dX10_cutFrom_23 : decode cX10_cutFrom 23 = .ok (.invokeinterface 62 2, 5) := by decide +kernel
theorem dX10_cutFrom_28 : decode cX10_cutFrom 28 = .ok (.pop, 1) := dk_87 (dk_at dksX10_cutFrom_1 5 rfl rfl)
theorem dX10_cutFrom_29 : decode cX10_cutFrom 29 = .ok (.goto (-29), 3) := dk_167 255 227 (dk_at dksX10_cutFrom_1 6 rfl rfl)
theorem dX10_cutFrom_32 : decode cX10_cutFrom 32 = .ok (.return_, 1) := dk_177 (dk_at dksX10_cutFrom_1 9 rfl rfl)
abbrev cX10_begin : ByteArray := prog_5_method_8_code
def yX10_begin : MethodName := ⟨RX10, "begin", "(IILQuorumspire$Store;)V"⟩
def dkwX10_begin_2 : List UInt8 := [42, 27, 181, 0, 48, 42, 28, 181, 0, 51, 42, 45, 181, 0, 22, 177]
abbrev dktX10_begin_2 : List UInt8 := dkwX10_begin_2 ++ []
def dkwX10_begin_1 : List UInt8 := [21, 5, 21, 4, 162, 0, 20, 42, 180, 0, 12, 3, 185, 0, 62, 2, 0, 87, 132, 5, 1, 167, 255, 235]
abbrev dktX10_begin_1 : List UInt8 := dkwX10_begin_1 ++ dktX10_begin_2
def dkwX10_begin_0 : List UInt8 := [42, 180, 0, 12, 185, 0, 29, 1, 0, 27, 42, 180, 0, 48, 100, 184, 0, 65, 54, 4, 3, 54, 5]
abbrev dktX10_begin_0 : List UInt8 := dkwX10_begin_0 ++ dktX10_begin_1
theorem dksX10_begin_0 : cX10_begin.data.toList.drop 0 = dktX10_begin_0 := by decide +kernel
theorem dksX10_begin_1 : cX10_begin.data.toList.drop 23 = dktX10_begin_1 := dk_seg dksX10_begin_0 23 rfl rfl
theorem dksX10_begin_2 : cX10_begin.data.toList.drop 47 = dktX10_begin_2 := dk_seg dksX10_begin_1 24 rfl rfl
theorem dX10_begin_0 : decode cX10_begin 0 = .ok (.aload_n 0, 1) := dk_42 (dk_at dksX10_begin_0 0 rfl rfl)
theorem dX10_begin_1 : decode cX10_begin 1 = .ok (.getfield 12, 3) := dk_180 0 12 (dk_at dksX10_begin_0 1 rfl rfl)
theorem dX10_begin_4 : decode cX10_begin 4 = .ok (.invokeinterface 29 1, 5) := by decide +kernel
theorem dX10_begin_9 : decode cX10_begin 9 = .ok (.iload_n 1, 1) := dk_27 (dk_at dksX10_begin_0 9 rfl rfl)
theorem dX10_begin_10 : decode cX10_begin 10 = .ok (.aload_n 0, 1) := dk_42 (dk_at dksX10_begin_0 10 rfl rfl)
theorem dX10_begin_11 : decode cX10_begin 11 = .ok (.getfield 48, 3) := dk_180 0 48 (dk_at dksX10_begin_0 11 rfl rfl)
theorem dX10_begin_14 : decode cX10_begin 14 = .ok (.isub, 1) := dk_100 (dk_at dksX10_begin_0 14 rfl rfl)
theorem dX10_begin_15 : decode cX10_begin 15 = .ok (.invokestatic 65, 3) := dk_184 0 65 (dk_at dksX10_begin_0 15 rfl rfl)
theorem dX10_begin_18 : decode cX10_begin 18 = .ok (.istore 4, 2) := dk_54 4 (dk_at dksX10_begin_0 18 rfl rfl)
theorem dX10_begin_20 : decode cX10_begin 20 = .ok (.iconst 0, 1) := dk_3 (dk_at dksX10_begin_0 20 rfl rfl)
theorem dX10_begin_21 : decode cX10_begin 21 = .ok (.istore 5, 2) := dk_54 5 (dk_at dksX10_begin_0 21 rfl rfl)
theorem dX10_begin_23 : decode cX10_begin 23 = .ok (.iload 5, 2) := dk_21 5 (dk_at dksX10_begin_1 0 rfl rfl)
theorem dX10_begin_25 : decode cX10_begin 25 = .ok (.iload 4, 2) := dk_21 4 (dk_at dksX10_begin_1 2 rfl rfl)
theorem dX10_begin_27 : decode cX10_begin 27 = .ok (.if_icmp .ge 20, 3) := dk_162 0 20 (dk_at dksX10_begin_1 4 rfl rfl)
theorem dX10_begin_30 : decode cX10_begin 30 = .ok (.aload_n 0, 1) := dk_42 (dk_at dksX10_begin_1 7 rfl rfl)
theorem dX10_begin_31 : decode cX10_begin 31 = .ok (.getfield 12, 3) := dk_180 0 12 (dk_at dksX10_begin_1 8 rfl rfl)
theorem dX10_begin_34 : decode cX10_begin 34 = .ok (.iconst 0, 1) := dk_3 (dk_at dksX10_begin_1 11 rfl rfl)
theorem dX10_begin_35 : decode cX10_begin 35 = .ok (.invokeinterface 62 2, 5) := by decide +kernel
theorem dX10_begin_40 : decode cX10_begin 40 = .ok (.pop, 1) := dk_87 (dk_at dksX10_begin_1 17 rfl rfl)
theorem dX10_begin_41 : decode cX10_begin 41 = .ok (.iinc 5 1, 3) := dk_132 5 1 (dk_at dksX10_begin_1 18 rfl rfl)
theorem dX10_begin_44 : decode cX10_begin 44 = .ok (.goto (-21), 3) := dk_167 255 235 (dk_at dksX10_begin_1 21 rfl rfl)
theorem dX10_begin_47 : decode cX10_begin 47 = .ok (.aload_n 0, 1) := dk_42 (dk_at dksX10_begin_2 0 rfl rfl)
theorem dX10_begin_48 : decode cX10_begin 48 = .ok (.iload_n 1, 1) := dk_27 (dk_at dksX10_begin_2 1 rfl rfl)
theorem dX10_begin_49 : decode cX10_begin 49 = .ok (.putfield 48, 3) := dk_181 0 48 (dk_at dksX10_begin_2 2 rfl rfl)
theorem dX10_begin_52 : decode cX10_begin 52 = .ok (.aload_n 0, 1) := dk_42 (dk_at dksX10_begin_2 5 rfl rfl)
theorem dX10_begin_53 : decode cX10_begin 53 = .ok (.iload_n 2, 1) := dk_28 (dk_at dksX10_begin_2 6 rfl rfl)
theorem dX10_begin_54 : decode cX10_begin 54 = .ok (.putfield 51, 3) := dk_181 0 51 (dk_at dksX10_begin_2 7 rfl rfl)
theorem dX10_begin_57 : decode cX10_begin 57 = .ok (.aload_n 0, 1) := dk_42 (dk_at dksX10_begin_2 10 rfl rfl)
theorem dX10_begin_58 : decode cX10_begin 58 = .ok (.aload_n 3, 1) := dk_45 (dk_at dksX10_begin_2 11 rfl rfl)
theorem dX10_begin_59 : decode cX10_begin 59 = .ok (.putfield 22, 3) := dk_181 0 22 (dk_at dksX10_begin_2 12 rfl rfl)
theorem dX10_begin_62 : decode cX10_begin 62 = .ok (.return_, 1) := dk_177 (dk_at dksX10_begin_2 15 rfl rfl)
abbrev cX10_has : ByteArray := prog_5_method_4_code
def yX10_has : MethodName := ⟨RX10, "has", "(I)Z"⟩
def dkwX10_has_0 : List UInt8 := [27, 42, 180, 0, 48, 164, 0, 15, 27, 42, 182, 0, 54, 163, 0, 7, 4, 167, 0, 4, 3, 172]
abbrev dktX10_has_0 : List UInt8 := dkwX10_has_0 ++ []
theorem dksX10_has_0 : cX10_has.data.toList.drop 0 = dktX10_has_0 := by decide +kernel
theorem dX10_has_0 : decode cX10_has 0 = .ok (.iload_n 1, 1) := dk_27 (dk_at dksX10_has_0 0 rfl rfl)
theorem dX10_has_1 : decode cX10_has 1 = .ok (.aload_n 0, 1) := dk_42 (dk_at dksX10_has_0 1 rfl rfl)
theorem dX10_has_2 : decode cX10_has 2 = .ok (.getfield 48, 3) := dk_180 0 48 (dk_at dksX10_has_0 2 rfl rfl)
theorem dX10_has_5 : decode cX10_has 5 = .ok (.if_icmp .le 15, 3) := dk_164 0 15 (dk_at dksX10_has_0 5 rfl rfl)
theorem dX10_has_8 : decode cX10_has 8 = .ok (.iload_n 1, 1) := dk_27 (dk_at dksX10_has_0 8 rfl rfl)
theorem dX10_has_9 : decode cX10_has 9 = .ok (.aload_n 0, 1) := dk_42 (dk_at dksX10_has_0 9 rfl rfl)
theorem dX10_has_10 : decode cX10_has 10 = .ok (.invokevirtual 54, 3) := dk_182 0 54 (dk_at dksX10_has_0 10 rfl rfl)
theorem dX10_has_13 : decode cX10_has 13 = .ok (.if_icmp .gt 7, 3) := dk_163 0 7 (dk_at dksX10_has_0 13 rfl rfl)
theorem dX10_has_16 : decode cX10_has 16 = .ok (.iconst 1, 1) := dk_4 (dk_at dksX10_has_0 16 rfl rfl)
theorem dX10_has_17 : decode cX10_has 17 = .ok (.goto 4, 3) := dk_167 0 4 (dk_at dksX10_has_0 17 rfl rfl)
theorem dX10_has_20 : decode cX10_has 20 = .ok (.iconst 0, 1) := dk_3 (dk_at dksX10_has_0 20 rfl rfl)
theorem dX10_has_21 : decode cX10_has 21 = .ok (.ireturn, 1) := dk_172 (dk_at dksX10_has_0 21 rfl rfl)
theorem q85 : (Jvm.Cond.initialized "Quorumspire$Log") ∈ lw_all := lw_g (lw_at lw_m1 17 rfl) rfl
theorem q236 : (Jvm.Cond.instanceMethod ({ cls := "Quorumspire$Log", name := "last", desc := "()I" } : Jvm.MethodName)) ∈ lw_all := lw_g (lw_at lw_m1 168 rfl) rfl
theorem q237 : (Jvm.Cond.selects "Quorumspire$Log" ({ cls := "Quorumspire$Log", name := "last", desc := "()I" } : Jvm.MethodName) ({ cls := "Quorumspire$Log", name := "last", desc := "()I" } : Jvm.MethodName)) ∈ lw_all := lw_g (lw_at lw_m1 169 rfl) rfl
theorem q238 : (Jvm.Cond.code ({ cls := "Quorumspire$Log", name := "last", desc := "()I" } : Jvm.MethodName) prog_5_method_3_code (1 : Nat) (Option.some Jvm.ClassFile.FieldType.int)) ∈ lw_all := lw_g (lw_at lw_m1 170 rfl) rfl
theorem q239 : (Jvm.Cond.interfaceEntry "Quorumspire$Log" (29 : Nat)) ∈ lw_tbl := lw_at lw_m1 171 rfl
theorem q240 : (Jvm.Cond.methodLink "Quorumspire$Log" (29 : Nat) ({ cls := "java/util/List", name := "size", desc := "()I" } : Jvm.MethodName)) ∈ lw_all := lw_g (lw_at lw_m1 172 rfl) rfl
theorem q249 : (Jvm.Cond.instanceMethod ({ cls := "Quorumspire$Log", name := "at", desc := "(I)LQuorumspire$Entry;" } : Jvm.MethodName)) ∈ lw_all := lw_g (lw_at lw_m1 181 rfl) rfl
theorem q250 : (Jvm.Cond.selects "Quorumspire$Log" ({ cls := "Quorumspire$Log", name := "at", desc := "(I)LQuorumspire$Entry;" } : Jvm.MethodName) ({ cls := "Quorumspire$Log", name := "at", desc := "(I)LQuorumspire$Entry;" } : Jvm.MethodName)) ∈ lw_all := lw_g (lw_at lw_m1 182 rfl) rfl
theorem q251 : (Jvm.Cond.code ({ cls := "Quorumspire$Log", name := "at", desc := "(I)LQuorumspire$Entry;" } : Jvm.MethodName) prog_5_method_5_code (2 : Nat) (Option.some (Jvm.ClassFile.FieldType.object "Quorumspire$Entry"))) ∈ lw_all := lw_g (lw_at lw_m1 183 rfl) rfl
theorem q252 : (Jvm.Cond.interfaceEntry "Quorumspire$Log" (35 : Nat)) ∈ lw_tbl := lw_at lw_m1 184 rfl
theorem q253 : (Jvm.Cond.methodLink "Quorumspire$Log" (35 : Nat) ({ cls := "java/util/List", name := "get", desc := "(I)Ljava/lang/Object;" } : Jvm.MethodName)) ∈ lw_all := lw_g (lw_at lw_m1 185 rfl) rfl
theorem q254 : (Jvm.Cond.classLink "Quorumspire$Log" (39 : Nat) "Quorumspire$Entry") ∈ lw_all := lw_g (lw_at lw_m1 186 rfl) rfl
theorem q650 : (Jvm.Cond.selects "Quorumspire$Log" ({ cls := "java/lang/Object", name := "getClass", desc := "()Ljava/lang/Class;" } : Jvm.MethodName) ({ cls := "java/lang/Object", name := "getClass", desc := "()Ljava/lang/Class;" } : Jvm.MethodName)) ∈ lw_all := lw_g (lw_at lw_m3 102 rfl) rfl
theorem q828 : (Jvm.Cond.instanceMethod ({ cls := "Quorumspire$Log", name := "copy", desc := "()LQuorumspire$Log;" } : Jvm.MethodName)) ∈ lw_all := lw_g (lw_at lw_m4 40 rfl) rfl
theorem q829 : (Jvm.Cond.selects "Quorumspire$Log" ({ cls := "Quorumspire$Log", name := "copy", desc := "()LQuorumspire$Log;" } : Jvm.MethodName) ({ cls := "Quorumspire$Log", name := "copy", desc := "()LQuorumspire$Log;" } : Jvm.MethodName)) ∈ lw_all := lw_g (lw_at lw_m4 41 rfl) rfl
theorem q830 : (Jvm.Cond.code ({ cls := "Quorumspire$Log", name := "copy", desc := "()LQuorumspire$Log;" } : Jvm.MethodName) prog_5_method_2_code (3 : Nat) (Option.some (Jvm.ClassFile.FieldType.object "Quorumspire$Log"))) ∈ lw_all := lw_g (lw_at lw_m4 42 rfl) rfl
theorem q831 : (Jvm.Cond.classLink "Quorumspire$Log" (13 : Nat) "Quorumspire$Log") ∈ lw_all := lw_g (lw_at lw_m4 43 rfl) rfl
theorem q832 : (Jvm.Cond.instantiable "Quorumspire$Log" (6 : Nat)) ∈ lw_all := lw_g (lw_at lw_m4 44 rfl) rfl
theorem q833 : (Jvm.Cond.methodLink "Quorumspire$Log" (26 : Nat) ({ cls := "Quorumspire$Log", name := "<init>", desc := "(LQuorumspire$Store;)V" } : Jvm.MethodName)) ∈ lw_all := lw_g (lw_at lw_m4 45 rfl) rfl
theorem q834 : (Jvm.Cond.instanceMethod ({ cls := "Quorumspire$Log", name := "<init>", desc := "(LQuorumspire$Store;)V" } : Jvm.MethodName)) ∈ lw_all := lw_g (lw_at lw_m4 46 rfl) rfl
theorem q835 : (Jvm.Cond.code ({ cls := "Quorumspire$Log", name := "<init>", desc := "(LQuorumspire$Store;)V" } : Jvm.MethodName) prog_5_method_1_code (2 : Nat) (Option.none : Option Jvm.ClassFile.FieldType)) ∈ lw_all := lw_g (lw_at lw_m4 47 rfl) rfl
theorem q836 : (Jvm.Cond.methodLink "Quorumspire$Log" (3 : Nat) ({ cls := "java/lang/Object", name := "<init>", desc := "()V" } : Jvm.MethodName)) ∈ lw_all := lw_g (lw_at lw_m4 48 rfl) rfl
theorem q837 : (Jvm.Cond.classLink "Quorumspire$Log" (9 : Nat) "java/util/ArrayList") ∈ lw_all := lw_g (lw_at lw_m4 49 rfl) rfl
theorem q838 : (Jvm.Cond.methodLink "Quorumspire$Log" (11 : Nat) ({ cls := "java/util/ArrayList", name := "<init>", desc := "()V" } : Jvm.MethodName)) ∈ lw_all := lw_g (lw_at lw_m4 50 rfl) rfl
theorem q839 : (Jvm.Cond.fieldLink "Quorumspire$Log" (12 : Nat) "Quorumspire$Log" "entries" "Ljava/util/List;") ∈ lw_all := lw_g (lw_at lw_m4 51 rfl) rfl
theorem q843 : (Jvm.Cond.fieldLink "Quorumspire$Log" (45 : Nat) "Quorumspire$Log" "term" "I") ∈ lw_all := lw_g (lw_at lw_m4 55 rfl) rfl
theorem q847 : (Jvm.Cond.fieldLink "Quorumspire$Log" (18 : Nat) "Quorumspire$Log" "vote" "I") ∈ lw_all := lw_g (lw_at lw_m4 59 rfl) rfl
theorem q850 : (Jvm.Cond.fieldLink "Quorumspire$Log" (48 : Nat) "Quorumspire$Log" "base" "I") ∈ lw_all := lw_g (lw_at lw_m4 62 rfl) rfl
theorem q854 : (Jvm.Cond.fieldLink "Quorumspire$Log" (51 : Nat) "Quorumspire$Log" "baseTerm" "I") ∈ lw_all := lw_g (lw_at lw_m4 66 rfl) rfl
theorem q856 : (Jvm.Cond.fieldLink "Quorumspire$Log" (22 : Nat) "Quorumspire$Log" "snapshot" "LQuorumspire$Store;") ∈ lw_all := lw_g (lw_at lw_m4 68 rfl) rfl
theorem q859 : (Jvm.Cond.laysFinal "Quorumspire$Log" "Quorumspire$Log" "entries" "Ljava/util/List;") ∈ lw_all := lw_g (lw_at lw_m4 71 rfl) rfl
theorem q860 : (Jvm.Cond.soleField "Quorumspire$Log" "entries") ∈ lw_all := lw_g (lw_at lw_m4 72 rfl) rfl
theorem q861 : (Jvm.Cond.lays "Quorumspire$Log" "Quorumspire$Log" "term" "I") ∈ lw_all := lw_g (lw_at lw_m4 73 rfl) rfl
theorem q862 : (Jvm.Cond.soleField "Quorumspire$Log" "term") ∈ lw_all := lw_g (lw_at lw_m4 74 rfl) rfl
theorem q863 : (Jvm.Cond.lays "Quorumspire$Log" "Quorumspire$Log" "vote" "I") ∈ lw_all := lw_g (lw_at lw_m4 75 rfl) rfl
theorem q864 : (Jvm.Cond.soleField "Quorumspire$Log" "vote") ∈ lw_all := lw_g (lw_at lw_m4 76 rfl) rfl
theorem q865 : (Jvm.Cond.lays "Quorumspire$Log" "Quorumspire$Log" "base" "I") ∈ lw_all := lw_g (lw_at lw_m4 77 rfl) rfl
theorem q866 : (Jvm.Cond.soleField "Quorumspire$Log" "base") ∈ lw_all := lw_g (lw_at lw_m4 78 rfl) rfl
theorem q867 : (Jvm.Cond.lays "Quorumspire$Log" "Quorumspire$Log" "baseTerm" "I") ∈ lw_all := lw_g (lw_at lw_m4 79 rfl) rfl
theorem q868 : (Jvm.Cond.soleField "Quorumspire$Log" "baseTerm") ∈ lw_all := lw_g (lw_at lw_m4 80 rfl) rfl
theorem q869 : (Jvm.Cond.lays "Quorumspire$Log" "Quorumspire$Log" "snapshot" "LQuorumspire$Store;") ∈ lw_all := lw_g (lw_at lw_m4 81 rfl) rfl
theorem q870 : (Jvm.Cond.soleField "Quorumspire$Log" "snapshot") ∈ lw_all := lw_g (lw_at lw_m4 82 rfl) rfl
theorem q871 : (Jvm.Cond.superclass "Quorumspire$Log" "java/lang/Object") ∈ lw_all := lw_g (lw_at lw_m4 83 rfl) rfl
theorem q872 : (Jvm.Cond.interfaceEntry "Quorumspire$Log" (41 : Nat)) ∈ lw_tbl := lw_at lw_m4 84 rfl
theorem q873 : (Jvm.Cond.methodLink "Quorumspire$Log" (41 : Nat) ({ cls := "java/util/List", name := "add", desc := "(Ljava/lang/Object;)Z" } : Jvm.MethodName)) ∈ lw_all := lw_g (lw_at lw_m4 85 rfl) rfl
theorem q1045 : (Jvm.Cond.instanceMethod ({ cls := "Quorumspire$Log", name := "termAt", desc := "(I)I" } : Jvm.MethodName)) ∈ lw_all := lw_g (lw_at lw_m5 17 rfl) rfl
theorem q1046 : (Jvm.Cond.selects "Quorumspire$Log" ({ cls := "Quorumspire$Log", name := "termAt", desc := "(I)I" } : Jvm.MethodName) ({ cls := "Quorumspire$Log", name := "termAt", desc := "(I)I" } : Jvm.MethodName)) ∈ lw_all := lw_g (lw_at lw_m5 18 rfl) rfl
theorem q1047 : (Jvm.Cond.code ({ cls := "Quorumspire$Log", name := "termAt", desc := "(I)I" } : Jvm.MethodName) prog_5_method_6_code (2 : Nat) (Option.some Jvm.ClassFile.FieldType.int)) ∈ lw_all := lw_g (lw_at lw_m5 19 rfl) rfl
theorem q1048 : (Jvm.Cond.methodLink "Quorumspire$Log" (57 : Nat) ({ cls := "Quorumspire$Log", name := "at", desc := "(I)LQuorumspire$Entry;" } : Jvm.MethodName)) ∈ lw_all := lw_g (lw_at lw_m5 20 rfl) rfl
theorem q1117 : (Jvm.Cond.fieldLinkNest "Quorumspire$Log" (61 : Nat) "Quorumspire$Entry" "term" "I" "Quorumspire") ∈ lw_tbl := lw_at lw_m5 89 rfl
theorem q1231 : (Jvm.Cond.instanceMethod ({ cls := "Quorumspire$Log", name := "cutFrom", desc := "(I)V" } : Jvm.MethodName)) ∈ lw_all := lw_g (lw_at lw_m5 203 rfl) rfl
theorem q1232 : (Jvm.Cond.selects "Quorumspire$Log" ({ cls := "Quorumspire$Log", name := "cutFrom", desc := "(I)V" } : Jvm.MethodName) ({ cls := "Quorumspire$Log", name := "cutFrom", desc := "(I)V" } : Jvm.MethodName)) ∈ lw_all := lw_g (lw_at lw_m5 204 rfl) rfl
theorem q1233 : (Jvm.Cond.code ({ cls := "Quorumspire$Log", name := "cutFrom", desc := "(I)V" } : Jvm.MethodName) prog_5_method_7_code (2 : Nat) (Option.none : Option Jvm.ClassFile.FieldType)) ∈ lw_all := lw_g (lw_at lw_m5 205 rfl) rfl
theorem q1234 : (Jvm.Cond.methodLink "Quorumspire$Log" (54 : Nat) ({ cls := "Quorumspire$Log", name := "last", desc := "()I" } : Jvm.MethodName)) ∈ lw_all := lw_g (lw_at lw_m5 206 rfl) rfl
theorem q1235 : (Jvm.Cond.interfaceEntry "Quorumspire$Log" (62 : Nat)) ∈ lw_tbl := lw_at lw_m5 207 rfl
theorem q1236 : (Jvm.Cond.methodLink "Quorumspire$Log" (62 : Nat) ({ cls := "java/util/List", name := "remove", desc := "(I)Ljava/lang/Object;" } : Jvm.MethodName)) ∈ lw_all := lw_g (lw_at lw_m5 208 rfl) rfl
theorem q1238 : (Jvm.Cond.instanceMethod ({ cls := "Quorumspire$Log", name := "begin", desc := "(IILQuorumspire$Store;)V" } : Jvm.MethodName)) ∈ lw_all := lw_g (lw_at lw_m5 210 rfl) rfl
theorem q1239 : (Jvm.Cond.selects "Quorumspire$Log" ({ cls := "Quorumspire$Log", name := "begin", desc := "(IILQuorumspire$Store;)V" } : Jvm.MethodName) ({ cls := "Quorumspire$Log", name := "begin", desc := "(IILQuorumspire$Store;)V" } : Jvm.MethodName)) ∈ lw_all := lw_g (lw_at lw_m5 211 rfl) rfl
theorem q1240 : (Jvm.Cond.code ({ cls := "Quorumspire$Log", name := "begin", desc := "(IILQuorumspire$Store;)V" } : Jvm.MethodName) prog_5_method_8_code (6 : Nat) (Option.none : Option Jvm.ClassFile.FieldType)) ∈ lw_all := lw_g (lw_at lw_m5 212 rfl) rfl
theorem q1241 : (Jvm.Cond.methodLink "Quorumspire$Log" (65 : Nat) ({ cls := "java/lang/Math", name := "min", desc := "(II)I" } : Jvm.MethodName)) ∈ lw_all := lw_g (lw_at lw_m5 213 rfl) rfl
theorem q1251 : (Jvm.Cond.instanceMethod ({ cls := "Quorumspire$Log", name := "has", desc := "(I)Z" } : Jvm.MethodName)) ∈ lw_all := lw_g (lw_at lw_m5 223 rfl) rfl
theorem q1252 : (Jvm.Cond.selects "Quorumspire$Log" ({ cls := "Quorumspire$Log", name := "has", desc := "(I)Z" } : Jvm.MethodName) ({ cls := "Quorumspire$Log", name := "has", desc := "(I)Z" } : Jvm.MethodName)) ∈ lw_all := lw_g (lw_at lw_m5 224 rfl) rfl
theorem q1253 : (Jvm.Cond.code ({ cls := "Quorumspire$Log", name := "has", desc := "(I)Z" } : Jvm.MethodName) prog_5_method_4_code (2 : Nat) (Option.some Jvm.ClassFile.FieldType.boolean)) ∈ lw_all := lw_g (lw_at lw_m5 225 rfl) rfl
theorem q2267 : (Jvm.Cond.selects "Quorumspire$Log" ({ cls := "java/lang/Object", name := "equals", desc := "(Ljava/lang/Object;)Z" } : Jvm.MethodName) ({ cls := "java/lang/Object", name := "equals", desc := "(Ljava/lang/Object;)Z" } : Jvm.MethodName)) ∈ lw_all := lw_g (lw_at lw_m10 39 rfl) rfl
theorem q2428 : (Jvm.Cond.castable "Quorumspire$Log" "java/lang/Object") ∈ lw_tbl := lw_at lw_m10 200 rfl
theorem in_X10 : ∀ w ∈ wsX100, w ∈ lw_all := lw_in wsX100 [859, 861, 863, 865, 867, 869] (by decide +kernel) (by decide +kernel)
/-! Quorumspire$Kind -/
set_option maxRecDepth 100000
def RX11 : String := "Quorumspire$Kind"
abbrev cX11_values : ByteArray := prog_4_method_1_code
def yX11_values : MethodName := ⟨RX11, "values", "()[LQuorumspire$Kind;"⟩
def dkwX11_values_0 : List UInt8 := [178, 0, 22, 182, 0, 26, 192, 0, 27, 176]
abbrev dktX11_values_0 : List UInt8 := dkwX11_values_0 ++ []
theorem dksX11_values_0 : cX11_values.data.toList.drop 0 = dktX11_values_0 := by decide +kernel
theorem dX11_values_0 : decode cX11_values 0 = .ok (.getstatic 22, 3) := dk_178 0 22 (dk_at dksX11_values_0 0 rfl rfl)
theorem dX11_values_3 : decode cX11_values 3 = .ok (.invokevirtual 26, 3) := dk_182 0 26 (dk_at dksX11_values_0 3 rfl rfl)
theorem dX11_values_6 : decode cX11_values 6 = .ok (.checkcast 27, 3) := dk_192 0 27 (dk_at dksX11_values_0 6 rfl rfl)
theorem dX11_values_9 : decode cX11_values 9 = .ok (.areturn, 1) := dk_176 (dk_at dksX11_values_0 9 rfl rfl)
theorem q92 : (Jvm.Cond.initialized "Quorumspire$Kind") ∈ lw_all := lw_g (lw_at lw_m1 24 rfl) rfl
theorem q277 : (Jvm.Cond.laysStatic "Quorumspire$Kind" "PUT" "LQuorumspire$Kind;") ∈ lw_tbl := lw_at lw_m1 209 rfl
theorem q279 : (Jvm.Cond.laysStatic "Quorumspire$Kind" "GET" "LQuorumspire$Kind;") ∈ lw_tbl := lw_at lw_m1 211 rfl
theorem q281 : (Jvm.Cond.laysStatic "Quorumspire$Kind" "SWAP" "LQuorumspire$Kind;") ∈ lw_tbl := lw_at lw_m1 213 rfl
theorem q649 : (Jvm.Cond.selects "Quorumspire$Kind" ({ cls := "java/lang/Object", name := "getClass", desc := "()Ljava/lang/Class;" } : Jvm.MethodName) ({ cls := "java/lang/Object", name := "getClass", desc := "()Ljava/lang/Class;" } : Jvm.MethodName)) ∈ lw_all := lw_g (lw_at lw_m3 101 rfl) rfl
theorem q731 : (Jvm.Cond.laysStatic "Quorumspire$Kind" "LOCK" "LQuorumspire$Kind;") ∈ lw_tbl := lw_at lw_m3 183 rfl
theorem q809 : (Jvm.Cond.sameMethod "Quorumspire$Kind" "java/lang/Enum" "ordinal" "()I") ∈ lw_all := lw_g (lw_at lw_m4 21 rfl) rfl
theorem q810 : (Jvm.Cond.selects "Quorumspire$Kind" ({ cls := "Quorumspire$Kind", name := "ordinal", desc := "()I" } : Jvm.MethodName) ({ cls := "java/lang/Enum", name := "ordinal", desc := "()I" } : Jvm.MethodName)) ∈ lw_all := lw_g (lw_at lw_m4 22 rfl) rfl
theorem q1320 : (Jvm.Cond.static ({ cls := "Quorumspire$Kind", name := "values", desc := "()[LQuorumspire$Kind;" } : Jvm.MethodName)) ∈ lw_all := lw_g (lw_at lw_m6 52 rfl) rfl
theorem q1321 : (Jvm.Cond.code ({ cls := "Quorumspire$Kind", name := "values", desc := "()[LQuorumspire$Kind;" } : Jvm.MethodName) prog_4_method_1_code (0 : Nat) (Option.some (Jvm.ClassFile.FieldType.array (Jvm.ClassFile.FieldType.object "Quorumspire$Kind")))) ∈ lw_all := lw_g (lw_at lw_m6 53 rfl) rfl
theorem q1322 : (Jvm.Cond.fieldLink "Quorumspire$Kind" (22 : Nat) "Quorumspire$Kind" "$VALUES" "[LQuorumspire$Kind;") ∈ lw_all := lw_g (lw_at lw_m6 54 rfl) rfl
theorem q1323 : (Jvm.Cond.laysStatic "Quorumspire$Kind" "$VALUES" "[LQuorumspire$Kind;") ∈ lw_tbl := lw_at lw_m6 55 rfl
theorem q1324 : (Jvm.Cond.methodLink "Quorumspire$Kind" (26 : Nat) ({ cls := "[LQuorumspire$Kind;", name := "clone", desc := "()Ljava/lang/Object;" } : Jvm.MethodName)) ∈ lw_all := lw_g (lw_at lw_m6 56 rfl) rfl
theorem q1329 : (Jvm.Cond.classLink "Quorumspire$Kind" (27 : Nat) "[LQuorumspire$Kind;") ∈ lw_all := lw_g (lw_at lw_m6 61 rfl) rfl
theorem q2264 : (Jvm.Cond.selects "Quorumspire$Kind" ({ cls := "java/lang/Object", name := "equals", desc := "(Ljava/lang/Object;)Z" } : Jvm.MethodName) ({ cls := "java/lang/Enum", name := "equals", desc := "(Ljava/lang/Object;)Z" } : Jvm.MethodName)) ∈ lw_all := lw_g (lw_at lw_m10 36 rfl) rfl
theorem q2416 : (Jvm.Cond.castable "Quorumspire$Kind" "java/lang/Object") ∈ lw_tbl := lw_at lw_m10 188 rfl
theorem q2453 : (Jvm.Cond.laysStatic "Quorumspire$Kind" "FREE" "LQuorumspire$Kind;") ∈ lw_tbl := lw_at lw_m10 225 rfl
theorem q2454 : (Jvm.Cond.laysStatic "Quorumspire$Kind" "PASS" "LQuorumspire$Kind;") ∈ lw_tbl := lw_at lw_m10 226 rfl
/-! Quorumspire$Request -/
set_option maxRecDepth 100000
def RX12 : String := "Quorumspire$Request"
def TX12 : u_T := fun k => match k with
  | 0 => ("Quorumspire$Request", "client", "I", true)
  | 1 => ("Quorumspire$Request", "kind", "LQuorumspire$Kind;", true)
  | 2 => ("Quorumspire$Request", "key", "I", true)
  | 3 => ("Quorumspire$Request", "a", "I", true)
  | 4 => ("Quorumspire$Request", "b", "I", true)
  | 5 => ("Quorumspire$Request", "result", "I", false)
  | 6 => ("Quorumspire$Request", "sent", "I", false)
  | 7 => ("Quorumspire$Request", "answered", "I", false)
  | _ => ("Quorumspire$Request", "sendings", "I", false)
def tyX12 : Nat → FieldType := fun k => match k with
  | 0 => .int
  | 1 => .object "Quorumspire$Kind"
  | 2 => .int
  | 3 => .int
  | 4 => .int
  | 5 => .int
  | 6 => .int
  | 7 => .int
  | _ => .int
abbrev wsX120 : List Cond := u_ws RX12 TX12 9
theorem nmX12 : ∀ a, a < 9 → ∀ b, b < 9 → a ≠ b → (TX12 a).2.1 ≠ (TX12 b).2.1 := by decide +kernel
theorem tyX12_ok : ∀ k, k < 9 → parseFieldDescriptor (TX12 k).2.2.1 = some (tyX12 k) := by decide +kernel
abbrev cX12_isOfValue : ByteArray := prog_9_method_5_code
def yX12_isOfValue : MethodName := ⟨RX12, "isOfValue", "()Z"⟩
def dkwX12_isOfValue_1 : List UInt8 := [178, 0, 51, 166, 0, 7, 4, 167, 0, 4, 3, 172]
abbrev dktX12_isOfValue_1 : List UInt8 := dkwX12_isOfValue_1 ++ []
def dkwX12_isOfValue_0 : List UInt8 := [42, 180, 0, 24, 178, 0, 43, 165, 0, 23, 42, 180, 0, 24, 178, 0, 48, 165, 0, 13, 42, 180, 0, 24]
abbrev dktX12_isOfValue_0 : List UInt8 := dkwX12_isOfValue_0 ++ dktX12_isOfValue_1
theorem dksX12_isOfValue_0 : cX12_isOfValue.data.toList.drop 0 = dktX12_isOfValue_0 := by decide +kernel
theorem dksX12_isOfValue_1 : cX12_isOfValue.data.toList.drop 24 = dktX12_isOfValue_1 := dk_seg dksX12_isOfValue_0 24 rfl rfl
theorem dX12_isOfValue_0 : decode cX12_isOfValue 0 = .ok (.aload_n 0, 1) := dk_42 (dk_at dksX12_isOfValue_0 0 rfl rfl)
theorem dX12_isOfValue_1 : decode cX12_isOfValue 1 = .ok (.getfield 24, 3) := dk_180 0 24 (dk_at dksX12_isOfValue_0 1 rfl rfl)
theorem dX12_isOfValue_4 : decode cX12_isOfValue 4 = .ok (.getstatic 43, 3) := dk_178 0 43 (dk_at dksX12_isOfValue_0 4 rfl rfl)
theorem dX12_isOfValue_7 : decode cX12_isOfValue 7 = .ok (.if_acmp .eq 23, 3) := dk_165 0 23 (dk_at dksX12_isOfValue_0 7 rfl rfl)
theorem dX12_isOfValue_10 : decode cX12_isOfValue 10 = .ok (.aload_n 0, 1) := dk_42 (dk_at dksX12_isOfValue_0 10 rfl rfl)
theorem dX12_isOfValue_11 : decode cX12_isOfValue 11 = .ok (.getfield 24, 3) := dk_180 0 24 (dk_at dksX12_isOfValue_0 11 rfl rfl)
theorem dX12_isOfValue_14 : decode cX12_isOfValue 14 = .ok (.getstatic 48, 3) := dk_178 0 48 (dk_at dksX12_isOfValue_0 14 rfl rfl)
theorem dX12_isOfValue_17 : decode cX12_isOfValue 17 = .ok (.if_acmp .eq 13, 3) := dk_165 0 13 (dk_at dksX12_isOfValue_0 17 rfl rfl)
theorem dX12_isOfValue_20 : decode cX12_isOfValue 20 = .ok (.aload_n 0, 1) := dk_42 (dk_at dksX12_isOfValue_0 20 rfl rfl)
theorem dX12_isOfValue_21 : decode cX12_isOfValue 21 = .ok (.getfield 24, 3) := dk_180 0 24 (dk_at dksX12_isOfValue_0 21 rfl rfl)
theorem dX12_isOfValue_24 : decode cX12_isOfValue 24 = .ok (.getstatic 51, 3) := dk_178 0 51 (dk_at dksX12_isOfValue_1 0 rfl rfl)
theorem dX12_isOfValue_27 : decode cX12_isOfValue 27 = .ok (.if_acmp .ne 7, 3) := dk_166 0 7 (dk_at dksX12_isOfValue_1 3 rfl rfl)
theorem dX12_isOfValue_30 : decode cX12_isOfValue 30 = .ok (.iconst 1, 1) := dk_4 (dk_at dksX12_isOfValue_1 6 rfl rfl)
theorem dX12_isOfValue_31 : decode cX12_isOfValue 31 = .ok (.goto 4, 3) := dk_167 0 4 (dk_at dksX12_isOfValue_1 7 rfl rfl)
theorem dX12_isOfValue_34 : decode cX12_isOfValue 34 = .ok (.iconst 0, 1) := dk_3 (dk_at dksX12_isOfValue_1 10 rfl rfl)
theorem dX12_isOfValue_35 : decode cX12_isOfValue 35 = .ok (.ireturn, 1) := dk_172 (dk_at dksX12_isOfValue_1 11 rfl rfl)
abbrev cX12_isSent : ByteArray := prog_9_method_4_code
def yX12_isSent : MethodName := ⟨RX12, "isSent", "()Z"⟩
def dkwX12_isSent_0 : List UInt8 := [42, 180, 0, 15, 2, 159, 0, 7, 4, 167, 0, 4, 3, 172]
abbrev dktX12_isSent_0 : List UInt8 := dkwX12_isSent_0 ++ []
theorem dksX12_isSent_0 : cX12_isSent.data.toList.drop 0 = dktX12_isSent_0 := by decide +kernel
theorem dX12_isSent_0 : decode cX12_isSent 0 = .ok (.aload_n 0, 1) := dk_42 (dk_at dksX12_isSent_0 0 rfl rfl)
theorem dX12_isSent_1 : decode cX12_isSent 1 = .ok (.getfield 15, 3) := dk_180 0 15 (dk_at dksX12_isSent_0 1 rfl rfl)
theorem dX12_isSent_4 : decode cX12_isSent 4 = .ok (.iconst (-1), 1) := dk_2 (dk_at dksX12_isSent_0 4 rfl rfl)
theorem dX12_isSent_5 : decode cX12_isSent 5 = .ok (.if_icmp .eq 7, 3) := dk_159 0 7 (dk_at dksX12_isSent_0 5 rfl rfl)
theorem dX12_isSent_8 : decode cX12_isSent 8 = .ok (.iconst 1, 1) := dk_4 (dk_at dksX12_isSent_0 8 rfl rfl)
theorem dX12_isSent_9 : decode cX12_isSent 9 = .ok (.goto 4, 3) := dk_167 0 4 (dk_at dksX12_isSent_0 9 rfl rfl)
theorem dX12_isSent_12 : decode cX12_isSent 12 = .ok (.iconst 0, 1) := dk_3 (dk_at dksX12_isSent_0 12 rfl rfl)
theorem dX12_isSent_13 : decode cX12_isSent 13 = .ok (.ireturn, 1) := dk_172 (dk_at dksX12_isSent_0 13 rfl rfl)
abbrev cX12_isAnswered : ByteArray := prog_9_method_3_code
def yX12_isAnswered : MethodName := ⟨RX12, "isAnswered", "()Z"⟩
def dkwX12_isAnswered_0 : List UInt8 := [42, 180, 0, 18, 2, 159, 0, 7, 4, 167, 0, 4, 3, 172]
abbrev dktX12_isAnswered_0 : List UInt8 := dkwX12_isAnswered_0 ++ []
theorem dksX12_isAnswered_0 : cX12_isAnswered.data.toList.drop 0 = dktX12_isAnswered_0 := by decide +kernel
theorem dX12_isAnswered_0 : decode cX12_isAnswered 0 = .ok (.aload_n 0, 1) := dk_42 (dk_at dksX12_isAnswered_0 0 rfl rfl)
theorem dX12_isAnswered_1 : decode cX12_isAnswered 1 = .ok (.getfield 18, 3) := dk_180 0 18 (dk_at dksX12_isAnswered_0 1 rfl rfl)
theorem dX12_isAnswered_4 : decode cX12_isAnswered 4 = .ok (.iconst (-1), 1) := dk_2 (dk_at dksX12_isAnswered_0 4 rfl rfl)
theorem dX12_isAnswered_5 : decode cX12_isAnswered 5 = .ok (.if_icmp .eq 7, 3) := dk_159 0 7 (dk_at dksX12_isAnswered_0 5 rfl rfl)
theorem dX12_isAnswered_8 : decode cX12_isAnswered 8 = .ok (.iconst 1, 1) := dk_4 (dk_at dksX12_isAnswered_0 8 rfl rfl)
theorem dX12_isAnswered_9 : decode cX12_isAnswered 9 = .ok (.goto 4, 3) := dk_167 0 4 (dk_at dksX12_isAnswered_0 9 rfl rfl)
theorem dX12_isAnswered_12 : decode cX12_isAnswered 12 = .ok (.iconst 0, 1) := dk_3 (dk_at dksX12_isAnswered_0 12 rfl rfl)
theorem dX12_isAnswered_13 : decode cX12_isAnswered 13 = .ok (.ireturn, 1) := dk_172 (dk_at dksX12_isAnswered_0 13 rfl rfl)
abbrev cX12_told : ByteArray := prog_9_method_9_code
def yX12_told : MethodName := ⟨RX12, "told", "(I)I"⟩
def dkwX12_told_1 : List UInt8 := [167, 0, 4, 27, 172]
abbrev dktX12_told_1 : List UInt8 := dkwX12_told_1 ++ []
def dkwX12_told_0 : List UInt8 := [42, 180, 0, 24, 178, 0, 51, 166, 0, 19, 27, 42, 180, 0, 31, 160, 0, 7, 4, 167, 0, 8, 3]
abbrev dktX12_told_0 : List UInt8 := dkwX12_told_0 ++ dktX12_told_1
theorem dksX12_told_0 : cX12_told.data.toList.drop 0 = dktX12_told_0 := by decide +kernel
theorem dksX12_told_1 : cX12_told.data.toList.drop 23 = dktX12_told_1 := dk_seg dksX12_told_0 23 rfl rfl
theorem dX12_told_0 : decode cX12_told 0 = .ok (.aload_n 0, 1) := dk_42 (dk_at dksX12_told_0 0 rfl rfl)
theorem dX12_told_1 : decode cX12_told 1 = .ok (.getfield 24, 3) := dk_180 0 24 (dk_at dksX12_told_0 1 rfl rfl)
theorem dX12_told_4 : decode cX12_told 4 = .ok (.getstatic 51, 3) := dk_178 0 51 (dk_at dksX12_told_0 4 rfl rfl)
theorem dX12_told_7 : decode cX12_told 7 = .ok (.if_acmp .ne 19, 3) := dk_166 0 19 (dk_at dksX12_told_0 7 rfl rfl)
theorem dX12_told_10 : decode cX12_told 10 = .ok (.iload_n 1, 1) := dk_27 (dk_at dksX12_told_0 10 rfl rfl)
theorem dX12_told_11 : decode cX12_told 11 = .ok (.aload_n 0, 1) := dk_42 (dk_at dksX12_told_0 11 rfl rfl)
theorem dX12_told_12 : decode cX12_told 12 = .ok (.getfield 31, 3) := dk_180 0 31 (dk_at dksX12_told_0 12 rfl rfl)
theorem dX12_told_15 : decode cX12_told 15 = .ok (.if_icmp .ne 7, 3) := dk_160 0 7 (dk_at dksX12_told_0 15 rfl rfl)
theorem dX12_told_18 : decode cX12_told 18 = .ok (.iconst 1, 1) := dk_4 (dk_at dksX12_told_0 18 rfl rfl)
theorem dX12_told_19 : decode cX12_told 19 = .ok (.goto 8, 3) := dk_167 0 8 (dk_at dksX12_told_0 19 rfl rfl)
theorem dX12_told_22 : decode cX12_told 22 = .ok (.iconst 0, 1) := dk_3 (dk_at dksX12_told_0 22 rfl rfl)
theorem dX12_told_23 : decode cX12_told 23 = .ok (.goto 4, 3) := dk_167 0 4 (dk_at dksX12_told_1 0 rfl rfl)
theorem dX12_told_26 : decode cX12_told 26 = .ok (.iload_n 1, 1) := dk_27 (dk_at dksX12_told_1 3 rfl rfl)
theorem dX12_told_27 : decode cX12_told 27 = .ok (.ireturn, 1) := dk_172 (dk_at dksX12_told_1 4 rfl rfl)
abbrev cX12_behind : ByteArray := prog_9_method_8_code
def yX12_behind : MethodName := ⟨RX12, "behind", "(I)I"⟩
def dkwX12_behind_1 : List UInt8 := [166, 0, 18, 27, 42, 180, 0, 31, 160, 0, 10, 42, 180, 0, 34, 167, 0, 4, 27, 172]
abbrev dktX12_behind_1 : List UInt8 := dkwX12_behind_1 ++ []
def dkwX12_behind_0 : List UInt8 := [42, 180, 0, 24, 178, 0, 43, 166, 0, 10, 42, 180, 0, 31, 167, 0, 29, 42, 180, 0, 24, 178, 0, 51]
abbrev dktX12_behind_0 : List UInt8 := dkwX12_behind_0 ++ dktX12_behind_1
theorem dksX12_behind_0 : cX12_behind.data.toList.drop 0 = dktX12_behind_0 := by decide +kernel
theorem dksX12_behind_1 : cX12_behind.data.toList.drop 24 = dktX12_behind_1 := dk_seg dksX12_behind_0 24 rfl rfl
theorem dX12_behind_0 : decode cX12_behind 0 = .ok (.aload_n 0, 1) := dk_42 (dk_at dksX12_behind_0 0 rfl rfl)
theorem dX12_behind_1 : decode cX12_behind 1 = .ok (.getfield 24, 3) := dk_180 0 24 (dk_at dksX12_behind_0 1 rfl rfl)
theorem dX12_behind_4 : decode cX12_behind 4 = .ok (.getstatic 43, 3) := dk_178 0 43 (dk_at dksX12_behind_0 4 rfl rfl)
theorem dX12_behind_7 : decode cX12_behind 7 = .ok (.if_acmp .ne 10, 3) := dk_166 0 10 (dk_at dksX12_behind_0 7 rfl rfl)
theorem dX12_behind_10 : decode cX12_behind 10 = .ok (.aload_n 0, 1) := dk_42 (dk_at dksX12_behind_0 10 rfl rfl)
theorem dX12_behind_11 : decode cX12_behind 11 = .ok (.getfield 31, 3) := dk_180 0 31 (dk_at dksX12_behind_0 11 rfl rfl)
theorem dX12_behind_14 : decode cX12_behind 14 = .ok (.goto 29, 3) := dk_167 0 29 (dk_at dksX12_behind_0 14 rfl rfl)
theorem dX12_behind_17 : decode cX12_behind 17 = .ok (.aload_n 0, 1) := dk_42 (dk_at dksX12_behind_0 17 rfl rfl)
theorem dX12_behind_18 : decode cX12_behind 18 = .ok (.getfield 24, 3) := dk_180 0 24 (dk_at dksX12_behind_0 18 rfl rfl)
theorem dX12_behind_21 : decode cX12_behind 21 = .ok (.getstatic 51, 3) := dk_178 0 51 (dk_at dksX12_behind_0 21 rfl rfl)
theorem dX12_behind_24 : decode cX12_behind 24 = .ok (.if_acmp .ne 18, 3) := dk_166 0 18 (dk_at dksX12_behind_1 0 rfl rfl)
theorem dX12_behind_27 : decode cX12_behind 27 = .ok (.iload_n 1, 1) := dk_27 (dk_at dksX12_behind_1 3 rfl rfl)
theorem dX12_behind_28 : decode cX12_behind 28 = .ok (.aload_n 0, 1) := dk_42 (dk_at dksX12_behind_1 4 rfl rfl)
theorem dX12_behind_29 : decode cX12_behind 29 = .ok (.getfield 31, 3) := dk_180 0 31 (dk_at dksX12_behind_1 5 rfl rfl)
theorem dX12_behind_32 : decode cX12_behind 32 = .ok (.if_icmp .ne 10, 3) := dk_160 0 10 (dk_at dksX12_behind_1 8 rfl rfl)
theorem dX12_behind_35 : decode cX12_behind 35 = .ok (.aload_n 0, 1) := dk_42 (dk_at dksX12_behind_1 11 rfl rfl)
theorem dX12_behind_36 : decode cX12_behind 36 = .ok (.getfield 34, 3) := dk_180 0 34 (dk_at dksX12_behind_1 12 rfl rfl)
theorem dX12_behind_39 : decode cX12_behind 39 = .ok (.goto 4, 3) := dk_167 0 4 (dk_at dksX12_behind_1 15 rfl rfl)
theorem dX12_behind_42 : decode cX12_behind 42 = .ok (.iload_n 1, 1) := dk_27 (dk_at dksX12_behind_1 18 rfl rfl)
theorem dX12_behind_43 : decode cX12_behind 43 = .ok (.ireturn, 1) := dk_172 (dk_at dksX12_behind_1 19 rfl rfl)
abbrev cX12_copy : ByteArray := prog_9_method_2_code
def yX12_copy : MethodName := ⟨RX12, "copy", "()LQuorumspire$Request;"⟩
def dkwX12_copy_2 : List UInt8 := [180, 0, 18, 181, 0, 18, 43, 42, 180, 0, 40, 181, 0, 40, 43, 176]
abbrev dktX12_copy_2 : List UInt8 := dkwX12_copy_2 ++ []
def dkwX12_copy_1 : List UInt8 := [183, 0, 37, 76, 43, 42, 180, 0, 9, 181, 0, 9, 43, 42, 180, 0, 15, 181, 0, 15, 43, 42]
abbrev dktX12_copy_1 : List UInt8 := dkwX12_copy_1 ++ dktX12_copy_2
def dkwX12_copy_0 : List UInt8 := [187, 0, 10, 89, 42, 180, 0, 21, 42, 180, 0, 24, 42, 180, 0, 28, 42, 180, 0, 31, 42, 180, 0, 34]
abbrev dktX12_copy_0 : List UInt8 := dkwX12_copy_0 ++ dktX12_copy_1
theorem dksX12_copy_0 : cX12_copy.data.toList.drop 0 = dktX12_copy_0 := by decide +kernel
theorem dksX12_copy_1 : cX12_copy.data.toList.drop 24 = dktX12_copy_1 := dk_seg dksX12_copy_0 24 rfl rfl
theorem dksX12_copy_2 : cX12_copy.data.toList.drop 46 = dktX12_copy_2 := dk_seg dksX12_copy_1 22 rfl rfl
theorem dX12_copy_0 : decode cX12_copy 0 = .ok (.new 10, 3) := dk_187 0 10 (dk_at dksX12_copy_0 0 rfl rfl)
theorem dX12_copy_3 : decode cX12_copy 3 = .ok (.dup, 1) := dk_89 (dk_at dksX12_copy_0 3 rfl rfl)
theorem dX12_copy_4 : decode cX12_copy 4 = .ok (.aload_n 0, 1) := dk_42 (dk_at dksX12_copy_0 4 rfl rfl)
theorem dX12_copy_5 : decode cX12_copy 5 = .ok (.getfield 21, 3) := dk_180 0 21 (dk_at dksX12_copy_0 5 rfl rfl)
theorem dX12_copy_8 : decode cX12_copy 8 = .ok (.aload_n 0, 1) := dk_42 (dk_at dksX12_copy_0 8 rfl rfl)
theorem dX12_copy_9 : decode cX12_copy 9 = .ok (.getfield 24, 3) := dk_180 0 24 (dk_at dksX12_copy_0 9 rfl rfl)
theorem dX12_copy_12 : decode cX12_copy 12 = .ok (.aload_n 0, 1) := dk_42 (dk_at dksX12_copy_0 12 rfl rfl)
theorem dX12_copy_13 : decode cX12_copy 13 = .ok (.getfield 28, 3) := dk_180 0 28 (dk_at dksX12_copy_0 13 rfl rfl)
theorem dX12_copy_16 : decode cX12_copy 16 = .ok (.aload_n 0, 1) := dk_42 (dk_at dksX12_copy_0 16 rfl rfl)
theorem dX12_copy_17 : decode cX12_copy 17 = .ok (.getfield 31, 3) := dk_180 0 31 (dk_at dksX12_copy_0 17 rfl rfl)
theorem dX12_copy_20 : decode cX12_copy 20 = .ok (.aload_n 0, 1) := dk_42 (dk_at dksX12_copy_0 20 rfl rfl)
theorem dX12_copy_21 : decode cX12_copy 21 = .ok (.getfield 34, 3) := dk_180 0 34 (dk_at dksX12_copy_0 21 rfl rfl)
theorem dX12_copy_24 : decode cX12_copy 24 = .ok (.invokespecial 37, 3) := dk_183 0 37 (dk_at dksX12_copy_1 0 rfl rfl)
theorem dX12_copy_27 : decode cX12_copy 27 = .ok (.astore_n 1, 1) := dk_76 (dk_at dksX12_copy_1 3 rfl rfl)
theorem dX12_copy_28 : decode cX12_copy 28 = .ok (.aload_n 1, 1) := dk_43 (dk_at dksX12_copy_1 4 rfl rfl)
theorem dX12_copy_29 : decode cX12_copy 29 = .ok (.aload_n 0, 1) := dk_42 (dk_at dksX12_copy_1 5 rfl rfl)
theorem dX12_copy_30 : decode cX12_copy 30 = .ok (.getfield 9, 3) := dk_180 0 9 (dk_at dksX12_copy_1 6 rfl rfl)
theorem dX12_copy_33 : decode cX12_copy 33 = .ok (.putfield 9, 3) := dk_181 0 9 (dk_at dksX12_copy_1 9 rfl rfl)
theorem dX12_copy_36 : decode cX12_copy 36 = .ok (.aload_n 1, 1) := dk_43 (dk_at dksX12_copy_1 12 rfl rfl)
theorem dX12_copy_37 : decode cX12_copy 37 = .ok (.aload_n 0, 1) := dk_42 (dk_at dksX12_copy_1 13 rfl rfl)
theorem dX12_copy_38 : decode cX12_copy 38 = .ok (.getfield 15, 3) := dk_180 0 15 (dk_at dksX12_copy_1 14 rfl rfl)
theorem dX12_copy_41 : decode cX12_copy 41 = .ok (.putfield 15, 3) := dk_181 0 15 (dk_at dksX12_copy_1 17 rfl rfl)
theorem dX12_copy_44 : decode cX12_copy 44 = .ok (.aload_n 1, 1) := dk_43 (dk_at dksX12_copy_1 20 rfl rfl)
theorem dX12_copy_45 : decode cX12_copy 45 = .ok (.aload_n 0, 1) := dk_42 (dk_at dksX12_copy_1 21 rfl rfl)
theorem dX12_copy_46 : decode cX12_copy 46 = .ok (.getfield 18, 3) := dk_180 0 18 (dk_at dksX12_copy_2 0 rfl rfl)
theorem dX12_copy_49 : decode cX12_copy 49 = .ok (.putfield 18, 3) := dk_181 0 18 (dk_at dksX12_copy_2 3 rfl rfl)
theorem dX12_copy_52 : decode cX12_copy 52 = .ok (.aload_n 1, 1) := dk_43 (dk_at dksX12_copy_2 6 rfl rfl)
theorem dX12_copy_53 : decode cX12_copy 53 = .ok (.aload_n 0, 1) := dk_42 (dk_at dksX12_copy_2 7 rfl rfl)
theorem dX12_copy_54 : decode cX12_copy 54 = .ok (.getfield 40, 3) := dk_180 0 40 (dk_at dksX12_copy_2 8 rfl rfl)
theorem dX12_copy_57 : decode cX12_copy 57 = .ok (.putfield 40, 3) := dk_181 0 40 (dk_at dksX12_copy_2 11 rfl rfl)
theorem dX12_copy_60 : decode cX12_copy 60 = .ok (.aload_n 1, 1) := dk_43 (dk_at dksX12_copy_2 14 rfl rfl)
theorem dX12_copy_61 : decode cX12_copy 61 = .ok (.areturn, 1) := dk_176 (dk_at dksX12_copy_2 15 rfl rfl)
abbrev cX12_init : ByteArray := prog_9_method_1_code
def yX12_init : MethodName := ⟨RX12, "<init>", "(ILQuorumspire$Kind;III)V"⟩
def dkwX12_init_1 : List UInt8 := [42, 44, 181, 0, 24, 42, 29, 181, 0, 28, 42, 21, 4, 181, 0, 31, 42, 21, 5, 181, 0, 34, 177]
abbrev dktX12_init_1 : List UInt8 := dkwX12_init_1 ++ []
def dkwX12_init_0 : List UInt8 := [42, 183, 0, 3, 42, 2, 181, 0, 9, 42, 2, 181, 0, 15, 42, 2, 181, 0, 18, 42, 27, 181, 0, 21]
abbrev dktX12_init_0 : List UInt8 := dkwX12_init_0 ++ dktX12_init_1
theorem dksX12_init_0 : cX12_init.data.toList.drop 0 = dktX12_init_0 := by decide +kernel
theorem dksX12_init_1 : cX12_init.data.toList.drop 24 = dktX12_init_1 := dk_seg dksX12_init_0 24 rfl rfl
theorem dX12_init_0 : decode cX12_init 0 = .ok (.aload_n 0, 1) := dk_42 (dk_at dksX12_init_0 0 rfl rfl)
theorem dX12_init_1 : decode cX12_init 1 = .ok (.invokespecial 3, 3) := dk_183 0 3 (dk_at dksX12_init_0 1 rfl rfl)
theorem dX12_init_4 : decode cX12_init 4 = .ok (.aload_n 0, 1) := dk_42 (dk_at dksX12_init_0 4 rfl rfl)
theorem dX12_init_5 : decode cX12_init 5 = .ok (.iconst (-1), 1) := dk_2 (dk_at dksX12_init_0 5 rfl rfl)
theorem dX12_init_6 : decode cX12_init 6 = .ok (.putfield 9, 3) := dk_181 0 9 (dk_at dksX12_init_0 6 rfl rfl)
theorem dX12_init_9 : decode cX12_init 9 = .ok (.aload_n 0, 1) := dk_42 (dk_at dksX12_init_0 9 rfl rfl)
theorem dX12_init_10 : decode cX12_init 10 = .ok (.iconst (-1), 1) := dk_2 (dk_at dksX12_init_0 10 rfl rfl)
theorem dX12_init_11 : decode cX12_init 11 = .ok (.putfield 15, 3) := dk_181 0 15 (dk_at dksX12_init_0 11 rfl rfl)
theorem dX12_init_14 : decode cX12_init 14 = .ok (.aload_n 0, 1) := dk_42 (dk_at dksX12_init_0 14 rfl rfl)
theorem dX12_init_15 : decode cX12_init 15 = .ok (.iconst (-1), 1) := dk_2 (dk_at dksX12_init_0 15 rfl rfl)
theorem dX12_init_16 : decode cX12_init 16 = .ok (.putfield 18, 3) := dk_181 0 18 (dk_at dksX12_init_0 16 rfl rfl)
theorem dX12_init_19 : decode cX12_init 19 = .ok (.aload_n 0, 1) := dk_42 (dk_at dksX12_init_0 19 rfl rfl)
theorem dX12_init_20 : decode cX12_init 20 = .ok (.iload_n 1, 1) := dk_27 (dk_at dksX12_init_0 20 rfl rfl)
theorem dX12_init_21 : decode cX12_init 21 = .ok (.putfield 21, 3) := dk_181 0 21 (dk_at dksX12_init_0 21 rfl rfl)
theorem dX12_init_24 : decode cX12_init 24 = .ok (.aload_n 0, 1) := dk_42 (dk_at dksX12_init_1 0 rfl rfl)
theorem dX12_init_25 : decode cX12_init 25 = .ok (.aload_n 2, 1) := dk_44 (dk_at dksX12_init_1 1 rfl rfl)
theorem dX12_init_26 : decode cX12_init 26 = .ok (.putfield 24, 3) := dk_181 0 24 (dk_at dksX12_init_1 2 rfl rfl)
theorem dX12_init_29 : decode cX12_init 29 = .ok (.aload_n 0, 1) := dk_42 (dk_at dksX12_init_1 5 rfl rfl)
theorem dX12_init_30 : decode cX12_init 30 = .ok (.iload_n 3, 1) := dk_29 (dk_at dksX12_init_1 6 rfl rfl)
theorem dX12_init_31 : decode cX12_init 31 = .ok (.putfield 28, 3) := dk_181 0 28 (dk_at dksX12_init_1 7 rfl rfl)
theorem dX12_init_34 : decode cX12_init 34 = .ok (.aload_n 0, 1) := dk_42 (dk_at dksX12_init_1 10 rfl rfl)
theorem dX12_init_35 : decode cX12_init 35 = .ok (.iload 4, 2) := dk_21 4 (dk_at dksX12_init_1 11 rfl rfl)
theorem dX12_init_37 : decode cX12_init 37 = .ok (.putfield 31, 3) := dk_181 0 31 (dk_at dksX12_init_1 13 rfl rfl)
theorem dX12_init_40 : decode cX12_init 40 = .ok (.aload_n 0, 1) := dk_42 (dk_at dksX12_init_1 16 rfl rfl)
theorem dX12_init_41 : decode cX12_init 41 = .ok (.iload 5, 2) := dk_21 5 (dk_at dksX12_init_1 17 rfl rfl)
theorem dX12_init_43 : decode cX12_init 43 = .ok (.putfield 34, 3) := dk_181 0 34 (dk_at dksX12_init_1 19 rfl rfl)
theorem dX12_init_46 : decode cX12_init 46 = .ok (.return_, 1) := dk_177 (dk_at dksX12_init_1 22 rfl rfl)
abbrev cX12_answer : ByteArray := prog_9_method_7_code
def yX12_answer : MethodName := ⟨RX12, "answer", "(II)V"⟩
def dkwX12_answer_0 : List UInt8 := [42, 182, 0, 58, 154, 0, 18, 27, 2, 159, 0, 13, 42, 27, 181, 0, 9, 42, 28, 181, 0, 18, 177]
abbrev dktX12_answer_0 : List UInt8 := dkwX12_answer_0 ++ []
theorem dksX12_answer_0 : cX12_answer.data.toList.drop 0 = dktX12_answer_0 := by decide +kernel
theorem dX12_answer_0 : decode cX12_answer 0 = .ok (.aload_n 0, 1) := dk_42 (dk_at dksX12_answer_0 0 rfl rfl)
theorem dX12_answer_1 : decode cX12_answer 1 = .ok (.invokevirtual 58, 3) := dk_182 0 58 (dk_at dksX12_answer_0 1 rfl rfl)
theorem dX12_answer_4 : decode cX12_answer 4 = .ok (.ifCond .ne 18, 3) := dk_154 0 18 (dk_at dksX12_answer_0 4 rfl rfl)
theorem dX12_answer_7 : decode cX12_answer 7 = .ok (.iload_n 1, 1) := dk_27 (dk_at dksX12_answer_0 7 rfl rfl)
theorem dX12_answer_8 : decode cX12_answer 8 = .ok (.iconst (-1), 1) := dk_2 (dk_at dksX12_answer_0 8 rfl rfl)
theorem dX12_answer_9 : decode cX12_answer 9 = .ok (.if_icmp .eq 13, 3) := dk_159 0 13 (dk_at dksX12_answer_0 9 rfl rfl)
theorem dX12_answer_12 : decode cX12_answer 12 = .ok (.aload_n 0, 1) := dk_42 (dk_at dksX12_answer_0 12 rfl rfl)
theorem dX12_answer_13 : decode cX12_answer 13 = .ok (.iload_n 1, 1) := dk_27 (dk_at dksX12_answer_0 13 rfl rfl)
theorem dX12_answer_14 : decode cX12_answer 14 = .ok (.putfield 9, 3) := dk_181 0 9 (dk_at dksX12_answer_0 14 rfl rfl)
theorem dX12_answer_17 : decode cX12_answer 17 = .ok (.aload_n 0, 1) := dk_42 (dk_at dksX12_answer_0 17 rfl rfl)
theorem dX12_answer_18 : decode cX12_answer 18 = .ok (.iload_n 2, 1) := dk_28 (dk_at dksX12_answer_0 18 rfl rfl)
theorem dX12_answer_19 : decode cX12_answer 19 = .ok (.putfield 18, 3) := dk_181 0 18 (dk_at dksX12_answer_0 19 rfl rfl)
theorem dX12_answer_22 : decode cX12_answer 22 = .ok (.return_, 1) := dk_177 (dk_at dksX12_answer_0 22 rfl rfl)
abbrev cX12_begin : ByteArray := prog_9_method_6_code
def yX12_begin : MethodName := ⟨RX12, "begin", "(I)V"⟩
def dkwX12_begin_1 : List UInt8 := [4, 96, 181, 0, 40, 177]
abbrev dktX12_begin_1 : List UInt8 := dkwX12_begin_1 ++ []
def dkwX12_begin_0 : List UInt8 := [42, 42, 182, 0, 54, 153, 0, 10, 42, 180, 0, 15, 167, 0, 4, 27, 181, 0, 15, 42, 89, 180, 0, 40]
abbrev dktX12_begin_0 : List UInt8 := dkwX12_begin_0 ++ dktX12_begin_1
theorem dksX12_begin_0 : cX12_begin.data.toList.drop 0 = dktX12_begin_0 := by decide +kernel
theorem dksX12_begin_1 : cX12_begin.data.toList.drop 24 = dktX12_begin_1 := dk_seg dksX12_begin_0 24 rfl rfl
theorem dX12_begin_0 : decode cX12_begin 0 = .ok (.aload_n 0, 1) := dk_42 (dk_at dksX12_begin_0 0 rfl rfl)
theorem dX12_begin_1 : decode cX12_begin 1 = .ok (.aload_n 0, 1) := dk_42 (dk_at dksX12_begin_0 1 rfl rfl)
theorem dX12_begin_2 : decode cX12_begin 2 = .ok (.invokevirtual 54, 3) := dk_182 0 54 (dk_at dksX12_begin_0 2 rfl rfl)
theorem dX12_begin_5 : decode cX12_begin 5 = .ok (.ifCond .eq 10, 3) := dk_153 0 10 (dk_at dksX12_begin_0 5 rfl rfl)
theorem dX12_begin_8 : decode cX12_begin 8 = .ok (.aload_n 0, 1) := dk_42 (dk_at dksX12_begin_0 8 rfl rfl)
theorem dX12_begin_9 : decode cX12_begin 9 = .ok (.getfield 15, 3) := dk_180 0 15 (dk_at dksX12_begin_0 9 rfl rfl)
theorem dX12_begin_12 : decode cX12_begin 12 = .ok (.goto 4, 3) := dk_167 0 4 (dk_at dksX12_begin_0 12 rfl rfl)
theorem dX12_begin_15 : decode cX12_begin 15 = .ok (.iload_n 1, 1) := dk_27 (dk_at dksX12_begin_0 15 rfl rfl)
theorem dX12_begin_16 : decode cX12_begin 16 = .ok (.putfield 15, 3) := dk_181 0 15 (dk_at dksX12_begin_0 16 rfl rfl)
theorem dX12_begin_19 : decode cX12_begin 19 = .ok (.aload_n 0, 1) := dk_42 (dk_at dksX12_begin_0 19 rfl rfl)
theorem dX12_begin_20 : decode cX12_begin 20 = .ok (.dup, 1) := dk_89 (dk_at dksX12_begin_0 20 rfl rfl)
theorem dX12_begin_21 : decode cX12_begin 21 = .ok (.getfield 40, 3) := dk_180 0 40 (dk_at dksX12_begin_0 21 rfl rfl)
theorem dX12_begin_24 : decode cX12_begin 24 = .ok (.iconst 1, 1) := dk_4 (dk_at dksX12_begin_1 0 rfl rfl)
theorem dX12_begin_25 : decode cX12_begin 25 = .ok (.iadd, 1) := dk_96 (dk_at dksX12_begin_1 1 rfl rfl)
theorem dX12_begin_26 : decode cX12_begin 26 = .ok (.putfield 40, 3) := dk_181 0 40 (dk_at dksX12_begin_1 2 rfl rfl)
theorem dX12_begin_29 : decode cX12_begin 29 = .ok (.return_, 1) := dk_177 (dk_at dksX12_begin_1 5 rfl rfl)
theorem q93 : (Jvm.Cond.initialized "Quorumspire$Request") ∈ lw_all := lw_g (lw_at lw_m1 25 rfl) rfl
theorem q273 : (Jvm.Cond.instanceMethod ({ cls := "Quorumspire$Request", name := "isOfValue", desc := "()Z" } : Jvm.MethodName)) ∈ lw_all := lw_g (lw_at lw_m1 205 rfl) rfl
theorem q274 : (Jvm.Cond.selects "Quorumspire$Request" ({ cls := "Quorumspire$Request", name := "isOfValue", desc := "()Z" } : Jvm.MethodName) ({ cls := "Quorumspire$Request", name := "isOfValue", desc := "()Z" } : Jvm.MethodName)) ∈ lw_all := lw_g (lw_at lw_m1 206 rfl) rfl
theorem q275 : (Jvm.Cond.code ({ cls := "Quorumspire$Request", name := "isOfValue", desc := "()Z" } : Jvm.MethodName) prog_9_method_5_code (1 : Nat) (Option.some Jvm.ClassFile.FieldType.boolean)) ∈ lw_all := lw_g (lw_at lw_m1 207 rfl) rfl
theorem q276 : (Jvm.Cond.fieldLink "Quorumspire$Request" (43 : Nat) "Quorumspire$Kind" "PUT" "LQuorumspire$Kind;") ∈ lw_all := lw_g (lw_at lw_m1 208 rfl) rfl
theorem q278 : (Jvm.Cond.fieldLink "Quorumspire$Request" (48 : Nat) "Quorumspire$Kind" "GET" "LQuorumspire$Kind;") ∈ lw_all := lw_g (lw_at lw_m1 210 rfl) rfl
theorem q280 : (Jvm.Cond.fieldLink "Quorumspire$Request" (51 : Nat) "Quorumspire$Kind" "SWAP" "LQuorumspire$Kind;") ∈ lw_all := lw_g (lw_at lw_m1 212 rfl) rfl
theorem q283 : (Jvm.Cond.instanceMethod ({ cls := "Quorumspire$Request", name := "isSent", desc := "()Z" } : Jvm.MethodName)) ∈ lw_all := lw_g (lw_at lw_m1 215 rfl) rfl
theorem q284 : (Jvm.Cond.selects "Quorumspire$Request" ({ cls := "Quorumspire$Request", name := "isSent", desc := "()Z" } : Jvm.MethodName) ({ cls := "Quorumspire$Request", name := "isSent", desc := "()Z" } : Jvm.MethodName)) ∈ lw_all := lw_g (lw_at lw_m1 216 rfl) rfl
theorem q285 : (Jvm.Cond.code ({ cls := "Quorumspire$Request", name := "isSent", desc := "()Z" } : Jvm.MethodName) prog_9_method_4_code (1 : Nat) (Option.some Jvm.ClassFile.FieldType.boolean)) ∈ lw_all := lw_g (lw_at lw_m1 217 rfl) rfl
theorem q654 : (Jvm.Cond.selects "Quorumspire$Request" ({ cls := "java/lang/Object", name := "getClass", desc := "()Ljava/lang/Class;" } : Jvm.MethodName) ({ cls := "java/lang/Object", name := "getClass", desc := "()Ljava/lang/Class;" } : Jvm.MethodName)) ∈ lw_all := lw_g (lw_at lw_m3 106 rfl) rfl
theorem q711 : (Jvm.Cond.instanceMethod ({ cls := "Quorumspire$Request", name := "isAnswered", desc := "()Z" } : Jvm.MethodName)) ∈ lw_all := lw_g (lw_at lw_m3 163 rfl) rfl
theorem q712 : (Jvm.Cond.selects "Quorumspire$Request" ({ cls := "Quorumspire$Request", name := "isAnswered", desc := "()Z" } : Jvm.MethodName) ({ cls := "Quorumspire$Request", name := "isAnswered", desc := "()Z" } : Jvm.MethodName)) ∈ lw_all := lw_g (lw_at lw_m3 164 rfl) rfl
theorem q713 : (Jvm.Cond.code ({ cls := "Quorumspire$Request", name := "isAnswered", desc := "()Z" } : Jvm.MethodName) prog_9_method_3_code (1 : Nat) (Option.some Jvm.ClassFile.FieldType.boolean)) ∈ lw_all := lw_g (lw_at lw_m3 165 rfl) rfl
theorem q719 : (Jvm.Cond.instanceMethod ({ cls := "Quorumspire$Request", name := "told", desc := "(I)I" } : Jvm.MethodName)) ∈ lw_all := lw_g (lw_at lw_m3 171 rfl) rfl
theorem q720 : (Jvm.Cond.selects "Quorumspire$Request" ({ cls := "Quorumspire$Request", name := "told", desc := "(I)I" } : Jvm.MethodName) ({ cls := "Quorumspire$Request", name := "told", desc := "(I)I" } : Jvm.MethodName)) ∈ lw_all := lw_g (lw_at lw_m3 172 rfl) rfl
theorem q721 : (Jvm.Cond.code ({ cls := "Quorumspire$Request", name := "told", desc := "(I)I" } : Jvm.MethodName) prog_9_method_9_code (2 : Nat) (Option.some Jvm.ClassFile.FieldType.int)) ∈ lw_all := lw_g (lw_at lw_m3 173 rfl) rfl
theorem q723 : (Jvm.Cond.instanceMethod ({ cls := "Quorumspire$Request", name := "behind", desc := "(I)I" } : Jvm.MethodName)) ∈ lw_all := lw_g (lw_at lw_m3 175 rfl) rfl
theorem q724 : (Jvm.Cond.selects "Quorumspire$Request" ({ cls := "Quorumspire$Request", name := "behind", desc := "(I)I" } : Jvm.MethodName) ({ cls := "Quorumspire$Request", name := "behind", desc := "(I)I" } : Jvm.MethodName)) ∈ lw_all := lw_g (lw_at lw_m3 176 rfl) rfl
theorem q725 : (Jvm.Cond.code ({ cls := "Quorumspire$Request", name := "behind", desc := "(I)I" } : Jvm.MethodName) prog_9_method_8_code (2 : Nat) (Option.some Jvm.ClassFile.FieldType.int)) ∈ lw_all := lw_g (lw_at lw_m3 177 rfl) rfl
theorem q979 : (Jvm.Cond.instanceMethod ({ cls := "Quorumspire$Request", name := "copy", desc := "()LQuorumspire$Request;" } : Jvm.MethodName)) ∈ lw_all := lw_g (lw_at lw_m4 191 rfl) rfl
theorem q980 : (Jvm.Cond.selects "Quorumspire$Request" ({ cls := "Quorumspire$Request", name := "copy", desc := "()LQuorumspire$Request;" } : Jvm.MethodName) ({ cls := "Quorumspire$Request", name := "copy", desc := "()LQuorumspire$Request;" } : Jvm.MethodName)) ∈ lw_all := lw_g (lw_at lw_m4 192 rfl) rfl
theorem q981 : (Jvm.Cond.code ({ cls := "Quorumspire$Request", name := "copy", desc := "()LQuorumspire$Request;" } : Jvm.MethodName) prog_9_method_2_code (2 : Nat) (Option.some (Jvm.ClassFile.FieldType.object "Quorumspire$Request"))) ∈ lw_all := lw_g (lw_at lw_m4 193 rfl) rfl
theorem q982 : (Jvm.Cond.classLink "Quorumspire$Request" (10 : Nat) "Quorumspire$Request") ∈ lw_all := lw_g (lw_at lw_m4 194 rfl) rfl
theorem q983 : (Jvm.Cond.instantiable "Quorumspire$Request" (9 : Nat)) ∈ lw_all := lw_g (lw_at lw_m4 195 rfl) rfl
theorem q984 : (Jvm.Cond.methodLink "Quorumspire$Request" (37 : Nat) ({ cls := "Quorumspire$Request", name := "<init>", desc := "(ILQuorumspire$Kind;III)V" } : Jvm.MethodName)) ∈ lw_all := lw_g (lw_at lw_m4 196 rfl) rfl
theorem q985 : (Jvm.Cond.instanceMethod ({ cls := "Quorumspire$Request", name := "<init>", desc := "(ILQuorumspire$Kind;III)V" } : Jvm.MethodName)) ∈ lw_all := lw_g (lw_at lw_m4 197 rfl) rfl
theorem q986 : (Jvm.Cond.code ({ cls := "Quorumspire$Request", name := "<init>", desc := "(ILQuorumspire$Kind;III)V" } : Jvm.MethodName) prog_9_method_1_code (6 : Nat) (Option.none : Option Jvm.ClassFile.FieldType)) ∈ lw_all := lw_g (lw_at lw_m4 198 rfl) rfl
theorem q987 : (Jvm.Cond.methodLink "Quorumspire$Request" (3 : Nat) ({ cls := "java/lang/Object", name := "<init>", desc := "()V" } : Jvm.MethodName)) ∈ lw_all := lw_g (lw_at lw_m4 199 rfl) rfl
theorem q988 : (Jvm.Cond.fieldLink "Quorumspire$Request" (21 : Nat) "Quorumspire$Request" "client" "I") ∈ lw_all := lw_g (lw_at lw_m4 200 rfl) rfl
theorem q992 : (Jvm.Cond.fieldLink "Quorumspire$Request" (24 : Nat) "Quorumspire$Request" "kind" "LQuorumspire$Kind;") ∈ lw_all := lw_g (lw_at lw_m4 204 rfl) rfl
theorem q996 : (Jvm.Cond.fieldLink "Quorumspire$Request" (28 : Nat) "Quorumspire$Request" "key" "I") ∈ lw_all := lw_g (lw_at lw_m4 208 rfl) rfl
theorem q1001 : (Jvm.Cond.fieldLink "Quorumspire$Request" (31 : Nat) "Quorumspire$Request" "a" "I") ∈ lw_all := lw_g (lw_at lw_m4 213 rfl) rfl
theorem q1003 : (Jvm.Cond.fieldLink "Quorumspire$Request" (34 : Nat) "Quorumspire$Request" "b" "I") ∈ lw_all := lw_g (lw_at lw_m4 215 rfl) rfl
theorem q1004 : (Jvm.Cond.fieldLink "Quorumspire$Request" (9 : Nat) "Quorumspire$Request" "result" "I") ∈ lw_all := lw_g (lw_at lw_m4 216 rfl) rfl
theorem q1008 : (Jvm.Cond.fieldLink "Quorumspire$Request" (15 : Nat) "Quorumspire$Request" "sent" "I") ∈ lw_all := lw_g (lw_at lw_m4 220 rfl) rfl
theorem q1011 : (Jvm.Cond.fieldLink "Quorumspire$Request" (18 : Nat) "Quorumspire$Request" "answered" "I") ∈ lw_all := lw_g (lw_at lw_m4 223 rfl) rfl
theorem q1014 : (Jvm.Cond.fieldLink "Quorumspire$Request" (40 : Nat) "Quorumspire$Request" "sendings" "I") ∈ lw_all := lw_g (lw_at lw_m4 226 rfl) rfl
theorem q1016 : (Jvm.Cond.laysFinal "Quorumspire$Request" "Quorumspire$Request" "client" "I") ∈ lw_all := lw_g (lw_at lw_m4 228 rfl) rfl
theorem q1017 : (Jvm.Cond.soleField "Quorumspire$Request" "client") ∈ lw_all := lw_g (lw_at lw_m4 229 rfl) rfl
theorem q1018 : (Jvm.Cond.laysFinal "Quorumspire$Request" "Quorumspire$Request" "kind" "LQuorumspire$Kind;") ∈ lw_all := lw_g (lw_at lw_m4 230 rfl) rfl
theorem q1019 : (Jvm.Cond.soleField "Quorumspire$Request" "kind") ∈ lw_all := lw_g (lw_at lw_m4 231 rfl) rfl
theorem q1020 : (Jvm.Cond.laysFinal "Quorumspire$Request" "Quorumspire$Request" "key" "I") ∈ lw_all := lw_g (lw_at lw_m4 232 rfl) rfl
theorem q1021 : (Jvm.Cond.soleField "Quorumspire$Request" "key") ∈ lw_all := lw_g (lw_at lw_m4 233 rfl) rfl
theorem q1022 : (Jvm.Cond.laysFinal "Quorumspire$Request" "Quorumspire$Request" "a" "I") ∈ lw_all := lw_g (lw_at lw_m4 234 rfl) rfl
theorem q1023 : (Jvm.Cond.soleField "Quorumspire$Request" "a") ∈ lw_all := lw_g (lw_at lw_m4 235 rfl) rfl
theorem q1024 : (Jvm.Cond.laysFinal "Quorumspire$Request" "Quorumspire$Request" "b" "I") ∈ lw_all := lw_g (lw_at lw_m4 236 rfl) rfl
theorem q1025 : (Jvm.Cond.soleField "Quorumspire$Request" "b") ∈ lw_all := lw_g (lw_at lw_m4 237 rfl) rfl
theorem q1026 : (Jvm.Cond.lays "Quorumspire$Request" "Quorumspire$Request" "result" "I") ∈ lw_all := lw_g (lw_at lw_m4 238 rfl) rfl
theorem q1027 : (Jvm.Cond.soleField "Quorumspire$Request" "result") ∈ lw_all := lw_g (lw_at lw_m4 239 rfl) rfl
theorem q1028 : (Jvm.Cond.lays "Quorumspire$Request" "Quorumspire$Request" "sent" "I") ∈ lw_all := lw_g (lw_at lw_m5 0 rfl) rfl
theorem q1029 : (Jvm.Cond.soleField "Quorumspire$Request" "sent") ∈ lw_all := lw_g (lw_at lw_m5 1 rfl) rfl
theorem q1030 : (Jvm.Cond.lays "Quorumspire$Request" "Quorumspire$Request" "answered" "I") ∈ lw_all := lw_g (lw_at lw_m5 2 rfl) rfl
theorem q1031 : (Jvm.Cond.soleField "Quorumspire$Request" "answered") ∈ lw_all := lw_g (lw_at lw_m5 3 rfl) rfl
theorem q1032 : (Jvm.Cond.lays "Quorumspire$Request" "Quorumspire$Request" "sendings" "I") ∈ lw_all := lw_g (lw_at lw_m5 4 rfl) rfl
theorem q1033 : (Jvm.Cond.soleField "Quorumspire$Request" "sendings") ∈ lw_all := lw_g (lw_at lw_m5 5 rfl) rfl
theorem q1034 : (Jvm.Cond.superclass "Quorumspire$Request" "java/lang/Object") ∈ lw_all := lw_g (lw_at lw_m5 6 rfl) rfl
theorem q1171 : (Jvm.Cond.instanceMethod ({ cls := "Quorumspire$Request", name := "answer", desc := "(II)V" } : Jvm.MethodName)) ∈ lw_all := lw_g (lw_at lw_m5 143 rfl) rfl
theorem q1172 : (Jvm.Cond.selects "Quorumspire$Request" ({ cls := "Quorumspire$Request", name := "answer", desc := "(II)V" } : Jvm.MethodName) ({ cls := "Quorumspire$Request", name := "answer", desc := "(II)V" } : Jvm.MethodName)) ∈ lw_all := lw_g (lw_at lw_m5 144 rfl) rfl
theorem q1173 : (Jvm.Cond.code ({ cls := "Quorumspire$Request", name := "answer", desc := "(II)V" } : Jvm.MethodName) prog_9_method_7_code (3 : Nat) (Option.none : Option Jvm.ClassFile.FieldType)) ∈ lw_all := lw_g (lw_at lw_m5 145 rfl) rfl
theorem q1174 : (Jvm.Cond.methodLink "Quorumspire$Request" (58 : Nat) ({ cls := "Quorumspire$Request", name := "isAnswered", desc := "()Z" } : Jvm.MethodName)) ∈ lw_all := lw_g (lw_at lw_m5 146 rfl) rfl
theorem q1446 : (Jvm.Cond.instanceMethod ({ cls := "Quorumspire$Request", name := "begin", desc := "(I)V" } : Jvm.MethodName)) ∈ lw_all := lw_g (lw_at lw_m6 178 rfl) rfl
theorem q1447 : (Jvm.Cond.selects "Quorumspire$Request" ({ cls := "Quorumspire$Request", name := "begin", desc := "(I)V" } : Jvm.MethodName) ({ cls := "Quorumspire$Request", name := "begin", desc := "(I)V" } : Jvm.MethodName)) ∈ lw_all := lw_g (lw_at lw_m6 179 rfl) rfl
theorem q1448 : (Jvm.Cond.code ({ cls := "Quorumspire$Request", name := "begin", desc := "(I)V" } : Jvm.MethodName) prog_9_method_6_code (2 : Nat) (Option.none : Option Jvm.ClassFile.FieldType)) ∈ lw_all := lw_g (lw_at lw_m6 180 rfl) rfl
theorem q1449 : (Jvm.Cond.methodLink "Quorumspire$Request" (54 : Nat) ({ cls := "Quorumspire$Request", name := "isSent", desc := "()Z" } : Jvm.MethodName)) ∈ lw_all := lw_g (lw_at lw_m6 181 rfl) rfl
theorem q2271 : (Jvm.Cond.selects "Quorumspire$Request" ({ cls := "java/lang/Object", name := "equals", desc := "(Ljava/lang/Object;)Z" } : Jvm.MethodName) ({ cls := "java/lang/Object", name := "equals", desc := "(Ljava/lang/Object;)Z" } : Jvm.MethodName)) ∈ lw_all := lw_g (lw_at lw_m10 43 rfl) rfl
theorem q2430 : (Jvm.Cond.castable "Quorumspire$Request" "java/lang/Object") ∈ lw_tbl := lw_at lw_m10 202 rfl
theorem in_X12 : ∀ w ∈ wsX120, w ∈ lw_all := lw_in wsX120 [1016, 1018, 1020, 1022, 1024, 1026, 1028, 1030, 1032] (by decide +kernel) (by decide +kernel)
/-! Quorumspire$Message -/
set_option maxRecDepth 100000
def RX13 : String := "Quorumspire$Message"
def TX13 : u_T := fun k => match k with
  | 0 => ("Quorumspire$Message", "word", "LQuorumspire$Word;", true)
  | 1 => ("Quorumspire$Message", "from", "I", true)
  | 2 => ("Quorumspire$Message", "to", "I", true)
  | 3 => ("Quorumspire$Message", "term", "I", true)
  | 4 => ("Quorumspire$Message", "number", "I", true)
  | 5 => ("Quorumspire$Message", "itsTerm", "I", true)
  | 6 => ("Quorumspire$Message", "isYes", "Z", false)
  | 7 => ("Quorumspire$Message", "sure", "I", false)
  | 8 => ("Quorumspire$Message", "entries", "[LQuorumspire$Entry;", false)
  | _ => ("Quorumspire$Message", "snapshot", "LQuorumspire$Store;", true)
def tyX13 : Nat → FieldType := fun k => match k with
  | 0 => .object "Quorumspire$Word"
  | 1 => .int
  | 2 => .int
  | 3 => .int
  | 4 => .int
  | 5 => .int
  | 6 => .boolean
  | 7 => .int
  | 8 => .array (.object "Quorumspire$Entry")
  | _ => .object "Quorumspire$Store"
abbrev wsX130 : List Cond := u_ws RX13 TX13 10
theorem nmX13 : ∀ a, a < 10 → ∀ b, b < 10 → a ≠ b → (TX13 a).2.1 ≠ (TX13 b).2.1 := by decide +kernel
theorem tyX13_ok : ∀ k, k < 10 → parseFieldDescriptor (TX13 k).2.2.1 = some (tyX13 k) := by decide +kernel
abbrev cX13_told : ByteArray := prog_7_method_2_code
def yX13_told : MethodName := ⟨RX13, "told", "(I)I"⟩
def dkwX13_told_3 : List UInt8 := [180, 0, 31, 172, 42, 180, 0, 56, 153, 0, 7, 4, 167, 0, 4, 3, 172, 42, 180, 0, 9, 190, 172]
abbrev dktX13_told_3 : List UInt8 := dkwX13_told_3 ++ []
def dkwX13_told_2 : List UInt8 := [42, 180, 0, 15, 182, 0, 50, 172, 42, 180, 0, 28, 172, 42, 180, 0, 19, 172, 42, 180, 0, 44, 172, 42]
abbrev dktX13_told_2 : List UInt8 := dkwX13_told_2 ++ dktX13_told_3
def dkwX13_told_1 : List UInt8 := [170, 0, 0, 0, 0, 0, 80, 0, 0, 0, 0, 0, 0, 0, 5, 0, 0, 0, 39, 0, 0, 0, 47, 0, 0, 0, 52, 0, 0, 0, 57, 0, 0, 0, 62, 0, 0, 0, 67]
abbrev dktX13_told_1 : List UInt8 := dkwX13_told_1 ++ dktX13_told_2
def dkwX13_told_0 : List UInt8 := [27]
abbrev dktX13_told_0 : List UInt8 := dkwX13_told_0 ++ dktX13_told_1
theorem dksX13_told_0 : cX13_told.data.toList.drop 0 = dktX13_told_0 := by decide +kernel
theorem dksX13_told_1 : cX13_told.data.toList.drop 1 = dktX13_told_1 := dk_seg dksX13_told_0 1 rfl rfl
theorem dksX13_told_2 : cX13_told.data.toList.drop 40 = dktX13_told_2 := dk_seg dksX13_told_1 39 rfl rfl
theorem dksX13_told_3 : cX13_told.data.toList.drop 64 = dktX13_told_3 := dk_seg dksX13_told_2 24 rfl rfl
theorem dX13_told_0 : decode cX13_told 0 = .ok (.iload_n 1, 1) := dk_27 (dk_at dksX13_told_0 0 rfl rfl)
theorem dX13_told_1 : decode cX13_told 1 = .ok (.tableswitch 80 0 5 #[39, 47, 52, 57, 62, 67], 39) := by decide +kernel
theorem dX13_told_40 : decode cX13_told 40 = .ok (.aload_n 0, 1) := dk_42 (dk_at dksX13_told_2 0 rfl rfl)
theorem dX13_told_41 : decode cX13_told 41 = .ok (.getfield 15, 3) := dk_180 0 15 (dk_at dksX13_told_2 1 rfl rfl)
theorem dX13_told_44 : decode cX13_told 44 = .ok (.invokevirtual 50, 3) := dk_182 0 50 (dk_at dksX13_told_2 4 rfl rfl)
theorem dX13_told_47 : decode cX13_told 47 = .ok (.ireturn, 1) := dk_172 (dk_at dksX13_told_2 7 rfl rfl)
theorem dX13_told_48 : decode cX13_told 48 = .ok (.aload_n 0, 1) := dk_42 (dk_at dksX13_told_2 8 rfl rfl)
theorem dX13_told_49 : decode cX13_told 49 = .ok (.getfield 28, 3) := dk_180 0 28 (dk_at dksX13_told_2 9 rfl rfl)
theorem dX13_told_52 : decode cX13_told 52 = .ok (.ireturn, 1) := dk_172 (dk_at dksX13_told_2 12 rfl rfl)
theorem dX13_told_53 : decode cX13_told 53 = .ok (.aload_n 0, 1) := dk_42 (dk_at dksX13_told_2 13 rfl rfl)
theorem dX13_told_54 : decode cX13_told 54 = .ok (.getfield 19, 3) := dk_180 0 19 (dk_at dksX13_told_2 14 rfl rfl)
theorem dX13_told_57 : decode cX13_told 57 = .ok (.ireturn, 1) := dk_172 (dk_at dksX13_told_2 17 rfl rfl)
theorem dX13_told_58 : decode cX13_told 58 = .ok (.aload_n 0, 1) := dk_42 (dk_at dksX13_told_2 18 rfl rfl)
theorem dX13_told_59 : decode cX13_told 59 = .ok (.getfield 44, 3) := dk_180 0 44 (dk_at dksX13_told_2 19 rfl rfl)
theorem dX13_told_62 : decode cX13_told 62 = .ok (.ireturn, 1) := dk_172 (dk_at dksX13_told_2 22 rfl rfl)
theorem dX13_told_63 : decode cX13_told 63 = .ok (.aload_n 0, 1) := dk_42 (dk_at dksX13_told_2 23 rfl rfl)
theorem dX13_told_64 : decode cX13_told 64 = .ok (.getfield 31, 3) := dk_180 0 31 (dk_at dksX13_told_3 0 rfl rfl)
theorem dX13_told_67 : decode cX13_told 67 = .ok (.ireturn, 1) := dk_172 (dk_at dksX13_told_3 3 rfl rfl)
theorem dX13_told_68 : decode cX13_told 68 = .ok (.aload_n 0, 1) := dk_42 (dk_at dksX13_told_3 4 rfl rfl)
theorem dX13_told_69 : decode cX13_told 69 = .ok (.getfield 56, 3) := dk_180 0 56 (dk_at dksX13_told_3 5 rfl rfl)
theorem dX13_told_72 : decode cX13_told 72 = .ok (.ifCond .eq 7, 3) := dk_153 0 7 (dk_at dksX13_told_3 8 rfl rfl)
theorem dX13_told_75 : decode cX13_told 75 = .ok (.iconst 1, 1) := dk_4 (dk_at dksX13_told_3 11 rfl rfl)
theorem dX13_told_76 : decode cX13_told 76 = .ok (.goto 4, 3) := dk_167 0 4 (dk_at dksX13_told_3 12 rfl rfl)
theorem dX13_told_79 : decode cX13_told 79 = .ok (.iconst 0, 1) := dk_3 (dk_at dksX13_told_3 15 rfl rfl)
theorem dX13_told_80 : decode cX13_told 80 = .ok (.ireturn, 1) := dk_172 (dk_at dksX13_told_3 16 rfl rfl)
theorem dX13_told_81 : decode cX13_told 81 = .ok (.aload_n 0, 1) := dk_42 (dk_at dksX13_told_3 17 rfl rfl)
theorem dX13_told_82 : decode cX13_told 82 = .ok (.getfield 9, 3) := dk_180 0 9 (dk_at dksX13_told_3 18 rfl rfl)
theorem dX13_told_85 : decode cX13_told 85 = .ok (.arraylength, 1) := dk_190 (dk_at dksX13_told_3 21 rfl rfl)
theorem dX13_told_86 : decode cX13_told 86 = .ok (.ireturn, 1) := dk_172 (dk_at dksX13_told_3 22 rfl rfl)
abbrev cX13_init : ByteArray := prog_7_method_1_code
def yX13_init : MethodName := ⟨RX13, "<init>", "(LQuorumspire$Word;ILQuorumspire$Machine;II)V"⟩
def dkwX13_init_2 : List UInt8 := [180, 0, 39, 181, 0, 44, 42, 45, 180, 0, 35, 180, 0, 45, 181, 0, 49, 177]
abbrev dktX13_init_2 : List UInt8 := dkwX13_init_2 ++ []
def dkwX13_init_1 : List UInt8 := [180, 0, 23, 181, 0, 28, 42, 21, 4, 181, 0, 31, 42, 21, 5, 181, 0, 32, 42, 45, 180, 0, 35]
abbrev dktX13_init_1 : List UInt8 := dkwX13_init_1 ++ dktX13_init_2
def dkwX13_init_0 : List UInt8 := [42, 183, 0, 1, 42, 3, 189, 0, 7, 181, 0, 9, 42, 43, 181, 0, 15, 42, 28, 181, 0, 19, 42, 45]
abbrev dktX13_init_0 : List UInt8 := dkwX13_init_0 ++ dktX13_init_1
theorem dksX13_init_0 : cX13_init.data.toList.drop 0 = dktX13_init_0 := by decide +kernel
theorem dksX13_init_1 : cX13_init.data.toList.drop 24 = dktX13_init_1 := dk_seg dksX13_init_0 24 rfl rfl
theorem dksX13_init_2 : cX13_init.data.toList.drop 47 = dktX13_init_2 := dk_seg dksX13_init_1 23 rfl rfl
theorem dX13_init_0 : decode cX13_init 0 = .ok (.aload_n 0, 1) := dk_42 (dk_at dksX13_init_0 0 rfl rfl)
theorem dX13_init_1 : decode cX13_init 1 = .ok (.invokespecial 1, 3) := dk_183 0 1 (dk_at dksX13_init_0 1 rfl rfl)
theorem dX13_init_4 : decode cX13_init 4 = .ok (.aload_n 0, 1) := dk_42 (dk_at dksX13_init_0 4 rfl rfl)
theorem dX13_init_5 : decode cX13_init 5 = .ok (.iconst 0, 1) := dk_3 (dk_at dksX13_init_0 5 rfl rfl)
theorem dX13_init_6 : decode cX13_init 6 = .ok (.anewarray 7, 3) := dk_189 0 7 (dk_at dksX13_init_0 6 rfl rfl)
theorem dX13_init_9 : decode cX13_init 9 = .ok (.putfield 9, 3) := dk_181 0 9 (dk_at dksX13_init_0 9 rfl rfl)
theorem dX13_init_12 : decode cX13_init 12 = .ok (.aload_n 0, 1) := dk_42 (dk_at dksX13_init_0 12 rfl rfl)
theorem dX13_init_13 : decode cX13_init 13 = .ok (.aload_n 1, 1) := dk_43 (dk_at dksX13_init_0 13 rfl rfl)
theorem dX13_init_14 : decode cX13_init 14 = .ok (.putfield 15, 3) := dk_181 0 15 (dk_at dksX13_init_0 14 rfl rfl)
theorem dX13_init_17 : decode cX13_init 17 = .ok (.aload_n 0, 1) := dk_42 (dk_at dksX13_init_0 17 rfl rfl)
theorem dX13_init_18 : decode cX13_init 18 = .ok (.iload_n 2, 1) := dk_28 (dk_at dksX13_init_0 18 rfl rfl)
theorem dX13_init_19 : decode cX13_init 19 = .ok (.putfield 19, 3) := dk_181 0 19 (dk_at dksX13_init_0 19 rfl rfl)
theorem dX13_init_22 : decode cX13_init 22 = .ok (.aload_n 0, 1) := dk_42 (dk_at dksX13_init_0 22 rfl rfl)
theorem dX13_init_23 : decode cX13_init 23 = .ok (.aload_n 3, 1) := dk_45 (dk_at dksX13_init_0 23 rfl rfl)
theorem dX13_init_24 : decode cX13_init 24 = .ok (.getfield 23, 3) := dk_180 0 23 (dk_at dksX13_init_1 0 rfl rfl)
theorem dX13_init_27 : decode cX13_init 27 = .ok (.putfield 28, 3) := dk_181 0 28 (dk_at dksX13_init_1 3 rfl rfl)
theorem dX13_init_30 : decode cX13_init 30 = .ok (.aload_n 0, 1) := dk_42 (dk_at dksX13_init_1 6 rfl rfl)
theorem dX13_init_31 : decode cX13_init 31 = .ok (.iload 4, 2) := dk_21 4 (dk_at dksX13_init_1 7 rfl rfl)
theorem dX13_init_33 : decode cX13_init 33 = .ok (.putfield 31, 3) := dk_181 0 31 (dk_at dksX13_init_1 9 rfl rfl)
theorem dX13_init_36 : decode cX13_init 36 = .ok (.aload_n 0, 1) := dk_42 (dk_at dksX13_init_1 12 rfl rfl)
theorem dX13_init_37 : decode cX13_init 37 = .ok (.iload 5, 2) := dk_21 5 (dk_at dksX13_init_1 13 rfl rfl)
theorem dX13_init_39 : decode cX13_init 39 = .ok (.putfield 32, 3) := dk_181 0 32 (dk_at dksX13_init_1 15 rfl rfl)
theorem dX13_init_42 : decode cX13_init 42 = .ok (.aload_n 0, 1) := dk_42 (dk_at dksX13_init_1 18 rfl rfl)
theorem dX13_init_43 : decode cX13_init 43 = .ok (.aload_n 3, 1) := dk_45 (dk_at dksX13_init_1 19 rfl rfl)
theorem dX13_init_44 : decode cX13_init 44 = .ok (.getfield 35, 3) := dk_180 0 35 (dk_at dksX13_init_1 20 rfl rfl)
theorem dX13_init_47 : decode cX13_init 47 = .ok (.getfield 39, 3) := dk_180 0 39 (dk_at dksX13_init_2 0 rfl rfl)
theorem dX13_init_50 : decode cX13_init 50 = .ok (.putfield 44, 3) := dk_181 0 44 (dk_at dksX13_init_2 3 rfl rfl)
theorem dX13_init_53 : decode cX13_init 53 = .ok (.aload_n 0, 1) := dk_42 (dk_at dksX13_init_2 6 rfl rfl)
theorem dX13_init_54 : decode cX13_init 54 = .ok (.aload_n 3, 1) := dk_45 (dk_at dksX13_init_2 7 rfl rfl)
theorem dX13_init_55 : decode cX13_init 55 = .ok (.getfield 35, 3) := dk_180 0 35 (dk_at dksX13_init_2 8 rfl rfl)
theorem dX13_init_58 : decode cX13_init 58 = .ok (.getfield 45, 3) := dk_180 0 45 (dk_at dksX13_init_2 11 rfl rfl)
theorem dX13_init_61 : decode cX13_init 61 = .ok (.putfield 49, 3) := dk_181 0 49 (dk_at dksX13_init_2 14 rfl rfl)
theorem dX13_init_64 : decode cX13_init 64 = .ok (.return_, 1) := dk_177 (dk_at dksX13_init_2 17 rfl rfl)
theorem q99 : (Jvm.Cond.initialized "Quorumspire$Message") ∈ lw_all := lw_g (lw_at lw_m1 31 rfl) rfl
theorem q652 : (Jvm.Cond.selects "Quorumspire$Message" ({ cls := "java/lang/Object", name := "getClass", desc := "()Ljava/lang/Class;" } : Jvm.MethodName) ({ cls := "java/lang/Object", name := "getClass", desc := "()Ljava/lang/Class;" } : Jvm.MethodName)) ∈ lw_all := lw_g (lw_at lw_m3 104 rfl) rfl
theorem q796 : (Jvm.Cond.instanceMethod ({ cls := "Quorumspire$Message", name := "told", desc := "(I)I" } : Jvm.MethodName)) ∈ lw_all := lw_g (lw_at lw_m4 8 rfl) rfl
theorem q797 : (Jvm.Cond.selects "Quorumspire$Message" ({ cls := "Quorumspire$Message", name := "told", desc := "(I)I" } : Jvm.MethodName) ({ cls := "Quorumspire$Message", name := "told", desc := "(I)I" } : Jvm.MethodName)) ∈ lw_all := lw_g (lw_at lw_m4 9 rfl) rfl
theorem q798 : (Jvm.Cond.code ({ cls := "Quorumspire$Message", name := "told", desc := "(I)I" } : Jvm.MethodName) prog_7_method_2_code (2 : Nat) (Option.some Jvm.ClassFile.FieldType.int)) ∈ lw_all := lw_g (lw_at lw_m4 10 rfl) rfl
theorem q799 : (Jvm.Cond.methodLink "Quorumspire$Message" (50 : Nat) ({ cls := "Quorumspire$Word", name := "ordinal", desc := "()I" } : Jvm.MethodName)) ∈ lw_all := lw_g (lw_at lw_m4 11 rfl) rfl
theorem q842 : (Jvm.Cond.fieldLinkNest "Quorumspire$Message" (39 : Nat) "Quorumspire$Log" "term" "I" "Quorumspire") ∈ lw_tbl := lw_at lw_m4 54 rfl
theorem q857 : (Jvm.Cond.fieldLinkNest "Quorumspire$Message" (45 : Nat) "Quorumspire$Log" "snapshot" "LQuorumspire$Store;" "Quorumspire") ∈ lw_tbl := lw_at lw_m4 69 rfl
theorem q924 : (Jvm.Cond.fieldLinkNest "Quorumspire$Message" (23 : Nat) "Quorumspire$Machine" "number" "I" "Quorumspire") ∈ lw_tbl := lw_at lw_m4 136 rfl
theorem q932 : (Jvm.Cond.fieldLinkNest "Quorumspire$Message" (35 : Nat) "Quorumspire$Machine" "log" "LQuorumspire$Log;" "Quorumspire") ∈ lw_tbl := lw_at lw_m4 144 rfl
theorem q1041 : (Jvm.Cond.instantiable "Quorumspire$Message" (10 : Nat)) ∈ lw_all := lw_g (lw_at lw_m5 13 rfl) rfl
theorem q1050 : (Jvm.Cond.instanceMethod ({ cls := "Quorumspire$Message", name := "<init>", desc := "(LQuorumspire$Word;ILQuorumspire$Machine;II)V" } : Jvm.MethodName)) ∈ lw_all := lw_g (lw_at lw_m5 22 rfl) rfl
theorem q1051 : (Jvm.Cond.code ({ cls := "Quorumspire$Message", name := "<init>", desc := "(LQuorumspire$Word;ILQuorumspire$Machine;II)V" } : Jvm.MethodName) prog_7_method_1_code (6 : Nat) (Option.none : Option Jvm.ClassFile.FieldType)) ∈ lw_all := lw_g (lw_at lw_m5 23 rfl) rfl
theorem q1052 : (Jvm.Cond.methodLink "Quorumspire$Message" (1 : Nat) ({ cls := "java/lang/Object", name := "<init>", desc := "()V" } : Jvm.MethodName)) ∈ lw_all := lw_g (lw_at lw_m5 24 rfl) rfl
theorem q1053 : (Jvm.Cond.classLink "Quorumspire$Message" (7 : Nat) "Quorumspire$Entry") ∈ lw_all := lw_g (lw_at lw_m5 25 rfl) rfl
theorem q1055 : (Jvm.Cond.fieldLink "Quorumspire$Message" (15 : Nat) "Quorumspire$Message" "word" "LQuorumspire$Word;") ∈ lw_all := lw_g (lw_at lw_m5 27 rfl) rfl
theorem q1058 : (Jvm.Cond.fieldLink "Quorumspire$Message" (28 : Nat) "Quorumspire$Message" "from" "I") ∈ lw_all := lw_g (lw_at lw_m5 30 rfl) rfl
theorem q1060 : (Jvm.Cond.fieldLink "Quorumspire$Message" (19 : Nat) "Quorumspire$Message" "to" "I") ∈ lw_all := lw_g (lw_at lw_m5 32 rfl) rfl
theorem q1062 : (Jvm.Cond.fieldLink "Quorumspire$Message" (44 : Nat) "Quorumspire$Message" "term" "I") ∈ lw_all := lw_g (lw_at lw_m5 34 rfl) rfl
theorem q1064 : (Jvm.Cond.fieldLink "Quorumspire$Message" (31 : Nat) "Quorumspire$Message" "number" "I") ∈ lw_all := lw_g (lw_at lw_m5 36 rfl) rfl
theorem q1066 : (Jvm.Cond.fieldLink "Quorumspire$Message" (32 : Nat) "Quorumspire$Message" "itsTerm" "I") ∈ lw_all := lw_g (lw_at lw_m5 38 rfl) rfl
theorem q1068 : (Jvm.Cond.fieldLink "Quorumspire$Message" (56 : Nat) "Quorumspire$Message" "isYes" "Z") ∈ lw_all := lw_g (lw_at lw_m5 40 rfl) rfl
theorem q1071 : (Jvm.Cond.fieldLink "Quorumspire$Message" (9 : Nat) "Quorumspire$Message" "entries" "[LQuorumspire$Entry;") ∈ lw_all := lw_g (lw_at lw_m5 43 rfl) rfl
theorem q1073 : (Jvm.Cond.fieldLink "Quorumspire$Message" (49 : Nat) "Quorumspire$Message" "snapshot" "LQuorumspire$Store;") ∈ lw_all := lw_g (lw_at lw_m5 45 rfl) rfl
theorem q1075 : (Jvm.Cond.laysFinal "Quorumspire$Message" "Quorumspire$Message" "word" "LQuorumspire$Word;") ∈ lw_all := lw_g (lw_at lw_m5 47 rfl) rfl
theorem q1076 : (Jvm.Cond.soleField "Quorumspire$Message" "word") ∈ lw_all := lw_g (lw_at lw_m5 48 rfl) rfl
theorem q1077 : (Jvm.Cond.laysFinal "Quorumspire$Message" "Quorumspire$Message" "from" "I") ∈ lw_all := lw_g (lw_at lw_m5 49 rfl) rfl
theorem q1078 : (Jvm.Cond.soleField "Quorumspire$Message" "from") ∈ lw_all := lw_g (lw_at lw_m5 50 rfl) rfl
theorem q1079 : (Jvm.Cond.laysFinal "Quorumspire$Message" "Quorumspire$Message" "to" "I") ∈ lw_all := lw_g (lw_at lw_m5 51 rfl) rfl
theorem q1080 : (Jvm.Cond.soleField "Quorumspire$Message" "to") ∈ lw_all := lw_g (lw_at lw_m5 52 rfl) rfl
theorem q1081 : (Jvm.Cond.laysFinal "Quorumspire$Message" "Quorumspire$Message" "term" "I") ∈ lw_all := lw_g (lw_at lw_m5 53 rfl) rfl
theorem q1082 : (Jvm.Cond.soleField "Quorumspire$Message" "term") ∈ lw_all := lw_g (lw_at lw_m5 54 rfl) rfl
theorem q1083 : (Jvm.Cond.laysFinal "Quorumspire$Message" "Quorumspire$Message" "number" "I") ∈ lw_all := lw_g (lw_at lw_m5 55 rfl) rfl
theorem q1084 : (Jvm.Cond.soleField "Quorumspire$Message" "number") ∈ lw_all := lw_g (lw_at lw_m5 56 rfl) rfl
theorem q1085 : (Jvm.Cond.laysFinal "Quorumspire$Message" "Quorumspire$Message" "itsTerm" "I") ∈ lw_all := lw_g (lw_at lw_m5 57 rfl) rfl
theorem q1086 : (Jvm.Cond.soleField "Quorumspire$Message" "itsTerm") ∈ lw_all := lw_g (lw_at lw_m5 58 rfl) rfl
theorem q1087 : (Jvm.Cond.lays "Quorumspire$Message" "Quorumspire$Message" "isYes" "Z") ∈ lw_all := lw_g (lw_at lw_m5 59 rfl) rfl
theorem q1088 : (Jvm.Cond.soleField "Quorumspire$Message" "isYes") ∈ lw_all := lw_g (lw_at lw_m5 60 rfl) rfl
theorem q1089 : (Jvm.Cond.lays "Quorumspire$Message" "Quorumspire$Message" "sure" "I") ∈ lw_all := lw_g (lw_at lw_m5 61 rfl) rfl
theorem q1090 : (Jvm.Cond.soleField "Quorumspire$Message" "sure") ∈ lw_all := lw_g (lw_at lw_m5 62 rfl) rfl
theorem q1091 : (Jvm.Cond.lays "Quorumspire$Message" "Quorumspire$Message" "entries" "[LQuorumspire$Entry;") ∈ lw_all := lw_g (lw_at lw_m5 63 rfl) rfl
theorem q1092 : (Jvm.Cond.soleField "Quorumspire$Message" "entries") ∈ lw_all := lw_g (lw_at lw_m5 64 rfl) rfl
theorem q1093 : (Jvm.Cond.laysFinal "Quorumspire$Message" "Quorumspire$Message" "snapshot" "LQuorumspire$Store;") ∈ lw_all := lw_g (lw_at lw_m5 65 rfl) rfl
theorem q1094 : (Jvm.Cond.soleField "Quorumspire$Message" "snapshot") ∈ lw_all := lw_g (lw_at lw_m5 66 rfl) rfl
theorem q1095 : (Jvm.Cond.superclass "Quorumspire$Message" "java/lang/Object") ∈ lw_all := lw_g (lw_at lw_m5 67 rfl) rfl
theorem q2269 : (Jvm.Cond.selects "Quorumspire$Message" ({ cls := "java/lang/Object", name := "equals", desc := "(Ljava/lang/Object;)Z" } : Jvm.MethodName) ({ cls := "java/lang/Object", name := "equals", desc := "(Ljava/lang/Object;)Z" } : Jvm.MethodName)) ∈ lw_all := lw_g (lw_at lw_m10 41 rfl) rfl
theorem q2433 : (Jvm.Cond.castable "Quorumspire$Message" "java/lang/Object") ∈ lw_tbl := lw_at lw_m10 205 rfl
theorem in_X13 : ∀ w ∈ wsX130, w ∈ lw_all := lw_in wsX130 [1075, 1077, 1079, 1081, 1083, 1085, 1087, 1089, 1091, 1093] (by decide +kernel) (by decide +kernel)
/-! Quorumspire$Entry -/
set_option maxRecDepth 100000
def RX14 : String := "Quorumspire$Entry"
def TX14 : u_T := fun k => match k with
  | 0 => ("Quorumspire$Entry", "term", "I", true)
  | _ => ("Quorumspire$Entry", "request", "I", true)
def tyX14 : Nat → FieldType := fun k => match k with
  | 0 => .int
  | _ => .int
abbrev wsX140 : List Cond := u_ws RX14 TX14 2
theorem nmX14 : ∀ a, a < 2 → ∀ b, b < 2 → a ≠ b → (TX14 a).2.1 ≠ (TX14 b).2.1 := by decide +kernel
theorem tyX14_ok : ∀ k, k < 2 → parseFieldDescriptor (TX14 k).2.2.1 = some (tyX14 k) := by decide +kernel
abbrev cX14_isSame : ByteArray := prog_2_method_2_code
def yX14_isSame : MethodName := ⟨RX14, "isSame", "(LQuorumspire$Entry;)Z"⟩
def dkwX14_isSame_1 : List UInt8 := [167, 0, 4, 3, 172]
abbrev dktX14_isSame_1 : List UInt8 := dkwX14_isSame_1 ++ []
def dkwX14_isSame_0 : List UInt8 := [42, 180, 0, 7, 43, 180, 0, 7, 160, 0, 18, 42, 180, 0, 13, 43, 180, 0, 13, 160, 0, 7, 4]
abbrev dktX14_isSame_0 : List UInt8 := dkwX14_isSame_0 ++ dktX14_isSame_1
theorem dksX14_isSame_0 : cX14_isSame.data.toList.drop 0 = dktX14_isSame_0 := by decide +kernel
theorem dksX14_isSame_1 : cX14_isSame.data.toList.drop 23 = dktX14_isSame_1 := dk_seg dksX14_isSame_0 23 rfl rfl
theorem dX14_isSame_0 : decode cX14_isSame 0 = .ok (.aload_n 0, 1) := dk_42 (dk_at dksX14_isSame_0 0 rfl rfl)
theorem dX14_isSame_1 : decode cX14_isSame 1 = .ok (.getfield 7, 3) := dk_180 0 7 (dk_at dksX14_isSame_0 1 rfl rfl)
theorem dX14_isSame_4 : decode cX14_isSame 4 = .ok (.aload_n 1, 1) := dk_43 (dk_at dksX14_isSame_0 4 rfl rfl)
theorem dX14_isSame_5 : decode cX14_isSame 5 = .ok (.getfield 7, 3) := dk_180 0 7 (dk_at dksX14_isSame_0 5 rfl rfl)
theorem dX14_isSame_8 : decode cX14_isSame 8 = .ok (.if_icmp .ne 18, 3) := dk_160 0 18 (dk_at dksX14_isSame_0 8 rfl rfl)
theorem dX14_isSame_11 : decode cX14_isSame 11 = .ok (.aload_n 0, 1) := dk_42 (dk_at dksX14_isSame_0 11 rfl rfl)
theorem dX14_isSame_12 : decode cX14_isSame 12 = .ok (.getfield 13, 3) := dk_180 0 13 (dk_at dksX14_isSame_0 12 rfl rfl)
theorem dX14_isSame_15 : decode cX14_isSame 15 = .ok (.aload_n 1, 1) := dk_43 (dk_at dksX14_isSame_0 15 rfl rfl)
theorem dX14_isSame_16 : decode cX14_isSame 16 = .ok (.getfield 13, 3) := dk_180 0 13 (dk_at dksX14_isSame_0 16 rfl rfl)
theorem dX14_isSame_19 : decode cX14_isSame 19 = .ok (.if_icmp .ne 7, 3) := dk_160 0 7 (dk_at dksX14_isSame_0 19 rfl rfl)
theorem dX14_isSame_22 : decode cX14_isSame 22 = .ok (.iconst 1, 1) := dk_4 (dk_at dksX14_isSame_0 22 rfl rfl)
theorem dX14_isSame_23 : decode cX14_isSame 23 = .ok (.goto 4, 3) := dk_167 0 4 (dk_at dksX14_isSame_1 0 rfl rfl)
theorem dX14_isSame_26 : decode cX14_isSame 26 = .ok (.iconst 0, 1) := dk_3 (dk_at dksX14_isSame_1 3 rfl rfl)
theorem dX14_isSame_27 : decode cX14_isSame 27 = .ok (.ireturn, 1) := dk_172 (dk_at dksX14_isSame_1 4 rfl rfl)
abbrev cX14_init : ByteArray := prog_2_method_1_code
def yX14_init : MethodName := ⟨RX14, "<init>", "(II)V"⟩
def dkwX14_init_0 : List UInt8 := [42, 183, 0, 1, 42, 27, 181, 0, 7, 42, 28, 181, 0, 13, 177]
abbrev dktX14_init_0 : List UInt8 := dkwX14_init_0 ++ []
theorem dksX14_init_0 : cX14_init.data.toList.drop 0 = dktX14_init_0 := by decide +kernel
theorem dX14_init_0 : decode cX14_init 0 = .ok (.aload_n 0, 1) := dk_42 (dk_at dksX14_init_0 0 rfl rfl)
theorem dX14_init_1 : decode cX14_init 1 = .ok (.invokespecial 1, 3) := dk_183 0 1 (dk_at dksX14_init_0 1 rfl rfl)
theorem dX14_init_4 : decode cX14_init 4 = .ok (.aload_n 0, 1) := dk_42 (dk_at dksX14_init_0 4 rfl rfl)
theorem dX14_init_5 : decode cX14_init 5 = .ok (.iload_n 1, 1) := dk_27 (dk_at dksX14_init_0 5 rfl rfl)
theorem dX14_init_6 : decode cX14_init 6 = .ok (.putfield 7, 3) := dk_181 0 7 (dk_at dksX14_init_0 6 rfl rfl)
theorem dX14_init_9 : decode cX14_init 9 = .ok (.aload_n 0, 1) := dk_42 (dk_at dksX14_init_0 9 rfl rfl)
theorem dX14_init_10 : decode cX14_init 10 = .ok (.iload_n 2, 1) := dk_28 (dk_at dksX14_init_0 10 rfl rfl)
theorem dX14_init_11 : decode cX14_init 11 = .ok (.putfield 13, 3) := dk_181 0 13 (dk_at dksX14_init_0 11 rfl rfl)
theorem dX14_init_14 : decode cX14_init 14 = .ok (.return_, 1) := dk_177 (dk_at dksX14_init_0 14 rfl rfl)
theorem q101 : (Jvm.Cond.initialized "Quorumspire$Entry") ∈ lw_all := lw_g (lw_at lw_m1 33 rfl) rfl
theorem q256 : (Jvm.Cond.instanceMethod ({ cls := "Quorumspire$Entry", name := "isSame", desc := "(LQuorumspire$Entry;)Z" } : Jvm.MethodName)) ∈ lw_all := lw_g (lw_at lw_m1 188 rfl) rfl
theorem q257 : (Jvm.Cond.selects "Quorumspire$Entry" ({ cls := "Quorumspire$Entry", name := "isSame", desc := "(LQuorumspire$Entry;)Z" } : Jvm.MethodName) ({ cls := "Quorumspire$Entry", name := "isSame", desc := "(LQuorumspire$Entry;)Z" } : Jvm.MethodName)) ∈ lw_all := lw_g (lw_at lw_m1 189 rfl) rfl
theorem q258 : (Jvm.Cond.code ({ cls := "Quorumspire$Entry", name := "isSame", desc := "(LQuorumspire$Entry;)Z" } : Jvm.MethodName) prog_2_method_2_code (2 : Nat) (Option.some Jvm.ClassFile.FieldType.boolean)) ∈ lw_all := lw_g (lw_at lw_m1 190 rfl) rfl
theorem q647 : (Jvm.Cond.selects "Quorumspire$Entry" ({ cls := "java/lang/Object", name := "getClass", desc := "()Ljava/lang/Class;" } : Jvm.MethodName) ({ cls := "java/lang/Object", name := "getClass", desc := "()Ljava/lang/Class;" } : Jvm.MethodName)) ∈ lw_all := lw_g (lw_at lw_m3 99 rfl) rfl
theorem q1111 : (Jvm.Cond.instantiable "Quorumspire$Entry" (2 : Nat)) ∈ lw_all := lw_g (lw_at lw_m5 83 rfl) rfl
theorem q1113 : (Jvm.Cond.instanceMethod ({ cls := "Quorumspire$Entry", name := "<init>", desc := "(II)V" } : Jvm.MethodName)) ∈ lw_all := lw_g (lw_at lw_m5 85 rfl) rfl
theorem q1114 : (Jvm.Cond.code ({ cls := "Quorumspire$Entry", name := "<init>", desc := "(II)V" } : Jvm.MethodName) prog_2_method_1_code (3 : Nat) (Option.none : Option Jvm.ClassFile.FieldType)) ∈ lw_all := lw_g (lw_at lw_m5 86 rfl) rfl
theorem q1115 : (Jvm.Cond.methodLink "Quorumspire$Entry" (1 : Nat) ({ cls := "java/lang/Object", name := "<init>", desc := "()V" } : Jvm.MethodName)) ∈ lw_all := lw_g (lw_at lw_m5 87 rfl) rfl
theorem q1116 : (Jvm.Cond.fieldLink "Quorumspire$Entry" (7 : Nat) "Quorumspire$Entry" "term" "I") ∈ lw_all := lw_g (lw_at lw_m5 88 rfl) rfl
theorem q1120 : (Jvm.Cond.fieldLink "Quorumspire$Entry" (13 : Nat) "Quorumspire$Entry" "request" "I") ∈ lw_all := lw_g (lw_at lw_m5 92 rfl) rfl
theorem q1123 : (Jvm.Cond.laysFinal "Quorumspire$Entry" "Quorumspire$Entry" "term" "I") ∈ lw_all := lw_g (lw_at lw_m5 95 rfl) rfl
theorem q1124 : (Jvm.Cond.soleField "Quorumspire$Entry" "term") ∈ lw_all := lw_g (lw_at lw_m5 96 rfl) rfl
theorem q1125 : (Jvm.Cond.laysFinal "Quorumspire$Entry" "Quorumspire$Entry" "request" "I") ∈ lw_all := lw_g (lw_at lw_m5 97 rfl) rfl
theorem q1126 : (Jvm.Cond.soleField "Quorumspire$Entry" "request") ∈ lw_all := lw_g (lw_at lw_m5 98 rfl) rfl
theorem q1127 : (Jvm.Cond.superclass "Quorumspire$Entry" "java/lang/Object") ∈ lw_all := lw_g (lw_at lw_m5 99 rfl) rfl
theorem q2262 : (Jvm.Cond.selects "Quorumspire$Entry" ({ cls := "java/lang/Object", name := "equals", desc := "(Ljava/lang/Object;)Z" } : Jvm.MethodName) ({ cls := "java/lang/Object", name := "equals", desc := "(Ljava/lang/Object;)Z" } : Jvm.MethodName)) ∈ lw_all := lw_g (lw_at lw_m10 34 rfl) rfl
theorem q2415 : (Jvm.Cond.castable "Quorumspire$Entry" "java/lang/Object") ∈ lw_tbl := lw_at lw_m10 187 rfl
theorem in_X14 : ∀ w ∈ wsX140, w ∈ lw_all := lw_in wsX140 [1123, 1125] (by decide +kernel) (by decide +kernel)
/-! QuorumspireModel$Message -/
set_option maxRecDepth 100000
def RX15 : String := "QuorumspireModel$Message"
def TX15 : u_T := fun k => match k with
  | 0 => ("QuorumspireModel$Message", "kind", "I", true)
  | 1 => ("QuorumspireModel$Message", "from", "I", true)
  | 2 => ("QuorumspireModel$Message", "to", "I", true)
  | 3 => ("QuorumspireModel$Message", "term", "I", true)
  | 4 => ("QuorumspireModel$Message", "number", "I", false)
  | 5 => ("QuorumspireModel$Message", "itsTerm", "I", false)
  | 6 => ("QuorumspireModel$Message", "isYes", "Z", false)
  | 7 => ("QuorumspireModel$Message", "sure", "I", false)
  | 8 => ("QuorumspireModel$Message", "entries", "Ljava/util/ArrayList;", true)
  | _ => ("QuorumspireModel$Message", "snapshot", "LQuorumspireModel$Store;", false)
def tyX15 : Nat → FieldType := fun k => match k with
  | 0 => .int
  | 1 => .int
  | 2 => .int
  | 3 => .int
  | 4 => .int
  | 5 => .int
  | 6 => .boolean
  | 7 => .int
  | 8 => .object "java/util/ArrayList"
  | _ => .object "QuorumspireModel$Store"
abbrev wsX150 : List Cond := u_ws RX15 TX15 10
theorem nmX15 : ∀ a, a < 10 → ∀ b, b < 10 → a ≠ b → (TX15 a).2.1 ≠ (TX15 b).2.1 := by decide +kernel
theorem tyX15_ok : ∀ k, k < 10 → parseFieldDescriptor (TX15 k).2.2.1 = some (tyX15 k) := by decide +kernel
abbrev cX15_init : ByteArray := prog_16_method_1_code
def yX15_init : MethodName := ⟨RX15, "<init>", "(IIII)V"⟩
def dkwX15_init_1 : List UInt8 := [181, 0, 20, 42, 29, 181, 0, 23, 42, 21, 4, 181, 0, 26, 177]
abbrev dktX15_init_1 : List UInt8 := dkwX15_init_1 ++ []
def dkwX15_init_0 : List UInt8 := [42, 183, 0, 1, 42, 187, 0, 7, 89, 183, 0, 9, 181, 0, 10, 42, 27, 181, 0, 16, 42, 28]
abbrev dktX15_init_0 : List UInt8 := dkwX15_init_0 ++ dktX15_init_1
theorem dksX15_init_0 : cX15_init.data.toList.drop 0 = dktX15_init_0 := by decide +kernel
theorem dksX15_init_1 : cX15_init.data.toList.drop 22 = dktX15_init_1 := dk_seg dksX15_init_0 22 rfl rfl
theorem dX15_init_0 : decode cX15_init 0 = .ok (.aload_n 0, 1) := dk_42 (dk_at dksX15_init_0 0 rfl rfl)
theorem dX15_init_1 : decode cX15_init 1 = .ok (.invokespecial 1, 3) := dk_183 0 1 (dk_at dksX15_init_0 1 rfl rfl)
theorem dX15_init_4 : decode cX15_init 4 = .ok (.aload_n 0, 1) := dk_42 (dk_at dksX15_init_0 4 rfl rfl)
theorem dX15_init_5 : decode cX15_init 5 = .ok (.new 7, 3) := dk_187 0 7 (dk_at dksX15_init_0 5 rfl rfl)
theorem dX15_init_8 : decode cX15_init 8 = .ok (.dup, 1) := dk_89 (dk_at dksX15_init_0 8 rfl rfl)
theorem dX15_init_9 : decode cX15_init 9 = .ok (.invokespecial 9, 3) := dk_183 0 9 (dk_at dksX15_init_0 9 rfl rfl)
theorem dX15_init_12 : decode cX15_init 12 = .ok (.putfield 10, 3) := dk_181 0 10 (dk_at dksX15_init_0 12 rfl rfl)
theorem dX15_init_15 : decode cX15_init 15 = .ok (.aload_n 0, 1) := dk_42 (dk_at dksX15_init_0 15 rfl rfl)
theorem dX15_init_16 : decode cX15_init 16 = .ok (.iload_n 1, 1) := dk_27 (dk_at dksX15_init_0 16 rfl rfl)
theorem dX15_init_17 : decode cX15_init 17 = .ok (.putfield 16, 3) := dk_181 0 16 (dk_at dksX15_init_0 17 rfl rfl)
theorem dX15_init_20 : decode cX15_init 20 = .ok (.aload_n 0, 1) := dk_42 (dk_at dksX15_init_0 20 rfl rfl)
theorem dX15_init_21 : decode cX15_init 21 = .ok (.iload_n 2, 1) := dk_28 (dk_at dksX15_init_0 21 rfl rfl)
theorem dX15_init_22 : decode cX15_init 22 = .ok (.putfield 20, 3) := dk_181 0 20 (dk_at dksX15_init_1 0 rfl rfl)
theorem dX15_init_25 : decode cX15_init 25 = .ok (.aload_n 0, 1) := dk_42 (dk_at dksX15_init_1 3 rfl rfl)
theorem dX15_init_26 : decode cX15_init 26 = .ok (.iload_n 3, 1) := dk_29 (dk_at dksX15_init_1 4 rfl rfl)
theorem dX15_init_27 : decode cX15_init 27 = .ok (.putfield 23, 3) := dk_181 0 23 (dk_at dksX15_init_1 5 rfl rfl)
theorem dX15_init_30 : decode cX15_init 30 = .ok (.aload_n 0, 1) := dk_42 (dk_at dksX15_init_1 8 rfl rfl)
theorem dX15_init_31 : decode cX15_init 31 = .ok (.iload 4, 2) := dk_21 4 (dk_at dksX15_init_1 9 rfl rfl)
theorem dX15_init_33 : decode cX15_init 33 = .ok (.putfield 26, 3) := dk_181 0 26 (dk_at dksX15_init_1 11 rfl rfl)
theorem dX15_init_36 : decode cX15_init 36 = .ok (.return_, 1) := dk_177 (dk_at dksX15_init_1 14 rfl rfl)
theorem q102 : (Jvm.Cond.initialized "QuorumspireModel$Message") ∈ lw_all := lw_g (lw_at lw_m1 34 rfl) rfl
theorem q660 : (Jvm.Cond.selects "QuorumspireModel$Message" ({ cls := "java/lang/Object", name := "getClass", desc := "()Ljava/lang/Class;" } : Jvm.MethodName) ({ cls := "java/lang/Object", name := "getClass", desc := "()Ljava/lang/Class;" } : Jvm.MethodName)) ∈ lw_all := lw_g (lw_at lw_m3 112 rfl) rfl
theorem q1869 : (Jvm.Cond.instantiable "QuorumspireModel$Message" (10 : Nat)) ∈ lw_all := lw_g (lw_at lw_m8 121 rfl) rfl
theorem q1871 : (Jvm.Cond.instanceMethod ({ cls := "QuorumspireModel$Message", name := "<init>", desc := "(IIII)V" } : Jvm.MethodName)) ∈ lw_all := lw_g (lw_at lw_m8 123 rfl) rfl
theorem q1872 : (Jvm.Cond.code ({ cls := "QuorumspireModel$Message", name := "<init>", desc := "(IIII)V" } : Jvm.MethodName) prog_16_method_1_code (5 : Nat) (Option.none : Option Jvm.ClassFile.FieldType)) ∈ lw_all := lw_g (lw_at lw_m8 124 rfl) rfl
theorem q1873 : (Jvm.Cond.methodLink "QuorumspireModel$Message" (1 : Nat) ({ cls := "java/lang/Object", name := "<init>", desc := "()V" } : Jvm.MethodName)) ∈ lw_all := lw_g (lw_at lw_m8 125 rfl) rfl
theorem q1874 : (Jvm.Cond.classLink "QuorumspireModel$Message" (7 : Nat) "java/util/ArrayList") ∈ lw_all := lw_g (lw_at lw_m8 126 rfl) rfl
theorem q1875 : (Jvm.Cond.methodLink "QuorumspireModel$Message" (9 : Nat) ({ cls := "java/util/ArrayList", name := "<init>", desc := "()V" } : Jvm.MethodName)) ∈ lw_all := lw_g (lw_at lw_m8 127 rfl) rfl
theorem q1876 : (Jvm.Cond.fieldLink "QuorumspireModel$Message" (16 : Nat) "QuorumspireModel$Message" "kind" "I") ∈ lw_all := lw_g (lw_at lw_m8 128 rfl) rfl
theorem q1879 : (Jvm.Cond.fieldLink "QuorumspireModel$Message" (20 : Nat) "QuorumspireModel$Message" "from" "I") ∈ lw_all := lw_g (lw_at lw_m8 131 rfl) rfl
theorem q1882 : (Jvm.Cond.fieldLink "QuorumspireModel$Message" (23 : Nat) "QuorumspireModel$Message" "to" "I") ∈ lw_all := lw_g (lw_at lw_m8 134 rfl) rfl
theorem q1885 : (Jvm.Cond.fieldLink "QuorumspireModel$Message" (26 : Nat) "QuorumspireModel$Message" "term" "I") ∈ lw_all := lw_g (lw_at lw_m8 137 rfl) rfl
theorem q1894 : (Jvm.Cond.fieldLink "QuorumspireModel$Message" (10 : Nat) "QuorumspireModel$Message" "entries" "Ljava/util/ArrayList;") ∈ lw_all := lw_g (lw_at lw_m8 146 rfl) rfl
theorem q1898 : (Jvm.Cond.laysFinal "QuorumspireModel$Message" "QuorumspireModel$Message" "kind" "I") ∈ lw_all := lw_g (lw_at lw_m8 150 rfl) rfl
theorem q1899 : (Jvm.Cond.soleField "QuorumspireModel$Message" "kind") ∈ lw_all := lw_g (lw_at lw_m8 151 rfl) rfl
theorem q1900 : (Jvm.Cond.laysFinal "QuorumspireModel$Message" "QuorumspireModel$Message" "from" "I") ∈ lw_all := lw_g (lw_at lw_m8 152 rfl) rfl
theorem q1901 : (Jvm.Cond.soleField "QuorumspireModel$Message" "from") ∈ lw_all := lw_g (lw_at lw_m8 153 rfl) rfl
theorem q1902 : (Jvm.Cond.laysFinal "QuorumspireModel$Message" "QuorumspireModel$Message" "to" "I") ∈ lw_all := lw_g (lw_at lw_m8 154 rfl) rfl
theorem q1903 : (Jvm.Cond.soleField "QuorumspireModel$Message" "to") ∈ lw_all := lw_g (lw_at lw_m8 155 rfl) rfl
theorem q1904 : (Jvm.Cond.laysFinal "QuorumspireModel$Message" "QuorumspireModel$Message" "term" "I") ∈ lw_all := lw_g (lw_at lw_m8 156 rfl) rfl
theorem q1905 : (Jvm.Cond.soleField "QuorumspireModel$Message" "term") ∈ lw_all := lw_g (lw_at lw_m8 157 rfl) rfl
theorem q1906 : (Jvm.Cond.lays "QuorumspireModel$Message" "QuorumspireModel$Message" "number" "I") ∈ lw_all := lw_g (lw_at lw_m8 158 rfl) rfl
theorem q1907 : (Jvm.Cond.soleField "QuorumspireModel$Message" "number") ∈ lw_all := lw_g (lw_at lw_m8 159 rfl) rfl
theorem q1908 : (Jvm.Cond.lays "QuorumspireModel$Message" "QuorumspireModel$Message" "itsTerm" "I") ∈ lw_all := lw_g (lw_at lw_m8 160 rfl) rfl
theorem q1909 : (Jvm.Cond.soleField "QuorumspireModel$Message" "itsTerm") ∈ lw_all := lw_g (lw_at lw_m8 161 rfl) rfl
theorem q1910 : (Jvm.Cond.lays "QuorumspireModel$Message" "QuorumspireModel$Message" "isYes" "Z") ∈ lw_all := lw_g (lw_at lw_m8 162 rfl) rfl
theorem q1911 : (Jvm.Cond.soleField "QuorumspireModel$Message" "isYes") ∈ lw_all := lw_g (lw_at lw_m8 163 rfl) rfl
theorem q1912 : (Jvm.Cond.lays "QuorumspireModel$Message" "QuorumspireModel$Message" "sure" "I") ∈ lw_all := lw_g (lw_at lw_m8 164 rfl) rfl
theorem q1913 : (Jvm.Cond.soleField "QuorumspireModel$Message" "sure") ∈ lw_all := lw_g (lw_at lw_m8 165 rfl) rfl
theorem q1914 : (Jvm.Cond.laysFinal "QuorumspireModel$Message" "QuorumspireModel$Message" "entries" "Ljava/util/ArrayList;") ∈ lw_all := lw_g (lw_at lw_m8 166 rfl) rfl
theorem q1915 : (Jvm.Cond.soleField "QuorumspireModel$Message" "entries") ∈ lw_all := lw_g (lw_at lw_m8 167 rfl) rfl
theorem q1916 : (Jvm.Cond.lays "QuorumspireModel$Message" "QuorumspireModel$Message" "snapshot" "LQuorumspireModel$Store;") ∈ lw_all := lw_g (lw_at lw_m8 168 rfl) rfl
theorem q1917 : (Jvm.Cond.soleField "QuorumspireModel$Message" "snapshot") ∈ lw_all := lw_g (lw_at lw_m8 169 rfl) rfl
theorem q1918 : (Jvm.Cond.superclass "QuorumspireModel$Message" "java/lang/Object") ∈ lw_all := lw_g (lw_at lw_m8 170 rfl) rfl
theorem q2277 : (Jvm.Cond.selects "QuorumspireModel$Message" ({ cls := "java/lang/Object", name := "equals", desc := "(Ljava/lang/Object;)Z" } : Jvm.MethodName) ({ cls := "java/lang/Object", name := "equals", desc := "(Ljava/lang/Object;)Z" } : Jvm.MethodName)) ∈ lw_all := lw_g (lw_at lw_m10 49 rfl) rfl
theorem q2435 : (Jvm.Cond.castable "QuorumspireModel$Message" "java/lang/Object") ∈ lw_tbl := lw_at lw_m10 207 rfl
theorem in_X15 : ∀ w ∈ wsX150, w ∈ lw_all := lw_in wsX150 [1898, 1900, 1902, 1904, 1906, 1908, 1910, 1912, 1914, 1916] (by decide +kernel) (by decide +kernel)
/-! Quorumspire$History -/
set_option maxRecDepth 100000
def RX16 : String := "Quorumspire$History"
def TX16 : u_T := fun k => match k with
  | 0 => ("Quorumspire$History", "all", "Ljava/util/List;", true)
  | _ => ("Quorumspire$History", "tried", "[J", true)
def tyX16 : Nat → FieldType := fun k => match k with
  | 0 => .object "java/util/List"
  | _ => .array .long
abbrev wsX160 : List Cond := u_ws RX16 TX16 2
theorem nmX16 : ∀ a, a < 2 → ∀ b, b < 2 → a ≠ b → (TX16 a).2.1 ≠ (TX16 b).2.1 := by decide +kernel
theorem tyX16_ok : ∀ k, k < 2 → parseFieldDescriptor (TX16 k).2.2.1 = some (tyX16 k) := by decide +kernel
abbrev cX16_init : ByteArray := prog_3_method_1_code
def yX16_init : MethodName := ⟨RX16, "<init>", "(Ljava/util/List;I)V"⟩
def dkwX16_init_3 : List UInt8 := [153, 0, 9, 42, 25, 4, 182, 0, 47, 132, 3, 1, 167, 255, 200, 177]
abbrev dktX16_init_3 : List UInt8 := dkwX16_init_3 ++ []
def dkwX16_init_2 : List UInt8 := [25, 4, 180, 0, 36, 28, 160, 0, 25, 25, 4, 182, 0, 40, 153, 0, 17, 25, 4, 182, 0, 44]
abbrev dktX16_init_2 : List UInt8 := dkwX16_init_2 ++ dktX16_init_3
def dkwX16_init_1 : List UInt8 := [3, 62, 29, 43, 185, 0, 24, 1, 0, 162, 0, 52, 43, 29, 185, 0, 30, 2, 0, 192, 0, 34, 58, 4]
abbrev dktX16_init_1 : List UInt8 := dkwX16_init_1 ++ dktX16_init_2
def dkwX16_init_0 : List UInt8 := [42, 183, 0, 3, 42, 187, 0, 9, 89, 183, 0, 11, 181, 0, 12, 42, 17, 1, 144, 188, 11, 181, 0, 20]
abbrev dktX16_init_0 : List UInt8 := dkwX16_init_0 ++ dktX16_init_1
theorem dksX16_init_0 : cX16_init.data.toList.drop 0 = dktX16_init_0 := by decide +kernel
theorem dksX16_init_1 : cX16_init.data.toList.drop 24 = dktX16_init_1 := dk_seg dksX16_init_0 24 rfl rfl
theorem dksX16_init_2 : cX16_init.data.toList.drop 48 = dktX16_init_2 := dk_seg dksX16_init_1 24 rfl rfl
theorem dksX16_init_3 : cX16_init.data.toList.drop 70 = dktX16_init_3 := dk_seg dksX16_init_2 22 rfl rfl
theorem dX16_init_0 : decode cX16_init 0 = .ok (.aload_n 0, 1) := dk_42 (dk_at dksX16_init_0 0 rfl rfl)
theorem dX16_init_1 : decode cX16_init 1 = .ok (.invokespecial 3, 3) := dk_183 0 3 (dk_at dksX16_init_0 1 rfl rfl)
theorem dX16_init_4 : decode cX16_init 4 = .ok (.aload_n 0, 1) := dk_42 (dk_at dksX16_init_0 4 rfl rfl)
theorem dX16_init_5 : decode cX16_init 5 = .ok (.new 9, 3) := dk_187 0 9 (dk_at dksX16_init_0 5 rfl rfl)
theorem dX16_init_8 : decode cX16_init 8 = .ok (.dup, 1) := dk_89 (dk_at dksX16_init_0 8 rfl rfl)
theorem dX16_init_9 : decode cX16_init 9 = .ok (.invokespecial 11, 3) := dk_183 0 11 (dk_at dksX16_init_0 9 rfl rfl)
theorem dX16_init_12 : decode cX16_init 12 = .ok (.putfield 12, 3) := dk_181 0 12 (dk_at dksX16_init_0 12 rfl rfl)
theorem dX16_init_15 : decode cX16_init 15 = .ok (.aload_n 0, 1) := dk_42 (dk_at dksX16_init_0 15 rfl rfl)
theorem dX16_init_16 : decode cX16_init 16 = .ok (.sipush 400, 3) := dk_17 1 144 (dk_at dksX16_init_0 16 rfl rfl)
theorem dX16_init_19 : decode cX16_init 19 = .ok (.newarray .long, 2) := dk_188_11 (dk_at dksX16_init_0 19 rfl rfl)
theorem dX16_init_21 : decode cX16_init 21 = .ok (.putfield 20, 3) := dk_181 0 20 (dk_at dksX16_init_0 21 rfl rfl)
theorem dX16_init_24 : decode cX16_init 24 = .ok (.iconst 0, 1) := dk_3 (dk_at dksX16_init_1 0 rfl rfl)
theorem dX16_init_25 : decode cX16_init 25 = .ok (.istore_n 3, 1) := dk_62 (dk_at dksX16_init_1 1 rfl rfl)
theorem dX16_init_26 : decode cX16_init 26 = .ok (.iload_n 3, 1) := dk_29 (dk_at dksX16_init_1 2 rfl rfl)
theorem dX16_init_27 : decode cX16_init 27 = .ok (.aload_n 1, 1) := dk_43 (dk_at dksX16_init_1 3 rfl rfl)
theorem dX16_init_28 : decode cX16_init 28 = .ok (.invokeinterface 24 1, 5) := by decide +kernel
theorem dX16_init_33 : decode cX16_init 33 = .ok (.if_icmp .ge 52, 3) := dk_162 0 52 (dk_at dksX16_init_1 9 rfl rfl)
theorem dX16_init_36 : decode cX16_init 36 = .ok (.aload_n 1, 1) := dk_43 (dk_at dksX16_init_1 12 rfl rfl)
theorem dX16_init_37 : decode cX16_init 37 = .ok (.iload_n 3, 1) := dk_29 (dk_at dksX16_init_1 13 rfl rfl)
theorem dX16_init_38 : decode cX16_init 38 = .ok (.invokeinterface 30 2, 5) := by decide +kernel
theorem dX16_init_43 : decode cX16_init 43 = .ok (.checkcast 34, 3) := dk_192 0 34 (dk_at dksX16_init_1 19 rfl rfl)
theorem dX16_init_46 : decode cX16_init 46 = .ok (.astore 4, 2) := dk_58 4 (dk_at dksX16_init_1 22 rfl rfl)
theorem dX16_init_48 : decode cX16_init 48 = .ok (.aload 4, 2) := dk_25 4 (dk_at dksX16_init_2 0 rfl rfl)
theorem dX16_init_50 : decode cX16_init 50 = .ok (.getfield 36, 3) := dk_180 0 36 (dk_at dksX16_init_2 2 rfl rfl)
theorem dX16_init_53 : decode cX16_init 53 = .ok (.iload_n 2, 1) := dk_28 (dk_at dksX16_init_2 5 rfl rfl)
theorem dX16_init_54 : decode cX16_init 54 = .ok (.if_icmp .ne 25, 3) := dk_160 0 25 (dk_at dksX16_init_2 6 rfl rfl)
theorem dX16_init_57 : decode cX16_init 57 = .ok (.aload 4, 2) := dk_25 4 (dk_at dksX16_init_2 9 rfl rfl)
theorem dX16_init_59 : decode cX16_init 59 = .ok (.invokevirtual 40, 3) := dk_182 0 40 (dk_at dksX16_init_2 11 rfl rfl)
theorem dX16_init_62 : decode cX16_init 62 = .ok (.ifCond .eq 17, 3) := dk_153 0 17 (dk_at dksX16_init_2 14 rfl rfl)
theorem dX16_init_65 : decode cX16_init 65 = .ok (.aload 4, 2) := dk_25 4 (dk_at dksX16_init_2 17 rfl rfl)
theorem dX16_init_67 : decode cX16_init 67 = .ok (.invokevirtual 44, 3) := dk_182 0 44 (dk_at dksX16_init_2 19 rfl rfl)
theorem dX16_init_70 : decode cX16_init 70 = .ok (.ifCond .eq 9, 3) := dk_153 0 9 (dk_at dksX16_init_3 0 rfl rfl)
theorem dX16_init_73 : decode cX16_init 73 = .ok (.aload_n 0, 1) := dk_42 (dk_at dksX16_init_3 3 rfl rfl)
theorem dX16_init_74 : decode cX16_init 74 = .ok (.aload 4, 2) := dk_25 4 (dk_at dksX16_init_3 4 rfl rfl)
theorem dX16_init_76 : decode cX16_init 76 = .ok (.invokevirtual 47, 3) := dk_182 0 47 (dk_at dksX16_init_3 6 rfl rfl)
theorem dX16_init_79 : decode cX16_init 79 = .ok (.iinc 3 1, 3) := dk_132 3 1 (dk_at dksX16_init_3 9 rfl rfl)
theorem dX16_init_82 : decode cX16_init 82 = .ok (.goto (-56), 3) := dk_167 255 200 (dk_at dksX16_init_3 12 rfl rfl)
theorem dX16_init_85 : decode cX16_init 85 = .ok (.return_, 1) := dk_177 (dk_at dksX16_init_3 15 rfl rfl)
abbrev cX16_put : ByteArray := prog_3_method_2_code
def yX16_put : MethodName := ⟨RX16, "put", "(LQuorumspire$Request;)V"⟩
def dkwX16_put_3 : List UInt8 := [164, 0, 15, 42, 180, 0, 12, 16, 8, 185, 0, 58, 2, 0, 87, 177]
abbrev dktX16_put_3 : List UInt8 := dkwX16_put_3 ++ []
def dkwX16_put_2 : List UInt8 := [42, 180, 0, 12, 28, 43, 185, 0, 54, 3, 0, 42, 180, 0, 12, 185, 0, 24, 1, 0, 16, 8]
abbrev dktX16_put_2 : List UInt8 := dkwX16_put_2 ++ dktX16_put_3
def dkwX16_put_1 : List UInt8 := [185, 0, 30, 2, 0, 192, 0, 34, 180, 0, 51, 43, 180, 0, 51, 164, 0, 9, 132, 2, 255, 167, 255, 224]
abbrev dktX16_put_1 : List UInt8 := dkwX16_put_1 ++ dktX16_put_2
def dkwX16_put_0 : List UInt8 := [42, 180, 0, 12, 185, 0, 24, 1, 0, 61, 28, 158, 0, 34, 42, 180, 0, 12, 28, 4, 100]
abbrev dktX16_put_0 : List UInt8 := dkwX16_put_0 ++ dktX16_put_1
theorem dksX16_put_0 : cX16_put.data.toList.drop 0 = dktX16_put_0 := by decide +kernel
theorem dksX16_put_1 : cX16_put.data.toList.drop 21 = dktX16_put_1 := dk_seg dksX16_put_0 21 rfl rfl
theorem dksX16_put_2 : cX16_put.data.toList.drop 45 = dktX16_put_2 := dk_seg dksX16_put_1 24 rfl rfl
theorem dksX16_put_3 : cX16_put.data.toList.drop 67 = dktX16_put_3 := dk_seg dksX16_put_2 22 rfl rfl
theorem dX16_put_0 : decode cX16_put 0 = .ok (.aload_n 0, 1) := dk_42 (dk_at dksX16_put_0 0 rfl rfl)
theorem dX16_put_1 : decode cX16_put 1 = .ok (.getfield 12, 3) := dk_180 0 12 (dk_at dksX16_put_0 1 rfl rfl)
theorem dX16_put_4 : decode cX16_put 4 = .ok (.invokeinterface 24 1, 5) := by decide +kernel
theorem dX16_put_9 : decode cX16_put 9 = .ok (.istore_n 2, 1) := dk_61 (dk_at dksX16_put_0 9 rfl rfl)
theorem dX16_put_10 : decode cX16_put 10 = .ok (.iload_n 2, 1) := dk_28 (dk_at dksX16_put_0 10 rfl rfl)
theorem dX16_put_11 : decode cX16_put 11 = .ok (.ifCond .le 34, 3) := dk_158 0 34 (dk_at dksX16_put_0 11 rfl rfl)
theorem dX16_put_14 : decode cX16_put 14 = .ok (.aload_n 0, 1) := dk_42 (dk_at dksX16_put_0 14 rfl rfl)
theorem dX16_put_15 : decode cX16_put 15 = .ok (.getfield 12, 3) := dk_180 0 12 (dk_at dksX16_put_0 15 rfl rfl)
theorem dX16_put_18 : decode cX16_put 18 = .ok (.iload_n 2, 1) := dk_28 (dk_at dksX16_put_0 18 rfl rfl)
theorem dX16_put_19 : decode cX16_put 19 = .ok (.iconst 1, 1) := dk_4 (dk_at dksX16_put_0 19 rfl rfl)
theorem dX16_put_20 : decode cX16_put 20 = .ok (.isub, 1) := dk_100 (dk_at dksX16_put_0 20 rfl rfl)
theorem dX16_put_21 : decode cX16_put 21 = .ok (.invokeinterface 30 2, 5) := by decide +kernel
theorem dX16_put_26 : decode cX16_put 26 = .ok (.checkcast 34, 3) := dk_192 0 34 (dk_at dksX16_put_1 5 rfl rfl)
theorem dX16_put_29 : decode cX16_put 29 = .ok (.getfield 51, 3) := dk_180 0 51 (dk_at dksX16_put_1 8 rfl rfl)
theorem dX16_put_32 : decode cX16_put 32 = .ok (.aload_n 1, 1) := dk_43 (dk_at dksX16_put_1 11 rfl rfl)
theorem dX16_put_33 : decode cX16_put 33 = .ok (.getfield 51, 3) := dk_180 0 51 (dk_at dksX16_put_1 12 rfl rfl)
theorem dX16_put_36 : decode cX16_put 36 = .ok (.if_icmp .le 9, 3) := dk_164 0 9 (dk_at dksX16_put_1 15 rfl rfl)
theorem dX16_put_39 : decode cX16_put 39 = .ok (.iinc 2 (-1), 3) := dk_132 2 255 (dk_at dksX16_put_1 18 rfl rfl)
theorem dX16_put_42 : decode cX16_put 42 = .ok (.goto (-32), 3) := dk_167 255 224 (dk_at dksX16_put_1 21 rfl rfl)
theorem dX16_put_45 : decode cX16_put 45 = .ok (.aload_n 0, 1) := dk_42 (dk_at dksX16_put_2 0 rfl rfl)
theorem dX16_put_46 : decode cX16_put 46 = .ok (.getfield 12, 3) := dk_180 0 12 (dk_at dksX16_put_2 1 rfl rfl)
theorem dX16_put_49 : decode cX16_put 49 = .ok (.iload_n 2, 1) := dk_28 (dk_at dksX16_put_2 4 rfl rfl)
theorem dX16_put_50 : decode cX16_put 50 = .ok (.aload_n 1, 1) := dk_43 (dk_at dksX16_put_2 5 rfl rfl)
theorem dX16_put_51 : decode cX16_put 51 = .ok (.invokeinterface 54 3, 5) := by decide +kernel
theorem dX16_put_56 : decode cX16_put 56 = .ok (.aload_n 0, 1) := dk_42 (dk_at dksX16_put_2 11 rfl rfl)
theorem dX16_put_57 : decode cX16_put 57 = .ok (.getfield 12, 3) := dk_180 0 12 (dk_at dksX16_put_2 12 rfl rfl)
theorem dX16_put_60 : decode cX16_put 60 = .ok (.invokeinterface 24 1, 5) := by decide +kernel
theorem dX16_put_65 : decode cX16_put 65 = .ok (.bipush 8, 2) := dk_16 8 (dk_at dksX16_put_2 20 rfl rfl)
theorem dX16_put_67 : decode cX16_put 67 = .ok (.if_icmp .le 15, 3) := dk_164 0 15 (dk_at dksX16_put_3 0 rfl rfl)
theorem dX16_put_70 : decode cX16_put 70 = .ok (.aload_n 0, 1) := dk_42 (dk_at dksX16_put_3 3 rfl rfl)
theorem dX16_put_71 : decode cX16_put 71 = .ok (.getfield 12, 3) := dk_180 0 12 (dk_at dksX16_put_3 4 rfl rfl)
theorem dX16_put_74 : decode cX16_put 74 = .ok (.bipush 8, 2) := dk_16 8 (dk_at dksX16_put_3 7 rfl rfl)
theorem dX16_put_76 : decode cX16_put 76 = .ok (.invokeinterface 58 2, 5) := by decide +kernel
theorem dX16_put_81 : decode cX16_put 81 = .ok (.pop, 1) := dk_87 (dk_at dksX16_put_3 14 rfl rfl)
theorem dX16_put_82 : decode cX16_put 82 = .ok (.return_, 1) := dk_177 (dk_at dksX16_put_3 15 rfl rfl)
abbrev cX16_isAsOne : ByteArray := prog_3_method_3_code
def yX16_isAsOne : MethodName := ⟨RX16, "isAsOne", "()Z"⟩
def dkwX16_isAsOne_0 : List UInt8 := [42, 3, 3, 182, 0, 61, 172]
abbrev dktX16_isAsOne_0 : List UInt8 := dkwX16_isAsOne_0 ++ []
theorem dksX16_isAsOne_0 : cX16_isAsOne.data.toList.drop 0 = dktX16_isAsOne_0 := by decide +kernel
theorem dX16_isAsOne_0 : decode cX16_isAsOne 0 = .ok (.aload_n 0, 1) := dk_42 (dk_at dksX16_isAsOne_0 0 rfl rfl)
theorem dX16_isAsOne_1 : decode cX16_isAsOne 1 = .ok (.iconst 0, 1) := dk_3 (dk_at dksX16_isAsOne_0 1 rfl rfl)
theorem dX16_isAsOne_2 : decode cX16_isAsOne 2 = .ok (.iconst 0, 1) := dk_3 (dk_at dksX16_isAsOne_0 2 rfl rfl)
theorem dX16_isAsOne_3 : decode cX16_isAsOne 3 = .ok (.invokevirtual 61, 3) := dk_182 0 61 (dk_at dksX16_isAsOne_0 3 rfl rfl)
theorem dX16_isAsOne_6 : decode cX16_isAsOne 6 = .ok (.ireturn, 1) := dk_172 (dk_at dksX16_isAsOne_0 6 rfl rfl)
abbrev cX16_isAsOne_2 : ByteArray := prog_3_method_4_code
def yX16_isAsOne_2 : MethodName := ⟨RX16, "isAsOne", "(II)Z"⟩
def dkwX16_isAsOne_2_10 : List UInt8 := [3, 172]
abbrev dktX16_isAsOne_2_10 : List UInt8 := dkwX16_isAsOne_2_10 ++ []
def dkwX16_isAsOne_2_9 : List UInt8 := [21, 5, 120, 128, 25, 6, 28, 182, 0, 79, 182, 0, 61, 153, 0, 5, 4, 172, 132, 5, 1, 167, 255, 149]
abbrev dktX16_isAsOne_2_9 : List UInt8 := dkwX16_isAsOne_2_9 ++ dktX16_isAsOne_2_10
def dkwX16_isAsOne_2_8 : List UInt8 := [25, 6, 180, 0, 76, 160, 0, 7, 4, 167, 0, 4, 3, 54, 7, 21, 7, 153, 0, 24, 42, 27, 4]
abbrev dktX16_isAsOne_2_8 : List UInt8 := dkwX16_isAsOne_2_8 ++ dktX16_isAsOne_2_9
def dkwX16_isAsOne_2_7 : List UInt8 := [42, 27, 25, 6, 182, 0, 68, 153, 0, 29, 25, 6, 182, 0, 65, 153, 0, 17, 25, 6, 28, 182, 0, 72]
abbrev dktX16_isAsOne_2_7 : List UInt8 := dkwX16_isAsOne_2_7 ++ dktX16_isAsOne_2_8
def dkwX16_isAsOne_2_6 : List UInt8 := [180, 0, 12, 21, 5, 185, 0, 30, 2, 0, 192, 0, 34, 58, 6, 27, 21, 5, 122, 4, 126, 154, 0, 39]
abbrev dktX16_isAsOne_2_6 : List UInt8 := dkwX16_isAsOne_2_6 ++ dktX16_isAsOne_2_7
def dkwX16_isAsOne_2_5 : List UInt8 := [112, 121, 129, 80, 3, 54, 5, 21, 5, 42, 180, 0, 12, 185, 0, 24, 1, 0, 162, 0, 99, 42]
abbrev dktX16_isAsOne_2_5 : List UInt8 := dkwX16_isAsOne_2_5 ++ dktX16_isAsOne_2_6
def dkwX16_isAsOne_2_4 : List UInt8 := [127, 10, 148, 154, 0, 5, 3, 172, 42, 180, 0, 20, 21, 4, 16, 64, 108, 92, 47, 10, 21, 4, 16, 64]
abbrev dktX16_isAsOne_2_4 : List UInt8 := dkwX16_isAsOne_2_4 ++ dktX16_isAsOne_2_5
def dkwX16_isAsOne_2_3 : List UInt8 := [16, 100, 104, 28, 96, 54, 4, 42, 180, 0, 20, 21, 4, 16, 64, 108, 47, 21, 4, 16, 64, 112, 123, 10]
abbrev dktX16_isAsOne_2_3 : List UInt8 := dkwX16_isAsOne_2_3 ++ dktX16_isAsOne_2_4
def dkwX16_isAsOne_2_2 : List UInt8 := [154, 0, 7, 4, 167, 0, 4, 3, 126, 62, 132, 4, 1, 167, 255, 201, 29, 153, 0, 5, 4, 172, 27]
abbrev dktX16_isAsOne_2_2 : List UInt8 := dkwX16_isAsOne_2_2 ++ dktX16_isAsOne_2_3
def dkwX16_isAsOne_2_1 : List UInt8 := [4, 126, 4, 159, 0, 23, 42, 180, 0, 12, 21, 4, 185, 0, 30, 2, 0, 192, 0, 34, 182, 0, 65]
abbrev dktX16_isAsOne_2_1 : List UInt8 := dkwX16_isAsOne_2_1 ++ dktX16_isAsOne_2_2
def dkwX16_isAsOne_2_0 : List UInt8 := [4, 62, 3, 54, 4, 21, 4, 42, 180, 0, 12, 185, 0, 24, 1, 0, 162, 0, 47, 29, 27, 21, 4, 122]
abbrev dktX16_isAsOne_2_0 : List UInt8 := dkwX16_isAsOne_2_0 ++ dktX16_isAsOne_2_1
theorem dksX16_isAsOne_2_0 : cX16_isAsOne_2.data.toList.drop 0 = dktX16_isAsOne_2_0 := by decide +kernel
theorem dksX16_isAsOne_2_1 : cX16_isAsOne_2.data.toList.drop 24 = dktX16_isAsOne_2_1 := dk_seg dksX16_isAsOne_2_0 24 rfl rfl
theorem dksX16_isAsOne_2_2 : cX16_isAsOne_2.data.toList.drop 47 = dktX16_isAsOne_2_2 := dk_seg dksX16_isAsOne_2_1 23 rfl rfl
theorem dksX16_isAsOne_2_3 : cX16_isAsOne_2.data.toList.drop 70 = dktX16_isAsOne_2_3 := dk_seg dksX16_isAsOne_2_2 23 rfl rfl
theorem dksX16_isAsOne_2_4 : cX16_isAsOne_2.data.toList.drop 94 = dktX16_isAsOne_2_4 := dk_seg dksX16_isAsOne_2_3 24 rfl rfl
theorem dksX16_isAsOne_2_5 : cX16_isAsOne_2.data.toList.drop 118 = dktX16_isAsOne_2_5 := dk_seg dksX16_isAsOne_2_4 24 rfl rfl
theorem dksX16_isAsOne_2_6 : cX16_isAsOne_2.data.toList.drop 140 = dktX16_isAsOne_2_6 := dk_seg dksX16_isAsOne_2_5 22 rfl rfl
theorem dksX16_isAsOne_2_7 : cX16_isAsOne_2.data.toList.drop 164 = dktX16_isAsOne_2_7 := dk_seg dksX16_isAsOne_2_6 24 rfl rfl
theorem dksX16_isAsOne_2_8 : cX16_isAsOne_2.data.toList.drop 188 = dktX16_isAsOne_2_8 := dk_seg dksX16_isAsOne_2_7 24 rfl rfl
theorem dksX16_isAsOne_2_9 : cX16_isAsOne_2.data.toList.drop 211 = dktX16_isAsOne_2_9 := dk_seg dksX16_isAsOne_2_8 23 rfl rfl
theorem dksX16_isAsOne_2_10 : cX16_isAsOne_2.data.toList.drop 235 = dktX16_isAsOne_2_10 := dk_seg dksX16_isAsOne_2_9 24 rfl rfl
theorem dX16_isAsOne_2_0 : decode cX16_isAsOne_2 0 = .ok (.iconst 1, 1) := dk_4 (dk_at dksX16_isAsOne_2_0 0 rfl rfl)
theorem dX16_isAsOne_2_1 : decode cX16_isAsOne_2 1 = .ok (.istore_n 3, 1) := dk_62 (dk_at dksX16_isAsOne_2_0 1 rfl rfl)
theorem dX16_isAsOne_2_2 : decode cX16_isAsOne_2 2 = .ok (.iconst 0, 1) := dk_3 (dk_at dksX16_isAsOne_2_0 2 rfl rfl)
theorem dX16_isAsOne_2_3 : decode cX16_isAsOne_2 3 = .ok (.istore 4, 2) := dk_54 4 (dk_at dksX16_isAsOne_2_0 3 rfl rfl)
theorem dX16_isAsOne_2_5 : decode cX16_isAsOne_2 5 = .ok (.iload 4, 2) := dk_21 4 (dk_at dksX16_isAsOne_2_0 5 rfl rfl)
theorem dX16_isAsOne_2_7 : decode cX16_isAsOne_2 7 = .ok (.aload_n 0, 1) := dk_42 (dk_at dksX16_isAsOne_2_0 7 rfl rfl)
theorem dX16_isAsOne_2_8 : decode cX16_isAsOne_2 8 = .ok (.getfield 12, 3) := dk_180 0 12 (dk_at dksX16_isAsOne_2_0 8 rfl rfl)
theorem dX16_isAsOne_2_11 : decode cX16_isAsOne_2 11 = .ok (.invokeinterface 24 1, 5) := by decide +kernel
theorem dX16_isAsOne_2_16 : decode cX16_isAsOne_2 16 = .ok (.if_icmp .ge 47, 3) := dk_162 0 47 (dk_at dksX16_isAsOne_2_0 16 rfl rfl)
theorem dX16_isAsOne_2_19 : decode cX16_isAsOne_2 19 = .ok (.iload_n 3, 1) := dk_29 (dk_at dksX16_isAsOne_2_0 19 rfl rfl)
theorem dX16_isAsOne_2_20 : decode cX16_isAsOne_2 20 = .ok (.iload_n 1, 1) := dk_27 (dk_at dksX16_isAsOne_2_0 20 rfl rfl)
theorem dX16_isAsOne_2_21 : decode cX16_isAsOne_2 21 = .ok (.iload 4, 2) := dk_21 4 (dk_at dksX16_isAsOne_2_0 21 rfl rfl)
theorem dX16_isAsOne_2_23 : decode cX16_isAsOne_2 23 = .ok (.ishr, 1) := dk_122 (dk_at dksX16_isAsOne_2_0 23 rfl rfl)
theorem dX16_isAsOne_2_24 : decode cX16_isAsOne_2 24 = .ok (.iconst 1, 1) := dk_4 (dk_at dksX16_isAsOne_2_1 0 rfl rfl)
theorem dX16_isAsOne_2_25 : decode cX16_isAsOne_2 25 = .ok (.iand, 1) := dk_126 (dk_at dksX16_isAsOne_2_1 1 rfl rfl)
theorem dX16_isAsOne_2_26 : decode cX16_isAsOne_2 26 = .ok (.iconst 1, 1) := dk_4 (dk_at dksX16_isAsOne_2_1 2 rfl rfl)
theorem dX16_isAsOne_2_27 : decode cX16_isAsOne_2 27 = .ok (.if_icmp .eq 23, 3) := dk_159 0 23 (dk_at dksX16_isAsOne_2_1 3 rfl rfl)
theorem dX16_isAsOne_2_30 : decode cX16_isAsOne_2 30 = .ok (.aload_n 0, 1) := dk_42 (dk_at dksX16_isAsOne_2_1 6 rfl rfl)
theorem dX16_isAsOne_2_31 : decode cX16_isAsOne_2 31 = .ok (.getfield 12, 3) := dk_180 0 12 (dk_at dksX16_isAsOne_2_1 7 rfl rfl)
theorem dX16_isAsOne_2_34 : decode cX16_isAsOne_2 34 = .ok (.iload 4, 2) := dk_21 4 (dk_at dksX16_isAsOne_2_1 10 rfl rfl)
theorem dX16_isAsOne_2_36 : decode cX16_isAsOne_2 36 = .ok (.invokeinterface 30 2, 5) := by decide +kernel
theorem dX16_isAsOne_2_41 : decode cX16_isAsOne_2 41 = .ok (.checkcast 34, 3) := dk_192 0 34 (dk_at dksX16_isAsOne_2_1 17 rfl rfl)
theorem dX16_isAsOne_2_44 : decode cX16_isAsOne_2 44 = .ok (.invokevirtual 65, 3) := dk_182 0 65 (dk_at dksX16_isAsOne_2_1 20 rfl rfl)
theorem dX16_isAsOne_2_47 : decode cX16_isAsOne_2 47 = .ok (.ifCond .ne 7, 3) := dk_154 0 7 (dk_at dksX16_isAsOne_2_2 0 rfl rfl)
theorem dX16_isAsOne_2_50 : decode cX16_isAsOne_2 50 = .ok (.iconst 1, 1) := dk_4 (dk_at dksX16_isAsOne_2_2 3 rfl rfl)
theorem dX16_isAsOne_2_51 : decode cX16_isAsOne_2 51 = .ok (.goto 4, 3) := dk_167 0 4 (dk_at dksX16_isAsOne_2_2 4 rfl rfl)
theorem dX16_isAsOne_2_54 : decode cX16_isAsOne_2 54 = .ok (.iconst 0, 1) := dk_3 (dk_at dksX16_isAsOne_2_2 7 rfl rfl)
theorem dX16_isAsOne_2_55 : decode cX16_isAsOne_2 55 = .ok (.iand, 1) := dk_126 (dk_at dksX16_isAsOne_2_2 8 rfl rfl)
theorem dX16_isAsOne_2_56 : decode cX16_isAsOne_2 56 = .ok (.istore_n 3, 1) := dk_62 (dk_at dksX16_isAsOne_2_2 9 rfl rfl)
theorem dX16_isAsOne_2_57 : decode cX16_isAsOne_2 57 = .ok (.iinc 4 1, 3) := dk_132 4 1 (dk_at dksX16_isAsOne_2_2 10 rfl rfl)
theorem dX16_isAsOne_2_60 : decode cX16_isAsOne_2 60 = .ok (.goto (-55), 3) := dk_167 255 201 (dk_at dksX16_isAsOne_2_2 13 rfl rfl)
theorem dX16_isAsOne_2_63 : decode cX16_isAsOne_2 63 = .ok (.iload_n 3, 1) := dk_29 (dk_at dksX16_isAsOne_2_2 16 rfl rfl)
theorem dX16_isAsOne_2_64 : decode cX16_isAsOne_2 64 = .ok (.ifCond .eq 5, 3) := dk_153 0 5 (dk_at dksX16_isAsOne_2_2 17 rfl rfl)
theorem dX16_isAsOne_2_67 : decode cX16_isAsOne_2 67 = .ok (.iconst 1, 1) := dk_4 (dk_at dksX16_isAsOne_2_2 20 rfl rfl)
theorem dX16_isAsOne_2_68 : decode cX16_isAsOne_2 68 = .ok (.ireturn, 1) := dk_172 (dk_at dksX16_isAsOne_2_2 21 rfl rfl)
theorem dX16_isAsOne_2_69 : decode cX16_isAsOne_2 69 = .ok (.iload_n 1, 1) := dk_27 (dk_at dksX16_isAsOne_2_2 22 rfl rfl)
theorem dX16_isAsOne_2_70 : decode cX16_isAsOne_2 70 = .ok (.bipush 100, 2) := dk_16 100 (dk_at dksX16_isAsOne_2_3 0 rfl rfl)
theorem dX16_isAsOne_2_72 : decode cX16_isAsOne_2 72 = .ok (.imul, 1) := dk_104 (dk_at dksX16_isAsOne_2_3 2 rfl rfl)
theorem dX16_isAsOne_2_73 : decode cX16_isAsOne_2 73 = .ok (.iload_n 2, 1) := dk_28 (dk_at dksX16_isAsOne_2_3 3 rfl rfl)
theorem dX16_isAsOne_2_74 : decode cX16_isAsOne_2 74 = .ok (.iadd, 1) := dk_96 (dk_at dksX16_isAsOne_2_3 4 rfl rfl)
theorem dX16_isAsOne_2_75 : decode cX16_isAsOne_2 75 = .ok (.istore 4, 2) := dk_54 4 (dk_at dksX16_isAsOne_2_3 5 rfl rfl)
theorem dX16_isAsOne_2_77 : decode cX16_isAsOne_2 77 = .ok (.aload_n 0, 1) := dk_42 (dk_at dksX16_isAsOne_2_3 7 rfl rfl)
theorem dX16_isAsOne_2_78 : decode cX16_isAsOne_2 78 = .ok (.getfield 20, 3) := dk_180 0 20 (dk_at dksX16_isAsOne_2_3 8 rfl rfl)
theorem dX16_isAsOne_2_81 : decode cX16_isAsOne_2 81 = .ok (.iload 4, 2) := dk_21 4 (dk_at dksX16_isAsOne_2_3 11 rfl rfl)
theorem dX16_isAsOne_2_83 : decode cX16_isAsOne_2 83 = .ok (.bipush 64, 2) := dk_16 64 (dk_at dksX16_isAsOne_2_3 13 rfl rfl)
theorem dX16_isAsOne_2_85 : decode cX16_isAsOne_2 85 = .ok (.idiv, 1) := dk_108 (dk_at dksX16_isAsOne_2_3 15 rfl rfl)
theorem dX16_isAsOne_2_86 : decode cX16_isAsOne_2 86 = .ok (.laload, 1) := dk_47 (dk_at dksX16_isAsOne_2_3 16 rfl rfl)
theorem dX16_isAsOne_2_87 : decode cX16_isAsOne_2 87 = .ok (.iload 4, 2) := dk_21 4 (dk_at dksX16_isAsOne_2_3 17 rfl rfl)
theorem dX16_isAsOne_2_89 : decode cX16_isAsOne_2 89 = .ok (.bipush 64, 2) := dk_16 64 (dk_at dksX16_isAsOne_2_3 19 rfl rfl)
theorem dX16_isAsOne_2_91 : decode cX16_isAsOne_2 91 = .ok (.irem, 1) := dk_112 (dk_at dksX16_isAsOne_2_3 21 rfl rfl)
theorem dX16_isAsOne_2_92 : decode cX16_isAsOne_2 92 = .ok (.lshr, 1) := dk_123 (dk_at dksX16_isAsOne_2_3 22 rfl rfl)
theorem dX16_isAsOne_2_93 : decode cX16_isAsOne_2 93 = .ok (.lconst 1, 1) := dk_10 (dk_at dksX16_isAsOne_2_3 23 rfl rfl)
theorem dX16_isAsOne_2_94 : decode cX16_isAsOne_2 94 = .ok (.land, 1) := dk_127 (dk_at dksX16_isAsOne_2_4 0 rfl rfl)
theorem dX16_isAsOne_2_95 : decode cX16_isAsOne_2 95 = .ok (.lconst 1, 1) := dk_10 (dk_at dksX16_isAsOne_2_4 1 rfl rfl)
theorem dX16_isAsOne_2_96 : decode cX16_isAsOne_2 96 = .ok (.lcmp, 1) := dk_148 (dk_at dksX16_isAsOne_2_4 2 rfl rfl)
theorem dX16_isAsOne_2_97 : decode cX16_isAsOne_2 97 = .ok (.ifCond .ne 5, 3) := dk_154 0 5 (dk_at dksX16_isAsOne_2_4 3 rfl rfl)
theorem dX16_isAsOne_2_100 : decode cX16_isAsOne_2 100 = .ok (.iconst 0, 1) := dk_3 (dk_at dksX16_isAsOne_2_4 6 rfl rfl)
theorem dX16_isAsOne_2_101 : decode cX16_isAsOne_2 101 = .ok (.ireturn, 1) := dk_172 (dk_at dksX16_isAsOne_2_4 7 rfl rfl)
theorem dX16_isAsOne_2_102 : decode cX16_isAsOne_2 102 = .ok (.aload_n 0, 1) := dk_42 (dk_at dksX16_isAsOne_2_4 8 rfl rfl)
theorem dX16_isAsOne_2_103 : decode cX16_isAsOne_2 103 = .ok (.getfield 20, 3) := dk_180 0 20 (dk_at dksX16_isAsOne_2_4 9 rfl rfl)
theorem dX16_isAsOne_2_106 : decode cX16_isAsOne_2 106 = .ok (.iload 4, 2) := dk_21 4 (dk_at dksX16_isAsOne_2_4 12 rfl rfl)
theorem dX16_isAsOne_2_108 : decode cX16_isAsOne_2 108 = .ok (.bipush 64, 2) := dk_16 64 (dk_at dksX16_isAsOne_2_4 14 rfl rfl)
theorem dX16_isAsOne_2_110 : decode cX16_isAsOne_2 110 = .ok (.idiv, 1) := dk_108 (dk_at dksX16_isAsOne_2_4 16 rfl rfl)
theorem dX16_isAsOne_2_111 : decode cX16_isAsOne_2 111 = .ok (.dup2, 1) := dk_92 (dk_at dksX16_isAsOne_2_4 17 rfl rfl)
theorem dX16_isAsOne_2_112 : decode cX16_isAsOne_2 112 = .ok (.laload, 1) := dk_47 (dk_at dksX16_isAsOne_2_4 18 rfl rfl)
theorem dX16_isAsOne_2_113 : decode cX16_isAsOne_2 113 = .ok (.lconst 1, 1) := dk_10 (dk_at dksX16_isAsOne_2_4 19 rfl rfl)
theorem dX16_isAsOne_2_114 : decode cX16_isAsOne_2 114 = .ok (.iload 4, 2) := dk_21 4 (dk_at dksX16_isAsOne_2_4 20 rfl rfl)
theorem dX16_isAsOne_2_116 : decode cX16_isAsOne_2 116 = .ok (.bipush 64, 2) := dk_16 64 (dk_at dksX16_isAsOne_2_4 22 rfl rfl)
theorem dX16_isAsOne_2_118 : decode cX16_isAsOne_2 118 = .ok (.irem, 1) := dk_112 (dk_at dksX16_isAsOne_2_5 0 rfl rfl)
theorem dX16_isAsOne_2_119 : decode cX16_isAsOne_2 119 = .ok (.lshl, 1) := dk_121 (dk_at dksX16_isAsOne_2_5 1 rfl rfl)
theorem dX16_isAsOne_2_120 : decode cX16_isAsOne_2 120 = .ok (.lor, 1) := dk_129 (dk_at dksX16_isAsOne_2_5 2 rfl rfl)
theorem dX16_isAsOne_2_121 : decode cX16_isAsOne_2 121 = .ok (.lastore, 1) := dk_80 (dk_at dksX16_isAsOne_2_5 3 rfl rfl)
theorem dX16_isAsOne_2_122 : decode cX16_isAsOne_2 122 = .ok (.iconst 0, 1) := dk_3 (dk_at dksX16_isAsOne_2_5 4 rfl rfl)
theorem dX16_isAsOne_2_123 : decode cX16_isAsOne_2 123 = .ok (.istore 5, 2) := dk_54 5 (dk_at dksX16_isAsOne_2_5 5 rfl rfl)
theorem dX16_isAsOne_2_125 : decode cX16_isAsOne_2 125 = .ok (.iload 5, 2) := dk_21 5 (dk_at dksX16_isAsOne_2_5 7 rfl rfl)
theorem dX16_isAsOne_2_127 : decode cX16_isAsOne_2 127 = .ok (.aload_n 0, 1) := dk_42 (dk_at dksX16_isAsOne_2_5 9 rfl rfl)
theorem dX16_isAsOne_2_128 : decode cX16_isAsOne_2 128 = .ok (.getfield 12, 3) := dk_180 0 12 (dk_at dksX16_isAsOne_2_5 10 rfl rfl)
theorem dX16_isAsOne_2_131 : decode cX16_isAsOne_2 131 = .ok (.invokeinterface 24 1, 5) := by decide +kernel
theorem dX16_isAsOne_2_136 : decode cX16_isAsOne_2 136 = .ok (.if_icmp .ge 99, 3) := dk_162 0 99 (dk_at dksX16_isAsOne_2_5 18 rfl rfl)
theorem dX16_isAsOne_2_139 : decode cX16_isAsOne_2 139 = .ok (.aload_n 0, 1) := dk_42 (dk_at dksX16_isAsOne_2_5 21 rfl rfl)
theorem dX16_isAsOne_2_140 : decode cX16_isAsOne_2 140 = .ok (.getfield 12, 3) := dk_180 0 12 (dk_at dksX16_isAsOne_2_6 0 rfl rfl)
theorem dX16_isAsOne_2_143 : decode cX16_isAsOne_2 143 = .ok (.iload 5, 2) := dk_21 5 (dk_at dksX16_isAsOne_2_6 3 rfl rfl)
theorem dX16_isAsOne_2_145 : decode cX16_isAsOne_2 145 = .ok (.invokeinterface 30 2, 5) := by decide +kernel
theorem dX16_isAsOne_2_150 : decode cX16_isAsOne_2 150 = .ok (.checkcast 34, 3) := dk_192 0 34 (dk_at dksX16_isAsOne_2_6 10 rfl rfl)
theorem dX16_isAsOne_2_153 : decode cX16_isAsOne_2 153 = .ok (.astore 6, 2) := dk_58 6 (dk_at dksX16_isAsOne_2_6 13 rfl rfl)
theorem dX16_isAsOne_2_155 : decode cX16_isAsOne_2 155 = .ok (.iload_n 1, 1) := dk_27 (dk_at dksX16_isAsOne_2_6 15 rfl rfl)
theorem dX16_isAsOne_2_156 : decode cX16_isAsOne_2 156 = .ok (.iload 5, 2) := dk_21 5 (dk_at dksX16_isAsOne_2_6 16 rfl rfl)
theorem dX16_isAsOne_2_158 : decode cX16_isAsOne_2 158 = .ok (.ishr, 1) := dk_122 (dk_at dksX16_isAsOne_2_6 18 rfl rfl)
theorem dX16_isAsOne_2_159 : decode cX16_isAsOne_2 159 = .ok (.iconst 1, 1) := dk_4 (dk_at dksX16_isAsOne_2_6 19 rfl rfl)
theorem dX16_isAsOne_2_160 : decode cX16_isAsOne_2 160 = .ok (.iand, 1) := dk_126 (dk_at dksX16_isAsOne_2_6 20 rfl rfl)
theorem dX16_isAsOne_2_161 : decode cX16_isAsOne_2 161 = .ok (.ifCond .ne 39, 3) := dk_154 0 39 (dk_at dksX16_isAsOne_2_6 21 rfl rfl)
theorem dX16_isAsOne_2_164 : decode cX16_isAsOne_2 164 = .ok (.aload_n 0, 1) := dk_42 (dk_at dksX16_isAsOne_2_7 0 rfl rfl)
theorem dX16_isAsOne_2_165 : decode cX16_isAsOne_2 165 = .ok (.iload_n 1, 1) := dk_27 (dk_at dksX16_isAsOne_2_7 1 rfl rfl)
theorem dX16_isAsOne_2_166 : decode cX16_isAsOne_2 166 = .ok (.aload 6, 2) := dk_25 6 (dk_at dksX16_isAsOne_2_7 2 rfl rfl)
theorem dX16_isAsOne_2_168 : decode cX16_isAsOne_2 168 = .ok (.invokevirtual 68, 3) := dk_182 0 68 (dk_at dksX16_isAsOne_2_7 4 rfl rfl)
theorem dX16_isAsOne_2_171 : decode cX16_isAsOne_2 171 = .ok (.ifCond .eq 29, 3) := dk_153 0 29 (dk_at dksX16_isAsOne_2_7 7 rfl rfl)
theorem dX16_isAsOne_2_174 : decode cX16_isAsOne_2 174 = .ok (.aload 6, 2) := dk_25 6 (dk_at dksX16_isAsOne_2_7 10 rfl rfl)
theorem dX16_isAsOne_2_176 : decode cX16_isAsOne_2 176 = .ok (.invokevirtual 65, 3) := dk_182 0 65 (dk_at dksX16_isAsOne_2_7 12 rfl rfl)
theorem dX16_isAsOne_2_179 : decode cX16_isAsOne_2 179 = .ok (.ifCond .eq 17, 3) := dk_153 0 17 (dk_at dksX16_isAsOne_2_7 15 rfl rfl)
theorem dX16_isAsOne_2_182 : decode cX16_isAsOne_2 182 = .ok (.aload 6, 2) := dk_25 6 (dk_at dksX16_isAsOne_2_7 18 rfl rfl)
theorem dX16_isAsOne_2_184 : decode cX16_isAsOne_2 184 = .ok (.iload_n 2, 1) := dk_28 (dk_at dksX16_isAsOne_2_7 20 rfl rfl)
theorem dX16_isAsOne_2_185 : decode cX16_isAsOne_2 185 = .ok (.invokevirtual 72, 3) := dk_182 0 72 (dk_at dksX16_isAsOne_2_7 21 rfl rfl)
theorem dX16_isAsOne_2_188 : decode cX16_isAsOne_2 188 = .ok (.aload 6, 2) := dk_25 6 (dk_at dksX16_isAsOne_2_8 0 rfl rfl)
theorem dX16_isAsOne_2_190 : decode cX16_isAsOne_2 190 = .ok (.getfield 76, 3) := dk_180 0 76 (dk_at dksX16_isAsOne_2_8 2 rfl rfl)
theorem dX16_isAsOne_2_193 : decode cX16_isAsOne_2 193 = .ok (.if_icmp .ne 7, 3) := dk_160 0 7 (dk_at dksX16_isAsOne_2_8 5 rfl rfl)
theorem dX16_isAsOne_2_196 : decode cX16_isAsOne_2 196 = .ok (.iconst 1, 1) := dk_4 (dk_at dksX16_isAsOne_2_8 8 rfl rfl)
theorem dX16_isAsOne_2_197 : decode cX16_isAsOne_2 197 = .ok (.goto 4, 3) := dk_167 0 4 (dk_at dksX16_isAsOne_2_8 9 rfl rfl)
theorem dX16_isAsOne_2_200 : decode cX16_isAsOne_2 200 = .ok (.iconst 0, 1) := dk_3 (dk_at dksX16_isAsOne_2_8 12 rfl rfl)
theorem dX16_isAsOne_2_201 : decode cX16_isAsOne_2 201 = .ok (.istore 7, 2) := dk_54 7 (dk_at dksX16_isAsOne_2_8 13 rfl rfl)
theorem dX16_isAsOne_2_203 : decode cX16_isAsOne_2 203 = .ok (.iload 7, 2) := dk_21 7 (dk_at dksX16_isAsOne_2_8 15 rfl rfl)
theorem dX16_isAsOne_2_205 : decode cX16_isAsOne_2 205 = .ok (.ifCond .eq 24, 3) := dk_153 0 24 (dk_at dksX16_isAsOne_2_8 17 rfl rfl)
theorem dX16_isAsOne_2_208 : decode cX16_isAsOne_2 208 = .ok (.aload_n 0, 1) := dk_42 (dk_at dksX16_isAsOne_2_8 20 rfl rfl)
theorem dX16_isAsOne_2_209 : decode cX16_isAsOne_2 209 = .ok (.iload_n 1, 1) := dk_27 (dk_at dksX16_isAsOne_2_8 21 rfl rfl)
theorem dX16_isAsOne_2_210 : decode cX16_isAsOne_2 210 = .ok (.iconst 1, 1) := dk_4 (dk_at dksX16_isAsOne_2_8 22 rfl rfl)
theorem dX16_isAsOne_2_211 : decode cX16_isAsOne_2 211 = .ok (.iload 5, 2) := dk_21 5 (dk_at dksX16_isAsOne_2_9 0 rfl rfl)
theorem dX16_isAsOne_2_213 : decode cX16_isAsOne_2 213 = .ok (.ishl, 1) := dk_120 (dk_at dksX16_isAsOne_2_9 2 rfl rfl)
theorem dX16_isAsOne_2_214 : decode cX16_isAsOne_2 214 = .ok (.ior, 1) := dk_128 (dk_at dksX16_isAsOne_2_9 3 rfl rfl)
theorem dX16_isAsOne_2_215 : decode cX16_isAsOne_2 215 = .ok (.aload 6, 2) := dk_25 6 (dk_at dksX16_isAsOne_2_9 4 rfl rfl)
theorem dX16_isAsOne_2_217 : decode cX16_isAsOne_2 217 = .ok (.iload_n 2, 1) := dk_28 (dk_at dksX16_isAsOne_2_9 6 rfl rfl)
theorem dX16_isAsOne_2_218 : decode cX16_isAsOne_2 218 = .ok (.invokevirtual 79, 3) := dk_182 0 79 (dk_at dksX16_isAsOne_2_9 7 rfl rfl)
theorem dX16_isAsOne_2_221 : decode cX16_isAsOne_2 221 = .ok (.invokevirtual 61, 3) := dk_182 0 61 (dk_at dksX16_isAsOne_2_9 10 rfl rfl)
theorem dX16_isAsOne_2_224 : decode cX16_isAsOne_2 224 = .ok (.ifCond .eq 5, 3) := dk_153 0 5 (dk_at dksX16_isAsOne_2_9 13 rfl rfl)
theorem dX16_isAsOne_2_227 : decode cX16_isAsOne_2 227 = .ok (.iconst 1, 1) := dk_4 (dk_at dksX16_isAsOne_2_9 16 rfl rfl)
theorem dX16_isAsOne_2_228 : decode cX16_isAsOne_2 228 = .ok (.ireturn, 1) := dk_172 (dk_at dksX16_isAsOne_2_9 17 rfl rfl)
theorem dX16_isAsOne_2_229 : decode cX16_isAsOne_2 229 = .ok (.iinc 5 1, 3) := dk_132 5 1 (dk_at dksX16_isAsOne_2_9 18 rfl rfl)
theorem dX16_isAsOne_2_232 : decode cX16_isAsOne_2 232 = .ok (.goto (-107), 3) := dk_167 255 149 (dk_at dksX16_isAsOne_2_9 21 rfl rfl)
theorem dX16_isAsOne_2_235 : decode cX16_isAsOne_2 235 = .ok (.iconst 0, 1) := dk_3 (dk_at dksX16_isAsOne_2_10 0 rfl rfl)
theorem dX16_isAsOne_2_236 : decode cX16_isAsOne_2 236 = .ok (.ireturn, 1) := dk_172 (dk_at dksX16_isAsOne_2_10 1 rfl rfl)
abbrev cX16_isNext : ByteArray := prog_3_method_5_code
def yX16_isNext : MethodName := ⟨RX16, "isNext", "(ILQuorumspire$Request;)Z"⟩
def dkwX16_isNext_4 : List UInt8 := [62, 132, 4, 1, 167, 255, 165, 29, 172]
abbrev dktX16_isNext_4 : List UInt8 := dkwX16_isNext_4 ++ []
def dkwX16_isNext_3 : List UInt8 := [54, 5, 29, 21, 5, 153, 0, 13, 27, 21, 4, 122, 4, 126, 4, 160, 0, 7, 4, 167, 0, 4, 3, 126]
abbrev dktX16_isNext_3 : List UInt8 := dkwX16_isNext_3 ++ dktX16_isNext_4
def dkwX16_isNext_2 : List UInt8 := [185, 0, 30, 2, 0, 192, 0, 34, 180, 0, 82, 44, 180, 0, 51, 162, 0, 7, 4, 167, 0, 4, 3]
abbrev dktX16_isNext_2 : List UInt8 := dkwX16_isNext_2 ++ dktX16_isNext_3
def dkwX16_isNext_1 : List UInt8 := [21, 4, 185, 0, 30, 2, 0, 192, 0, 34, 182, 0, 65, 153, 0, 31, 42, 180, 0, 12, 21, 4]
abbrev dktX16_isNext_1 : List UInt8 := dkwX16_isNext_1 ++ dktX16_isNext_2
def dkwX16_isNext_0 : List UInt8 := [4, 62, 3, 54, 4, 21, 4, 42, 180, 0, 12, 185, 0, 24, 1, 0, 162, 0, 83, 42, 180, 0, 12]
abbrev dktX16_isNext_0 : List UInt8 := dkwX16_isNext_0 ++ dktX16_isNext_1
theorem dksX16_isNext_0 : cX16_isNext.data.toList.drop 0 = dktX16_isNext_0 := by decide +kernel
theorem dksX16_isNext_1 : cX16_isNext.data.toList.drop 23 = dktX16_isNext_1 := dk_seg dksX16_isNext_0 23 rfl rfl
theorem dksX16_isNext_2 : cX16_isNext.data.toList.drop 45 = dktX16_isNext_2 := dk_seg dksX16_isNext_1 22 rfl rfl
theorem dksX16_isNext_3 : cX16_isNext.data.toList.drop 68 = dktX16_isNext_3 := dk_seg dksX16_isNext_2 23 rfl rfl
theorem dksX16_isNext_4 : cX16_isNext.data.toList.drop 92 = dktX16_isNext_4 := dk_seg dksX16_isNext_3 24 rfl rfl
theorem dX16_isNext_0 : decode cX16_isNext 0 = .ok (.iconst 1, 1) := dk_4 (dk_at dksX16_isNext_0 0 rfl rfl)
theorem dX16_isNext_1 : decode cX16_isNext 1 = .ok (.istore_n 3, 1) := dk_62 (dk_at dksX16_isNext_0 1 rfl rfl)
theorem dX16_isNext_2 : decode cX16_isNext 2 = .ok (.iconst 0, 1) := dk_3 (dk_at dksX16_isNext_0 2 rfl rfl)
theorem dX16_isNext_3 : decode cX16_isNext 3 = .ok (.istore 4, 2) := dk_54 4 (dk_at dksX16_isNext_0 3 rfl rfl)
theorem dX16_isNext_5 : decode cX16_isNext 5 = .ok (.iload 4, 2) := dk_21 4 (dk_at dksX16_isNext_0 5 rfl rfl)
theorem dX16_isNext_7 : decode cX16_isNext 7 = .ok (.aload_n 0, 1) := dk_42 (dk_at dksX16_isNext_0 7 rfl rfl)
theorem dX16_isNext_8 : decode cX16_isNext 8 = .ok (.getfield 12, 3) := dk_180 0 12 (dk_at dksX16_isNext_0 8 rfl rfl)
theorem dX16_isNext_11 : decode cX16_isNext 11 = .ok (.invokeinterface 24 1, 5) := by decide +kernel
theorem dX16_isNext_16 : decode cX16_isNext 16 = .ok (.if_icmp .ge 83, 3) := dk_162 0 83 (dk_at dksX16_isNext_0 16 rfl rfl)
theorem dX16_isNext_19 : decode cX16_isNext 19 = .ok (.aload_n 0, 1) := dk_42 (dk_at dksX16_isNext_0 19 rfl rfl)
theorem dX16_isNext_20 : decode cX16_isNext 20 = .ok (.getfield 12, 3) := dk_180 0 12 (dk_at dksX16_isNext_0 20 rfl rfl)
theorem dX16_isNext_23 : decode cX16_isNext 23 = .ok (.iload 4, 2) := dk_21 4 (dk_at dksX16_isNext_1 0 rfl rfl)
theorem dX16_isNext_25 : decode cX16_isNext 25 = .ok (.invokeinterface 30 2, 5) := by decide +kernel
theorem dX16_isNext_30 : decode cX16_isNext 30 = .ok (.checkcast 34, 3) := dk_192 0 34 (dk_at dksX16_isNext_1 7 rfl rfl)
theorem dX16_isNext_33 : decode cX16_isNext 33 = .ok (.invokevirtual 65, 3) := dk_182 0 65 (dk_at dksX16_isNext_1 10 rfl rfl)
theorem dX16_isNext_36 : decode cX16_isNext 36 = .ok (.ifCond .eq 31, 3) := dk_153 0 31 (dk_at dksX16_isNext_1 13 rfl rfl)
theorem dX16_isNext_39 : decode cX16_isNext 39 = .ok (.aload_n 0, 1) := dk_42 (dk_at dksX16_isNext_1 16 rfl rfl)
theorem dX16_isNext_40 : decode cX16_isNext 40 = .ok (.getfield 12, 3) := dk_180 0 12 (dk_at dksX16_isNext_1 17 rfl rfl)
theorem dX16_isNext_43 : decode cX16_isNext 43 = .ok (.iload 4, 2) := dk_21 4 (dk_at dksX16_isNext_1 20 rfl rfl)
theorem dX16_isNext_45 : decode cX16_isNext 45 = .ok (.invokeinterface 30 2, 5) := by decide +kernel
theorem dX16_isNext_50 : decode cX16_isNext 50 = .ok (.checkcast 34, 3) := dk_192 0 34 (dk_at dksX16_isNext_2 5 rfl rfl)
theorem dX16_isNext_53 : decode cX16_isNext 53 = .ok (.getfield 82, 3) := dk_180 0 82 (dk_at dksX16_isNext_2 8 rfl rfl)
theorem dX16_isNext_56 : decode cX16_isNext 56 = .ok (.aload_n 2, 1) := dk_44 (dk_at dksX16_isNext_2 11 rfl rfl)
theorem dX16_isNext_57 : decode cX16_isNext 57 = .ok (.getfield 51, 3) := dk_180 0 51 (dk_at dksX16_isNext_2 12 rfl rfl)
theorem dX16_isNext_60 : decode cX16_isNext 60 = .ok (.if_icmp .ge 7, 3) := dk_162 0 7 (dk_at dksX16_isNext_2 15 rfl rfl)
theorem dX16_isNext_63 : decode cX16_isNext 63 = .ok (.iconst 1, 1) := dk_4 (dk_at dksX16_isNext_2 18 rfl rfl)
theorem dX16_isNext_64 : decode cX16_isNext 64 = .ok (.goto 4, 3) := dk_167 0 4 (dk_at dksX16_isNext_2 19 rfl rfl)
theorem dX16_isNext_67 : decode cX16_isNext 67 = .ok (.iconst 0, 1) := dk_3 (dk_at dksX16_isNext_2 22 rfl rfl)
theorem dX16_isNext_68 : decode cX16_isNext 68 = .ok (.istore 5, 2) := dk_54 5 (dk_at dksX16_isNext_3 0 rfl rfl)
theorem dX16_isNext_70 : decode cX16_isNext 70 = .ok (.iload_n 3, 1) := dk_29 (dk_at dksX16_isNext_3 2 rfl rfl)
theorem dX16_isNext_71 : decode cX16_isNext 71 = .ok (.iload 5, 2) := dk_21 5 (dk_at dksX16_isNext_3 3 rfl rfl)
theorem dX16_isNext_73 : decode cX16_isNext 73 = .ok (.ifCond .eq 13, 3) := dk_153 0 13 (dk_at dksX16_isNext_3 5 rfl rfl)
theorem dX16_isNext_76 : decode cX16_isNext 76 = .ok (.iload_n 1, 1) := dk_27 (dk_at dksX16_isNext_3 8 rfl rfl)
theorem dX16_isNext_77 : decode cX16_isNext 77 = .ok (.iload 4, 2) := dk_21 4 (dk_at dksX16_isNext_3 9 rfl rfl)
theorem dX16_isNext_79 : decode cX16_isNext 79 = .ok (.ishr, 1) := dk_122 (dk_at dksX16_isNext_3 11 rfl rfl)
theorem dX16_isNext_80 : decode cX16_isNext 80 = .ok (.iconst 1, 1) := dk_4 (dk_at dksX16_isNext_3 12 rfl rfl)
theorem dX16_isNext_81 : decode cX16_isNext 81 = .ok (.iand, 1) := dk_126 (dk_at dksX16_isNext_3 13 rfl rfl)
theorem dX16_isNext_82 : decode cX16_isNext 82 = .ok (.iconst 1, 1) := dk_4 (dk_at dksX16_isNext_3 14 rfl rfl)
theorem dX16_isNext_83 : decode cX16_isNext 83 = .ok (.if_icmp .ne 7, 3) := dk_160 0 7 (dk_at dksX16_isNext_3 15 rfl rfl)
theorem dX16_isNext_86 : decode cX16_isNext 86 = .ok (.iconst 1, 1) := dk_4 (dk_at dksX16_isNext_3 18 rfl rfl)
theorem dX16_isNext_87 : decode cX16_isNext 87 = .ok (.goto 4, 3) := dk_167 0 4 (dk_at dksX16_isNext_3 19 rfl rfl)
theorem dX16_isNext_90 : decode cX16_isNext 90 = .ok (.iconst 0, 1) := dk_3 (dk_at dksX16_isNext_3 22 rfl rfl)
theorem dX16_isNext_91 : decode cX16_isNext 91 = .ok (.iand, 1) := dk_126 (dk_at dksX16_isNext_3 23 rfl rfl)
theorem dX16_isNext_92 : decode cX16_isNext 92 = .ok (.istore_n 3, 1) := dk_62 (dk_at dksX16_isNext_4 0 rfl rfl)
theorem dX16_isNext_93 : decode cX16_isNext 93 = .ok (.iinc 4 1, 3) := dk_132 4 1 (dk_at dksX16_isNext_4 1 rfl rfl)
theorem dX16_isNext_96 : decode cX16_isNext 96 = .ok (.goto (-91), 3) := dk_167 255 165 (dk_at dksX16_isNext_4 4 rfl rfl)
theorem dX16_isNext_99 : decode cX16_isNext 99 = .ok (.iload_n 3, 1) := dk_29 (dk_at dksX16_isNext_4 7 rfl rfl)
theorem dX16_isNext_100 : decode cX16_isNext 100 = .ok (.ireturn, 1) := dk_172 (dk_at dksX16_isNext_4 8 rfl rfl)
theorem q106 : (Jvm.Cond.initialized "Quorumspire$History") ∈ lw_all := lw_g (lw_at lw_m1 38 rfl) rfl
theorem q260 : (Jvm.Cond.instantiable "Quorumspire$History" (2 : Nat)) ∈ lw_all := lw_g (lw_at lw_m1 192 rfl) rfl
theorem q262 : (Jvm.Cond.instanceMethod ({ cls := "Quorumspire$History", name := "<init>", desc := "(Ljava/util/List;I)V" } : Jvm.MethodName)) ∈ lw_all := lw_g (lw_at lw_m1 194 rfl) rfl
theorem q263 : (Jvm.Cond.code ({ cls := "Quorumspire$History", name := "<init>", desc := "(Ljava/util/List;I)V" } : Jvm.MethodName) prog_3_method_1_code (5 : Nat) (Option.none : Option Jvm.ClassFile.FieldType)) ∈ lw_all := lw_g (lw_at lw_m1 195 rfl) rfl
theorem q264 : (Jvm.Cond.methodLink "Quorumspire$History" (3 : Nat) ({ cls := "java/lang/Object", name := "<init>", desc := "()V" } : Jvm.MethodName)) ∈ lw_all := lw_g (lw_at lw_m1 196 rfl) rfl
theorem q265 : (Jvm.Cond.classLink "Quorumspire$History" (9 : Nat) "java/util/ArrayList") ∈ lw_all := lw_g (lw_at lw_m1 197 rfl) rfl
theorem q266 : (Jvm.Cond.methodLink "Quorumspire$History" (11 : Nat) ({ cls := "java/util/ArrayList", name := "<init>", desc := "()V" } : Jvm.MethodName)) ∈ lw_all := lw_g (lw_at lw_m1 198 rfl) rfl
theorem q267 : (Jvm.Cond.interfaceEntry "Quorumspire$History" (24 : Nat)) ∈ lw_tbl := lw_at lw_m1 199 rfl
theorem q268 : (Jvm.Cond.methodLink "Quorumspire$History" (24 : Nat) ({ cls := "java/util/List", name := "size", desc := "()I" } : Jvm.MethodName)) ∈ lw_all := lw_g (lw_at lw_m1 200 rfl) rfl
theorem q269 : (Jvm.Cond.interfaceEntry "Quorumspire$History" (30 : Nat)) ∈ lw_tbl := lw_at lw_m1 201 rfl
theorem q270 : (Jvm.Cond.methodLink "Quorumspire$History" (30 : Nat) ({ cls := "java/util/List", name := "get", desc := "(I)Ljava/lang/Object;" } : Jvm.MethodName)) ∈ lw_all := lw_g (lw_at lw_m1 202 rfl) rfl
theorem q271 : (Jvm.Cond.classLink "Quorumspire$History" (34 : Nat) "Quorumspire$Request") ∈ lw_all := lw_g (lw_at lw_m1 203 rfl) rfl
theorem q272 : (Jvm.Cond.methodLink "Quorumspire$History" (40 : Nat) ({ cls := "Quorumspire$Request", name := "isOfValue", desc := "()Z" } : Jvm.MethodName)) ∈ lw_all := lw_g (lw_at lw_m1 204 rfl) rfl
theorem q282 : (Jvm.Cond.methodLink "Quorumspire$History" (44 : Nat) ({ cls := "Quorumspire$Request", name := "isSent", desc := "()Z" } : Jvm.MethodName)) ∈ lw_all := lw_g (lw_at lw_m1 214 rfl) rfl
theorem q286 : (Jvm.Cond.methodLink "Quorumspire$History" (47 : Nat) ({ cls := "Quorumspire$History", name := "put", desc := "(LQuorumspire$Request;)V" } : Jvm.MethodName)) ∈ lw_all := lw_g (lw_at lw_m1 218 rfl) rfl
theorem q287 : (Jvm.Cond.privateMethod ({ cls := "Quorumspire$History", name := "put", desc := "(LQuorumspire$Request;)V" } : Jvm.MethodName)) ∈ lw_tbl := lw_at lw_m1 219 rfl
theorem q288 : (Jvm.Cond.instanceMethod ({ cls := "Quorumspire$History", name := "put", desc := "(LQuorumspire$Request;)V" } : Jvm.MethodName)) ∈ lw_all := lw_g (lw_at lw_m1 220 rfl) rfl
theorem q289 : (Jvm.Cond.code ({ cls := "Quorumspire$History", name := "put", desc := "(LQuorumspire$Request;)V" } : Jvm.MethodName) prog_3_method_2_code (3 : Nat) (Option.none : Option Jvm.ClassFile.FieldType)) ∈ lw_all := lw_g (lw_at lw_m1 221 rfl) rfl
theorem q290 : (Jvm.Cond.interfaceEntry "Quorumspire$History" (54 : Nat)) ∈ lw_tbl := lw_at lw_m1 222 rfl
theorem q291 : (Jvm.Cond.methodLink "Quorumspire$History" (54 : Nat) ({ cls := "java/util/List", name := "add", desc := "(ILjava/lang/Object;)V" } : Jvm.MethodName)) ∈ lw_all := lw_g (lw_at lw_m1 223 rfl) rfl
theorem q648 : (Jvm.Cond.selects "Quorumspire$History" ({ cls := "java/lang/Object", name := "getClass", desc := "()Ljava/lang/Class;" } : Jvm.MethodName) ({ cls := "java/lang/Object", name := "getClass", desc := "()Ljava/lang/Class;" } : Jvm.MethodName)) ∈ lw_all := lw_g (lw_at lw_m3 100 rfl) rfl
theorem q682 : (Jvm.Cond.interfaceEntry "Quorumspire$History" (58 : Nat)) ∈ lw_tbl := lw_at lw_m3 134 rfl
theorem q683 : (Jvm.Cond.methodLink "Quorumspire$History" (58 : Nat) ({ cls := "java/util/List", name := "remove", desc := "(I)Ljava/lang/Object;" } : Jvm.MethodName)) ∈ lw_all := lw_g (lw_at lw_m3 135 rfl) rfl
theorem q695 : (Jvm.Cond.fieldLink "Quorumspire$History" (12 : Nat) "Quorumspire$History" "all" "Ljava/util/List;") ∈ lw_all := lw_g (lw_at lw_m3 147 rfl) rfl
theorem q696 : (Jvm.Cond.fieldLink "Quorumspire$History" (20 : Nat) "Quorumspire$History" "tried" "[J") ∈ lw_all := lw_g (lw_at lw_m3 148 rfl) rfl
theorem q697 : (Jvm.Cond.laysFinal "Quorumspire$History" "Quorumspire$History" "all" "Ljava/util/List;") ∈ lw_all := lw_g (lw_at lw_m3 149 rfl) rfl
theorem q698 : (Jvm.Cond.soleField "Quorumspire$History" "all") ∈ lw_all := lw_g (lw_at lw_m3 150 rfl) rfl
theorem q699 : (Jvm.Cond.laysFinal "Quorumspire$History" "Quorumspire$History" "tried" "[J") ∈ lw_all := lw_g (lw_at lw_m3 151 rfl) rfl
theorem q700 : (Jvm.Cond.soleField "Quorumspire$History" "tried") ∈ lw_all := lw_g (lw_at lw_m3 152 rfl) rfl
theorem q701 : (Jvm.Cond.superclass "Quorumspire$History" "java/lang/Object") ∈ lw_all := lw_g (lw_at lw_m3 153 rfl) rfl
theorem q703 : (Jvm.Cond.instanceMethod ({ cls := "Quorumspire$History", name := "isAsOne", desc := "()Z" } : Jvm.MethodName)) ∈ lw_all := lw_g (lw_at lw_m3 155 rfl) rfl
theorem q704 : (Jvm.Cond.selects "Quorumspire$History" ({ cls := "Quorumspire$History", name := "isAsOne", desc := "()Z" } : Jvm.MethodName) ({ cls := "Quorumspire$History", name := "isAsOne", desc := "()Z" } : Jvm.MethodName)) ∈ lw_all := lw_g (lw_at lw_m3 156 rfl) rfl
theorem q705 : (Jvm.Cond.code ({ cls := "Quorumspire$History", name := "isAsOne", desc := "()Z" } : Jvm.MethodName) prog_3_method_3_code (1 : Nat) (Option.some Jvm.ClassFile.FieldType.boolean)) ∈ lw_all := lw_g (lw_at lw_m3 157 rfl) rfl
theorem q706 : (Jvm.Cond.methodLink "Quorumspire$History" (61 : Nat) ({ cls := "Quorumspire$History", name := "isAsOne", desc := "(II)Z" } : Jvm.MethodName)) ∈ lw_all := lw_g (lw_at lw_m3 158 rfl) rfl
theorem q707 : (Jvm.Cond.privateMethod ({ cls := "Quorumspire$History", name := "isAsOne", desc := "(II)Z" } : Jvm.MethodName)) ∈ lw_tbl := lw_at lw_m3 159 rfl
theorem q708 : (Jvm.Cond.instanceMethod ({ cls := "Quorumspire$History", name := "isAsOne", desc := "(II)Z" } : Jvm.MethodName)) ∈ lw_all := lw_g (lw_at lw_m3 160 rfl) rfl
theorem q709 : (Jvm.Cond.code ({ cls := "Quorumspire$History", name := "isAsOne", desc := "(II)Z" } : Jvm.MethodName) prog_3_method_4_code (8 : Nat) (Option.some Jvm.ClassFile.FieldType.boolean)) ∈ lw_all := lw_g (lw_at lw_m3 161 rfl) rfl
theorem q710 : (Jvm.Cond.methodLink "Quorumspire$History" (65 : Nat) ({ cls := "Quorumspire$Request", name := "isAnswered", desc := "()Z" } : Jvm.MethodName)) ∈ lw_all := lw_g (lw_at lw_m3 162 rfl) rfl
theorem q714 : (Jvm.Cond.methodLink "Quorumspire$History" (68 : Nat) ({ cls := "Quorumspire$History", name := "isNext", desc := "(ILQuorumspire$Request;)Z" } : Jvm.MethodName)) ∈ lw_all := lw_g (lw_at lw_m3 166 rfl) rfl
theorem q715 : (Jvm.Cond.privateMethod ({ cls := "Quorumspire$History", name := "isNext", desc := "(ILQuorumspire$Request;)Z" } : Jvm.MethodName)) ∈ lw_tbl := lw_at lw_m3 167 rfl
theorem q716 : (Jvm.Cond.instanceMethod ({ cls := "Quorumspire$History", name := "isNext", desc := "(ILQuorumspire$Request;)Z" } : Jvm.MethodName)) ∈ lw_all := lw_g (lw_at lw_m3 168 rfl) rfl
theorem q717 : (Jvm.Cond.code ({ cls := "Quorumspire$History", name := "isNext", desc := "(ILQuorumspire$Request;)Z" } : Jvm.MethodName) prog_3_method_5_code (6 : Nat) (Option.some Jvm.ClassFile.FieldType.boolean)) ∈ lw_all := lw_g (lw_at lw_m3 169 rfl) rfl
theorem q718 : (Jvm.Cond.methodLink "Quorumspire$History" (72 : Nat) ({ cls := "Quorumspire$Request", name := "told", desc := "(I)I" } : Jvm.MethodName)) ∈ lw_all := lw_g (lw_at lw_m3 170 rfl) rfl
theorem q722 : (Jvm.Cond.methodLink "Quorumspire$History" (79 : Nat) ({ cls := "Quorumspire$Request", name := "behind", desc := "(I)I" } : Jvm.MethodName)) ∈ lw_all := lw_g (lw_at lw_m3 174 rfl) rfl
theorem q997 : (Jvm.Cond.fieldLinkNest "Quorumspire$History" (36 : Nat) "Quorumspire$Request" "key" "I" "Quorumspire") ∈ lw_tbl := lw_at lw_m4 209 rfl
theorem q1005 : (Jvm.Cond.fieldLinkNest "Quorumspire$History" (76 : Nat) "Quorumspire$Request" "result" "I" "Quorumspire") ∈ lw_tbl := lw_at lw_m4 217 rfl
theorem q1009 : (Jvm.Cond.fieldLinkNest "Quorumspire$History" (51 : Nat) "Quorumspire$Request" "sent" "I" "Quorumspire") ∈ lw_tbl := lw_at lw_m4 221 rfl
theorem q1012 : (Jvm.Cond.fieldLinkNest "Quorumspire$History" (82 : Nat) "Quorumspire$Request" "answered" "I" "Quorumspire") ∈ lw_tbl := lw_at lw_m4 224 rfl
theorem q2263 : (Jvm.Cond.selects "Quorumspire$History" ({ cls := "java/lang/Object", name := "equals", desc := "(Ljava/lang/Object;)Z" } : Jvm.MethodName) ({ cls := "java/lang/Object", name := "equals", desc := "(Ljava/lang/Object;)Z" } : Jvm.MethodName)) ∈ lw_all := lw_g (lw_at lw_m10 35 rfl) rfl
theorem q2437 : (Jvm.Cond.castable "Quorumspire$History" "java/lang/Object") ∈ lw_tbl := lw_at lw_m10 209 rfl
theorem in_X16 : ∀ w ∈ wsX160, w ∈ lw_all := lw_in wsX160 [697, 699] (by decide +kernel) (by decide +kernel)
