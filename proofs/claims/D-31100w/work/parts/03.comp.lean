/-! KalmanQuay$Hit -/
set_option maxRecDepth 100000
def RX3 : String := "KalmanQuay$Hit"
def TX3 : u_T := fun k => match k with
  | 0 => ("KalmanQuay$Hit", "sensor", "I", true)
  | 1 => ("KalmanQuay$Hit", "place", "I", true)
  | _ => ("KalmanQuay$Hit", "track", "I", false)
def tyX3 : Nat → FieldType := fun k => match k with
  | 0 => .int
  | 1 => .int
  | _ => .int
abbrev wsX30 : List Cond := u_ws RX3 TX3 3
theorem nmX3 : ∀ a, a < 3 → ∀ b, b < 3 → a ≠ b → (TX3 a).2.1 ≠ (TX3 b).2.1 := by decide +kernel
theorem tyX3_ok : ∀ k, k < 3 → parseFieldDescriptor (TX3 k).2.2.1 = some (tyX3 k) := by decide +kernel
abbrev cX3_init : ByteArray := prog_4_method_1_code
def yX3_init : MethodName := ⟨RX3, "<init>", "(II)V"⟩
def dkwX3_init_0 : List UInt8 := [42, 183, 0, 3, 42, 2, 181, 0, 9, 42, 27, 181, 0, 15, 42, 28, 181, 0, 18, 177]
abbrev dktX3_init_0 : List UInt8 := dkwX3_init_0 ++ []
theorem dksX3_init_0 : cX3_init.data.toList.drop 0 = dktX3_init_0 := by decide +kernel
theorem dX3_init_0 : decode cX3_init 0 = .ok (.aload_n 0, 1) := dk_42 (dk_at dksX3_init_0 0 rfl rfl)
theorem dX3_init_1 : decode cX3_init 1 = .ok (.invokespecial 3, 3) := dk_183 0 3 (dk_at dksX3_init_0 1 rfl rfl)
theorem dX3_init_4 : decode cX3_init 4 = .ok (.aload_n 0, 1) := dk_42 (dk_at dksX3_init_0 4 rfl rfl)
theorem dX3_init_5 : decode cX3_init 5 = .ok (.iconst (-1), 1) := dk_2 (dk_at dksX3_init_0 5 rfl rfl)
theorem dX3_init_6 : decode cX3_init 6 = .ok (.putfield 9, 3) := dk_181 0 9 (dk_at dksX3_init_0 6 rfl rfl)
theorem dX3_init_9 : decode cX3_init 9 = .ok (.aload_n 0, 1) := dk_42 (dk_at dksX3_init_0 9 rfl rfl)
theorem dX3_init_10 : decode cX3_init 10 = .ok (.iload_n 1, 1) := dk_27 (dk_at dksX3_init_0 10 rfl rfl)
theorem dX3_init_11 : decode cX3_init 11 = .ok (.putfield 15, 3) := dk_181 0 15 (dk_at dksX3_init_0 11 rfl rfl)
theorem dX3_init_14 : decode cX3_init 14 = .ok (.aload_n 0, 1) := dk_42 (dk_at dksX3_init_0 14 rfl rfl)
theorem dX3_init_15 : decode cX3_init 15 = .ok (.iload_n 2, 1) := dk_28 (dk_at dksX3_init_0 15 rfl rfl)
theorem dX3_init_16 : decode cX3_init 16 = .ok (.putfield 18, 3) := dk_181 0 18 (dk_at dksX3_init_0 16 rfl rfl)
theorem dX3_init_19 : decode cX3_init 19 = .ok (.return_, 1) := dk_177 (dk_at dksX3_init_0 19 rfl rfl)
theorem q58 : (Jvm.Cond.initialized "KalmanQuay$Hit") ∈ lw_all := lw_g (lw_at lw_m1 21 rfl) rfl
theorem q255 : (Jvm.Cond.selects "KalmanQuay$Hit" ({ cls := "java/lang/Object", name := "getClass", desc := "()Ljava/lang/Class;" } : Jvm.MethodName) ({ cls := "java/lang/Object", name := "getClass", desc := "()Ljava/lang/Class;" } : Jvm.MethodName)) ∈ lw_all := lw_g (lw_at lw_m1 218 rfl) rfl
theorem q471 : (Jvm.Cond.instantiable "KalmanQuay$Hit" (3 : Nat)) ∈ lw_all := lw_g (lw_at lw_m2 194 rfl) rfl
theorem q473 : (Jvm.Cond.instanceMethod ({ cls := "KalmanQuay$Hit", name := "<init>", desc := "(II)V" } : Jvm.MethodName)) ∈ lw_all := lw_g (lw_at lw_m2 196 rfl) rfl
theorem q474 : (Jvm.Cond.code ({ cls := "KalmanQuay$Hit", name := "<init>", desc := "(II)V" } : Jvm.MethodName) prog_4_method_1_code (3 : Nat) (Option.none : Option Jvm.ClassFile.FieldType)) ∈ lw_all := lw_g (lw_at lw_m2 197 rfl) rfl
theorem q475 : (Jvm.Cond.methodLink "KalmanQuay$Hit" (3 : Nat) ({ cls := "java/lang/Object", name := "<init>", desc := "()V" } : Jvm.MethodName)) ∈ lw_all := lw_g (lw_at lw_m2 198 rfl) rfl
theorem q476 : (Jvm.Cond.fieldLink "KalmanQuay$Hit" (15 : Nat) "KalmanQuay$Hit" "sensor" "I") ∈ lw_all := lw_g (lw_at lw_m2 199 rfl) rfl
theorem q478 : (Jvm.Cond.fieldLink "KalmanQuay$Hit" (18 : Nat) "KalmanQuay$Hit" "place" "I") ∈ lw_all := lw_g (lw_at lw_m2 201 rfl) rfl
theorem q480 : (Jvm.Cond.fieldLink "KalmanQuay$Hit" (9 : Nat) "KalmanQuay$Hit" "track" "I") ∈ lw_all := lw_g (lw_at lw_m2 203 rfl) rfl
theorem q482 : (Jvm.Cond.laysFinal "KalmanQuay$Hit" "KalmanQuay$Hit" "sensor" "I") ∈ lw_all := lw_g (lw_at lw_m2 205 rfl) rfl
theorem q483 : (Jvm.Cond.soleField "KalmanQuay$Hit" "sensor") ∈ lw_all := lw_g (lw_at lw_m2 206 rfl) rfl
theorem q484 : (Jvm.Cond.laysFinal "KalmanQuay$Hit" "KalmanQuay$Hit" "place" "I") ∈ lw_all := lw_g (lw_at lw_m2 207 rfl) rfl
theorem q485 : (Jvm.Cond.soleField "KalmanQuay$Hit" "place") ∈ lw_all := lw_g (lw_at lw_m2 208 rfl) rfl
theorem q486 : (Jvm.Cond.lays "KalmanQuay$Hit" "KalmanQuay$Hit" "track" "I") ∈ lw_all := lw_g (lw_at lw_m2 209 rfl) rfl
theorem q487 : (Jvm.Cond.soleField "KalmanQuay$Hit" "track") ∈ lw_all := lw_g (lw_at lw_m2 210 rfl) rfl
theorem q488 : (Jvm.Cond.superclass "KalmanQuay$Hit" "java/lang/Object") ∈ lw_all := lw_g (lw_at lw_m2 211 rfl) rfl
theorem q662 : (Jvm.Cond.selects "KalmanQuay$Hit" ({ cls := "java/lang/Object", name := "hashCode", desc := "()I" } : Jvm.MethodName) ({ cls := "java/lang/Object", name := "hashCode", desc := "()I" } : Jvm.MethodName)) ∈ lw_all := lw_g (lw_at lw_m3 145 rfl) rfl
theorem q810 : (Jvm.Cond.selects "KalmanQuay$Hit" ({ cls := "java/lang/Object", name := "equals", desc := "(Ljava/lang/Object;)Z" } : Jvm.MethodName) ({ cls := "java/lang/Object", name := "equals", desc := "(Ljava/lang/Object;)Z" } : Jvm.MethodName)) ∈ lw_all := lw_g (lw_at lw_m4 53 rfl) rfl
theorem q1691 : (Jvm.Cond.castable "KalmanQuay$Hit" "java/lang/Object") ∈ lw_tbl := lw_at lw_m7 214 rfl
theorem in_X3 : ∀ w ∈ wsX30, w ∈ lw_all := lw_in wsX30 [482, 484, 486] (by decide +kernel) (by decide +kernel)

/-! KalmanQuay$State -/
set_option maxRecDepth 100000
def RX4 : String := "KalmanQuay$State"
def TX4 : u_T := fun k => match k with
  | 0 => ("KalmanQuay$State", "x", "I", true)
  | 1 => ("KalmanQuay$State", "v", "I", true)
  | 2 => ("KalmanQuay$State", "a", "I", true)
  | 3 => ("KalmanQuay$State", "b", "I", true)
  | _ => ("KalmanQuay$State", "c", "I", true)
def tyX4 : Nat → FieldType := fun k => match k with
  | 0 => .int
  | 1 => .int
  | 2 => .int
  | 3 => .int
  | _ => .int
abbrev wsX40 : List Cond := u_ws RX4 TX4 5
theorem nmX4 : ∀ a, a < 5 → ∀ b, b < 5 → a ≠ b → (TX4 a).2.1 ≠ (TX4 b).2.1 := by decide +kernel
theorem tyX4_ok : ∀ k, k < 5 → parseFieldDescriptor (TX4 k).2.2.1 = some (tyX4 k) := by decide +kernel
abbrev cX4_foretell : ByteArray := prog_6_method_2_code
def yX4_foretell : MethodName := ⟨RX4, "foretell", "(I)LKalmanQuay$State;"⟩
def dkwX4_foretell_3 : List UInt8 := [133, 97, 183, 0, 37, 176]
abbrev dktX4_foretell_3 : List UInt8 := dkwX4_foretell_3 ++ []
def dkwX4_foretell_2 : List UInt8 := [180, 0, 29, 133, 105, 97, 42, 180, 0, 32, 133, 97, 27, 7, 108, 133, 97, 32, 42, 180, 0, 32, 133, 27]
abbrev dktX4_foretell_2 : List UInt8 := dkwX4_foretell_2 ++ dktX4_foretell_3
def dkwX4_foretell_1 : List UInt8 := [180, 0, 15, 133, 42, 180, 0, 23, 133, 97, 42, 180, 0, 23, 133, 42, 180, 0, 26, 133, 20, 0, 35, 42]
abbrev dktX4_foretell_1 : List UInt8 := dkwX4_foretell_1 ++ dktX4_foretell_2
def dkwX4_foretell_0 : List UInt8 := [42, 180, 0, 29, 133, 42, 180, 0, 32, 133, 97, 27, 5, 108, 133, 97, 65, 187, 0, 16, 89, 42]
abbrev dktX4_foretell_0 : List UInt8 := dkwX4_foretell_0 ++ dktX4_foretell_1
theorem dksX4_foretell_0 : cX4_foretell.data.toList.drop 0 = dktX4_foretell_0 := by decide +kernel
theorem dksX4_foretell_1 : cX4_foretell.data.toList.drop 22 = dktX4_foretell_1 := dk_seg dksX4_foretell_0 22 rfl rfl
theorem dksX4_foretell_2 : cX4_foretell.data.toList.drop 46 = dktX4_foretell_2 := dk_seg dksX4_foretell_1 24 rfl rfl
theorem dksX4_foretell_3 : cX4_foretell.data.toList.drop 70 = dktX4_foretell_3 := dk_seg dksX4_foretell_2 24 rfl rfl
theorem dX4_foretell_0 : decode cX4_foretell 0 = .ok (.aload_n 0, 1) := dk_42 (dk_at dksX4_foretell_0 0 rfl rfl)
theorem dX4_foretell_1 : decode cX4_foretell 1 = .ok (.getfield 29, 3) := dk_180 0 29 (dk_at dksX4_foretell_0 1 rfl rfl)
theorem dX4_foretell_4 : decode cX4_foretell 4 = .ok (.i2l, 1) := dk_133 (dk_at dksX4_foretell_0 4 rfl rfl)
theorem dX4_foretell_5 : decode cX4_foretell 5 = .ok (.aload_n 0, 1) := dk_42 (dk_at dksX4_foretell_0 5 rfl rfl)
theorem dX4_foretell_6 : decode cX4_foretell 6 = .ok (.getfield 32, 3) := dk_180 0 32 (dk_at dksX4_foretell_0 6 rfl rfl)
theorem dX4_foretell_9 : decode cX4_foretell 9 = .ok (.i2l, 1) := dk_133 (dk_at dksX4_foretell_0 9 rfl rfl)
theorem dX4_foretell_10 : decode cX4_foretell 10 = .ok (.ladd, 1) := dk_97 (dk_at dksX4_foretell_0 10 rfl rfl)
theorem dX4_foretell_11 : decode cX4_foretell 11 = .ok (.iload_n 1, 1) := dk_27 (dk_at dksX4_foretell_0 11 rfl rfl)
theorem dX4_foretell_12 : decode cX4_foretell 12 = .ok (.iconst 2, 1) := dk_5 (dk_at dksX4_foretell_0 12 rfl rfl)
theorem dX4_foretell_13 : decode cX4_foretell 13 = .ok (.idiv, 1) := dk_108 (dk_at dksX4_foretell_0 13 rfl rfl)
theorem dX4_foretell_14 : decode cX4_foretell 14 = .ok (.i2l, 1) := dk_133 (dk_at dksX4_foretell_0 14 rfl rfl)
theorem dX4_foretell_15 : decode cX4_foretell 15 = .ok (.ladd, 1) := dk_97 (dk_at dksX4_foretell_0 15 rfl rfl)
theorem dX4_foretell_16 : decode cX4_foretell 16 = .ok (.lstore_n 2, 1) := dk_65 (dk_at dksX4_foretell_0 16 rfl rfl)
theorem dX4_foretell_17 : decode cX4_foretell 17 = .ok (.new 16, 3) := dk_187 0 16 (dk_at dksX4_foretell_0 17 rfl rfl)
theorem dX4_foretell_20 : decode cX4_foretell 20 = .ok (.dup, 1) := dk_89 (dk_at dksX4_foretell_0 20 rfl rfl)
theorem dX4_foretell_21 : decode cX4_foretell 21 = .ok (.aload_n 0, 1) := dk_42 (dk_at dksX4_foretell_0 21 rfl rfl)
theorem dX4_foretell_22 : decode cX4_foretell 22 = .ok (.getfield 15, 3) := dk_180 0 15 (dk_at dksX4_foretell_1 0 rfl rfl)
theorem dX4_foretell_25 : decode cX4_foretell 25 = .ok (.i2l, 1) := dk_133 (dk_at dksX4_foretell_1 3 rfl rfl)
theorem dX4_foretell_26 : decode cX4_foretell 26 = .ok (.aload_n 0, 1) := dk_42 (dk_at dksX4_foretell_1 4 rfl rfl)
theorem dX4_foretell_27 : decode cX4_foretell 27 = .ok (.getfield 23, 3) := dk_180 0 23 (dk_at dksX4_foretell_1 5 rfl rfl)
theorem dX4_foretell_30 : decode cX4_foretell 30 = .ok (.i2l, 1) := dk_133 (dk_at dksX4_foretell_1 8 rfl rfl)
theorem dX4_foretell_31 : decode cX4_foretell 31 = .ok (.ladd, 1) := dk_97 (dk_at dksX4_foretell_1 9 rfl rfl)
theorem dX4_foretell_32 : decode cX4_foretell 32 = .ok (.aload_n 0, 1) := dk_42 (dk_at dksX4_foretell_1 10 rfl rfl)
theorem dX4_foretell_33 : decode cX4_foretell 33 = .ok (.getfield 23, 3) := dk_180 0 23 (dk_at dksX4_foretell_1 11 rfl rfl)
theorem dX4_foretell_36 : decode cX4_foretell 36 = .ok (.i2l, 1) := dk_133 (dk_at dksX4_foretell_1 14 rfl rfl)
theorem dX4_foretell_37 : decode cX4_foretell 37 = .ok (.aload_n 0, 1) := dk_42 (dk_at dksX4_foretell_1 15 rfl rfl)
theorem dX4_foretell_38 : decode cX4_foretell 38 = .ok (.getfield 26, 3) := dk_180 0 26 (dk_at dksX4_foretell_1 16 rfl rfl)
theorem dX4_foretell_41 : decode cX4_foretell 41 = .ok (.i2l, 1) := dk_133 (dk_at dksX4_foretell_1 19 rfl rfl)
theorem dX4_foretell_42 : decode cX4_foretell 42 = .ok (.ldc2_w 35, 3) := dk_20 0 35 (dk_at dksX4_foretell_1 20 rfl rfl)
theorem dX4_foretell_45 : decode cX4_foretell 45 = .ok (.aload_n 0, 1) := dk_42 (dk_at dksX4_foretell_1 23 rfl rfl)
theorem dX4_foretell_46 : decode cX4_foretell 46 = .ok (.getfield 29, 3) := dk_180 0 29 (dk_at dksX4_foretell_2 0 rfl rfl)
theorem dX4_foretell_49 : decode cX4_foretell 49 = .ok (.i2l, 1) := dk_133 (dk_at dksX4_foretell_2 3 rfl rfl)
theorem dX4_foretell_50 : decode cX4_foretell 50 = .ok (.lmul, 1) := dk_105 (dk_at dksX4_foretell_2 4 rfl rfl)
theorem dX4_foretell_51 : decode cX4_foretell 51 = .ok (.ladd, 1) := dk_97 (dk_at dksX4_foretell_2 5 rfl rfl)
theorem dX4_foretell_52 : decode cX4_foretell 52 = .ok (.aload_n 0, 1) := dk_42 (dk_at dksX4_foretell_2 6 rfl rfl)
theorem dX4_foretell_53 : decode cX4_foretell 53 = .ok (.getfield 32, 3) := dk_180 0 32 (dk_at dksX4_foretell_2 7 rfl rfl)
theorem dX4_foretell_56 : decode cX4_foretell 56 = .ok (.i2l, 1) := dk_133 (dk_at dksX4_foretell_2 10 rfl rfl)
theorem dX4_foretell_57 : decode cX4_foretell 57 = .ok (.ladd, 1) := dk_97 (dk_at dksX4_foretell_2 11 rfl rfl)
theorem dX4_foretell_58 : decode cX4_foretell 58 = .ok (.iload_n 1, 1) := dk_27 (dk_at dksX4_foretell_2 12 rfl rfl)
theorem dX4_foretell_59 : decode cX4_foretell 59 = .ok (.iconst 4, 1) := dk_7 (dk_at dksX4_foretell_2 13 rfl rfl)
theorem dX4_foretell_60 : decode cX4_foretell 60 = .ok (.idiv, 1) := dk_108 (dk_at dksX4_foretell_2 14 rfl rfl)
theorem dX4_foretell_61 : decode cX4_foretell 61 = .ok (.i2l, 1) := dk_133 (dk_at dksX4_foretell_2 15 rfl rfl)
theorem dX4_foretell_62 : decode cX4_foretell 62 = .ok (.ladd, 1) := dk_97 (dk_at dksX4_foretell_2 16 rfl rfl)
theorem dX4_foretell_63 : decode cX4_foretell 63 = .ok (.lload_n 2, 1) := dk_32 (dk_at dksX4_foretell_2 17 rfl rfl)
theorem dX4_foretell_64 : decode cX4_foretell 64 = .ok (.aload_n 0, 1) := dk_42 (dk_at dksX4_foretell_2 18 rfl rfl)
theorem dX4_foretell_65 : decode cX4_foretell 65 = .ok (.getfield 32, 3) := dk_180 0 32 (dk_at dksX4_foretell_2 19 rfl rfl)
theorem dX4_foretell_68 : decode cX4_foretell 68 = .ok (.i2l, 1) := dk_133 (dk_at dksX4_foretell_2 22 rfl rfl)
theorem dX4_foretell_69 : decode cX4_foretell 69 = .ok (.iload_n 1, 1) := dk_27 (dk_at dksX4_foretell_2 23 rfl rfl)
theorem dX4_foretell_70 : decode cX4_foretell 70 = .ok (.i2l, 1) := dk_133 (dk_at dksX4_foretell_3 0 rfl rfl)
theorem dX4_foretell_71 : decode cX4_foretell 71 = .ok (.ladd, 1) := dk_97 (dk_at dksX4_foretell_3 1 rfl rfl)
theorem dX4_foretell_72 : decode cX4_foretell 72 = .ok (.invokespecial 37, 3) := dk_183 0 37 (dk_at dksX4_foretell_3 2 rfl rfl)
theorem dX4_foretell_75 : decode cX4_foretell 75 = .ok (.areturn, 1) := dk_176 (dk_at dksX4_foretell_3 5 rfl rfl)
abbrev cX4_init : ByteArray := prog_6_method_1_code
def yX4_init : MethodName := ⟨RX4, "<init>", "(JJJJJ)V"⟩
def dkwX4_init_2 : List UInt8 := [18, 22, 184, 0, 11, 181, 0, 29, 42, 22, 9, 4, 18, 22, 184, 0, 11, 181, 0, 32, 177]
abbrev dktX4_init_2 : List UInt8 := dkwX4_init_2 ++ []
def dkwX4_init_1 : List UInt8 := [184, 0, 11, 181, 0, 23, 42, 22, 5, 4, 18, 22, 184, 0, 11, 181, 0, 26, 42, 22, 7, 18, 21]
abbrev dktX4_init_1 : List UInt8 := dkwX4_init_1 ++ dktX4_init_2
def dkwX4_init_0 : List UInt8 := [42, 183, 0, 3, 42, 31, 18, 9, 18, 10, 184, 0, 11, 181, 0, 15, 42, 33, 18, 21, 18, 22]
abbrev dktX4_init_0 : List UInt8 := dkwX4_init_0 ++ dktX4_init_1
theorem dksX4_init_0 : cX4_init.data.toList.drop 0 = dktX4_init_0 := by decide +kernel
theorem dksX4_init_1 : cX4_init.data.toList.drop 22 = dktX4_init_1 := dk_seg dksX4_init_0 22 rfl rfl
theorem dksX4_init_2 : cX4_init.data.toList.drop 45 = dktX4_init_2 := dk_seg dksX4_init_1 23 rfl rfl
theorem dX4_init_0 : decode cX4_init 0 = .ok (.aload_n 0, 1) := dk_42 (dk_at dksX4_init_0 0 rfl rfl)
theorem dX4_init_1 : decode cX4_init 1 = .ok (.invokespecial 3, 3) := dk_183 0 3 (dk_at dksX4_init_0 1 rfl rfl)
theorem dX4_init_4 : decode cX4_init 4 = .ok (.aload_n 0, 1) := dk_42 (dk_at dksX4_init_0 4 rfl rfl)
theorem dX4_init_5 : decode cX4_init 5 = .ok (.lload_n 1, 1) := dk_31 (dk_at dksX4_init_0 5 rfl rfl)
theorem dX4_init_6 : decode cX4_init 6 = .ok (.ldc 9, 2) := dk_18 9 (dk_at dksX4_init_0 6 rfl rfl)
theorem dX4_init_8 : decode cX4_init 8 = .ok (.ldc 10, 2) := dk_18 10 (dk_at dksX4_init_0 8 rfl rfl)
theorem dX4_init_10 : decode cX4_init 10 = .ok (.invokestatic 11, 3) := dk_184 0 11 (dk_at dksX4_init_0 10 rfl rfl)
theorem dX4_init_13 : decode cX4_init 13 = .ok (.putfield 15, 3) := dk_181 0 15 (dk_at dksX4_init_0 13 rfl rfl)
theorem dX4_init_16 : decode cX4_init 16 = .ok (.aload_n 0, 1) := dk_42 (dk_at dksX4_init_0 16 rfl rfl)
theorem dX4_init_17 : decode cX4_init 17 = .ok (.lload_n 3, 1) := dk_33 (dk_at dksX4_init_0 17 rfl rfl)
theorem dX4_init_18 : decode cX4_init 18 = .ok (.ldc 21, 2) := dk_18 21 (dk_at dksX4_init_0 18 rfl rfl)
theorem dX4_init_20 : decode cX4_init 20 = .ok (.ldc 22, 2) := dk_18 22 (dk_at dksX4_init_0 20 rfl rfl)
theorem dX4_init_22 : decode cX4_init 22 = .ok (.invokestatic 11, 3) := dk_184 0 11 (dk_at dksX4_init_1 0 rfl rfl)
theorem dX4_init_25 : decode cX4_init 25 = .ok (.putfield 23, 3) := dk_181 0 23 (dk_at dksX4_init_1 3 rfl rfl)
theorem dX4_init_28 : decode cX4_init 28 = .ok (.aload_n 0, 1) := dk_42 (dk_at dksX4_init_1 6 rfl rfl)
theorem dX4_init_29 : decode cX4_init 29 = .ok (.lload 5, 2) := dk_22 5 (dk_at dksX4_init_1 7 rfl rfl)
theorem dX4_init_31 : decode cX4_init 31 = .ok (.iconst 1, 1) := dk_4 (dk_at dksX4_init_1 9 rfl rfl)
theorem dX4_init_32 : decode cX4_init 32 = .ok (.ldc 22, 2) := dk_18 22 (dk_at dksX4_init_1 10 rfl rfl)
theorem dX4_init_34 : decode cX4_init 34 = .ok (.invokestatic 11, 3) := dk_184 0 11 (dk_at dksX4_init_1 12 rfl rfl)
theorem dX4_init_37 : decode cX4_init 37 = .ok (.putfield 26, 3) := dk_181 0 26 (dk_at dksX4_init_1 15 rfl rfl)
theorem dX4_init_40 : decode cX4_init 40 = .ok (.aload_n 0, 1) := dk_42 (dk_at dksX4_init_1 18 rfl rfl)
theorem dX4_init_41 : decode cX4_init 41 = .ok (.lload 7, 2) := dk_22 7 (dk_at dksX4_init_1 19 rfl rfl)
theorem dX4_init_43 : decode cX4_init 43 = .ok (.ldc 21, 2) := dk_18 21 (dk_at dksX4_init_1 21 rfl rfl)
theorem dX4_init_45 : decode cX4_init 45 = .ok (.ldc 22, 2) := dk_18 22 (dk_at dksX4_init_2 0 rfl rfl)
theorem dX4_init_47 : decode cX4_init 47 = .ok (.invokestatic 11, 3) := dk_184 0 11 (dk_at dksX4_init_2 2 rfl rfl)
theorem dX4_init_50 : decode cX4_init 50 = .ok (.putfield 29, 3) := dk_181 0 29 (dk_at dksX4_init_2 5 rfl rfl)
theorem dX4_init_53 : decode cX4_init 53 = .ok (.aload_n 0, 1) := dk_42 (dk_at dksX4_init_2 8 rfl rfl)
theorem dX4_init_54 : decode cX4_init 54 = .ok (.lload 9, 2) := dk_22 9 (dk_at dksX4_init_2 9 rfl rfl)
theorem dX4_init_56 : decode cX4_init 56 = .ok (.iconst 1, 1) := dk_4 (dk_at dksX4_init_2 11 rfl rfl)
theorem dX4_init_57 : decode cX4_init 57 = .ok (.ldc 22, 2) := dk_18 22 (dk_at dksX4_init_2 12 rfl rfl)
theorem dX4_init_59 : decode cX4_init 59 = .ok (.invokestatic 11, 3) := dk_184 0 11 (dk_at dksX4_init_2 14 rfl rfl)
theorem dX4_init_62 : decode cX4_init 62 = .ok (.putfield 32, 3) := dk_181 0 32 (dk_at dksX4_init_2 17 rfl rfl)
theorem dX4_init_65 : decode cX4_init 65 = .ok (.return_, 1) := dk_177 (dk_at dksX4_init_2 20 rfl rfl)
abbrev cX4_isInGate : ByteArray := prog_6_method_5_code
def yX4_isInGate : MethodName := ⟨RX4, "isInGate", "(III)Z"⟩
def dkwX4_isInGate_1 : List UInt8 := [182, 0, 48, 105, 20, 0, 40, 105, 148, 157, 0, 7, 4, 167, 0, 4, 3, 172]
abbrev dktX4_isInGate_1 : List UInt8 := dkwX4_isInGate_1 ++ []
def dkwX4_isInGate_0 : List UInt8 := [42, 27, 182, 0, 42, 55, 4, 20, 0, 46, 22, 4, 105, 22, 4, 105, 29, 133, 29, 133, 105, 42, 28]
abbrev dktX4_isInGate_0 : List UInt8 := dkwX4_isInGate_0 ++ dktX4_isInGate_1
theorem dksX4_isInGate_0 : cX4_isInGate.data.toList.drop 0 = dktX4_isInGate_0 := by decide +kernel
theorem dksX4_isInGate_1 : cX4_isInGate.data.toList.drop 23 = dktX4_isInGate_1 := dk_seg dksX4_isInGate_0 23 rfl rfl
theorem dX4_isInGate_0 : decode cX4_isInGate 0 = .ok (.aload_n 0, 1) := dk_42 (dk_at dksX4_isInGate_0 0 rfl rfl)
theorem dX4_isInGate_1 : decode cX4_isInGate 1 = .ok (.iload_n 1, 1) := dk_27 (dk_at dksX4_isInGate_0 1 rfl rfl)
theorem dX4_isInGate_2 : decode cX4_isInGate 2 = .ok (.invokevirtual 42, 3) := dk_182 0 42 (dk_at dksX4_isInGate_0 2 rfl rfl)
theorem dX4_isInGate_5 : decode cX4_isInGate 5 = .ok (.lstore 4, 2) := dk_55 4 (dk_at dksX4_isInGate_0 5 rfl rfl)
theorem dX4_isInGate_7 : decode cX4_isInGate 7 = .ok (.ldc2_w 46, 3) := dk_20 0 46 (dk_at dksX4_isInGate_0 7 rfl rfl)
theorem dX4_isInGate_10 : decode cX4_isInGate 10 = .ok (.lload 4, 2) := dk_22 4 (dk_at dksX4_isInGate_0 10 rfl rfl)
theorem dX4_isInGate_12 : decode cX4_isInGate 12 = .ok (.lmul, 1) := dk_105 (dk_at dksX4_isInGate_0 12 rfl rfl)
theorem dX4_isInGate_13 : decode cX4_isInGate 13 = .ok (.lload 4, 2) := dk_22 4 (dk_at dksX4_isInGate_0 13 rfl rfl)
theorem dX4_isInGate_15 : decode cX4_isInGate 15 = .ok (.lmul, 1) := dk_105 (dk_at dksX4_isInGate_0 15 rfl rfl)
theorem dX4_isInGate_16 : decode cX4_isInGate 16 = .ok (.iload_n 3, 1) := dk_29 (dk_at dksX4_isInGate_0 16 rfl rfl)
theorem dX4_isInGate_17 : decode cX4_isInGate 17 = .ok (.i2l, 1) := dk_133 (dk_at dksX4_isInGate_0 17 rfl rfl)
theorem dX4_isInGate_18 : decode cX4_isInGate 18 = .ok (.iload_n 3, 1) := dk_29 (dk_at dksX4_isInGate_0 18 rfl rfl)
theorem dX4_isInGate_19 : decode cX4_isInGate 19 = .ok (.i2l, 1) := dk_133 (dk_at dksX4_isInGate_0 19 rfl rfl)
theorem dX4_isInGate_20 : decode cX4_isInGate 20 = .ok (.lmul, 1) := dk_105 (dk_at dksX4_isInGate_0 20 rfl rfl)
theorem dX4_isInGate_21 : decode cX4_isInGate 21 = .ok (.aload_n 0, 1) := dk_42 (dk_at dksX4_isInGate_0 21 rfl rfl)
theorem dX4_isInGate_22 : decode cX4_isInGate 22 = .ok (.iload_n 2, 1) := dk_28 (dk_at dksX4_isInGate_0 22 rfl rfl)
theorem dX4_isInGate_23 : decode cX4_isInGate 23 = .ok (.invokevirtual 48, 3) := dk_182 0 48 (dk_at dksX4_isInGate_1 0 rfl rfl)
theorem dX4_isInGate_26 : decode cX4_isInGate 26 = .ok (.lmul, 1) := dk_105 (dk_at dksX4_isInGate_1 3 rfl rfl)
theorem dX4_isInGate_27 : decode cX4_isInGate 27 = .ok (.ldc2_w 40, 3) := dk_20 0 40 (dk_at dksX4_isInGate_1 4 rfl rfl)
theorem dX4_isInGate_30 : decode cX4_isInGate 30 = .ok (.lmul, 1) := dk_105 (dk_at dksX4_isInGate_1 7 rfl rfl)
theorem dX4_isInGate_31 : decode cX4_isInGate 31 = .ok (.lcmp, 1) := dk_148 (dk_at dksX4_isInGate_1 8 rfl rfl)
theorem dX4_isInGate_32 : decode cX4_isInGate 32 = .ok (.ifCond .gt 7, 3) := dk_157 0 7 (dk_at dksX4_isInGate_1 9 rfl rfl)
theorem dX4_isInGate_35 : decode cX4_isInGate 35 = .ok (.iconst 1, 1) := dk_4 (dk_at dksX4_isInGate_1 12 rfl rfl)
theorem dX4_isInGate_36 : decode cX4_isInGate 36 = .ok (.goto 4, 3) := dk_167 0 4 (dk_at dksX4_isInGate_1 13 rfl rfl)
theorem dX4_isInGate_39 : decode cX4_isInGate 39 = .ok (.iconst 0, 1) := dk_3 (dk_at dksX4_isInGate_1 16 rfl rfl)
theorem dX4_isInGate_40 : decode cX4_isInGate 40 = .ok (.ireturn, 1) := dk_172 (dk_at dksX4_isInGate_1 17 rfl rfl)
abbrev cX4_miss : ByteArray := prog_6_method_4_code
def yX4_miss : MethodName := ⟨RX4, "miss", "(I)J"⟩
def dkwX4_miss_0 : List UInt8 := [27, 133, 20, 0, 40, 105, 42, 180, 0, 15, 133, 101, 173]
abbrev dktX4_miss_0 : List UInt8 := dkwX4_miss_0 ++ []
theorem dksX4_miss_0 : cX4_miss.data.toList.drop 0 = dktX4_miss_0 := by decide +kernel
theorem dX4_miss_0 : decode cX4_miss 0 = .ok (.iload_n 1, 1) := dk_27 (dk_at dksX4_miss_0 0 rfl rfl)
theorem dX4_miss_1 : decode cX4_miss 1 = .ok (.i2l, 1) := dk_133 (dk_at dksX4_miss_0 1 rfl rfl)
theorem dX4_miss_2 : decode cX4_miss 2 = .ok (.ldc2_w 40, 3) := dk_20 0 40 (dk_at dksX4_miss_0 2 rfl rfl)
theorem dX4_miss_5 : decode cX4_miss 5 = .ok (.lmul, 1) := dk_105 (dk_at dksX4_miss_0 5 rfl rfl)
theorem dX4_miss_6 : decode cX4_miss 6 = .ok (.aload_n 0, 1) := dk_42 (dk_at dksX4_miss_0 6 rfl rfl)
theorem dX4_miss_7 : decode cX4_miss 7 = .ok (.getfield 15, 3) := dk_180 0 15 (dk_at dksX4_miss_0 7 rfl rfl)
theorem dX4_miss_10 : decode cX4_miss 10 = .ok (.i2l, 1) := dk_133 (dk_at dksX4_miss_0 10 rfl rfl)
theorem dX4_miss_11 : decode cX4_miss 11 = .ok (.lsub, 1) := dk_101 (dk_at dksX4_miss_0 11 rfl rfl)
theorem dX4_miss_12 : decode cX4_miss 12 = .ok (.lreturn, 1) := dk_173 (dk_at dksX4_miss_0 12 rfl rfl)
abbrev cX4_spread : ByteArray := prog_6_method_3_code
def yX4_spread : MethodName := ⟨RX4, "spread", "(I)J"⟩
def dkwX4_spread_0 : List UInt8 := [42, 180, 0, 26, 133, 20, 0, 40, 27, 133, 105, 97, 173]
abbrev dktX4_spread_0 : List UInt8 := dkwX4_spread_0 ++ []
theorem dksX4_spread_0 : cX4_spread.data.toList.drop 0 = dktX4_spread_0 := by decide +kernel
theorem dX4_spread_0 : decode cX4_spread 0 = .ok (.aload_n 0, 1) := dk_42 (dk_at dksX4_spread_0 0 rfl rfl)
theorem dX4_spread_1 : decode cX4_spread 1 = .ok (.getfield 26, 3) := dk_180 0 26 (dk_at dksX4_spread_0 1 rfl rfl)
theorem dX4_spread_4 : decode cX4_spread 4 = .ok (.i2l, 1) := dk_133 (dk_at dksX4_spread_0 4 rfl rfl)
theorem dX4_spread_5 : decode cX4_spread 5 = .ok (.ldc2_w 40, 3) := dk_20 0 40 (dk_at dksX4_spread_0 5 rfl rfl)
theorem dX4_spread_8 : decode cX4_spread 8 = .ok (.iload_n 1, 1) := dk_27 (dk_at dksX4_spread_0 8 rfl rfl)
theorem dX4_spread_9 : decode cX4_spread 9 = .ok (.i2l, 1) := dk_133 (dk_at dksX4_spread_0 9 rfl rfl)
theorem dX4_spread_10 : decode cX4_spread 10 = .ok (.lmul, 1) := dk_105 (dk_at dksX4_spread_0 10 rfl rfl)
theorem dX4_spread_11 : decode cX4_spread 11 = .ok (.ladd, 1) := dk_97 (dk_at dksX4_spread_0 11 rfl rfl)
theorem dX4_spread_12 : decode cX4_spread 12 = .ok (.lreturn, 1) := dk_173 (dk_at dksX4_spread_0 12 rfl rfl)
abbrev cX4_cost : ByteArray := prog_6_method_6_code
def yX4_cost : MethodName := ⟨RX4, "cost", "(II)J"⟩
def dkwX4_cost_0 : List UInt8 := [42, 27, 182, 0, 42, 66, 33, 33, 105, 42, 28, 182, 0, 48, 109, 173]
abbrev dktX4_cost_0 : List UInt8 := dkwX4_cost_0 ++ []
theorem dksX4_cost_0 : cX4_cost.data.toList.drop 0 = dktX4_cost_0 := by decide +kernel
theorem dX4_cost_0 : decode cX4_cost 0 = .ok (.aload_n 0, 1) := dk_42 (dk_at dksX4_cost_0 0 rfl rfl)
theorem dX4_cost_1 : decode cX4_cost 1 = .ok (.iload_n 1, 1) := dk_27 (dk_at dksX4_cost_0 1 rfl rfl)
theorem dX4_cost_2 : decode cX4_cost 2 = .ok (.invokevirtual 42, 3) := dk_182 0 42 (dk_at dksX4_cost_0 2 rfl rfl)
theorem dX4_cost_5 : decode cX4_cost 5 = .ok (.lstore_n 3, 1) := dk_66 (dk_at dksX4_cost_0 5 rfl rfl)
theorem dX4_cost_6 : decode cX4_cost 6 = .ok (.lload_n 3, 1) := dk_33 (dk_at dksX4_cost_0 6 rfl rfl)
theorem dX4_cost_7 : decode cX4_cost 7 = .ok (.lload_n 3, 1) := dk_33 (dk_at dksX4_cost_0 7 rfl rfl)
theorem dX4_cost_8 : decode cX4_cost 8 = .ok (.lmul, 1) := dk_105 (dk_at dksX4_cost_0 8 rfl rfl)
theorem dX4_cost_9 : decode cX4_cost 9 = .ok (.aload_n 0, 1) := dk_42 (dk_at dksX4_cost_0 9 rfl rfl)
theorem dX4_cost_10 : decode cX4_cost 10 = .ok (.iload_n 2, 1) := dk_28 (dk_at dksX4_cost_0 10 rfl rfl)
theorem dX4_cost_11 : decode cX4_cost 11 = .ok (.invokevirtual 48, 3) := dk_182 0 48 (dk_at dksX4_cost_0 11 rfl rfl)
theorem dX4_cost_14 : decode cX4_cost 14 = .ok (.ldiv, 1) := dk_109 (dk_at dksX4_cost_0 14 rfl rfl)
theorem dX4_cost_15 : decode cX4_cost 15 = .ok (.lreturn, 1) := dk_173 (dk_at dksX4_cost_0 15 rfl rfl)
abbrev cX4_correct : ByteArray := prog_6_method_7_code
def yX4_correct : MethodName := ⟨RX4, "correct", "(II)LKalmanQuay$State;"⟩
def dkwX4_correct_6 : List UInt8 := [20, 0, 51, 184, 0, 53, 101, 183, 0, 37, 176]
abbrev dktX4_correct_6 : List UInt8 := dkwX4_correct_6 ++ []
def dkwX4_correct_5 : List UInt8 := [133, 105, 20, 0, 51, 184, 0, 53, 101, 42, 180, 0, 32, 133, 22, 7, 42, 180, 0, 29, 133, 105]
abbrev dktX4_correct_5 : List UInt8 := dkwX4_correct_5 ++ dktX4_correct_6
def dkwX4_correct_4 : List UInt8 := [42, 180, 0, 26, 133, 105, 20, 0, 51, 184, 0, 53, 101, 42, 180, 0, 29, 133, 22, 5, 42, 180, 0, 29]
abbrev dktX4_correct_4 : List UInt8 := dkwX4_correct_4 ++ dktX4_correct_5
def dkwX4_correct_3 : List UInt8 := [20, 0, 51, 184, 0, 53, 97, 55, 13, 187, 0, 16, 89, 22, 11, 22, 13, 42, 180, 0, 26, 133, 22, 5]
abbrev dktX4_correct_3 : List UInt8 := dkwX4_correct_3 ++ dktX4_correct_4
def dkwX4_correct_2 : List UInt8 := [22, 9, 105, 20, 0, 51, 184, 0, 53, 97, 55, 11, 42, 180, 0, 23, 133, 22, 7, 22, 9, 105]
abbrev dktX4_correct_2 : List UInt8 := dkwX4_correct_2 ++ dktX4_correct_3
def dkwX4_correct_1 : List UInt8 := [20, 0, 51, 105, 33, 184, 0, 53, 55, 7, 42, 27, 182, 0, 42, 55, 9, 42, 180, 0, 15, 133, 22, 5]
abbrev dktX4_correct_1 : List UInt8 := dkwX4_correct_1 ++ dktX4_correct_2
def dkwX4_correct_0 : List UInt8 := [42, 28, 182, 0, 48, 66, 42, 180, 0, 26, 133, 20, 0, 51, 105, 33, 109, 55, 5, 42, 180, 0, 29, 133]
abbrev dktX4_correct_0 : List UInt8 := dkwX4_correct_0 ++ dktX4_correct_1
theorem dksX4_correct_0 : cX4_correct.data.toList.drop 0 = dktX4_correct_0 := by decide +kernel
theorem dksX4_correct_1 : cX4_correct.data.toList.drop 24 = dktX4_correct_1 := dk_seg dksX4_correct_0 24 rfl rfl
theorem dksX4_correct_2 : cX4_correct.data.toList.drop 48 = dktX4_correct_2 := dk_seg dksX4_correct_1 24 rfl rfl
theorem dksX4_correct_3 : cX4_correct.data.toList.drop 70 = dktX4_correct_3 := dk_seg dksX4_correct_2 22 rfl rfl
theorem dksX4_correct_4 : cX4_correct.data.toList.drop 94 = dktX4_correct_4 := dk_seg dksX4_correct_3 24 rfl rfl
theorem dksX4_correct_5 : cX4_correct.data.toList.drop 118 = dktX4_correct_5 := dk_seg dksX4_correct_4 24 rfl rfl
theorem dksX4_correct_6 : cX4_correct.data.toList.drop 140 = dktX4_correct_6 := dk_seg dksX4_correct_5 22 rfl rfl
theorem dX4_correct_0 : decode cX4_correct 0 = .ok (.aload_n 0, 1) := dk_42 (dk_at dksX4_correct_0 0 rfl rfl)
theorem dX4_correct_1 : decode cX4_correct 1 = .ok (.iload_n 2, 1) := dk_28 (dk_at dksX4_correct_0 1 rfl rfl)
theorem dX4_correct_2 : decode cX4_correct 2 = .ok (.invokevirtual 48, 3) := dk_182 0 48 (dk_at dksX4_correct_0 2 rfl rfl)
theorem dX4_correct_5 : decode cX4_correct 5 = .ok (.lstore_n 3, 1) := dk_66 (dk_at dksX4_correct_0 5 rfl rfl)
theorem dX4_correct_6 : decode cX4_correct 6 = .ok (.aload_n 0, 1) := dk_42 (dk_at dksX4_correct_0 6 rfl rfl)
theorem dX4_correct_7 : decode cX4_correct 7 = .ok (.getfield 26, 3) := dk_180 0 26 (dk_at dksX4_correct_0 7 rfl rfl)
theorem dX4_correct_10 : decode cX4_correct 10 = .ok (.i2l, 1) := dk_133 (dk_at dksX4_correct_0 10 rfl rfl)
theorem dX4_correct_11 : decode cX4_correct 11 = .ok (.ldc2_w 51, 3) := dk_20 0 51 (dk_at dksX4_correct_0 11 rfl rfl)
theorem dX4_correct_14 : decode cX4_correct 14 = .ok (.lmul, 1) := dk_105 (dk_at dksX4_correct_0 14 rfl rfl)
theorem dX4_correct_15 : decode cX4_correct 15 = .ok (.lload_n 3, 1) := dk_33 (dk_at dksX4_correct_0 15 rfl rfl)
theorem dX4_correct_16 : decode cX4_correct 16 = .ok (.ldiv, 1) := dk_109 (dk_at dksX4_correct_0 16 rfl rfl)
theorem dX4_correct_17 : decode cX4_correct 17 = .ok (.lstore 5, 2) := dk_55 5 (dk_at dksX4_correct_0 17 rfl rfl)
theorem dX4_correct_19 : decode cX4_correct 19 = .ok (.aload_n 0, 1) := dk_42 (dk_at dksX4_correct_0 19 rfl rfl)
theorem dX4_correct_20 : decode cX4_correct 20 = .ok (.getfield 29, 3) := dk_180 0 29 (dk_at dksX4_correct_0 20 rfl rfl)
theorem dX4_correct_23 : decode cX4_correct 23 = .ok (.i2l, 1) := dk_133 (dk_at dksX4_correct_0 23 rfl rfl)
theorem dX4_correct_24 : decode cX4_correct 24 = .ok (.ldc2_w 51, 3) := dk_20 0 51 (dk_at dksX4_correct_1 0 rfl rfl)
theorem dX4_correct_27 : decode cX4_correct 27 = .ok (.lmul, 1) := dk_105 (dk_at dksX4_correct_1 3 rfl rfl)
theorem dX4_correct_28 : decode cX4_correct 28 = .ok (.lload_n 3, 1) := dk_33 (dk_at dksX4_correct_1 4 rfl rfl)
theorem dX4_correct_29 : decode cX4_correct 29 = .ok (.invokestatic 53, 3) := dk_184 0 53 (dk_at dksX4_correct_1 5 rfl rfl)
theorem dX4_correct_32 : decode cX4_correct 32 = .ok (.lstore 7, 2) := dk_55 7 (dk_at dksX4_correct_1 8 rfl rfl)
theorem dX4_correct_34 : decode cX4_correct 34 = .ok (.aload_n 0, 1) := dk_42 (dk_at dksX4_correct_1 10 rfl rfl)
theorem dX4_correct_35 : decode cX4_correct 35 = .ok (.iload_n 1, 1) := dk_27 (dk_at dksX4_correct_1 11 rfl rfl)
theorem dX4_correct_36 : decode cX4_correct 36 = .ok (.invokevirtual 42, 3) := dk_182 0 42 (dk_at dksX4_correct_1 12 rfl rfl)
theorem dX4_correct_39 : decode cX4_correct 39 = .ok (.lstore 9, 2) := dk_55 9 (dk_at dksX4_correct_1 15 rfl rfl)
theorem dX4_correct_41 : decode cX4_correct 41 = .ok (.aload_n 0, 1) := dk_42 (dk_at dksX4_correct_1 17 rfl rfl)
theorem dX4_correct_42 : decode cX4_correct 42 = .ok (.getfield 15, 3) := dk_180 0 15 (dk_at dksX4_correct_1 18 rfl rfl)
theorem dX4_correct_45 : decode cX4_correct 45 = .ok (.i2l, 1) := dk_133 (dk_at dksX4_correct_1 21 rfl rfl)
theorem dX4_correct_46 : decode cX4_correct 46 = .ok (.lload 5, 2) := dk_22 5 (dk_at dksX4_correct_1 22 rfl rfl)
theorem dX4_correct_48 : decode cX4_correct 48 = .ok (.lload 9, 2) := dk_22 9 (dk_at dksX4_correct_2 0 rfl rfl)
theorem dX4_correct_50 : decode cX4_correct 50 = .ok (.lmul, 1) := dk_105 (dk_at dksX4_correct_2 2 rfl rfl)
theorem dX4_correct_51 : decode cX4_correct 51 = .ok (.ldc2_w 51, 3) := dk_20 0 51 (dk_at dksX4_correct_2 3 rfl rfl)
theorem dX4_correct_54 : decode cX4_correct 54 = .ok (.invokestatic 53, 3) := dk_184 0 53 (dk_at dksX4_correct_2 6 rfl rfl)
theorem dX4_correct_57 : decode cX4_correct 57 = .ok (.ladd, 1) := dk_97 (dk_at dksX4_correct_2 9 rfl rfl)
theorem dX4_correct_58 : decode cX4_correct 58 = .ok (.lstore 11, 2) := dk_55 11 (dk_at dksX4_correct_2 10 rfl rfl)
theorem dX4_correct_60 : decode cX4_correct 60 = .ok (.aload_n 0, 1) := dk_42 (dk_at dksX4_correct_2 12 rfl rfl)
theorem dX4_correct_61 : decode cX4_correct 61 = .ok (.getfield 23, 3) := dk_180 0 23 (dk_at dksX4_correct_2 13 rfl rfl)
theorem dX4_correct_64 : decode cX4_correct 64 = .ok (.i2l, 1) := dk_133 (dk_at dksX4_correct_2 16 rfl rfl)
theorem dX4_correct_65 : decode cX4_correct 65 = .ok (.lload 7, 2) := dk_22 7 (dk_at dksX4_correct_2 17 rfl rfl)
theorem dX4_correct_67 : decode cX4_correct 67 = .ok (.lload 9, 2) := dk_22 9 (dk_at dksX4_correct_2 19 rfl rfl)
theorem dX4_correct_69 : decode cX4_correct 69 = .ok (.lmul, 1) := dk_105 (dk_at dksX4_correct_2 21 rfl rfl)
theorem dX4_correct_70 : decode cX4_correct 70 = .ok (.ldc2_w 51, 3) := dk_20 0 51 (dk_at dksX4_correct_3 0 rfl rfl)
theorem dX4_correct_73 : decode cX4_correct 73 = .ok (.invokestatic 53, 3) := dk_184 0 53 (dk_at dksX4_correct_3 3 rfl rfl)
theorem dX4_correct_76 : decode cX4_correct 76 = .ok (.ladd, 1) := dk_97 (dk_at dksX4_correct_3 6 rfl rfl)
theorem dX4_correct_77 : decode cX4_correct 77 = .ok (.lstore 13, 2) := dk_55 13 (dk_at dksX4_correct_3 7 rfl rfl)
theorem dX4_correct_79 : decode cX4_correct 79 = .ok (.new 16, 3) := dk_187 0 16 (dk_at dksX4_correct_3 9 rfl rfl)
theorem dX4_correct_82 : decode cX4_correct 82 = .ok (.dup, 1) := dk_89 (dk_at dksX4_correct_3 12 rfl rfl)
theorem dX4_correct_83 : decode cX4_correct 83 = .ok (.lload 11, 2) := dk_22 11 (dk_at dksX4_correct_3 13 rfl rfl)
theorem dX4_correct_85 : decode cX4_correct 85 = .ok (.lload 13, 2) := dk_22 13 (dk_at dksX4_correct_3 15 rfl rfl)
theorem dX4_correct_87 : decode cX4_correct 87 = .ok (.aload_n 0, 1) := dk_42 (dk_at dksX4_correct_3 17 rfl rfl)
theorem dX4_correct_88 : decode cX4_correct 88 = .ok (.getfield 26, 3) := dk_180 0 26 (dk_at dksX4_correct_3 18 rfl rfl)
theorem dX4_correct_91 : decode cX4_correct 91 = .ok (.i2l, 1) := dk_133 (dk_at dksX4_correct_3 21 rfl rfl)
theorem dX4_correct_92 : decode cX4_correct 92 = .ok (.lload 5, 2) := dk_22 5 (dk_at dksX4_correct_3 22 rfl rfl)
theorem dX4_correct_94 : decode cX4_correct 94 = .ok (.aload_n 0, 1) := dk_42 (dk_at dksX4_correct_4 0 rfl rfl)
theorem dX4_correct_95 : decode cX4_correct 95 = .ok (.getfield 26, 3) := dk_180 0 26 (dk_at dksX4_correct_4 1 rfl rfl)
theorem dX4_correct_98 : decode cX4_correct 98 = .ok (.i2l, 1) := dk_133 (dk_at dksX4_correct_4 4 rfl rfl)
theorem dX4_correct_99 : decode cX4_correct 99 = .ok (.lmul, 1) := dk_105 (dk_at dksX4_correct_4 5 rfl rfl)
theorem dX4_correct_100 : decode cX4_correct 100 = .ok (.ldc2_w 51, 3) := dk_20 0 51 (dk_at dksX4_correct_4 6 rfl rfl)
theorem dX4_correct_103 : decode cX4_correct 103 = .ok (.invokestatic 53, 3) := dk_184 0 53 (dk_at dksX4_correct_4 9 rfl rfl)
theorem dX4_correct_106 : decode cX4_correct 106 = .ok (.lsub, 1) := dk_101 (dk_at dksX4_correct_4 12 rfl rfl)
theorem dX4_correct_107 : decode cX4_correct 107 = .ok (.aload_n 0, 1) := dk_42 (dk_at dksX4_correct_4 13 rfl rfl)
theorem dX4_correct_108 : decode cX4_correct 108 = .ok (.getfield 29, 3) := dk_180 0 29 (dk_at dksX4_correct_4 14 rfl rfl)
theorem dX4_correct_111 : decode cX4_correct 111 = .ok (.i2l, 1) := dk_133 (dk_at dksX4_correct_4 17 rfl rfl)
theorem dX4_correct_112 : decode cX4_correct 112 = .ok (.lload 5, 2) := dk_22 5 (dk_at dksX4_correct_4 18 rfl rfl)
theorem dX4_correct_114 : decode cX4_correct 114 = .ok (.aload_n 0, 1) := dk_42 (dk_at dksX4_correct_4 20 rfl rfl)
theorem dX4_correct_115 : decode cX4_correct 115 = .ok (.getfield 29, 3) := dk_180 0 29 (dk_at dksX4_correct_4 21 rfl rfl)
theorem dX4_correct_118 : decode cX4_correct 118 = .ok (.i2l, 1) := dk_133 (dk_at dksX4_correct_5 0 rfl rfl)
theorem dX4_correct_119 : decode cX4_correct 119 = .ok (.lmul, 1) := dk_105 (dk_at dksX4_correct_5 1 rfl rfl)
theorem dX4_correct_120 : decode cX4_correct 120 = .ok (.ldc2_w 51, 3) := dk_20 0 51 (dk_at dksX4_correct_5 2 rfl rfl)
theorem dX4_correct_123 : decode cX4_correct 123 = .ok (.invokestatic 53, 3) := dk_184 0 53 (dk_at dksX4_correct_5 5 rfl rfl)
theorem dX4_correct_126 : decode cX4_correct 126 = .ok (.lsub, 1) := dk_101 (dk_at dksX4_correct_5 8 rfl rfl)
theorem dX4_correct_127 : decode cX4_correct 127 = .ok (.aload_n 0, 1) := dk_42 (dk_at dksX4_correct_5 9 rfl rfl)
theorem dX4_correct_128 : decode cX4_correct 128 = .ok (.getfield 32, 3) := dk_180 0 32 (dk_at dksX4_correct_5 10 rfl rfl)
theorem dX4_correct_131 : decode cX4_correct 131 = .ok (.i2l, 1) := dk_133 (dk_at dksX4_correct_5 13 rfl rfl)
theorem dX4_correct_132 : decode cX4_correct 132 = .ok (.lload 7, 2) := dk_22 7 (dk_at dksX4_correct_5 14 rfl rfl)
theorem dX4_correct_134 : decode cX4_correct 134 = .ok (.aload_n 0, 1) := dk_42 (dk_at dksX4_correct_5 16 rfl rfl)
theorem dX4_correct_135 : decode cX4_correct 135 = .ok (.getfield 29, 3) := dk_180 0 29 (dk_at dksX4_correct_5 17 rfl rfl)
theorem dX4_correct_138 : decode cX4_correct 138 = .ok (.i2l, 1) := dk_133 (dk_at dksX4_correct_5 20 rfl rfl)
theorem dX4_correct_139 : decode cX4_correct 139 = .ok (.lmul, 1) := dk_105 (dk_at dksX4_correct_5 21 rfl rfl)
theorem dX4_correct_140 : decode cX4_correct 140 = .ok (.ldc2_w 51, 3) := dk_20 0 51 (dk_at dksX4_correct_6 0 rfl rfl)
theorem dX4_correct_143 : decode cX4_correct 143 = .ok (.invokestatic 53, 3) := dk_184 0 53 (dk_at dksX4_correct_6 3 rfl rfl)
theorem dX4_correct_146 : decode cX4_correct 146 = .ok (.lsub, 1) := dk_101 (dk_at dksX4_correct_6 6 rfl rfl)
theorem dX4_correct_147 : decode cX4_correct 147 = .ok (.invokespecial 37, 3) := dk_183 0 37 (dk_at dksX4_correct_6 7 rfl rfl)
theorem dX4_correct_150 : decode cX4_correct 150 = .ok (.areturn, 1) := dk_176 (dk_at dksX4_correct_6 10 rfl rfl)
theorem q65 : (Jvm.Cond.initialized "KalmanQuay$State") ∈ lw_all := lw_g (lw_at lw_m1 28 rfl) rfl
theorem q257 : (Jvm.Cond.selects "KalmanQuay$State" ({ cls := "java/lang/Object", name := "getClass", desc := "()Ljava/lang/Class;" } : Jvm.MethodName) ({ cls := "java/lang/Object", name := "getClass", desc := "()Ljava/lang/Class;" } : Jvm.MethodName)) ∈ lw_all := lw_g (lw_at lw_m1 220 rfl) rfl
theorem q551 : (Jvm.Cond.instanceMethod ({ cls := "KalmanQuay$State", name := "foretell", desc := "(I)LKalmanQuay$State;" } : Jvm.MethodName)) ∈ lw_all := lw_g (lw_at lw_m3 34 rfl) rfl
theorem q552 : (Jvm.Cond.selects "KalmanQuay$State" ({ cls := "KalmanQuay$State", name := "foretell", desc := "(I)LKalmanQuay$State;" } : Jvm.MethodName) ({ cls := "KalmanQuay$State", name := "foretell", desc := "(I)LKalmanQuay$State;" } : Jvm.MethodName)) ∈ lw_all := lw_g (lw_at lw_m3 35 rfl) rfl
theorem q553 : (Jvm.Cond.code ({ cls := "KalmanQuay$State", name := "foretell", desc := "(I)LKalmanQuay$State;" } : Jvm.MethodName) prog_6_method_2_code (4 : Nat) (Option.some (Jvm.ClassFile.FieldType.object "KalmanQuay$State"))) ∈ lw_all := lw_g (lw_at lw_m3 36 rfl) rfl
theorem q554 : (Jvm.Cond.classLink "KalmanQuay$State" (16 : Nat) "KalmanQuay$State") ∈ lw_all := lw_g (lw_at lw_m3 37 rfl) rfl
theorem q555 : (Jvm.Cond.instantiable "KalmanQuay$State" (5 : Nat)) ∈ lw_all := lw_g (lw_at lw_m3 38 rfl) rfl
theorem q556 : (Jvm.Cond.constantLong "KalmanQuay$State" (35 : Nat) (2 : Int64)) ∈ lw_all := lw_g (lw_at lw_m3 39 rfl) rfl
theorem q557 : (Jvm.Cond.methodLink "KalmanQuay$State" (37 : Nat) ({ cls := "KalmanQuay$State", name := "<init>", desc := "(JJJJJ)V" } : Jvm.MethodName)) ∈ lw_all := lw_g (lw_at lw_m3 40 rfl) rfl
theorem q558 : (Jvm.Cond.instanceMethod ({ cls := "KalmanQuay$State", name := "<init>", desc := "(JJJJJ)V" } : Jvm.MethodName)) ∈ lw_all := lw_g (lw_at lw_m3 41 rfl) rfl
theorem q559 : (Jvm.Cond.code ({ cls := "KalmanQuay$State", name := "<init>", desc := "(JJJJJ)V" } : Jvm.MethodName) prog_6_method_1_code (11 : Nat) (Option.none : Option Jvm.ClassFile.FieldType)) ∈ lw_all := lw_g (lw_at lw_m3 42 rfl) rfl
theorem q560 : (Jvm.Cond.methodLink "KalmanQuay$State" (3 : Nat) ({ cls := "java/lang/Object", name := "<init>", desc := "()V" } : Jvm.MethodName)) ∈ lw_all := lw_g (lw_at lw_m3 43 rfl) rfl
theorem q561 : (Jvm.Cond.constant "KalmanQuay$State" (9 : Nat) (-33554432 : Int32)) ∈ lw_all := lw_g (lw_at lw_m3 44 rfl) rfl
theorem q562 : (Jvm.Cond.constant "KalmanQuay$State" (10 : Nat) (33554432 : Int32)) ∈ lw_all := lw_g (lw_at lw_m3 45 rfl) rfl
theorem q563 : (Jvm.Cond.methodLinkNest "KalmanQuay$State" (11 : Nat) ({ cls := "KalmanQuay", name := "held", desc := "(JII)I" } : Jvm.MethodName) "KalmanQuay") ∈ lw_tbl := lw_at lw_m3 46 rfl
theorem q572 : (Jvm.Cond.constant "KalmanQuay$State" (21 : Nat) (-16777216 : Int32)) ∈ lw_all := lw_g (lw_at lw_m3 55 rfl) rfl
theorem q573 : (Jvm.Cond.constant "KalmanQuay$State" (22 : Nat) (16777216 : Int32)) ∈ lw_all := lw_g (lw_at lw_m3 56 rfl) rfl
theorem q574 : (Jvm.Cond.fieldLink "KalmanQuay$State" (15 : Nat) "KalmanQuay$State" "x" "I") ∈ lw_all := lw_g (lw_at lw_m3 57 rfl) rfl
theorem q576 : (Jvm.Cond.fieldLink "KalmanQuay$State" (23 : Nat) "KalmanQuay$State" "v" "I") ∈ lw_all := lw_g (lw_at lw_m3 59 rfl) rfl
theorem q578 : (Jvm.Cond.fieldLink "KalmanQuay$State" (26 : Nat) "KalmanQuay$State" "a" "I") ∈ lw_all := lw_g (lw_at lw_m3 61 rfl) rfl
theorem q580 : (Jvm.Cond.fieldLink "KalmanQuay$State" (29 : Nat) "KalmanQuay$State" "b" "I") ∈ lw_all := lw_g (lw_at lw_m3 63 rfl) rfl
theorem q582 : (Jvm.Cond.fieldLink "KalmanQuay$State" (32 : Nat) "KalmanQuay$State" "c" "I") ∈ lw_all := lw_g (lw_at lw_m3 65 rfl) rfl
theorem q584 : (Jvm.Cond.laysFinal "KalmanQuay$State" "KalmanQuay$State" "x" "I") ∈ lw_all := lw_g (lw_at lw_m3 67 rfl) rfl
theorem q585 : (Jvm.Cond.soleField "KalmanQuay$State" "x") ∈ lw_all := lw_g (lw_at lw_m3 68 rfl) rfl
theorem q586 : (Jvm.Cond.laysFinal "KalmanQuay$State" "KalmanQuay$State" "v" "I") ∈ lw_all := lw_g (lw_at lw_m3 69 rfl) rfl
theorem q587 : (Jvm.Cond.soleField "KalmanQuay$State" "v") ∈ lw_all := lw_g (lw_at lw_m3 70 rfl) rfl
theorem q588 : (Jvm.Cond.laysFinal "KalmanQuay$State" "KalmanQuay$State" "a" "I") ∈ lw_all := lw_g (lw_at lw_m3 71 rfl) rfl
theorem q589 : (Jvm.Cond.soleField "KalmanQuay$State" "a") ∈ lw_all := lw_g (lw_at lw_m3 72 rfl) rfl
theorem q590 : (Jvm.Cond.laysFinal "KalmanQuay$State" "KalmanQuay$State" "b" "I") ∈ lw_all := lw_g (lw_at lw_m3 73 rfl) rfl
theorem q591 : (Jvm.Cond.soleField "KalmanQuay$State" "b") ∈ lw_all := lw_g (lw_at lw_m3 74 rfl) rfl
theorem q592 : (Jvm.Cond.laysFinal "KalmanQuay$State" "KalmanQuay$State" "c" "I") ∈ lw_all := lw_g (lw_at lw_m3 75 rfl) rfl
theorem q593 : (Jvm.Cond.soleField "KalmanQuay$State" "c") ∈ lw_all := lw_g (lw_at lw_m3 76 rfl) rfl
theorem q594 : (Jvm.Cond.superclass "KalmanQuay$State" "java/lang/Object") ∈ lw_all := lw_g (lw_at lw_m3 77 rfl) rfl
theorem q602 : (Jvm.Cond.instanceMethod ({ cls := "KalmanQuay$State", name := "isInGate", desc := "(III)Z" } : Jvm.MethodName)) ∈ lw_all := lw_g (lw_at lw_m3 85 rfl) rfl
theorem q603 : (Jvm.Cond.selects "KalmanQuay$State" ({ cls := "KalmanQuay$State", name := "isInGate", desc := "(III)Z" } : Jvm.MethodName) ({ cls := "KalmanQuay$State", name := "isInGate", desc := "(III)Z" } : Jvm.MethodName)) ∈ lw_all := lw_g (lw_at lw_m3 86 rfl) rfl
theorem q604 : (Jvm.Cond.code ({ cls := "KalmanQuay$State", name := "isInGate", desc := "(III)Z" } : Jvm.MethodName) prog_6_method_5_code (6 : Nat) (Option.some Jvm.ClassFile.FieldType.boolean)) ∈ lw_all := lw_g (lw_at lw_m3 87 rfl) rfl
theorem q605 : (Jvm.Cond.methodLink "KalmanQuay$State" (42 : Nat) ({ cls := "KalmanQuay$State", name := "miss", desc := "(I)J" } : Jvm.MethodName)) ∈ lw_all := lw_g (lw_at lw_m3 88 rfl) rfl
theorem q606 : (Jvm.Cond.instanceMethod ({ cls := "KalmanQuay$State", name := "miss", desc := "(I)J" } : Jvm.MethodName)) ∈ lw_all := lw_g (lw_at lw_m3 89 rfl) rfl
theorem q607 : (Jvm.Cond.selects "KalmanQuay$State" ({ cls := "KalmanQuay$State", name := "miss", desc := "(I)J" } : Jvm.MethodName) ({ cls := "KalmanQuay$State", name := "miss", desc := "(I)J" } : Jvm.MethodName)) ∈ lw_all := lw_g (lw_at lw_m3 90 rfl) rfl
theorem q608 : (Jvm.Cond.code ({ cls := "KalmanQuay$State", name := "miss", desc := "(I)J" } : Jvm.MethodName) prog_6_method_4_code (2 : Nat) (Option.some Jvm.ClassFile.FieldType.long)) ∈ lw_all := lw_g (lw_at lw_m3 91 rfl) rfl
theorem q609 : (Jvm.Cond.constantLong "KalmanQuay$State" (40 : Nat) (256 : Int64)) ∈ lw_all := lw_g (lw_at lw_m3 92 rfl) rfl
theorem q610 : (Jvm.Cond.constantLong "KalmanQuay$State" (46 : Nat) (16 : Int64)) ∈ lw_all := lw_g (lw_at lw_m3 93 rfl) rfl
theorem q611 : (Jvm.Cond.methodLink "KalmanQuay$State" (48 : Nat) ({ cls := "KalmanQuay$State", name := "spread", desc := "(I)J" } : Jvm.MethodName)) ∈ lw_all := lw_g (lw_at lw_m3 94 rfl) rfl
theorem q612 : (Jvm.Cond.instanceMethod ({ cls := "KalmanQuay$State", name := "spread", desc := "(I)J" } : Jvm.MethodName)) ∈ lw_all := lw_g (lw_at lw_m3 95 rfl) rfl
theorem q613 : (Jvm.Cond.selects "KalmanQuay$State" ({ cls := "KalmanQuay$State", name := "spread", desc := "(I)J" } : Jvm.MethodName) ({ cls := "KalmanQuay$State", name := "spread", desc := "(I)J" } : Jvm.MethodName)) ∈ lw_all := lw_g (lw_at lw_m3 96 rfl) rfl
theorem q614 : (Jvm.Cond.code ({ cls := "KalmanQuay$State", name := "spread", desc := "(I)J" } : Jvm.MethodName) prog_6_method_3_code (2 : Nat) (Option.some Jvm.ClassFile.FieldType.long)) ∈ lw_all := lw_g (lw_at lw_m3 97 rfl) rfl
theorem q629 : (Jvm.Cond.instanceMethod ({ cls := "KalmanQuay$State", name := "cost", desc := "(II)J" } : Jvm.MethodName)) ∈ lw_all := lw_g (lw_at lw_m3 112 rfl) rfl
theorem q630 : (Jvm.Cond.selects "KalmanQuay$State" ({ cls := "KalmanQuay$State", name := "cost", desc := "(II)J" } : Jvm.MethodName) ({ cls := "KalmanQuay$State", name := "cost", desc := "(II)J" } : Jvm.MethodName)) ∈ lw_all := lw_g (lw_at lw_m3 113 rfl) rfl
theorem q631 : (Jvm.Cond.code ({ cls := "KalmanQuay$State", name := "cost", desc := "(II)J" } : Jvm.MethodName) prog_6_method_6_code (5 : Nat) (Option.some Jvm.ClassFile.FieldType.long)) ∈ lw_all := lw_g (lw_at lw_m3 114 rfl) rfl
theorem q666 : (Jvm.Cond.selects "KalmanQuay$State" ({ cls := "java/lang/Object", name := "hashCode", desc := "()I" } : Jvm.MethodName) ({ cls := "java/lang/Object", name := "hashCode", desc := "()I" } : Jvm.MethodName)) ∈ lw_all := lw_g (lw_at lw_m3 149 rfl) rfl
theorem q815 : (Jvm.Cond.selects "KalmanQuay$State" ({ cls := "java/lang/Object", name := "equals", desc := "(Ljava/lang/Object;)Z" } : Jvm.MethodName) ({ cls := "java/lang/Object", name := "equals", desc := "(Ljava/lang/Object;)Z" } : Jvm.MethodName)) ∈ lw_all := lw_g (lw_at lw_m4 58 rfl) rfl
theorem q972 : (Jvm.Cond.instanceMethod ({ cls := "KalmanQuay$State", name := "correct", desc := "(II)LKalmanQuay$State;" } : Jvm.MethodName)) ∈ lw_all := lw_g (lw_at lw_m4 215 rfl) rfl
theorem q973 : (Jvm.Cond.selects "KalmanQuay$State" ({ cls := "KalmanQuay$State", name := "correct", desc := "(II)LKalmanQuay$State;" } : Jvm.MethodName) ({ cls := "KalmanQuay$State", name := "correct", desc := "(II)LKalmanQuay$State;" } : Jvm.MethodName)) ∈ lw_all := lw_g (lw_at lw_m4 216 rfl) rfl
theorem q974 : (Jvm.Cond.code ({ cls := "KalmanQuay$State", name := "correct", desc := "(II)LKalmanQuay$State;" } : Jvm.MethodName) prog_6_method_7_code (15 : Nat) (Option.some (Jvm.ClassFile.FieldType.object "KalmanQuay$State"))) ∈ lw_all := lw_g (lw_at lw_m4 217 rfl) rfl
theorem q975 : (Jvm.Cond.constantLong "KalmanQuay$State" (51 : Nat) (65536 : Int64)) ∈ lw_all := lw_g (lw_at lw_m4 218 rfl) rfl
theorem q976 : (Jvm.Cond.methodLink "KalmanQuay$State" (53 : Nat) ({ cls := "java/lang/Math", name := "floorDiv", desc := "(JJ)J" } : Jvm.MethodName)) ∈ lw_all := lw_g (lw_at lw_m4 219 rfl) rfl
theorem q1694 : (Jvm.Cond.castable "KalmanQuay$State" "java/lang/Object") ∈ lw_tbl := lw_at lw_m7 217 rfl
theorem in_X4 : ∀ w ∈ wsX40, w ∈ lw_all := lw_in wsX40 [584, 586, 588, 590, 592] (by decide +kernel) (by decide +kernel)

/-! KalmanQuay$Pair -/
set_option maxRecDepth 100000
def RX5 : String := "KalmanQuay$Pair"
def TX5 : u_T := fun k => match k with
  | 0 => ("KalmanQuay$Pair", "track", "I", true)
  | _ => ("KalmanQuay$Pair", "hit", "I", true)
def tyX5 : Nat → FieldType := fun k => match k with
  | 0 => .int
  | _ => .int
abbrev wsX50 : List Cond := u_ws RX5 TX5 2
theorem nmX5 : ∀ a, a < 2 → ∀ b, b < 2 → a ≠ b → (TX5 a).2.1 ≠ (TX5 b).2.1 := by decide +kernel
theorem tyX5_ok : ∀ k, k < 2 → parseFieldDescriptor (TX5 k).2.2.1 = some (tyX5 k) := by decide +kernel
abbrev cX5_init : ByteArray := prog_5_method_1_code
def yX5_init : MethodName := ⟨RX5, "<init>", "(II)V"⟩
def dkwX5_init_0 : List UInt8 := [42, 183, 0, 3, 42, 27, 181, 0, 9, 42, 28, 181, 0, 15, 177]
abbrev dktX5_init_0 : List UInt8 := dkwX5_init_0 ++ []
theorem dksX5_init_0 : cX5_init.data.toList.drop 0 = dktX5_init_0 := by decide +kernel
theorem dX5_init_0 : decode cX5_init 0 = .ok (.aload_n 0, 1) := dk_42 (dk_at dksX5_init_0 0 rfl rfl)
theorem dX5_init_1 : decode cX5_init 1 = .ok (.invokespecial 3, 3) := dk_183 0 3 (dk_at dksX5_init_0 1 rfl rfl)
theorem dX5_init_4 : decode cX5_init 4 = .ok (.aload_n 0, 1) := dk_42 (dk_at dksX5_init_0 4 rfl rfl)
theorem dX5_init_5 : decode cX5_init 5 = .ok (.iload_n 1, 1) := dk_27 (dk_at dksX5_init_0 5 rfl rfl)
theorem dX5_init_6 : decode cX5_init 6 = .ok (.putfield 9, 3) := dk_181 0 9 (dk_at dksX5_init_0 6 rfl rfl)
theorem dX5_init_9 : decode cX5_init 9 = .ok (.aload_n 0, 1) := dk_42 (dk_at dksX5_init_0 9 rfl rfl)
theorem dX5_init_10 : decode cX5_init 10 = .ok (.iload_n 2, 1) := dk_28 (dk_at dksX5_init_0 10 rfl rfl)
theorem dX5_init_11 : decode cX5_init 11 = .ok (.putfield 15, 3) := dk_181 0 15 (dk_at dksX5_init_0 11 rfl rfl)
theorem dX5_init_14 : decode cX5_init 14 = .ok (.return_, 1) := dk_177 (dk_at dksX5_init_0 14 rfl rfl)
abbrev cX5_hashCode : ByteArray := prog_5_method_3_code
def yX5_hashCode : MethodName := ⟨RX5, "hashCode", "()I"⟩
def dkwX5_hashCode_0 : List UInt8 := [16, 8, 42, 180, 0, 9, 104, 42, 180, 0, 15, 96, 172]
abbrev dktX5_hashCode_0 : List UInt8 := dkwX5_hashCode_0 ++ []
theorem dksX5_hashCode_0 : cX5_hashCode.data.toList.drop 0 = dktX5_hashCode_0 := by decide +kernel
theorem dX5_hashCode_0 : decode cX5_hashCode 0 = .ok (.bipush 8, 2) := dk_16 8 (dk_at dksX5_hashCode_0 0 rfl rfl)
theorem dX5_hashCode_2 : decode cX5_hashCode 2 = .ok (.aload_n 0, 1) := dk_42 (dk_at dksX5_hashCode_0 2 rfl rfl)
theorem dX5_hashCode_3 : decode cX5_hashCode 3 = .ok (.getfield 9, 3) := dk_180 0 9 (dk_at dksX5_hashCode_0 3 rfl rfl)
theorem dX5_hashCode_6 : decode cX5_hashCode 6 = .ok (.imul, 1) := dk_104 (dk_at dksX5_hashCode_0 6 rfl rfl)
theorem dX5_hashCode_7 : decode cX5_hashCode 7 = .ok (.aload_n 0, 1) := dk_42 (dk_at dksX5_hashCode_0 7 rfl rfl)
theorem dX5_hashCode_8 : decode cX5_hashCode 8 = .ok (.getfield 15, 3) := dk_180 0 15 (dk_at dksX5_hashCode_0 8 rfl rfl)
theorem dX5_hashCode_11 : decode cX5_hashCode 11 = .ok (.iadd, 1) := dk_96 (dk_at dksX5_hashCode_0 11 rfl rfl)
theorem dX5_hashCode_12 : decode cX5_hashCode 12 = .ok (.ireturn, 1) := dk_172 (dk_at dksX5_hashCode_0 12 rfl rfl)
abbrev cX5_equals : ByteArray := prog_5_method_2_code
def yX5_equals : MethodName := ⟨RX5, "equals", "(Ljava/lang/Object;)Z"⟩
def dkwX5_equals_1 : List UInt8 := [180, 0, 15, 42, 180, 0, 15, 160, 0, 7, 4, 167, 0, 4, 3, 172]
abbrev dktX5_equals_1 : List UInt8 := dkwX5_equals_1 ++ []
def dkwX5_equals_0 : List UInt8 := [43, 193, 0, 10, 153, 0, 34, 43, 192, 0, 10, 77, 44, 180, 0, 9, 42, 180, 0, 9, 160, 0, 18, 44]
abbrev dktX5_equals_0 : List UInt8 := dkwX5_equals_0 ++ dktX5_equals_1
theorem dksX5_equals_0 : cX5_equals.data.toList.drop 0 = dktX5_equals_0 := by decide +kernel
theorem dksX5_equals_1 : cX5_equals.data.toList.drop 24 = dktX5_equals_1 := dk_seg dksX5_equals_0 24 rfl rfl
theorem dX5_equals_0 : decode cX5_equals 0 = .ok (.aload_n 1, 1) := dk_43 (dk_at dksX5_equals_0 0 rfl rfl)
theorem dX5_equals_1 : decode cX5_equals 1 = .ok (.instanceof 10, 3) := dk_193 0 10 (dk_at dksX5_equals_0 1 rfl rfl)
theorem dX5_equals_4 : decode cX5_equals 4 = .ok (.ifCond .eq 34, 3) := dk_153 0 34 (dk_at dksX5_equals_0 4 rfl rfl)
theorem dX5_equals_7 : decode cX5_equals 7 = .ok (.aload_n 1, 1) := dk_43 (dk_at dksX5_equals_0 7 rfl rfl)
theorem dX5_equals_8 : decode cX5_equals 8 = .ok (.checkcast 10, 3) := dk_192 0 10 (dk_at dksX5_equals_0 8 rfl rfl)
theorem dX5_equals_11 : decode cX5_equals 11 = .ok (.astore_n 2, 1) := dk_77 (dk_at dksX5_equals_0 11 rfl rfl)
theorem dX5_equals_12 : decode cX5_equals 12 = .ok (.aload_n 2, 1) := dk_44 (dk_at dksX5_equals_0 12 rfl rfl)
theorem dX5_equals_13 : decode cX5_equals 13 = .ok (.getfield 9, 3) := dk_180 0 9 (dk_at dksX5_equals_0 13 rfl rfl)
theorem dX5_equals_16 : decode cX5_equals 16 = .ok (.aload_n 0, 1) := dk_42 (dk_at dksX5_equals_0 16 rfl rfl)
theorem dX5_equals_17 : decode cX5_equals 17 = .ok (.getfield 9, 3) := dk_180 0 9 (dk_at dksX5_equals_0 17 rfl rfl)
theorem dX5_equals_20 : decode cX5_equals 20 = .ok (.if_icmp .ne 18, 3) := dk_160 0 18 (dk_at dksX5_equals_0 20 rfl rfl)
theorem dX5_equals_23 : decode cX5_equals 23 = .ok (.aload_n 2, 1) := dk_44 (dk_at dksX5_equals_0 23 rfl rfl)
theorem dX5_equals_24 : decode cX5_equals 24 = .ok (.getfield 15, 3) := dk_180 0 15 (dk_at dksX5_equals_1 0 rfl rfl)
theorem dX5_equals_27 : decode cX5_equals 27 = .ok (.aload_n 0, 1) := dk_42 (dk_at dksX5_equals_1 3 rfl rfl)
theorem dX5_equals_28 : decode cX5_equals 28 = .ok (.getfield 15, 3) := dk_180 0 15 (dk_at dksX5_equals_1 4 rfl rfl)
theorem dX5_equals_31 : decode cX5_equals 31 = .ok (.if_icmp .ne 7, 3) := dk_160 0 7 (dk_at dksX5_equals_1 7 rfl rfl)
theorem dX5_equals_34 : decode cX5_equals 34 = .ok (.iconst 1, 1) := dk_4 (dk_at dksX5_equals_1 10 rfl rfl)
theorem dX5_equals_35 : decode cX5_equals 35 = .ok (.goto 4, 3) := dk_167 0 4 (dk_at dksX5_equals_1 11 rfl rfl)
theorem dX5_equals_38 : decode cX5_equals 38 = .ok (.iconst 0, 1) := dk_3 (dk_at dksX5_equals_1 14 rfl rfl)
theorem dX5_equals_39 : decode cX5_equals 39 = .ok (.ireturn, 1) := dk_172 (dk_at dksX5_equals_1 15 rfl rfl)
theorem q66 : (Jvm.Cond.initialized "KalmanQuay$Pair") ∈ lw_all := lw_g (lw_at lw_m1 29 rfl) rfl
theorem q256 : (Jvm.Cond.selects "KalmanQuay$Pair" ({ cls := "java/lang/Object", name := "getClass", desc := "()Ljava/lang/Class;" } : Jvm.MethodName) ({ cls := "java/lang/Object", name := "getClass", desc := "()Ljava/lang/Class;" } : Jvm.MethodName)) ∈ lw_all := lw_g (lw_at lw_m1 219 rfl) rfl
theorem q616 : (Jvm.Cond.instantiable "KalmanQuay$Pair" (2 : Nat)) ∈ lw_all := lw_g (lw_at lw_m3 99 rfl) rfl
theorem q618 : (Jvm.Cond.instanceMethod ({ cls := "KalmanQuay$Pair", name := "<init>", desc := "(II)V" } : Jvm.MethodName)) ∈ lw_all := lw_g (lw_at lw_m3 101 rfl) rfl
theorem q619 : (Jvm.Cond.code ({ cls := "KalmanQuay$Pair", name := "<init>", desc := "(II)V" } : Jvm.MethodName) prog_5_method_1_code (3 : Nat) (Option.none : Option Jvm.ClassFile.FieldType)) ∈ lw_all := lw_g (lw_at lw_m3 102 rfl) rfl
theorem q620 : (Jvm.Cond.methodLink "KalmanQuay$Pair" (3 : Nat) ({ cls := "java/lang/Object", name := "<init>", desc := "()V" } : Jvm.MethodName)) ∈ lw_all := lw_g (lw_at lw_m3 103 rfl) rfl
theorem q621 : (Jvm.Cond.fieldLink "KalmanQuay$Pair" (9 : Nat) "KalmanQuay$Pair" "track" "I") ∈ lw_all := lw_g (lw_at lw_m3 104 rfl) rfl
theorem q622 : (Jvm.Cond.fieldLink "KalmanQuay$Pair" (15 : Nat) "KalmanQuay$Pair" "hit" "I") ∈ lw_all := lw_g (lw_at lw_m3 105 rfl) rfl
theorem q623 : (Jvm.Cond.laysFinal "KalmanQuay$Pair" "KalmanQuay$Pair" "track" "I") ∈ lw_all := lw_g (lw_at lw_m3 106 rfl) rfl
theorem q624 : (Jvm.Cond.soleField "KalmanQuay$Pair" "track") ∈ lw_all := lw_g (lw_at lw_m3 107 rfl) rfl
theorem q625 : (Jvm.Cond.laysFinal "KalmanQuay$Pair" "KalmanQuay$Pair" "hit" "I") ∈ lw_all := lw_g (lw_at lw_m3 108 rfl) rfl
theorem q626 : (Jvm.Cond.soleField "KalmanQuay$Pair" "hit") ∈ lw_all := lw_g (lw_at lw_m3 109 rfl) rfl
theorem q627 : (Jvm.Cond.superclass "KalmanQuay$Pair" "java/lang/Object") ∈ lw_all := lw_g (lw_at lw_m3 110 rfl) rfl
theorem q663 : (Jvm.Cond.selects "KalmanQuay$Pair" ({ cls := "java/lang/Object", name := "hashCode", desc := "()I" } : Jvm.MethodName) ({ cls := "KalmanQuay$Pair", name := "hashCode", desc := "()I" } : Jvm.MethodName)) ∈ lw_all := lw_g (lw_at lw_m3 146 rfl) rfl
theorem q664 : (Jvm.Cond.instanceMethod ({ cls := "KalmanQuay$Pair", name := "hashCode", desc := "()I" } : Jvm.MethodName)) ∈ lw_all := lw_g (lw_at lw_m3 147 rfl) rfl
theorem q665 : (Jvm.Cond.code ({ cls := "KalmanQuay$Pair", name := "hashCode", desc := "()I" } : Jvm.MethodName) prog_5_method_3_code (1 : Nat) (Option.some Jvm.ClassFile.FieldType.int)) ∈ lw_all := lw_g (lw_at lw_m3 148 rfl) rfl
theorem q811 : (Jvm.Cond.selects "KalmanQuay$Pair" ({ cls := "java/lang/Object", name := "equals", desc := "(Ljava/lang/Object;)Z" } : Jvm.MethodName) ({ cls := "KalmanQuay$Pair", name := "equals", desc := "(Ljava/lang/Object;)Z" } : Jvm.MethodName)) ∈ lw_all := lw_g (lw_at lw_m4 54 rfl) rfl
theorem q812 : (Jvm.Cond.instanceMethod ({ cls := "KalmanQuay$Pair", name := "equals", desc := "(Ljava/lang/Object;)Z" } : Jvm.MethodName)) ∈ lw_all := lw_g (lw_at lw_m4 55 rfl) rfl
theorem q813 : (Jvm.Cond.code ({ cls := "KalmanQuay$Pair", name := "equals", desc := "(Ljava/lang/Object;)Z" } : Jvm.MethodName) prog_5_method_2_code (3 : Nat) (Option.some Jvm.ClassFile.FieldType.boolean)) ∈ lw_all := lw_g (lw_at lw_m4 56 rfl) rfl
theorem q814 : (Jvm.Cond.classLink "KalmanQuay$Pair" (10 : Nat) "KalmanQuay$Pair") ∈ lw_all := lw_g (lw_at lw_m4 57 rfl) rfl
theorem q1695 : (Jvm.Cond.castable "KalmanQuay$Pair" "java/lang/Object") ∈ lw_tbl := lw_at lw_m7 218 rfl
theorem in_X5 : ∀ w ∈ wsX50, w ∈ lw_all := lw_in wsX50 [623, 625] (by decide +kernel) (by decide +kernel)

/-! KalmanQuay$Assignment -/
set_option maxRecDepth 100000
def RX6 : String := "KalmanQuay$Assignment"
def TX6 : u_T := fun k => match k with
  | 0 => ("KalmanQuay$Assignment", "tracks", "I", true)
  | 1 => ("KalmanQuay$Assignment", "hits", "Ljava/util/ArrayList;", true)
  | 2 => ("KalmanQuay$Assignment", "costs", "[[J", true)
  | 3 => ("KalmanQuay$Assignment", "chosen", "[I", true)
  | 4 => ("KalmanQuay$Assignment", "best", "[I", false)
  | 5 => ("KalmanQuay$Assignment", "mostPairs", "I", false)
  | _ => ("KalmanQuay$Assignment", "leastCost", "J", false)
def tyX6 : Nat → FieldType := fun k => match k with
  | 0 => .int
  | 1 => .object "java/util/ArrayList"
  | 2 => .array (.array .long)
  | 3 => .array .int
  | 4 => .array .int
  | 5 => .int
  | _ => .long
abbrev wsX60 : List Cond := u_ws RX6 TX6 7
theorem nmX6 : ∀ a, a < 7 → ∀ b, b < 7 → a ≠ b → (TX6 a).2.1 ≠ (TX6 b).2.1 := by decide +kernel
theorem tyX6_ok : ∀ k, k < 7 → parseFieldDescriptor (TX6 k).2.2.1 = some (tyX6 k) := by decide +kernel
abbrev cX6_init : ByteArray := prog_2_method_1_code
def yX6_init : MethodName := ⟨RX6, "<init>", "(Ljava/util/ArrayList;Ljava/util/ArrayList;Ljava/util/HashMap;)V"⟩
def dkwX6_init_6 : List UInt8 := [132, 5, 1, 167, 255, 187, 132, 4, 1, 167, 255, 169, 42, 3, 3, 3, 9, 182, 0, 72, 177]
abbrev dktX6_init_6 : List UInt8 := dkwX6_init_6 ++ []
def dkwX6_init_5 : List UInt8 := [182, 0, 48, 183, 0, 51, 20, 0, 54, 184, 0, 56, 182, 0, 62, 192, 0, 57, 182, 0, 68, 80]
abbrev dktX6_init_5 : List UInt8 := dkwX6_init_5 ++ dktX6_init_6
def dkwX6_init_4 : List UInt8 := [89, 43, 21, 4, 182, 0, 42, 192, 0, 46, 182, 0, 48, 44, 21, 5, 182, 0, 42, 192, 0, 46]
abbrev dktX6_init_4 : List UInt8 := dkwX6_init_4 ++ dktX6_init_5
def dkwX6_init_3 : List UInt8 := [54, 5, 21, 5, 44, 182, 0, 15, 162, 0, 66, 42, 180, 0, 30, 21, 4, 50, 21, 5, 45, 187, 0, 40]
abbrev dktX6_init_3 : List UInt8 := dkwX6_init_3 ++ dktX6_init_4
def dkwX6_init_2 : List UInt8 := [42, 43, 182, 0, 15, 188, 10, 181, 0, 37, 3, 54, 4, 21, 4, 43, 182, 0, 15, 162, 0, 84, 3]
abbrev dktX6_init_2 : List UInt8 := dkwX6_init_2 ++ dktX6_init_3
def dkwX6_init_1 : List UInt8 := [182, 0, 15, 44, 182, 0, 15, 197, 0, 28, 2, 181, 0, 30, 42, 43, 182, 0, 15, 188, 10, 181, 0, 33]
abbrev dktX6_init_1 : List UInt8 := dkwX6_init_1 ++ dktX6_init_2
def dkwX6_init_0 : List UInt8 := [42, 183, 0, 3, 42, 2, 181, 0, 9, 42, 43, 182, 0, 15, 181, 0, 21, 42, 44, 181, 0, 24, 42, 43]
abbrev dktX6_init_0 : List UInt8 := dkwX6_init_0 ++ dktX6_init_1
theorem dksX6_init_0 : cX6_init.data.toList.drop 0 = dktX6_init_0 := by decide +kernel
theorem dksX6_init_1 : cX6_init.data.toList.drop 24 = dktX6_init_1 := dk_seg dksX6_init_0 24 rfl rfl
theorem dksX6_init_2 : cX6_init.data.toList.drop 48 = dktX6_init_2 := dk_seg dksX6_init_1 24 rfl rfl
theorem dksX6_init_3 : cX6_init.data.toList.drop 71 = dktX6_init_3 := dk_seg dksX6_init_2 23 rfl rfl
theorem dksX6_init_4 : cX6_init.data.toList.drop 95 = dktX6_init_4 := dk_seg dksX6_init_3 24 rfl rfl
theorem dksX6_init_5 : cX6_init.data.toList.drop 117 = dktX6_init_5 := dk_seg dksX6_init_4 22 rfl rfl
theorem dksX6_init_6 : cX6_init.data.toList.drop 139 = dktX6_init_6 := dk_seg dksX6_init_5 22 rfl rfl
theorem dX6_init_0 : decode cX6_init 0 = .ok (.aload_n 0, 1) := dk_42 (dk_at dksX6_init_0 0 rfl rfl)
theorem dX6_init_1 : decode cX6_init 1 = .ok (.invokespecial 3, 3) := dk_183 0 3 (dk_at dksX6_init_0 1 rfl rfl)
theorem dX6_init_4 : decode cX6_init 4 = .ok (.aload_n 0, 1) := dk_42 (dk_at dksX6_init_0 4 rfl rfl)
theorem dX6_init_5 : decode cX6_init 5 = .ok (.iconst (-1), 1) := dk_2 (dk_at dksX6_init_0 5 rfl rfl)
theorem dX6_init_6 : decode cX6_init 6 = .ok (.putfield 9, 3) := dk_181 0 9 (dk_at dksX6_init_0 6 rfl rfl)
theorem dX6_init_9 : decode cX6_init 9 = .ok (.aload_n 0, 1) := dk_42 (dk_at dksX6_init_0 9 rfl rfl)
theorem dX6_init_10 : decode cX6_init 10 = .ok (.aload_n 1, 1) := dk_43 (dk_at dksX6_init_0 10 rfl rfl)
theorem dX6_init_11 : decode cX6_init 11 = .ok (.invokevirtual 15, 3) := dk_182 0 15 (dk_at dksX6_init_0 11 rfl rfl)
theorem dX6_init_14 : decode cX6_init 14 = .ok (.putfield 21, 3) := dk_181 0 21 (dk_at dksX6_init_0 14 rfl rfl)
theorem dX6_init_17 : decode cX6_init 17 = .ok (.aload_n 0, 1) := dk_42 (dk_at dksX6_init_0 17 rfl rfl)
theorem dX6_init_18 : decode cX6_init 18 = .ok (.aload_n 2, 1) := dk_44 (dk_at dksX6_init_0 18 rfl rfl)
theorem dX6_init_19 : decode cX6_init 19 = .ok (.putfield 24, 3) := dk_181 0 24 (dk_at dksX6_init_0 19 rfl rfl)
theorem dX6_init_22 : decode cX6_init 22 = .ok (.aload_n 0, 1) := dk_42 (dk_at dksX6_init_0 22 rfl rfl)
theorem dX6_init_23 : decode cX6_init 23 = .ok (.aload_n 1, 1) := dk_43 (dk_at dksX6_init_0 23 rfl rfl)
theorem dX6_init_24 : decode cX6_init 24 = .ok (.invokevirtual 15, 3) := dk_182 0 15 (dk_at dksX6_init_1 0 rfl rfl)
theorem dX6_init_27 : decode cX6_init 27 = .ok (.aload_n 2, 1) := dk_44 (dk_at dksX6_init_1 3 rfl rfl)
theorem dX6_init_28 : decode cX6_init 28 = .ok (.invokevirtual 15, 3) := dk_182 0 15 (dk_at dksX6_init_1 4 rfl rfl)
theorem dX6_init_31 : decode cX6_init 31 = .ok (.multianewarray 28 2, 4) := by decide +kernel
theorem dX6_init_35 : decode cX6_init 35 = .ok (.putfield 30, 3) := dk_181 0 30 (dk_at dksX6_init_1 11 rfl rfl)
theorem dX6_init_38 : decode cX6_init 38 = .ok (.aload_n 0, 1) := dk_42 (dk_at dksX6_init_1 14 rfl rfl)
theorem dX6_init_39 : decode cX6_init 39 = .ok (.aload_n 1, 1) := dk_43 (dk_at dksX6_init_1 15 rfl rfl)
theorem dX6_init_40 : decode cX6_init 40 = .ok (.invokevirtual 15, 3) := dk_182 0 15 (dk_at dksX6_init_1 16 rfl rfl)
theorem dX6_init_43 : decode cX6_init 43 = .ok (.newarray .int, 2) := dk_188_10 (dk_at dksX6_init_1 19 rfl rfl)
theorem dX6_init_45 : decode cX6_init 45 = .ok (.putfield 33, 3) := dk_181 0 33 (dk_at dksX6_init_1 21 rfl rfl)
theorem dX6_init_48 : decode cX6_init 48 = .ok (.aload_n 0, 1) := dk_42 (dk_at dksX6_init_2 0 rfl rfl)
theorem dX6_init_49 : decode cX6_init 49 = .ok (.aload_n 1, 1) := dk_43 (dk_at dksX6_init_2 1 rfl rfl)
theorem dX6_init_50 : decode cX6_init 50 = .ok (.invokevirtual 15, 3) := dk_182 0 15 (dk_at dksX6_init_2 2 rfl rfl)
theorem dX6_init_53 : decode cX6_init 53 = .ok (.newarray .int, 2) := dk_188_10 (dk_at dksX6_init_2 5 rfl rfl)
theorem dX6_init_55 : decode cX6_init 55 = .ok (.putfield 37, 3) := dk_181 0 37 (dk_at dksX6_init_2 7 rfl rfl)
theorem dX6_init_58 : decode cX6_init 58 = .ok (.iconst 0, 1) := dk_3 (dk_at dksX6_init_2 10 rfl rfl)
theorem dX6_init_59 : decode cX6_init 59 = .ok (.istore 4, 2) := dk_54 4 (dk_at dksX6_init_2 11 rfl rfl)
theorem dX6_init_61 : decode cX6_init 61 = .ok (.iload 4, 2) := dk_21 4 (dk_at dksX6_init_2 13 rfl rfl)
theorem dX6_init_63 : decode cX6_init 63 = .ok (.aload_n 1, 1) := dk_43 (dk_at dksX6_init_2 15 rfl rfl)
theorem dX6_init_64 : decode cX6_init 64 = .ok (.invokevirtual 15, 3) := dk_182 0 15 (dk_at dksX6_init_2 16 rfl rfl)
theorem dX6_init_67 : decode cX6_init 67 = .ok (.if_icmp .ge 84, 3) := dk_162 0 84 (dk_at dksX6_init_2 19 rfl rfl)
theorem dX6_init_70 : decode cX6_init 70 = .ok (.iconst 0, 1) := dk_3 (dk_at dksX6_init_2 22 rfl rfl)
theorem dX6_init_71 : decode cX6_init 71 = .ok (.istore 5, 2) := dk_54 5 (dk_at dksX6_init_3 0 rfl rfl)
theorem dX6_init_73 : decode cX6_init 73 = .ok (.iload 5, 2) := dk_21 5 (dk_at dksX6_init_3 2 rfl rfl)
theorem dX6_init_75 : decode cX6_init 75 = .ok (.aload_n 2, 1) := dk_44 (dk_at dksX6_init_3 4 rfl rfl)
theorem dX6_init_76 : decode cX6_init 76 = .ok (.invokevirtual 15, 3) := dk_182 0 15 (dk_at dksX6_init_3 5 rfl rfl)
theorem dX6_init_79 : decode cX6_init 79 = .ok (.if_icmp .ge 66, 3) := dk_162 0 66 (dk_at dksX6_init_3 8 rfl rfl)
theorem dX6_init_82 : decode cX6_init 82 = .ok (.aload_n 0, 1) := dk_42 (dk_at dksX6_init_3 11 rfl rfl)
theorem dX6_init_83 : decode cX6_init 83 = .ok (.getfield 30, 3) := dk_180 0 30 (dk_at dksX6_init_3 12 rfl rfl)
theorem dX6_init_86 : decode cX6_init 86 = .ok (.iload 4, 2) := dk_21 4 (dk_at dksX6_init_3 15 rfl rfl)
theorem dX6_init_88 : decode cX6_init 88 = .ok (.aaload, 1) := dk_50 (dk_at dksX6_init_3 17 rfl rfl)
theorem dX6_init_89 : decode cX6_init 89 = .ok (.iload 5, 2) := dk_21 5 (dk_at dksX6_init_3 18 rfl rfl)
theorem dX6_init_91 : decode cX6_init 91 = .ok (.aload_n 3, 1) := dk_45 (dk_at dksX6_init_3 20 rfl rfl)
theorem dX6_init_92 : decode cX6_init 92 = .ok (.new 40, 3) := dk_187 0 40 (dk_at dksX6_init_3 21 rfl rfl)
theorem dX6_init_95 : decode cX6_init 95 = .ok (.dup, 1) := dk_89 (dk_at dksX6_init_4 0 rfl rfl)
theorem dX6_init_96 : decode cX6_init 96 = .ok (.aload_n 1, 1) := dk_43 (dk_at dksX6_init_4 1 rfl rfl)
theorem dX6_init_97 : decode cX6_init 97 = .ok (.iload 4, 2) := dk_21 4 (dk_at dksX6_init_4 2 rfl rfl)
theorem dX6_init_99 : decode cX6_init 99 = .ok (.invokevirtual 42, 3) := dk_182 0 42 (dk_at dksX6_init_4 4 rfl rfl)
theorem dX6_init_102 : decode cX6_init 102 = .ok (.checkcast 46, 3) := dk_192 0 46 (dk_at dksX6_init_4 7 rfl rfl)
theorem dX6_init_105 : decode cX6_init 105 = .ok (.invokevirtual 48, 3) := dk_182 0 48 (dk_at dksX6_init_4 10 rfl rfl)
theorem dX6_init_108 : decode cX6_init 108 = .ok (.aload_n 2, 1) := dk_44 (dk_at dksX6_init_4 13 rfl rfl)
theorem dX6_init_109 : decode cX6_init 109 = .ok (.iload 5, 2) := dk_21 5 (dk_at dksX6_init_4 14 rfl rfl)
theorem dX6_init_111 : decode cX6_init 111 = .ok (.invokevirtual 42, 3) := dk_182 0 42 (dk_at dksX6_init_4 16 rfl rfl)
theorem dX6_init_114 : decode cX6_init 114 = .ok (.checkcast 46, 3) := dk_192 0 46 (dk_at dksX6_init_4 19 rfl rfl)
theorem dX6_init_117 : decode cX6_init 117 = .ok (.invokevirtual 48, 3) := dk_182 0 48 (dk_at dksX6_init_5 0 rfl rfl)
theorem dX6_init_120 : decode cX6_init 120 = .ok (.invokespecial 51, 3) := dk_183 0 51 (dk_at dksX6_init_5 3 rfl rfl)
theorem dX6_init_123 : decode cX6_init 123 = .ok (.ldc2_w 54, 3) := dk_20 0 54 (dk_at dksX6_init_5 6 rfl rfl)
theorem dX6_init_126 : decode cX6_init 126 = .ok (.invokestatic 56, 3) := dk_184 0 56 (dk_at dksX6_init_5 9 rfl rfl)
theorem dX6_init_129 : decode cX6_init 129 = .ok (.invokevirtual 62, 3) := dk_182 0 62 (dk_at dksX6_init_5 12 rfl rfl)
theorem dX6_init_132 : decode cX6_init 132 = .ok (.checkcast 57, 3) := dk_192 0 57 (dk_at dksX6_init_5 15 rfl rfl)
theorem dX6_init_135 : decode cX6_init 135 = .ok (.invokevirtual 68, 3) := dk_182 0 68 (dk_at dksX6_init_5 18 rfl rfl)
theorem dX6_init_138 : decode cX6_init 138 = .ok (.lastore, 1) := dk_80 (dk_at dksX6_init_5 21 rfl rfl)
theorem dX6_init_139 : decode cX6_init 139 = .ok (.iinc 5 1, 3) := dk_132 5 1 (dk_at dksX6_init_6 0 rfl rfl)
theorem dX6_init_142 : decode cX6_init 142 = .ok (.goto (-69), 3) := dk_167 255 187 (dk_at dksX6_init_6 3 rfl rfl)
theorem dX6_init_145 : decode cX6_init 145 = .ok (.iinc 4 1, 3) := dk_132 4 1 (dk_at dksX6_init_6 6 rfl rfl)
theorem dX6_init_148 : decode cX6_init 148 = .ok (.goto (-87), 3) := dk_167 255 169 (dk_at dksX6_init_6 9 rfl rfl)
theorem dX6_init_151 : decode cX6_init 151 = .ok (.aload_n 0, 1) := dk_42 (dk_at dksX6_init_6 12 rfl rfl)
theorem dX6_init_152 : decode cX6_init 152 = .ok (.iconst 0, 1) := dk_3 (dk_at dksX6_init_6 13 rfl rfl)
theorem dX6_init_153 : decode cX6_init 153 = .ok (.iconst 0, 1) := dk_3 (dk_at dksX6_init_6 14 rfl rfl)
theorem dX6_init_154 : decode cX6_init 154 = .ok (.iconst 0, 1) := dk_3 (dk_at dksX6_init_6 15 rfl rfl)
theorem dX6_init_155 : decode cX6_init 155 = .ok (.lconst 0, 1) := dk_9 (dk_at dksX6_init_6 16 rfl rfl)
theorem dX6_init_156 : decode cX6_init 156 = .ok (.invokevirtual 72, 3) := dk_182 0 72 (dk_at dksX6_init_6 17 rfl rfl)
theorem dX6_init_159 : decode cX6_init 159 = .ok (.return_, 1) := dk_177 (dk_at dksX6_init_6 20 rfl rfl)
abbrev cX6_choose : ByteArray := prog_2_method_2_code
def yX6_choose : MethodName := ⟨RX6, "choose", "(IIIJ)V"⟩
def dkwX6_choose_7 : List UInt8 := [180, 0, 33, 27, 2, 79, 42, 27, 4, 96, 28, 29, 22, 4, 182, 0, 72, 177]
abbrev dktX6_choose_7 : List UInt8 := dkwX6_choose_7 ++ []
def dkwX6_choose_6 : List UInt8 := [96, 22, 4, 42, 180, 0, 30, 27, 50, 21, 6, 47, 97, 182, 0, 72, 132, 6, 1, 167, 255, 167, 42]
abbrev dktX6_choose_6 : List UInt8 := dkwX6_choose_6 ++ dktX6_choose_7
def dkwX6_choose_5 : List UInt8 := [21, 6, 182, 0, 42, 192, 0, 46, 182, 0, 48, 79, 42, 27, 4, 96, 28, 4, 21, 6, 120, 128, 29, 4]
abbrev dktX6_choose_5 : List UInt8 := dkwX6_choose_5 ++ dktX6_choose_6
def dkwX6_choose_4 : List UInt8 := [180, 0, 30, 27, 50, 21, 6, 47, 20, 0, 54, 148, 153, 0, 52, 42, 180, 0, 33, 27, 42, 180, 0, 24]
abbrev dktX6_choose_4 : List UInt8 := dkwX6_choose_4 ++ dktX6_choose_5
def dkwX6_choose_3 : List UInt8 := [21, 6, 42, 180, 0, 24, 182, 0, 15, 162, 0, 83, 28, 21, 6, 122, 4, 126, 154, 0, 68, 42]
abbrev dktX6_choose_3 : List UInt8 := dkwX6_choose_3 ++ dktX6_choose_4
def dkwX6_choose_2 : List UInt8 := [22, 4, 181, 0, 76, 42, 42, 180, 0, 33, 182, 0, 80, 192, 0, 81, 181, 0, 37, 177, 3, 54, 6]
abbrev dktX6_choose_2 : List UInt8 := dkwX6_choose_2 ++ dktX6_choose_3
def dkwX6_choose_1 : List UInt8 := [29, 42, 180, 0, 9, 163, 0, 13, 22, 4, 42, 180, 0, 76, 148, 156, 0, 28, 42, 29, 181, 0, 9, 42]
abbrev dktX6_choose_1 : List UInt8 := dkwX6_choose_1 ++ dktX6_choose_2
def dkwX6_choose_0 : List UInt8 := [29, 42, 180, 0, 21, 96, 27, 100, 42, 180, 0, 9, 162, 0, 4, 177, 27, 42, 180, 0, 21, 160, 0, 47]
abbrev dktX6_choose_0 : List UInt8 := dkwX6_choose_0 ++ dktX6_choose_1
theorem dksX6_choose_0 : cX6_choose.data.toList.drop 0 = dktX6_choose_0 := by decide +kernel
theorem dksX6_choose_1 : cX6_choose.data.toList.drop 24 = dktX6_choose_1 := dk_seg dksX6_choose_0 24 rfl rfl
theorem dksX6_choose_2 : cX6_choose.data.toList.drop 48 = dktX6_choose_2 := dk_seg dksX6_choose_1 24 rfl rfl
theorem dksX6_choose_3 : cX6_choose.data.toList.drop 71 = dktX6_choose_3 := dk_seg dksX6_choose_2 23 rfl rfl
theorem dksX6_choose_4 : cX6_choose.data.toList.drop 93 = dktX6_choose_4 := dk_seg dksX6_choose_3 22 rfl rfl
theorem dksX6_choose_5 : cX6_choose.data.toList.drop 117 = dktX6_choose_5 := dk_seg dksX6_choose_4 24 rfl rfl
theorem dksX6_choose_6 : cX6_choose.data.toList.drop 141 = dktX6_choose_6 := dk_seg dksX6_choose_5 24 rfl rfl
theorem dksX6_choose_7 : cX6_choose.data.toList.drop 164 = dktX6_choose_7 := dk_seg dksX6_choose_6 23 rfl rfl
theorem dX6_choose_0 : decode cX6_choose 0 = .ok (.iload_n 3, 1) := dk_29 (dk_at dksX6_choose_0 0 rfl rfl)
theorem dX6_choose_1 : decode cX6_choose 1 = .ok (.aload_n 0, 1) := dk_42 (dk_at dksX6_choose_0 1 rfl rfl)
theorem dX6_choose_2 : decode cX6_choose 2 = .ok (.getfield 21, 3) := dk_180 0 21 (dk_at dksX6_choose_0 2 rfl rfl)
theorem dX6_choose_5 : decode cX6_choose 5 = .ok (.iadd, 1) := dk_96 (dk_at dksX6_choose_0 5 rfl rfl)
theorem dX6_choose_6 : decode cX6_choose 6 = .ok (.iload_n 1, 1) := dk_27 (dk_at dksX6_choose_0 6 rfl rfl)
theorem dX6_choose_7 : decode cX6_choose 7 = .ok (.isub, 1) := dk_100 (dk_at dksX6_choose_0 7 rfl rfl)
theorem dX6_choose_8 : decode cX6_choose 8 = .ok (.aload_n 0, 1) := dk_42 (dk_at dksX6_choose_0 8 rfl rfl)
theorem dX6_choose_9 : decode cX6_choose 9 = .ok (.getfield 9, 3) := dk_180 0 9 (dk_at dksX6_choose_0 9 rfl rfl)
theorem dX6_choose_12 : decode cX6_choose 12 = .ok (.if_icmp .ge 4, 3) := dk_162 0 4 (dk_at dksX6_choose_0 12 rfl rfl)
theorem dX6_choose_15 : decode cX6_choose 15 = .ok (.return_, 1) := dk_177 (dk_at dksX6_choose_0 15 rfl rfl)
theorem dX6_choose_16 : decode cX6_choose 16 = .ok (.iload_n 1, 1) := dk_27 (dk_at dksX6_choose_0 16 rfl rfl)
theorem dX6_choose_17 : decode cX6_choose 17 = .ok (.aload_n 0, 1) := dk_42 (dk_at dksX6_choose_0 17 rfl rfl)
theorem dX6_choose_18 : decode cX6_choose 18 = .ok (.getfield 21, 3) := dk_180 0 21 (dk_at dksX6_choose_0 18 rfl rfl)
theorem dX6_choose_21 : decode cX6_choose 21 = .ok (.if_icmp .ne 47, 3) := dk_160 0 47 (dk_at dksX6_choose_0 21 rfl rfl)
theorem dX6_choose_24 : decode cX6_choose 24 = .ok (.iload_n 3, 1) := dk_29 (dk_at dksX6_choose_1 0 rfl rfl)
theorem dX6_choose_25 : decode cX6_choose 25 = .ok (.aload_n 0, 1) := dk_42 (dk_at dksX6_choose_1 1 rfl rfl)
theorem dX6_choose_26 : decode cX6_choose 26 = .ok (.getfield 9, 3) := dk_180 0 9 (dk_at dksX6_choose_1 2 rfl rfl)
theorem dX6_choose_29 : decode cX6_choose 29 = .ok (.if_icmp .gt 13, 3) := dk_163 0 13 (dk_at dksX6_choose_1 5 rfl rfl)
theorem dX6_choose_32 : decode cX6_choose 32 = .ok (.lload 4, 2) := dk_22 4 (dk_at dksX6_choose_1 8 rfl rfl)
theorem dX6_choose_34 : decode cX6_choose 34 = .ok (.aload_n 0, 1) := dk_42 (dk_at dksX6_choose_1 10 rfl rfl)
theorem dX6_choose_35 : decode cX6_choose 35 = .ok (.getfield 76, 3) := dk_180 0 76 (dk_at dksX6_choose_1 11 rfl rfl)
theorem dX6_choose_38 : decode cX6_choose 38 = .ok (.lcmp, 1) := dk_148 (dk_at dksX6_choose_1 14 rfl rfl)
theorem dX6_choose_39 : decode cX6_choose 39 = .ok (.ifCond .ge 28, 3) := dk_156 0 28 (dk_at dksX6_choose_1 15 rfl rfl)
theorem dX6_choose_42 : decode cX6_choose 42 = .ok (.aload_n 0, 1) := dk_42 (dk_at dksX6_choose_1 18 rfl rfl)
theorem dX6_choose_43 : decode cX6_choose 43 = .ok (.iload_n 3, 1) := dk_29 (dk_at dksX6_choose_1 19 rfl rfl)
theorem dX6_choose_44 : decode cX6_choose 44 = .ok (.putfield 9, 3) := dk_181 0 9 (dk_at dksX6_choose_1 20 rfl rfl)
theorem dX6_choose_47 : decode cX6_choose 47 = .ok (.aload_n 0, 1) := dk_42 (dk_at dksX6_choose_1 23 rfl rfl)
theorem dX6_choose_48 : decode cX6_choose 48 = .ok (.lload 4, 2) := dk_22 4 (dk_at dksX6_choose_2 0 rfl rfl)
theorem dX6_choose_50 : decode cX6_choose 50 = .ok (.putfield 76, 3) := dk_181 0 76 (dk_at dksX6_choose_2 2 rfl rfl)
theorem dX6_choose_53 : decode cX6_choose 53 = .ok (.aload_n 0, 1) := dk_42 (dk_at dksX6_choose_2 5 rfl rfl)
theorem dX6_choose_54 : decode cX6_choose 54 = .ok (.aload_n 0, 1) := dk_42 (dk_at dksX6_choose_2 6 rfl rfl)
theorem dX6_choose_55 : decode cX6_choose 55 = .ok (.getfield 33, 3) := dk_180 0 33 (dk_at dksX6_choose_2 7 rfl rfl)
theorem dX6_choose_58 : decode cX6_choose 58 = .ok (.invokevirtual 80, 3) := dk_182 0 80 (dk_at dksX6_choose_2 10 rfl rfl)
theorem dX6_choose_61 : decode cX6_choose 61 = .ok (.checkcast 81, 3) := dk_192 0 81 (dk_at dksX6_choose_2 13 rfl rfl)
theorem dX6_choose_64 : decode cX6_choose 64 = .ok (.putfield 37, 3) := dk_181 0 37 (dk_at dksX6_choose_2 16 rfl rfl)
theorem dX6_choose_67 : decode cX6_choose 67 = .ok (.return_, 1) := dk_177 (dk_at dksX6_choose_2 19 rfl rfl)
theorem dX6_choose_68 : decode cX6_choose 68 = .ok (.iconst 0, 1) := dk_3 (dk_at dksX6_choose_2 20 rfl rfl)
theorem dX6_choose_69 : decode cX6_choose 69 = .ok (.istore 6, 2) := dk_54 6 (dk_at dksX6_choose_2 21 rfl rfl)
theorem dX6_choose_71 : decode cX6_choose 71 = .ok (.iload 6, 2) := dk_21 6 (dk_at dksX6_choose_3 0 rfl rfl)
theorem dX6_choose_73 : decode cX6_choose 73 = .ok (.aload_n 0, 1) := dk_42 (dk_at dksX6_choose_3 2 rfl rfl)
theorem dX6_choose_74 : decode cX6_choose 74 = .ok (.getfield 24, 3) := dk_180 0 24 (dk_at dksX6_choose_3 3 rfl rfl)
theorem dX6_choose_77 : decode cX6_choose 77 = .ok (.invokevirtual 15, 3) := dk_182 0 15 (dk_at dksX6_choose_3 6 rfl rfl)
theorem dX6_choose_80 : decode cX6_choose 80 = .ok (.if_icmp .ge 83, 3) := dk_162 0 83 (dk_at dksX6_choose_3 9 rfl rfl)
theorem dX6_choose_83 : decode cX6_choose 83 = .ok (.iload_n 2, 1) := dk_28 (dk_at dksX6_choose_3 12 rfl rfl)
theorem dX6_choose_84 : decode cX6_choose 84 = .ok (.iload 6, 2) := dk_21 6 (dk_at dksX6_choose_3 13 rfl rfl)
theorem dX6_choose_86 : decode cX6_choose 86 = .ok (.ishr, 1) := dk_122 (dk_at dksX6_choose_3 15 rfl rfl)
theorem dX6_choose_87 : decode cX6_choose 87 = .ok (.iconst 1, 1) := dk_4 (dk_at dksX6_choose_3 16 rfl rfl)
theorem dX6_choose_88 : decode cX6_choose 88 = .ok (.iand, 1) := dk_126 (dk_at dksX6_choose_3 17 rfl rfl)
theorem dX6_choose_89 : decode cX6_choose 89 = .ok (.ifCond .ne 68, 3) := dk_154 0 68 (dk_at dksX6_choose_3 18 rfl rfl)
theorem dX6_choose_92 : decode cX6_choose 92 = .ok (.aload_n 0, 1) := dk_42 (dk_at dksX6_choose_3 21 rfl rfl)
theorem dX6_choose_93 : decode cX6_choose 93 = .ok (.getfield 30, 3) := dk_180 0 30 (dk_at dksX6_choose_4 0 rfl rfl)
theorem dX6_choose_96 : decode cX6_choose 96 = .ok (.iload_n 1, 1) := dk_27 (dk_at dksX6_choose_4 3 rfl rfl)
theorem dX6_choose_97 : decode cX6_choose 97 = .ok (.aaload, 1) := dk_50 (dk_at dksX6_choose_4 4 rfl rfl)
theorem dX6_choose_98 : decode cX6_choose 98 = .ok (.iload 6, 2) := dk_21 6 (dk_at dksX6_choose_4 5 rfl rfl)
theorem dX6_choose_100 : decode cX6_choose 100 = .ok (.laload, 1) := dk_47 (dk_at dksX6_choose_4 7 rfl rfl)
theorem dX6_choose_101 : decode cX6_choose 101 = .ok (.ldc2_w 54, 3) := dk_20 0 54 (dk_at dksX6_choose_4 8 rfl rfl)
theorem dX6_choose_104 : decode cX6_choose 104 = .ok (.lcmp, 1) := dk_148 (dk_at dksX6_choose_4 11 rfl rfl)
theorem dX6_choose_105 : decode cX6_choose 105 = .ok (.ifCond .eq 52, 3) := dk_153 0 52 (dk_at dksX6_choose_4 12 rfl rfl)
theorem dX6_choose_108 : decode cX6_choose 108 = .ok (.aload_n 0, 1) := dk_42 (dk_at dksX6_choose_4 15 rfl rfl)
theorem dX6_choose_109 : decode cX6_choose 109 = .ok (.getfield 33, 3) := dk_180 0 33 (dk_at dksX6_choose_4 16 rfl rfl)
theorem dX6_choose_112 : decode cX6_choose 112 = .ok (.iload_n 1, 1) := dk_27 (dk_at dksX6_choose_4 19 rfl rfl)
theorem dX6_choose_113 : decode cX6_choose 113 = .ok (.aload_n 0, 1) := dk_42 (dk_at dksX6_choose_4 20 rfl rfl)
theorem dX6_choose_114 : decode cX6_choose 114 = .ok (.getfield 24, 3) := dk_180 0 24 (dk_at dksX6_choose_4 21 rfl rfl)
theorem dX6_choose_117 : decode cX6_choose 117 = .ok (.iload 6, 2) := dk_21 6 (dk_at dksX6_choose_5 0 rfl rfl)
theorem dX6_choose_119 : decode cX6_choose 119 = .ok (.invokevirtual 42, 3) := dk_182 0 42 (dk_at dksX6_choose_5 2 rfl rfl)
theorem dX6_choose_122 : decode cX6_choose 122 = .ok (.checkcast 46, 3) := dk_192 0 46 (dk_at dksX6_choose_5 5 rfl rfl)
theorem dX6_choose_125 : decode cX6_choose 125 = .ok (.invokevirtual 48, 3) := dk_182 0 48 (dk_at dksX6_choose_5 8 rfl rfl)
theorem dX6_choose_128 : decode cX6_choose 128 = .ok (.iastore, 1) := dk_79 (dk_at dksX6_choose_5 11 rfl rfl)
theorem dX6_choose_129 : decode cX6_choose 129 = .ok (.aload_n 0, 1) := dk_42 (dk_at dksX6_choose_5 12 rfl rfl)
theorem dX6_choose_130 : decode cX6_choose 130 = .ok (.iload_n 1, 1) := dk_27 (dk_at dksX6_choose_5 13 rfl rfl)
theorem dX6_choose_131 : decode cX6_choose 131 = .ok (.iconst 1, 1) := dk_4 (dk_at dksX6_choose_5 14 rfl rfl)
theorem dX6_choose_132 : decode cX6_choose 132 = .ok (.iadd, 1) := dk_96 (dk_at dksX6_choose_5 15 rfl rfl)
theorem dX6_choose_133 : decode cX6_choose 133 = .ok (.iload_n 2, 1) := dk_28 (dk_at dksX6_choose_5 16 rfl rfl)
theorem dX6_choose_134 : decode cX6_choose 134 = .ok (.iconst 1, 1) := dk_4 (dk_at dksX6_choose_5 17 rfl rfl)
theorem dX6_choose_135 : decode cX6_choose 135 = .ok (.iload 6, 2) := dk_21 6 (dk_at dksX6_choose_5 18 rfl rfl)
theorem dX6_choose_137 : decode cX6_choose 137 = .ok (.ishl, 1) := dk_120 (dk_at dksX6_choose_5 20 rfl rfl)
theorem dX6_choose_138 : decode cX6_choose 138 = .ok (.ior, 1) := dk_128 (dk_at dksX6_choose_5 21 rfl rfl)
theorem dX6_choose_139 : decode cX6_choose 139 = .ok (.iload_n 3, 1) := dk_29 (dk_at dksX6_choose_5 22 rfl rfl)
theorem dX6_choose_140 : decode cX6_choose 140 = .ok (.iconst 1, 1) := dk_4 (dk_at dksX6_choose_5 23 rfl rfl)
theorem dX6_choose_141 : decode cX6_choose 141 = .ok (.iadd, 1) := dk_96 (dk_at dksX6_choose_6 0 rfl rfl)
theorem dX6_choose_142 : decode cX6_choose 142 = .ok (.lload 4, 2) := dk_22 4 (dk_at dksX6_choose_6 1 rfl rfl)
theorem dX6_choose_144 : decode cX6_choose 144 = .ok (.aload_n 0, 1) := dk_42 (dk_at dksX6_choose_6 3 rfl rfl)
theorem dX6_choose_145 : decode cX6_choose 145 = .ok (.getfield 30, 3) := dk_180 0 30 (dk_at dksX6_choose_6 4 rfl rfl)
theorem dX6_choose_148 : decode cX6_choose 148 = .ok (.iload_n 1, 1) := dk_27 (dk_at dksX6_choose_6 7 rfl rfl)
theorem dX6_choose_149 : decode cX6_choose 149 = .ok (.aaload, 1) := dk_50 (dk_at dksX6_choose_6 8 rfl rfl)
theorem dX6_choose_150 : decode cX6_choose 150 = .ok (.iload 6, 2) := dk_21 6 (dk_at dksX6_choose_6 9 rfl rfl)
theorem dX6_choose_152 : decode cX6_choose 152 = .ok (.laload, 1) := dk_47 (dk_at dksX6_choose_6 11 rfl rfl)
theorem dX6_choose_153 : decode cX6_choose 153 = .ok (.ladd, 1) := dk_97 (dk_at dksX6_choose_6 12 rfl rfl)
theorem dX6_choose_154 : decode cX6_choose 154 = .ok (.invokevirtual 72, 3) := dk_182 0 72 (dk_at dksX6_choose_6 13 rfl rfl)
theorem dX6_choose_157 : decode cX6_choose 157 = .ok (.iinc 6 1, 3) := dk_132 6 1 (dk_at dksX6_choose_6 16 rfl rfl)
theorem dX6_choose_160 : decode cX6_choose 160 = .ok (.goto (-89), 3) := dk_167 255 167 (dk_at dksX6_choose_6 19 rfl rfl)
theorem dX6_choose_163 : decode cX6_choose 163 = .ok (.aload_n 0, 1) := dk_42 (dk_at dksX6_choose_6 22 rfl rfl)
theorem dX6_choose_164 : decode cX6_choose 164 = .ok (.getfield 33, 3) := dk_180 0 33 (dk_at dksX6_choose_7 0 rfl rfl)
theorem dX6_choose_167 : decode cX6_choose 167 = .ok (.iload_n 1, 1) := dk_27 (dk_at dksX6_choose_7 3 rfl rfl)
theorem dX6_choose_168 : decode cX6_choose 168 = .ok (.iconst (-1), 1) := dk_2 (dk_at dksX6_choose_7 4 rfl rfl)
theorem dX6_choose_169 : decode cX6_choose 169 = .ok (.iastore, 1) := dk_79 (dk_at dksX6_choose_7 5 rfl rfl)
theorem dX6_choose_170 : decode cX6_choose 170 = .ok (.aload_n 0, 1) := dk_42 (dk_at dksX6_choose_7 6 rfl rfl)
theorem dX6_choose_171 : decode cX6_choose 171 = .ok (.iload_n 1, 1) := dk_27 (dk_at dksX6_choose_7 7 rfl rfl)
theorem dX6_choose_172 : decode cX6_choose 172 = .ok (.iconst 1, 1) := dk_4 (dk_at dksX6_choose_7 8 rfl rfl)
theorem dX6_choose_173 : decode cX6_choose 173 = .ok (.iadd, 1) := dk_96 (dk_at dksX6_choose_7 9 rfl rfl)
theorem dX6_choose_174 : decode cX6_choose 174 = .ok (.iload_n 2, 1) := dk_28 (dk_at dksX6_choose_7 10 rfl rfl)
theorem dX6_choose_175 : decode cX6_choose 175 = .ok (.iload_n 3, 1) := dk_29 (dk_at dksX6_choose_7 11 rfl rfl)
theorem dX6_choose_176 : decode cX6_choose 176 = .ok (.lload 4, 2) := dk_22 4 (dk_at dksX6_choose_7 12 rfl rfl)
theorem dX6_choose_178 : decode cX6_choose 178 = .ok (.invokevirtual 72, 3) := dk_182 0 72 (dk_at dksX6_choose_7 14 rfl rfl)
theorem dX6_choose_181 : decode cX6_choose 181 = .ok (.return_, 1) := dk_177 (dk_at dksX6_choose_7 17 rfl rfl)
theorem q72 : (Jvm.Cond.initialized "KalmanQuay$Assignment") ∈ lw_all := lw_g (lw_at lw_m1 35 rfl) rfl
theorem q253 : (Jvm.Cond.selects "KalmanQuay$Assignment" ({ cls := "java/lang/Object", name := "getClass", desc := "()Ljava/lang/Class;" } : Jvm.MethodName) ({ cls := "java/lang/Object", name := "getClass", desc := "()Ljava/lang/Class;" } : Jvm.MethodName)) ∈ lw_all := lw_g (lw_at lw_m1 216 rfl) rfl
theorem q661 : (Jvm.Cond.selects "KalmanQuay$Assignment" ({ cls := "java/lang/Object", name := "hashCode", desc := "()I" } : Jvm.MethodName) ({ cls := "java/lang/Object", name := "hashCode", desc := "()I" } : Jvm.MethodName)) ∈ lw_all := lw_g (lw_at lw_m3 144 rfl) rfl
theorem q809 : (Jvm.Cond.selects "KalmanQuay$Assignment" ({ cls := "java/lang/Object", name := "equals", desc := "(Ljava/lang/Object;)Z" } : Jvm.MethodName) ({ cls := "java/lang/Object", name := "equals", desc := "(Ljava/lang/Object;)Z" } : Jvm.MethodName)) ∈ lw_all := lw_g (lw_at lw_m4 52 rfl) rfl
theorem q902 : (Jvm.Cond.instantiable "KalmanQuay$Assignment" (7 : Nat)) ∈ lw_all := lw_g (lw_at lw_m4 145 rfl) rfl
theorem q904 : (Jvm.Cond.instanceMethod ({ cls := "KalmanQuay$Assignment", name := "<init>", desc := "(Ljava/util/ArrayList;Ljava/util/ArrayList;Ljava/util/HashMap;)V" } : Jvm.MethodName)) ∈ lw_all := lw_g (lw_at lw_m4 147 rfl) rfl
theorem q905 : (Jvm.Cond.code ({ cls := "KalmanQuay$Assignment", name := "<init>", desc := "(Ljava/util/ArrayList;Ljava/util/ArrayList;Ljava/util/HashMap;)V" } : Jvm.MethodName) prog_2_method_1_code (6 : Nat) (Option.none : Option Jvm.ClassFile.FieldType)) ∈ lw_all := lw_g (lw_at lw_m4 148 rfl) rfl
theorem q906 : (Jvm.Cond.methodLink "KalmanQuay$Assignment" (3 : Nat) ({ cls := "java/lang/Object", name := "<init>", desc := "()V" } : Jvm.MethodName)) ∈ lw_all := lw_g (lw_at lw_m4 149 rfl) rfl
theorem q907 : (Jvm.Cond.methodLink "KalmanQuay$Assignment" (15 : Nat) ({ cls := "java/util/ArrayList", name := "size", desc := "()I" } : Jvm.MethodName)) ∈ lw_all := lw_g (lw_at lw_m4 150 rfl) rfl
theorem q908 : (Jvm.Cond.classLink "KalmanQuay$Assignment" (28 : Nat) "[[J") ∈ lw_all := lw_g (lw_at lw_m4 151 rfl) rfl
theorem q910 : (Jvm.Cond.classLink "KalmanQuay$Assignment" (40 : Nat) "KalmanQuay$Pair") ∈ lw_all := lw_g (lw_at lw_m4 153 rfl) rfl
theorem q911 : (Jvm.Cond.methodLink "KalmanQuay$Assignment" (42 : Nat) ({ cls := "java/util/ArrayList", name := "get", desc := "(I)Ljava/lang/Object;" } : Jvm.MethodName)) ∈ lw_all := lw_g (lw_at lw_m4 154 rfl) rfl
theorem q912 : (Jvm.Cond.classLink "KalmanQuay$Assignment" (46 : Nat) "java/lang/Integer") ∈ lw_all := lw_g (lw_at lw_m4 155 rfl) rfl
theorem q913 : (Jvm.Cond.methodLink "KalmanQuay$Assignment" (48 : Nat) ({ cls := "java/lang/Integer", name := "intValue", desc := "()I" } : Jvm.MethodName)) ∈ lw_all := lw_g (lw_at lw_m4 156 rfl) rfl
theorem q914 : (Jvm.Cond.methodLink "KalmanQuay$Assignment" (51 : Nat) ({ cls := "KalmanQuay$Pair", name := "<init>", desc := "(II)V" } : Jvm.MethodName)) ∈ lw_all := lw_g (lw_at lw_m4 157 rfl) rfl
theorem q915 : (Jvm.Cond.constantLong "KalmanQuay$Assignment" (54 : Nat) (-1 : Int64)) ∈ lw_all := lw_g (lw_at lw_m4 158 rfl) rfl
theorem q916 : (Jvm.Cond.methodLink "KalmanQuay$Assignment" (56 : Nat) ({ cls := "java/lang/Long", name := "valueOf", desc := "(J)Ljava/lang/Long;" } : Jvm.MethodName)) ∈ lw_all := lw_g (lw_at lw_m4 159 rfl) rfl
theorem q917 : (Jvm.Cond.methodLink "KalmanQuay$Assignment" (62 : Nat) ({ cls := "java/util/HashMap", name := "getOrDefault", desc := "(Ljava/lang/Object;Ljava/lang/Object;)Ljava/lang/Object;" } : Jvm.MethodName)) ∈ lw_all := lw_g (lw_at lw_m4 160 rfl) rfl
theorem q929 : (Jvm.Cond.classLink "KalmanQuay$Assignment" (57 : Nat) "java/lang/Long") ∈ lw_all := lw_g (lw_at lw_m4 172 rfl) rfl
theorem q930 : (Jvm.Cond.methodLink "KalmanQuay$Assignment" (68 : Nat) ({ cls := "java/lang/Long", name := "longValue", desc := "()J" } : Jvm.MethodName)) ∈ lw_all := lw_g (lw_at lw_m4 173 rfl) rfl
theorem q931 : (Jvm.Cond.methodLink "KalmanQuay$Assignment" (72 : Nat) ({ cls := "KalmanQuay$Assignment", name := "choose", desc := "(IIIJ)V" } : Jvm.MethodName)) ∈ lw_all := lw_g (lw_at lw_m4 174 rfl) rfl
theorem q932 : (Jvm.Cond.privateMethod ({ cls := "KalmanQuay$Assignment", name := "choose", desc := "(IIIJ)V" } : Jvm.MethodName)) ∈ lw_tbl := lw_at lw_m4 175 rfl
theorem q933 : (Jvm.Cond.instanceMethod ({ cls := "KalmanQuay$Assignment", name := "choose", desc := "(IIIJ)V" } : Jvm.MethodName)) ∈ lw_all := lw_g (lw_at lw_m4 176 rfl) rfl
theorem q934 : (Jvm.Cond.code ({ cls := "KalmanQuay$Assignment", name := "choose", desc := "(IIIJ)V" } : Jvm.MethodName) prog_2_method_2_code (7 : Nat) (Option.none : Option Jvm.ClassFile.FieldType)) ∈ lw_all := lw_g (lw_at lw_m4 177 rfl) rfl
theorem q935 : (Jvm.Cond.methodLink "KalmanQuay$Assignment" (80 : Nat) ({ cls := "[I", name := "clone", desc := "()Ljava/lang/Object;" } : Jvm.MethodName)) ∈ lw_all := lw_g (lw_at lw_m4 178 rfl) rfl
theorem q941 : (Jvm.Cond.classLink "KalmanQuay$Assignment" (81 : Nat) "[I") ∈ lw_all := lw_g (lw_at lw_m4 184 rfl) rfl
theorem q942 : (Jvm.Cond.fieldLink "KalmanQuay$Assignment" (21 : Nat) "KalmanQuay$Assignment" "tracks" "I") ∈ lw_all := lw_g (lw_at lw_m4 185 rfl) rfl
theorem q943 : (Jvm.Cond.fieldLink "KalmanQuay$Assignment" (24 : Nat) "KalmanQuay$Assignment" "hits" "Ljava/util/ArrayList;") ∈ lw_all := lw_g (lw_at lw_m4 186 rfl) rfl
theorem q944 : (Jvm.Cond.fieldLink "KalmanQuay$Assignment" (30 : Nat) "KalmanQuay$Assignment" "costs" "[[J") ∈ lw_all := lw_g (lw_at lw_m4 187 rfl) rfl
theorem q945 : (Jvm.Cond.fieldLink "KalmanQuay$Assignment" (33 : Nat) "KalmanQuay$Assignment" "chosen" "[I") ∈ lw_all := lw_g (lw_at lw_m4 188 rfl) rfl
theorem q946 : (Jvm.Cond.fieldLink "KalmanQuay$Assignment" (37 : Nat) "KalmanQuay$Assignment" "best" "[I") ∈ lw_all := lw_g (lw_at lw_m4 189 rfl) rfl
theorem q948 : (Jvm.Cond.fieldLink "KalmanQuay$Assignment" (9 : Nat) "KalmanQuay$Assignment" "mostPairs" "I") ∈ lw_all := lw_g (lw_at lw_m4 191 rfl) rfl
theorem q949 : (Jvm.Cond.fieldLink "KalmanQuay$Assignment" (76 : Nat) "KalmanQuay$Assignment" "leastCost" "J") ∈ lw_all := lw_g (lw_at lw_m4 192 rfl) rfl
theorem q950 : (Jvm.Cond.laysFinal "KalmanQuay$Assignment" "KalmanQuay$Assignment" "tracks" "I") ∈ lw_all := lw_g (lw_at lw_m4 193 rfl) rfl
theorem q951 : (Jvm.Cond.soleField "KalmanQuay$Assignment" "tracks") ∈ lw_all := lw_g (lw_at lw_m4 194 rfl) rfl
theorem q952 : (Jvm.Cond.laysFinal "KalmanQuay$Assignment" "KalmanQuay$Assignment" "hits" "Ljava/util/ArrayList;") ∈ lw_all := lw_g (lw_at lw_m4 195 rfl) rfl
theorem q953 : (Jvm.Cond.soleField "KalmanQuay$Assignment" "hits") ∈ lw_all := lw_g (lw_at lw_m4 196 rfl) rfl
theorem q954 : (Jvm.Cond.laysFinal "KalmanQuay$Assignment" "KalmanQuay$Assignment" "costs" "[[J") ∈ lw_all := lw_g (lw_at lw_m4 197 rfl) rfl
theorem q955 : (Jvm.Cond.soleField "KalmanQuay$Assignment" "costs") ∈ lw_all := lw_g (lw_at lw_m4 198 rfl) rfl
theorem q956 : (Jvm.Cond.laysFinal "KalmanQuay$Assignment" "KalmanQuay$Assignment" "chosen" "[I") ∈ lw_all := lw_g (lw_at lw_m4 199 rfl) rfl
theorem q957 : (Jvm.Cond.soleField "KalmanQuay$Assignment" "chosen") ∈ lw_all := lw_g (lw_at lw_m4 200 rfl) rfl
theorem q958 : (Jvm.Cond.lays "KalmanQuay$Assignment" "KalmanQuay$Assignment" "best" "[I") ∈ lw_all := lw_g (lw_at lw_m4 201 rfl) rfl
theorem q959 : (Jvm.Cond.soleField "KalmanQuay$Assignment" "best") ∈ lw_all := lw_g (lw_at lw_m4 202 rfl) rfl
theorem q960 : (Jvm.Cond.lays "KalmanQuay$Assignment" "KalmanQuay$Assignment" "mostPairs" "I") ∈ lw_all := lw_g (lw_at lw_m4 203 rfl) rfl
theorem q961 : (Jvm.Cond.soleField "KalmanQuay$Assignment" "mostPairs") ∈ lw_all := lw_g (lw_at lw_m4 204 rfl) rfl
theorem q962 : (Jvm.Cond.lays "KalmanQuay$Assignment" "KalmanQuay$Assignment" "leastCost" "J") ∈ lw_all := lw_g (lw_at lw_m4 205 rfl) rfl
theorem q963 : (Jvm.Cond.soleField "KalmanQuay$Assignment" "leastCost") ∈ lw_all := lw_g (lw_at lw_m4 206 rfl) rfl
theorem q964 : (Jvm.Cond.superclass "KalmanQuay$Assignment" "java/lang/Object") ∈ lw_all := lw_g (lw_at lw_m4 207 rfl) rfl
theorem q1698 : (Jvm.Cond.castable "KalmanQuay$Assignment" "java/lang/Object") ∈ lw_tbl := lw_at lw_m7 221 rfl
theorem in_X6 : ∀ w ∈ wsX60, w ∈ lw_all := lw_in wsX60 [950, 952, 954, 956, 958, 960, 962] (by decide +kernel) (by decide +kernel)

/-! KalmanQuay$Got -/
set_option maxRecDepth 100000
def RX7 : String := "KalmanQuay$Got"
def TX7 : u_T := fun k => match k with
  | 0 => ("KalmanQuay$Got", "beat", "I", true)
  | 1 => ("KalmanQuay$Got", "place", "I", true)
  | _ => ("KalmanQuay$Got", "weight", "J", true)
def tyX7 : Nat → FieldType := fun k => match k with
  | 0 => .int
  | 1 => .int
  | _ => .long
abbrev wsX70 : List Cond := u_ws RX7 TX7 3
theorem nmX7 : ∀ a, a < 3 → ∀ b, b < 3 → a ≠ b → (TX7 a).2.1 ≠ (TX7 b).2.1 := by decide +kernel
theorem tyX7_ok : ∀ k, k < 3 → parseFieldDescriptor (TX7 k).2.2.1 = some (tyX7 k) := by decide +kernel
abbrev cX7_init : ByteArray := prog_3_method_1_code
def yX7_init : MethodName := ⟨RX7, "<init>", "(IIJ)V"⟩
def dkwX7_init_0 : List UInt8 := [42, 183, 0, 1, 42, 27, 181, 0, 7, 42, 28, 181, 0, 13, 42, 33, 181, 0, 16, 177]
abbrev dktX7_init_0 : List UInt8 := dkwX7_init_0 ++ []
theorem dksX7_init_0 : cX7_init.data.toList.drop 0 = dktX7_init_0 := by decide +kernel
theorem dX7_init_0 : decode cX7_init 0 = .ok (.aload_n 0, 1) := dk_42 (dk_at dksX7_init_0 0 rfl rfl)
theorem dX7_init_1 : decode cX7_init 1 = .ok (.invokespecial 1, 3) := dk_183 0 1 (dk_at dksX7_init_0 1 rfl rfl)
theorem dX7_init_4 : decode cX7_init 4 = .ok (.aload_n 0, 1) := dk_42 (dk_at dksX7_init_0 4 rfl rfl)
theorem dX7_init_5 : decode cX7_init 5 = .ok (.iload_n 1, 1) := dk_27 (dk_at dksX7_init_0 5 rfl rfl)
theorem dX7_init_6 : decode cX7_init 6 = .ok (.putfield 7, 3) := dk_181 0 7 (dk_at dksX7_init_0 6 rfl rfl)
theorem dX7_init_9 : decode cX7_init 9 = .ok (.aload_n 0, 1) := dk_42 (dk_at dksX7_init_0 9 rfl rfl)
theorem dX7_init_10 : decode cX7_init 10 = .ok (.iload_n 2, 1) := dk_28 (dk_at dksX7_init_0 10 rfl rfl)
theorem dX7_init_11 : decode cX7_init 11 = .ok (.putfield 13, 3) := dk_181 0 13 (dk_at dksX7_init_0 11 rfl rfl)
theorem dX7_init_14 : decode cX7_init 14 = .ok (.aload_n 0, 1) := dk_42 (dk_at dksX7_init_0 14 rfl rfl)
theorem dX7_init_15 : decode cX7_init 15 = .ok (.lload_n 3, 1) := dk_33 (dk_at dksX7_init_0 15 rfl rfl)
theorem dX7_init_16 : decode cX7_init 16 = .ok (.putfield 16, 3) := dk_181 0 16 (dk_at dksX7_init_0 16 rfl rfl)
theorem dX7_init_19 : decode cX7_init 19 = .ok (.return_, 1) := dk_177 (dk_at dksX7_init_0 19 rfl rfl)
abbrev cX7_weight : ByteArray := prog_3_method_7_code
def yX7_weight : MethodName := ⟨RX7, "weight", "()J"⟩
theorem dX7_weight_0 : decode cX7_weight 0 = .ok (.aload_n 0, 1) := by decide +kernel
theorem dX7_weight_1 : decode cX7_weight 1 = .ok (.getfield 16, 3) := by decide +kernel
theorem dX7_weight_4 : decode cX7_weight 4 = .ok (.lreturn, 1) := by decide +kernel
abbrev cX7_beat : ByteArray := prog_3_method_5_code
def yX7_beat : MethodName := ⟨RX7, "beat", "()I"⟩
theorem dX7_beat_0 : decode cX7_beat 0 = .ok (.aload_n 0, 1) := by decide +kernel
theorem dX7_beat_1 : decode cX7_beat 1 = .ok (.getfield 7, 3) := by decide +kernel
theorem dX7_beat_4 : decode cX7_beat 4 = .ok (.ireturn, 1) := by decide +kernel
abbrev cX7_place : ByteArray := prog_3_method_6_code
def yX7_place : MethodName := ⟨RX7, "place", "()I"⟩
theorem dX7_place_0 : decode cX7_place 0 = .ok (.aload_n 0, 1) := by decide +kernel
theorem dX7_place_1 : decode cX7_place 1 = .ok (.getfield 13, 3) := by decide +kernel
theorem dX7_place_4 : decode cX7_place 4 = .ok (.ireturn, 1) := by decide +kernel
theorem q74 : (Jvm.Cond.initialized "KalmanQuay$Got") ∈ lw_all := lw_g (lw_at lw_m1 37 rfl) rfl
theorem q254 : (Jvm.Cond.selects "KalmanQuay$Got" ({ cls := "java/lang/Object", name := "getClass", desc := "()Ljava/lang/Class;" } : Jvm.MethodName) ({ cls := "java/lang/Object", name := "getClass", desc := "()Ljava/lang/Class;" } : Jvm.MethodName)) ∈ lw_all := lw_g (lw_at lw_m1 217 rfl) rfl
theorem q984 : (Jvm.Cond.instantiable "KalmanQuay$Got" (3 : Nat)) ∈ lw_all := lw_g (lw_at lw_m4 227 rfl) rfl
theorem q987 : (Jvm.Cond.instanceMethod ({ cls := "KalmanQuay$Got", name := "<init>", desc := "(IIJ)V" } : Jvm.MethodName)) ∈ lw_all := lw_g (lw_at lw_m4 230 rfl) rfl
theorem q988 : (Jvm.Cond.code ({ cls := "KalmanQuay$Got", name := "<init>", desc := "(IIJ)V" } : Jvm.MethodName) prog_3_method_1_code (5 : Nat) (Option.none : Option Jvm.ClassFile.FieldType)) ∈ lw_all := lw_g (lw_at lw_m4 231 rfl) rfl
theorem q989 : (Jvm.Cond.methodLink "KalmanQuay$Got" (1 : Nat) ({ cls := "java/lang/Record", name := "<init>", desc := "()V" } : Jvm.MethodName)) ∈ lw_all := lw_g (lw_at lw_m4 232 rfl) rfl
theorem q993 : (Jvm.Cond.fieldLink "KalmanQuay$Got" (7 : Nat) "KalmanQuay$Got" "beat" "I") ∈ lw_all := lw_g (lw_at lw_m4 236 rfl) rfl
theorem q994 : (Jvm.Cond.fieldLink "KalmanQuay$Got" (13 : Nat) "KalmanQuay$Got" "place" "I") ∈ lw_all := lw_g (lw_at lw_m4 237 rfl) rfl
theorem q995 : (Jvm.Cond.fieldLink "KalmanQuay$Got" (16 : Nat) "KalmanQuay$Got" "weight" "J") ∈ lw_all := lw_g (lw_at lw_m4 238 rfl) rfl
theorem q996 : (Jvm.Cond.laysFinal "KalmanQuay$Got" "KalmanQuay$Got" "beat" "I") ∈ lw_all := lw_g (lw_at lw_m4 239 rfl) rfl
theorem q997 : (Jvm.Cond.soleField "KalmanQuay$Got" "beat") ∈ lw_all := lw_g (lw_at lw_m5 0 rfl) rfl
theorem q998 : (Jvm.Cond.laysFinal "KalmanQuay$Got" "KalmanQuay$Got" "place" "I") ∈ lw_all := lw_g (lw_at lw_m5 1 rfl) rfl
theorem q999 : (Jvm.Cond.soleField "KalmanQuay$Got" "place") ∈ lw_all := lw_g (lw_at lw_m5 2 rfl) rfl
theorem q1000 : (Jvm.Cond.laysFinal "KalmanQuay$Got" "KalmanQuay$Got" "weight" "J") ∈ lw_all := lw_g (lw_at lw_m5 3 rfl) rfl
theorem q1001 : (Jvm.Cond.soleField "KalmanQuay$Got" "weight") ∈ lw_all := lw_g (lw_at lw_m5 4 rfl) rfl
theorem q1002 : (Jvm.Cond.superclass "KalmanQuay$Got" "java/lang/Record") ∈ lw_all := lw_g (lw_at lw_m5 5 rfl) rfl
theorem q1223 : (Jvm.Cond.instanceMethod ({ cls := "KalmanQuay$Got", name := "weight", desc := "()J" } : Jvm.MethodName)) ∈ lw_all := lw_g (lw_at lw_m5 226 rfl) rfl
theorem q1224 : (Jvm.Cond.selects "KalmanQuay$Got" ({ cls := "KalmanQuay$Got", name := "weight", desc := "()J" } : Jvm.MethodName) ({ cls := "KalmanQuay$Got", name := "weight", desc := "()J" } : Jvm.MethodName)) ∈ lw_all := lw_g (lw_at lw_m5 227 rfl) rfl
theorem q1225 : (Jvm.Cond.code ({ cls := "KalmanQuay$Got", name := "weight", desc := "()J" } : Jvm.MethodName) prog_3_method_7_code (1 : Nat) (Option.some Jvm.ClassFile.FieldType.long)) ∈ lw_all := lw_g (lw_at lw_m5 228 rfl) rfl
theorem q1227 : (Jvm.Cond.instanceMethod ({ cls := "KalmanQuay$Got", name := "beat", desc := "()I" } : Jvm.MethodName)) ∈ lw_all := lw_g (lw_at lw_m5 230 rfl) rfl
theorem q1228 : (Jvm.Cond.selects "KalmanQuay$Got" ({ cls := "KalmanQuay$Got", name := "beat", desc := "()I" } : Jvm.MethodName) ({ cls := "KalmanQuay$Got", name := "beat", desc := "()I" } : Jvm.MethodName)) ∈ lw_all := lw_g (lw_at lw_m5 231 rfl) rfl
theorem q1229 : (Jvm.Cond.code ({ cls := "KalmanQuay$Got", name := "beat", desc := "()I" } : Jvm.MethodName) prog_3_method_5_code (1 : Nat) (Option.some Jvm.ClassFile.FieldType.int)) ∈ lw_all := lw_g (lw_at lw_m5 232 rfl) rfl
theorem q1231 : (Jvm.Cond.instanceMethod ({ cls := "KalmanQuay$Got", name := "place", desc := "()I" } : Jvm.MethodName)) ∈ lw_all := lw_g (lw_at lw_m5 234 rfl) rfl
theorem q1232 : (Jvm.Cond.selects "KalmanQuay$Got" ({ cls := "KalmanQuay$Got", name := "place", desc := "()I" } : Jvm.MethodName) ({ cls := "KalmanQuay$Got", name := "place", desc := "()I" } : Jvm.MethodName)) ∈ lw_all := lw_g (lw_at lw_m5 235 rfl) rfl
theorem q1233 : (Jvm.Cond.code ({ cls := "KalmanQuay$Got", name := "place", desc := "()I" } : Jvm.MethodName) prog_3_method_6_code (1 : Nat) (Option.some Jvm.ClassFile.FieldType.int)) ∈ lw_all := lw_g (lw_at lw_m5 236 rfl) rfl
theorem q1699 : (Jvm.Cond.castable "KalmanQuay$Got" "java/lang/Object") ∈ lw_tbl := lw_at lw_m7 222 rfl
theorem in_X7 : ∀ w ∈ wsX70, w ∈ lw_all := lw_in wsX70 [996, 998, 1000] (by decide +kernel) (by decide +kernel)

/-! KalmanQuay$Track -/
set_option maxRecDepth 100000
def RX8 : String := "KalmanQuay$Track"
def TX8 : u_T := fun k => match k with
  | 0 => ("KalmanQuay$Track", "begin", "I", true)
  | 1 => ("KalmanQuay$Track", "foretold", "Ljava/util/ArrayList;", true)
  | 2 => ("KalmanQuay$Track", "behind", "Ljava/util/ArrayList;", true)
  | 3 => ("KalmanQuay$Track", "hits", "Ljava/util/ArrayList;", true)
  | 4 => ("KalmanQuay$Track", "state", "LKalmanQuay$State;", false)
  | 5 => ("KalmanQuay$Track", "alive", "Z", false)
  | 6 => ("KalmanQuay$Track", "proven", "Z", false)
  | 7 => ("KalmanQuay$Track", "hitBeats", "I", false)
  | _ => ("KalmanQuay$Track", "misses", "I", false)
def tyX8 : Nat → FieldType := fun k => match k with
  | 0 => .int
  | 1 => .object "java/util/ArrayList"
  | 2 => .object "java/util/ArrayList"
  | 3 => .object "java/util/ArrayList"
  | 4 => .object "KalmanQuay$State"
  | 5 => .boolean
  | 6 => .boolean
  | 7 => .int
  | _ => .int
abbrev wsX80 : List Cond := u_ws RX8 TX8 9
theorem nmX8 : ∀ a, a < 9 → ∀ b, b < 9 → a ≠ b → (TX8 a).2.1 ≠ (TX8 b).2.1 := by decide +kernel
theorem tyX8_ok : ∀ k, k < 9 → parseFieldDescriptor (TX8 k).2.2.1 = some (tyX8 k) := by decide +kernel
abbrev cX8_init : ByteArray := prog_7_method_1_code
def yX8_init : MethodName := ⟨RX8, "<init>", "(ILKalmanQuay$State;)V"⟩
def dkwX8_init_3 : List UInt8 := [182, 0, 37, 87, 177]
abbrev dktX8_init_3 : List UInt8 := dkwX8_init_3 ++ []
def dkwX8_init_2 : List UInt8 := [42, 27, 181, 0, 30, 42, 44, 181, 0, 33, 42, 180, 0, 10, 44, 182, 0, 37, 87, 42, 180, 0, 16, 44]
abbrev dktX8_init_2 : List UInt8 := dkwX8_init_2 ++ dktX8_init_3
def dkwX8_init_1 : List UInt8 := [181, 0, 16, 42, 187, 0, 7, 89, 183, 0, 9, 181, 0, 19, 42, 4, 181, 0, 22, 42, 4, 181, 0, 26]
abbrev dktX8_init_1 : List UInt8 := dkwX8_init_1 ++ dktX8_init_2
def dkwX8_init_0 : List UInt8 := [42, 183, 0, 1, 42, 187, 0, 7, 89, 183, 0, 9, 181, 0, 10, 42, 187, 0, 7, 89, 183, 0, 9]
abbrev dktX8_init_0 : List UInt8 := dkwX8_init_0 ++ dktX8_init_1
theorem dksX8_init_0 : cX8_init.data.toList.drop 0 = dktX8_init_0 := by decide +kernel
theorem dksX8_init_1 : cX8_init.data.toList.drop 23 = dktX8_init_1 := dk_seg dksX8_init_0 23 rfl rfl
theorem dksX8_init_2 : cX8_init.data.toList.drop 47 = dktX8_init_2 := dk_seg dksX8_init_1 24 rfl rfl
theorem dksX8_init_3 : cX8_init.data.toList.drop 71 = dktX8_init_3 := dk_seg dksX8_init_2 24 rfl rfl
theorem dX8_init_0 : decode cX8_init 0 = .ok (.aload_n 0, 1) := dk_42 (dk_at dksX8_init_0 0 rfl rfl)
theorem dX8_init_1 : decode cX8_init 1 = .ok (.invokespecial 1, 3) := dk_183 0 1 (dk_at dksX8_init_0 1 rfl rfl)
theorem dX8_init_4 : decode cX8_init 4 = .ok (.aload_n 0, 1) := dk_42 (dk_at dksX8_init_0 4 rfl rfl)
theorem dX8_init_5 : decode cX8_init 5 = .ok (.new 7, 3) := dk_187 0 7 (dk_at dksX8_init_0 5 rfl rfl)
theorem dX8_init_8 : decode cX8_init 8 = .ok (.dup, 1) := dk_89 (dk_at dksX8_init_0 8 rfl rfl)
theorem dX8_init_9 : decode cX8_init 9 = .ok (.invokespecial 9, 3) := dk_183 0 9 (dk_at dksX8_init_0 9 rfl rfl)
theorem dX8_init_12 : decode cX8_init 12 = .ok (.putfield 10, 3) := dk_181 0 10 (dk_at dksX8_init_0 12 rfl rfl)
theorem dX8_init_15 : decode cX8_init 15 = .ok (.aload_n 0, 1) := dk_42 (dk_at dksX8_init_0 15 rfl rfl)
theorem dX8_init_16 : decode cX8_init 16 = .ok (.new 7, 3) := dk_187 0 7 (dk_at dksX8_init_0 16 rfl rfl)
theorem dX8_init_19 : decode cX8_init 19 = .ok (.dup, 1) := dk_89 (dk_at dksX8_init_0 19 rfl rfl)
theorem dX8_init_20 : decode cX8_init 20 = .ok (.invokespecial 9, 3) := dk_183 0 9 (dk_at dksX8_init_0 20 rfl rfl)
theorem dX8_init_23 : decode cX8_init 23 = .ok (.putfield 16, 3) := dk_181 0 16 (dk_at dksX8_init_1 0 rfl rfl)
theorem dX8_init_26 : decode cX8_init 26 = .ok (.aload_n 0, 1) := dk_42 (dk_at dksX8_init_1 3 rfl rfl)
theorem dX8_init_27 : decode cX8_init 27 = .ok (.new 7, 3) := dk_187 0 7 (dk_at dksX8_init_1 4 rfl rfl)
theorem dX8_init_30 : decode cX8_init 30 = .ok (.dup, 1) := dk_89 (dk_at dksX8_init_1 7 rfl rfl)
theorem dX8_init_31 : decode cX8_init 31 = .ok (.invokespecial 9, 3) := dk_183 0 9 (dk_at dksX8_init_1 8 rfl rfl)
theorem dX8_init_34 : decode cX8_init 34 = .ok (.putfield 19, 3) := dk_181 0 19 (dk_at dksX8_init_1 11 rfl rfl)
theorem dX8_init_37 : decode cX8_init 37 = .ok (.aload_n 0, 1) := dk_42 (dk_at dksX8_init_1 14 rfl rfl)
theorem dX8_init_38 : decode cX8_init 38 = .ok (.iconst 1, 1) := dk_4 (dk_at dksX8_init_1 15 rfl rfl)
theorem dX8_init_39 : decode cX8_init 39 = .ok (.putfield 22, 3) := dk_181 0 22 (dk_at dksX8_init_1 16 rfl rfl)
theorem dX8_init_42 : decode cX8_init 42 = .ok (.aload_n 0, 1) := dk_42 (dk_at dksX8_init_1 19 rfl rfl)
theorem dX8_init_43 : decode cX8_init 43 = .ok (.iconst 1, 1) := dk_4 (dk_at dksX8_init_1 20 rfl rfl)
theorem dX8_init_44 : decode cX8_init 44 = .ok (.putfield 26, 3) := dk_181 0 26 (dk_at dksX8_init_1 21 rfl rfl)
theorem dX8_init_47 : decode cX8_init 47 = .ok (.aload_n 0, 1) := dk_42 (dk_at dksX8_init_2 0 rfl rfl)
theorem dX8_init_48 : decode cX8_init 48 = .ok (.iload_n 1, 1) := dk_27 (dk_at dksX8_init_2 1 rfl rfl)
theorem dX8_init_49 : decode cX8_init 49 = .ok (.putfield 30, 3) := dk_181 0 30 (dk_at dksX8_init_2 2 rfl rfl)
theorem dX8_init_52 : decode cX8_init 52 = .ok (.aload_n 0, 1) := dk_42 (dk_at dksX8_init_2 5 rfl rfl)
theorem dX8_init_53 : decode cX8_init 53 = .ok (.aload_n 2, 1) := dk_44 (dk_at dksX8_init_2 6 rfl rfl)
theorem dX8_init_54 : decode cX8_init 54 = .ok (.putfield 33, 3) := dk_181 0 33 (dk_at dksX8_init_2 7 rfl rfl)
theorem dX8_init_57 : decode cX8_init 57 = .ok (.aload_n 0, 1) := dk_42 (dk_at dksX8_init_2 10 rfl rfl)
theorem dX8_init_58 : decode cX8_init 58 = .ok (.getfield 10, 3) := dk_180 0 10 (dk_at dksX8_init_2 11 rfl rfl)
theorem dX8_init_61 : decode cX8_init 61 = .ok (.aload_n 2, 1) := dk_44 (dk_at dksX8_init_2 14 rfl rfl)
theorem dX8_init_62 : decode cX8_init 62 = .ok (.invokevirtual 37, 3) := dk_182 0 37 (dk_at dksX8_init_2 15 rfl rfl)
theorem dX8_init_65 : decode cX8_init 65 = .ok (.pop, 1) := dk_87 (dk_at dksX8_init_2 18 rfl rfl)
theorem dX8_init_66 : decode cX8_init 66 = .ok (.aload_n 0, 1) := dk_42 (dk_at dksX8_init_2 19 rfl rfl)
theorem dX8_init_67 : decode cX8_init 67 = .ok (.getfield 16, 3) := dk_180 0 16 (dk_at dksX8_init_2 20 rfl rfl)
theorem dX8_init_70 : decode cX8_init 70 = .ok (.aload_n 2, 1) := dk_44 (dk_at dksX8_init_2 23 rfl rfl)
theorem dX8_init_71 : decode cX8_init 71 = .ok (.invokevirtual 37, 3) := dk_182 0 37 (dk_at dksX8_init_3 0 rfl rfl)
theorem dX8_init_74 : decode cX8_init 74 = .ok (.pop, 1) := dk_87 (dk_at dksX8_init_3 3 rfl rfl)
theorem dX8_init_75 : decode cX8_init 75 = .ok (.return_, 1) := dk_177 (dk_at dksX8_init_3 4 rfl rfl)
abbrev cX8_end : ByteArray := prog_7_method_2_code
def yX8_end : MethodName := ⟨RX8, "end", "()I"⟩
def dkwX8_end_0 : List UInt8 := [42, 180, 0, 30, 42, 180, 0, 16, 182, 0, 41, 96, 4, 100, 172]
abbrev dktX8_end_0 : List UInt8 := dkwX8_end_0 ++ []
theorem dksX8_end_0 : cX8_end.data.toList.drop 0 = dktX8_end_0 := by decide +kernel
theorem dX8_end_0 : decode cX8_end 0 = .ok (.aload_n 0, 1) := dk_42 (dk_at dksX8_end_0 0 rfl rfl)
theorem dX8_end_1 : decode cX8_end 1 = .ok (.getfield 30, 3) := dk_180 0 30 (dk_at dksX8_end_0 1 rfl rfl)
theorem dX8_end_4 : decode cX8_end 4 = .ok (.aload_n 0, 1) := dk_42 (dk_at dksX8_end_0 4 rfl rfl)
theorem dX8_end_5 : decode cX8_end 5 = .ok (.getfield 16, 3) := dk_180 0 16 (dk_at dksX8_end_0 5 rfl rfl)
theorem dX8_end_8 : decode cX8_end 8 = .ok (.invokevirtual 41, 3) := dk_182 0 41 (dk_at dksX8_end_0 8 rfl rfl)
theorem dX8_end_11 : decode cX8_end 11 = .ok (.iadd, 1) := dk_96 (dk_at dksX8_end_0 11 rfl rfl)
theorem dX8_end_12 : decode cX8_end 12 = .ok (.iconst 1, 1) := dk_4 (dk_at dksX8_end_0 12 rfl rfl)
theorem dX8_end_13 : decode cX8_end 13 = .ok (.isub, 1) := dk_100 (dk_at dksX8_end_0 13 rfl rfl)
theorem dX8_end_14 : decode cX8_end 14 = .ok (.ireturn, 1) := dk_172 (dk_at dksX8_end_0 14 rfl rfl)
theorem q75 : (Jvm.Cond.initialized "KalmanQuay$Track") ∈ lw_all := lw_g (lw_at lw_m1 38 rfl) rfl
theorem q258 : (Jvm.Cond.selects "KalmanQuay$Track" ({ cls := "java/lang/Object", name := "getClass", desc := "()Ljava/lang/Class;" } : Jvm.MethodName) ({ cls := "java/lang/Object", name := "getClass", desc := "()Ljava/lang/Class;" } : Jvm.MethodName)) ∈ lw_all := lw_g (lw_at lw_m1 221 rfl) rfl
theorem q667 : (Jvm.Cond.selects "KalmanQuay$Track" ({ cls := "java/lang/Object", name := "hashCode", desc := "()I" } : Jvm.MethodName) ({ cls := "java/lang/Object", name := "hashCode", desc := "()I" } : Jvm.MethodName)) ∈ lw_all := lw_g (lw_at lw_m3 150 rfl) rfl
theorem q816 : (Jvm.Cond.selects "KalmanQuay$Track" ({ cls := "java/lang/Object", name := "equals", desc := "(Ljava/lang/Object;)Z" } : Jvm.MethodName) ({ cls := "java/lang/Object", name := "equals", desc := "(Ljava/lang/Object;)Z" } : Jvm.MethodName)) ∈ lw_all := lw_g (lw_at lw_m4 59 rfl) rfl
theorem q1015 : (Jvm.Cond.instantiable "KalmanQuay$Track" (9 : Nat)) ∈ lw_all := lw_g (lw_at lw_m5 18 rfl) rfl
theorem q1019 : (Jvm.Cond.instanceMethod ({ cls := "KalmanQuay$Track", name := "<init>", desc := "(ILKalmanQuay$State;)V" } : Jvm.MethodName)) ∈ lw_all := lw_g (lw_at lw_m5 22 rfl) rfl
theorem q1020 : (Jvm.Cond.code ({ cls := "KalmanQuay$Track", name := "<init>", desc := "(ILKalmanQuay$State;)V" } : Jvm.MethodName) prog_7_method_1_code (3 : Nat) (Option.none : Option Jvm.ClassFile.FieldType)) ∈ lw_all := lw_g (lw_at lw_m5 23 rfl) rfl
theorem q1021 : (Jvm.Cond.methodLink "KalmanQuay$Track" (1 : Nat) ({ cls := "java/lang/Object", name := "<init>", desc := "()V" } : Jvm.MethodName)) ∈ lw_all := lw_g (lw_at lw_m5 24 rfl) rfl
theorem q1022 : (Jvm.Cond.classLink "KalmanQuay$Track" (7 : Nat) "java/util/ArrayList") ∈ lw_all := lw_g (lw_at lw_m5 25 rfl) rfl
theorem q1023 : (Jvm.Cond.methodLink "KalmanQuay$Track" (9 : Nat) ({ cls := "java/util/ArrayList", name := "<init>", desc := "()V" } : Jvm.MethodName)) ∈ lw_all := lw_g (lw_at lw_m5 26 rfl) rfl
theorem q1024 : (Jvm.Cond.methodLink "KalmanQuay$Track" (37 : Nat) ({ cls := "java/util/ArrayList", name := "add", desc := "(Ljava/lang/Object;)Z" } : Jvm.MethodName)) ∈ lw_all := lw_g (lw_at lw_m5 27 rfl) rfl
theorem q1025 : (Jvm.Cond.fieldLink "KalmanQuay$Track" (30 : Nat) "KalmanQuay$Track" "begin" "I") ∈ lw_all := lw_g (lw_at lw_m5 28 rfl) rfl
theorem q1027 : (Jvm.Cond.fieldLink "KalmanQuay$Track" (10 : Nat) "KalmanQuay$Track" "foretold" "Ljava/util/ArrayList;") ∈ lw_all := lw_g (lw_at lw_m5 30 rfl) rfl
theorem q1029 : (Jvm.Cond.fieldLink "KalmanQuay$Track" (16 : Nat) "KalmanQuay$Track" "behind" "Ljava/util/ArrayList;") ∈ lw_all := lw_g (lw_at lw_m5 32 rfl) rfl
theorem q1031 : (Jvm.Cond.fieldLink "KalmanQuay$Track" (19 : Nat) "KalmanQuay$Track" "hits" "Ljava/util/ArrayList;") ∈ lw_all := lw_g (lw_at lw_m5 34 rfl) rfl
theorem q1033 : (Jvm.Cond.fieldLink "KalmanQuay$Track" (33 : Nat) "KalmanQuay$Track" "state" "LKalmanQuay$State;") ∈ lw_all := lw_g (lw_at lw_m5 36 rfl) rfl
theorem q1035 : (Jvm.Cond.fieldLink "KalmanQuay$Track" (22 : Nat) "KalmanQuay$Track" "alive" "Z") ∈ lw_all := lw_g (lw_at lw_m5 38 rfl) rfl
theorem q1038 : (Jvm.Cond.fieldLink "KalmanQuay$Track" (26 : Nat) "KalmanQuay$Track" "hitBeats" "I") ∈ lw_all := lw_g (lw_at lw_m5 41 rfl) rfl
theorem q1041 : (Jvm.Cond.laysFinal "KalmanQuay$Track" "KalmanQuay$Track" "begin" "I") ∈ lw_all := lw_g (lw_at lw_m5 44 rfl) rfl
theorem q1042 : (Jvm.Cond.soleField "KalmanQuay$Track" "begin") ∈ lw_all := lw_g (lw_at lw_m5 45 rfl) rfl
theorem q1043 : (Jvm.Cond.laysFinal "KalmanQuay$Track" "KalmanQuay$Track" "foretold" "Ljava/util/ArrayList;") ∈ lw_all := lw_g (lw_at lw_m5 46 rfl) rfl
theorem q1044 : (Jvm.Cond.soleField "KalmanQuay$Track" "foretold") ∈ lw_all := lw_g (lw_at lw_m5 47 rfl) rfl
theorem q1045 : (Jvm.Cond.laysFinal "KalmanQuay$Track" "KalmanQuay$Track" "behind" "Ljava/util/ArrayList;") ∈ lw_all := lw_g (lw_at lw_m5 48 rfl) rfl
theorem q1046 : (Jvm.Cond.soleField "KalmanQuay$Track" "behind") ∈ lw_all := lw_g (lw_at lw_m5 49 rfl) rfl
theorem q1047 : (Jvm.Cond.laysFinal "KalmanQuay$Track" "KalmanQuay$Track" "hits" "Ljava/util/ArrayList;") ∈ lw_all := lw_g (lw_at lw_m5 50 rfl) rfl
theorem q1048 : (Jvm.Cond.soleField "KalmanQuay$Track" "hits") ∈ lw_all := lw_g (lw_at lw_m5 51 rfl) rfl
theorem q1049 : (Jvm.Cond.lays "KalmanQuay$Track" "KalmanQuay$Track" "state" "LKalmanQuay$State;") ∈ lw_all := lw_g (lw_at lw_m5 52 rfl) rfl
theorem q1050 : (Jvm.Cond.soleField "KalmanQuay$Track" "state") ∈ lw_all := lw_g (lw_at lw_m5 53 rfl) rfl
theorem q1051 : (Jvm.Cond.lays "KalmanQuay$Track" "KalmanQuay$Track" "alive" "Z") ∈ lw_all := lw_g (lw_at lw_m5 54 rfl) rfl
theorem q1052 : (Jvm.Cond.soleField "KalmanQuay$Track" "alive") ∈ lw_all := lw_g (lw_at lw_m5 55 rfl) rfl
theorem q1053 : (Jvm.Cond.lays "KalmanQuay$Track" "KalmanQuay$Track" "proven" "Z") ∈ lw_all := lw_g (lw_at lw_m5 56 rfl) rfl
theorem q1054 : (Jvm.Cond.soleField "KalmanQuay$Track" "proven") ∈ lw_all := lw_g (lw_at lw_m5 57 rfl) rfl
theorem q1055 : (Jvm.Cond.lays "KalmanQuay$Track" "KalmanQuay$Track" "hitBeats" "I") ∈ lw_all := lw_g (lw_at lw_m5 58 rfl) rfl
theorem q1056 : (Jvm.Cond.soleField "KalmanQuay$Track" "hitBeats") ∈ lw_all := lw_g (lw_at lw_m5 59 rfl) rfl
theorem q1057 : (Jvm.Cond.lays "KalmanQuay$Track" "KalmanQuay$Track" "misses" "I") ∈ lw_all := lw_g (lw_at lw_m5 60 rfl) rfl
theorem q1058 : (Jvm.Cond.soleField "KalmanQuay$Track" "misses") ∈ lw_all := lw_g (lw_at lw_m5 61 rfl) rfl
theorem q1059 : (Jvm.Cond.superclass "KalmanQuay$Track" "java/lang/Object") ∈ lw_all := lw_g (lw_at lw_m5 62 rfl) rfl
theorem q1161 : (Jvm.Cond.instanceMethod ({ cls := "KalmanQuay$Track", name := "end", desc := "()I" } : Jvm.MethodName)) ∈ lw_all := lw_g (lw_at lw_m5 164 rfl) rfl
theorem q1162 : (Jvm.Cond.selects "KalmanQuay$Track" ({ cls := "KalmanQuay$Track", name := "end", desc := "()I" } : Jvm.MethodName) ({ cls := "KalmanQuay$Track", name := "end", desc := "()I" } : Jvm.MethodName)) ∈ lw_all := lw_g (lw_at lw_m5 165 rfl) rfl
theorem q1163 : (Jvm.Cond.code ({ cls := "KalmanQuay$Track", name := "end", desc := "()I" } : Jvm.MethodName) prog_7_method_2_code (1 : Nat) (Option.some Jvm.ClassFile.FieldType.int)) ∈ lw_all := lw_g (lw_at lw_m5 166 rfl) rfl
theorem q1164 : (Jvm.Cond.methodLink "KalmanQuay$Track" (41 : Nat) ({ cls := "java/util/ArrayList", name := "size", desc := "()I" } : Jvm.MethodName)) ∈ lw_all := lw_g (lw_at lw_m5 167 rfl) rfl
theorem q1700 : (Jvm.Cond.castable "KalmanQuay$Track" "java/lang/Object") ∈ lw_tbl := lw_at lw_m7 223 rfl
theorem in_X8 : ∀ w ∈ wsX80, w ∈ lw_all := lw_in wsX80 [1041, 1043, 1045, 1047, 1049, 1051, 1053, 1055, 1057] (by decide +kernel) (by decide +kernel)

/-! KalmanQuay -/
set_option maxRecDepth 100000
def RX1 : String := "KalmanQuay"
def TX1 : u_T := fun k => match k with
  | 0 => ("KalmanQuay", "noise", "I", false)
  | 1 => ("KalmanQuay", "gate", "I", false)
  | 2 => ("KalmanQuay", "patience", "I", false)
  | 3 => ("KalmanQuay", "proof", "I", false)
  | 4 => ("KalmanQuay", "startVariance", "I", false)
  | 5 => ("KalmanQuay", "sensors", "Ljava/util/ArrayList;", true)
  | 6 => ("KalmanQuay", "tracks", "Ljava/util/ArrayList;", true)
  | 7 => ("KalmanQuay", "next", "Ljava/util/ArrayList;", false)
  | 8 => ("KalmanQuay", "latest", "Ljava/util/ArrayList;", false)
  | 9 => ("KalmanQuay", "beats", "I", false)
  | 10 => ("KalmanQuay", "allHits", "I", false)
  | _ => ("KalmanQuay", "assigned", "I", false)
def tyX1 : Nat → FieldType := fun k => match k with
  | 0 => .int
  | 1 => .int
  | 2 => .int
  | 3 => .int
  | 4 => .int
  | 5 => .object "java/util/ArrayList"
  | 6 => .object "java/util/ArrayList"
  | 7 => .object "java/util/ArrayList"
  | 8 => .object "java/util/ArrayList"
  | 9 => .int
  | 10 => .int
  | _ => .int
abbrev wsX10 : List Cond := u_ws RX1 TX1 12
theorem nmX1 : ∀ a, a < 12 → ∀ b, b < 12 → a ≠ b → (TX1 a).2.1 ≠ (TX1 b).2.1 := by decide +kernel
theorem tyX1_ok : ∀ k, k < 12 → parseFieldDescriptor (TX1 k).2.2.1 = some (tyX1 k) := by decide +kernel
abbrev cX1_init : ByteArray := prog_1_method_2_code
def yX1_init : MethodName := ⟨RX1, "<init>", "()V"⟩
def dkwX1_init_3 : List UInt8 := [183, 0, 37, 181, 0, 48, 177]
abbrev dktX1_init_3 : List UInt8 := dkwX1_init_3 ++ []
def dkwX1_init_2 : List UInt8 := [89, 183, 0, 37, 181, 0, 42, 42, 187, 0, 35, 89, 183, 0, 37, 181, 0, 45, 42, 187, 0, 35, 89]
abbrev dktX1_init_2 : List UInt8 := dkwX1_init_2 ++ dktX1_init_3
def dkwX1_init_1 : List UInt8 := [181, 0, 28, 42, 18, 31, 181, 0, 32, 42, 187, 0, 35, 89, 183, 0, 37, 181, 0, 38, 42, 187, 0, 35]
abbrev dktX1_init_1 : List UInt8 := dkwX1_init_1 ++ dktX1_init_2
def dkwX1_init_0 : List UInt8 := [42, 183, 0, 10, 42, 16, 16, 181, 0, 16, 42, 16, 12, 181, 0, 22, 42, 5, 181, 0, 25, 42, 5]
abbrev dktX1_init_0 : List UInt8 := dkwX1_init_0 ++ dktX1_init_1
theorem dksX1_init_0 : cX1_init.data.toList.drop 0 = dktX1_init_0 := by decide +kernel
theorem dksX1_init_1 : cX1_init.data.toList.drop 23 = dktX1_init_1 := dk_seg dksX1_init_0 23 rfl rfl
theorem dksX1_init_2 : cX1_init.data.toList.drop 47 = dktX1_init_2 := dk_seg dksX1_init_1 24 rfl rfl
theorem dksX1_init_3 : cX1_init.data.toList.drop 70 = dktX1_init_3 := dk_seg dksX1_init_2 23 rfl rfl
theorem dX1_init_0 : decode cX1_init 0 = .ok (.aload_n 0, 1) := dk_42 (dk_at dksX1_init_0 0 rfl rfl)
theorem dX1_init_1 : decode cX1_init 1 = .ok (.invokespecial 10, 3) := dk_183 0 10 (dk_at dksX1_init_0 1 rfl rfl)
theorem dX1_init_4 : decode cX1_init 4 = .ok (.aload_n 0, 1) := dk_42 (dk_at dksX1_init_0 4 rfl rfl)
theorem dX1_init_5 : decode cX1_init 5 = .ok (.bipush 16, 2) := dk_16 16 (dk_at dksX1_init_0 5 rfl rfl)
theorem dX1_init_7 : decode cX1_init 7 = .ok (.putfield 16, 3) := dk_181 0 16 (dk_at dksX1_init_0 7 rfl rfl)
theorem dX1_init_10 : decode cX1_init 10 = .ok (.aload_n 0, 1) := dk_42 (dk_at dksX1_init_0 10 rfl rfl)
theorem dX1_init_11 : decode cX1_init 11 = .ok (.bipush 12, 2) := dk_16 12 (dk_at dksX1_init_0 11 rfl rfl)
theorem dX1_init_13 : decode cX1_init 13 = .ok (.putfield 22, 3) := dk_181 0 22 (dk_at dksX1_init_0 13 rfl rfl)
theorem dX1_init_16 : decode cX1_init 16 = .ok (.aload_n 0, 1) := dk_42 (dk_at dksX1_init_0 16 rfl rfl)
theorem dX1_init_17 : decode cX1_init 17 = .ok (.iconst 2, 1) := dk_5 (dk_at dksX1_init_0 17 rfl rfl)
theorem dX1_init_18 : decode cX1_init 18 = .ok (.putfield 25, 3) := dk_181 0 25 (dk_at dksX1_init_0 18 rfl rfl)
theorem dX1_init_21 : decode cX1_init 21 = .ok (.aload_n 0, 1) := dk_42 (dk_at dksX1_init_0 21 rfl rfl)
theorem dX1_init_22 : decode cX1_init 22 = .ok (.iconst 2, 1) := dk_5 (dk_at dksX1_init_0 22 rfl rfl)
theorem dX1_init_23 : decode cX1_init 23 = .ok (.putfield 28, 3) := dk_181 0 28 (dk_at dksX1_init_1 0 rfl rfl)
theorem dX1_init_26 : decode cX1_init 26 = .ok (.aload_n 0, 1) := dk_42 (dk_at dksX1_init_1 3 rfl rfl)
theorem dX1_init_27 : decode cX1_init 27 = .ok (.ldc 31, 2) := dk_18 31 (dk_at dksX1_init_1 4 rfl rfl)
theorem dX1_init_29 : decode cX1_init 29 = .ok (.putfield 32, 3) := dk_181 0 32 (dk_at dksX1_init_1 6 rfl rfl)
theorem dX1_init_32 : decode cX1_init 32 = .ok (.aload_n 0, 1) := dk_42 (dk_at dksX1_init_1 9 rfl rfl)
theorem dX1_init_33 : decode cX1_init 33 = .ok (.new 35, 3) := dk_187 0 35 (dk_at dksX1_init_1 10 rfl rfl)
theorem dX1_init_36 : decode cX1_init 36 = .ok (.dup, 1) := dk_89 (dk_at dksX1_init_1 13 rfl rfl)
theorem dX1_init_37 : decode cX1_init 37 = .ok (.invokespecial 37, 3) := dk_183 0 37 (dk_at dksX1_init_1 14 rfl rfl)
theorem dX1_init_40 : decode cX1_init 40 = .ok (.putfield 38, 3) := dk_181 0 38 (dk_at dksX1_init_1 17 rfl rfl)
theorem dX1_init_43 : decode cX1_init 43 = .ok (.aload_n 0, 1) := dk_42 (dk_at dksX1_init_1 20 rfl rfl)
theorem dX1_init_44 : decode cX1_init 44 = .ok (.new 35, 3) := dk_187 0 35 (dk_at dksX1_init_1 21 rfl rfl)
theorem dX1_init_47 : decode cX1_init 47 = .ok (.dup, 1) := dk_89 (dk_at dksX1_init_2 0 rfl rfl)
theorem dX1_init_48 : decode cX1_init 48 = .ok (.invokespecial 37, 3) := dk_183 0 37 (dk_at dksX1_init_2 1 rfl rfl)
theorem dX1_init_51 : decode cX1_init 51 = .ok (.putfield 42, 3) := dk_181 0 42 (dk_at dksX1_init_2 4 rfl rfl)
theorem dX1_init_54 : decode cX1_init 54 = .ok (.aload_n 0, 1) := dk_42 (dk_at dksX1_init_2 7 rfl rfl)
theorem dX1_init_55 : decode cX1_init 55 = .ok (.new 35, 3) := dk_187 0 35 (dk_at dksX1_init_2 8 rfl rfl)
theorem dX1_init_58 : decode cX1_init 58 = .ok (.dup, 1) := dk_89 (dk_at dksX1_init_2 11 rfl rfl)
theorem dX1_init_59 : decode cX1_init 59 = .ok (.invokespecial 37, 3) := dk_183 0 37 (dk_at dksX1_init_2 12 rfl rfl)
theorem dX1_init_62 : decode cX1_init 62 = .ok (.putfield 45, 3) := dk_181 0 45 (dk_at dksX1_init_2 15 rfl rfl)
theorem dX1_init_65 : decode cX1_init 65 = .ok (.aload_n 0, 1) := dk_42 (dk_at dksX1_init_2 18 rfl rfl)
theorem dX1_init_66 : decode cX1_init 66 = .ok (.new 35, 3) := dk_187 0 35 (dk_at dksX1_init_2 19 rfl rfl)
theorem dX1_init_69 : decode cX1_init 69 = .ok (.dup, 1) := dk_89 (dk_at dksX1_init_2 22 rfl rfl)
theorem dX1_init_70 : decode cX1_init 70 = .ok (.invokespecial 37, 3) := dk_183 0 37 (dk_at dksX1_init_3 0 rfl rfl)
theorem dX1_init_73 : decode cX1_init 73 = .ok (.putfield 48, 3) := dk_181 0 48 (dk_at dksX1_init_3 3 rfl rfl)
theorem dX1_init_76 : decode cX1_init 76 = .ok (.return_, 1) := dk_177 (dk_at dksX1_init_3 6 rfl rfl)
abbrev cX1_begin : ByteArray := prog_1_method_7_code
def yX1_begin : MethodName := ⟨RX1, "begin", "()I"⟩
def dkwX1_begin_2 : List UInt8 := [181, 0, 83, 27, 172]
abbrev dktX1_begin_2 : List UInt8 := dkwX1_begin_2 ++ []
def dkwX1_begin_1 : List UInt8 := [182, 0, 77, 42, 180, 0, 48, 182, 0, 77, 42, 3, 181, 0, 74, 42, 3, 181, 0, 80, 42, 3]
abbrev dktX1_begin_1 : List UInt8 := dkwX1_begin_1 ++ dktX1_begin_2
def dkwX1_begin_0 : List UInt8 := [42, 180, 0, 74, 60, 42, 180, 0, 38, 182, 0, 77, 42, 180, 0, 42, 182, 0, 77, 42, 180, 0, 45]
abbrev dktX1_begin_0 : List UInt8 := dkwX1_begin_0 ++ dktX1_begin_1
theorem dksX1_begin_0 : cX1_begin.data.toList.drop 0 = dktX1_begin_0 := by decide +kernel
theorem dksX1_begin_1 : cX1_begin.data.toList.drop 23 = dktX1_begin_1 := dk_seg dksX1_begin_0 23 rfl rfl
theorem dksX1_begin_2 : cX1_begin.data.toList.drop 45 = dktX1_begin_2 := dk_seg dksX1_begin_1 22 rfl rfl
theorem dX1_begin_0 : decode cX1_begin 0 = .ok (.aload_n 0, 1) := dk_42 (dk_at dksX1_begin_0 0 rfl rfl)
theorem dX1_begin_1 : decode cX1_begin 1 = .ok (.getfield 74, 3) := dk_180 0 74 (dk_at dksX1_begin_0 1 rfl rfl)
theorem dX1_begin_4 : decode cX1_begin 4 = .ok (.istore_n 1, 1) := dk_60 (dk_at dksX1_begin_0 4 rfl rfl)
theorem dX1_begin_5 : decode cX1_begin 5 = .ok (.aload_n 0, 1) := dk_42 (dk_at dksX1_begin_0 5 rfl rfl)
theorem dX1_begin_6 : decode cX1_begin 6 = .ok (.getfield 38, 3) := dk_180 0 38 (dk_at dksX1_begin_0 6 rfl rfl)
theorem dX1_begin_9 : decode cX1_begin 9 = .ok (.invokevirtual 77, 3) := dk_182 0 77 (dk_at dksX1_begin_0 9 rfl rfl)
theorem dX1_begin_12 : decode cX1_begin 12 = .ok (.aload_n 0, 1) := dk_42 (dk_at dksX1_begin_0 12 rfl rfl)
theorem dX1_begin_13 : decode cX1_begin 13 = .ok (.getfield 42, 3) := dk_180 0 42 (dk_at dksX1_begin_0 13 rfl rfl)
theorem dX1_begin_16 : decode cX1_begin 16 = .ok (.invokevirtual 77, 3) := dk_182 0 77 (dk_at dksX1_begin_0 16 rfl rfl)
theorem dX1_begin_19 : decode cX1_begin 19 = .ok (.aload_n 0, 1) := dk_42 (dk_at dksX1_begin_0 19 rfl rfl)
theorem dX1_begin_20 : decode cX1_begin 20 = .ok (.getfield 45, 3) := dk_180 0 45 (dk_at dksX1_begin_0 20 rfl rfl)
theorem dX1_begin_23 : decode cX1_begin 23 = .ok (.invokevirtual 77, 3) := dk_182 0 77 (dk_at dksX1_begin_1 0 rfl rfl)
theorem dX1_begin_26 : decode cX1_begin 26 = .ok (.aload_n 0, 1) := dk_42 (dk_at dksX1_begin_1 3 rfl rfl)
theorem dX1_begin_27 : decode cX1_begin 27 = .ok (.getfield 48, 3) := dk_180 0 48 (dk_at dksX1_begin_1 4 rfl rfl)
theorem dX1_begin_30 : decode cX1_begin 30 = .ok (.invokevirtual 77, 3) := dk_182 0 77 (dk_at dksX1_begin_1 7 rfl rfl)
theorem dX1_begin_33 : decode cX1_begin 33 = .ok (.aload_n 0, 1) := dk_42 (dk_at dksX1_begin_1 10 rfl rfl)
theorem dX1_begin_34 : decode cX1_begin 34 = .ok (.iconst 0, 1) := dk_3 (dk_at dksX1_begin_1 11 rfl rfl)
theorem dX1_begin_35 : decode cX1_begin 35 = .ok (.putfield 74, 3) := dk_181 0 74 (dk_at dksX1_begin_1 12 rfl rfl)
theorem dX1_begin_38 : decode cX1_begin 38 = .ok (.aload_n 0, 1) := dk_42 (dk_at dksX1_begin_1 15 rfl rfl)
theorem dX1_begin_39 : decode cX1_begin 39 = .ok (.iconst 0, 1) := dk_3 (dk_at dksX1_begin_1 16 rfl rfl)
theorem dX1_begin_40 : decode cX1_begin 40 = .ok (.putfield 80, 3) := dk_181 0 80 (dk_at dksX1_begin_1 17 rfl rfl)
theorem dX1_begin_43 : decode cX1_begin 43 = .ok (.aload_n 0, 1) := dk_42 (dk_at dksX1_begin_1 20 rfl rfl)
theorem dX1_begin_44 : decode cX1_begin 44 = .ok (.iconst 0, 1) := dk_3 (dk_at dksX1_begin_1 21 rfl rfl)
theorem dX1_begin_45 : decode cX1_begin 45 = .ok (.putfield 83, 3) := dk_181 0 83 (dk_at dksX1_begin_2 0 rfl rfl)
theorem dX1_begin_48 : decode cX1_begin 48 = .ok (.iload_n 1, 1) := dk_27 (dk_at dksX1_begin_2 3 rfl rfl)
theorem dX1_begin_49 : decode cX1_begin 49 = .ok (.ireturn, 1) := dk_172 (dk_at dksX1_begin_2 4 rfl rfl)
abbrev cX1_sensorCount : ByteArray := prog_1_method_11_code
def yX1_sensorCount : MethodName := ⟨RX1, "sensorCount", "()I"⟩
def dkwX1_sensorCount_0 : List UInt8 := [42, 180, 0, 38, 182, 0, 60, 172]
abbrev dktX1_sensorCount_0 : List UInt8 := dkwX1_sensorCount_0 ++ []
theorem dksX1_sensorCount_0 : cX1_sensorCount.data.toList.drop 0 = dktX1_sensorCount_0 := by decide +kernel
theorem dX1_sensorCount_0 : decode cX1_sensorCount 0 = .ok (.aload_n 0, 1) := dk_42 (dk_at dksX1_sensorCount_0 0 rfl rfl)
theorem dX1_sensorCount_1 : decode cX1_sensorCount 1 = .ok (.getfield 38, 3) := dk_180 0 38 (dk_at dksX1_sensorCount_0 1 rfl rfl)
theorem dX1_sensorCount_4 : decode cX1_sensorCount 4 = .ok (.invokevirtual 60, 3) := dk_182 0 60 (dk_at dksX1_sensorCount_0 4 rfl rfl)
theorem dX1_sensorCount_7 : decode cX1_sensorCount 7 = .ok (.ireturn, 1) := dk_172 (dk_at dksX1_sensorCount_0 7 rfl rfl)
abbrev cX1_hits : ByteArray := prog_1_method_13_code
def yX1_hits : MethodName := ⟨RX1, "hits", "()I"⟩
def dkwX1_hits_0 : List UInt8 := [42, 180, 0, 45, 182, 0, 60, 172]
abbrev dktX1_hits_0 : List UInt8 := dkwX1_hits_0 ++ []
theorem dksX1_hits_0 : cX1_hits.data.toList.drop 0 = dktX1_hits_0 := by decide +kernel
theorem dX1_hits_0 : decode cX1_hits 0 = .ok (.aload_n 0, 1) := dk_42 (dk_at dksX1_hits_0 0 rfl rfl)
theorem dX1_hits_1 : decode cX1_hits 1 = .ok (.getfield 45, 3) := dk_180 0 45 (dk_at dksX1_hits_0 1 rfl rfl)
theorem dX1_hits_4 : decode cX1_hits 4 = .ok (.invokevirtual 60, 3) := dk_182 0 60 (dk_at dksX1_hits_0 4 rfl rfl)
theorem dX1_hits_7 : decode cX1_hits 7 = .ok (.ireturn, 1) := dk_172 (dk_at dksX1_hits_0 7 rfl rfl)
abbrev cX1_beatCount : ByteArray := prog_1_method_23_code
def yX1_beatCount : MethodName := ⟨RX1, "beatCount", "()I"⟩
theorem dX1_beatCount_0 : decode cX1_beatCount 0 = .ok (.aload_n 0, 1) := by decide +kernel
theorem dX1_beatCount_1 : decode cX1_beatCount 1 = .ok (.getfield 74, 3) := by decide +kernel
theorem dX1_beatCount_4 : decode cX1_beatCount 4 = .ok (.ireturn, 1) := by decide +kernel
abbrev cX1_trackCount : ByteArray := prog_1_method_25_code
def yX1_trackCount : MethodName := ⟨RX1, "trackCount", "()I"⟩
def dkwX1_trackCount_0 : List UInt8 := [42, 180, 0, 42, 182, 0, 60, 172]
abbrev dktX1_trackCount_0 : List UInt8 := dkwX1_trackCount_0 ++ []
theorem dksX1_trackCount_0 : cX1_trackCount.data.toList.drop 0 = dktX1_trackCount_0 := by decide +kernel
theorem dX1_trackCount_0 : decode cX1_trackCount 0 = .ok (.aload_n 0, 1) := dk_42 (dk_at dksX1_trackCount_0 0 rfl rfl)
theorem dX1_trackCount_1 : decode cX1_trackCount 1 = .ok (.getfield 42, 3) := dk_180 0 42 (dk_at dksX1_trackCount_0 1 rfl rfl)
theorem dX1_trackCount_4 : decode cX1_trackCount 4 = .ok (.invokevirtual 60, 3) := dk_182 0 60 (dk_at dksX1_trackCount_0 4 rfl rfl)
theorem dX1_trackCount_7 : decode cX1_trackCount 7 = .ok (.ireturn, 1) := dk_172 (dk_at dksX1_trackCount_0 7 rfl rfl)
abbrev cX1_alive : ByteArray := prog_1_method_26_code
def yX1_alive : MethodName := ⟨RX1, "alive", "()I"⟩
def dkwX1_alive_0 : List UInt8 := [42, 182, 0, 191, 182, 0, 60, 172]
abbrev dktX1_alive_0 : List UInt8 := dkwX1_alive_0 ++ []
theorem dksX1_alive_0 : cX1_alive.data.toList.drop 0 = dktX1_alive_0 := by decide +kernel
theorem dX1_alive_0 : decode cX1_alive 0 = .ok (.aload_n 0, 1) := dk_42 (dk_at dksX1_alive_0 0 rfl rfl)
theorem dX1_alive_1 : decode cX1_alive 1 = .ok (.invokevirtual 191, 3) := dk_182 0 191 (dk_at dksX1_alive_0 1 rfl rfl)
theorem dX1_alive_4 : decode cX1_alive 4 = .ok (.invokevirtual 60, 3) := dk_182 0 60 (dk_at dksX1_alive_0 4 rfl rfl)
theorem dX1_alive_7 : decode cX1_alive 7 = .ok (.ireturn, 1) := dk_172 (dk_at dksX1_alive_0 7 rfl rfl)
abbrev cX1_living : ByteArray := prog_1_method_14_code
def yX1_living : MethodName := ⟨RX1, "living", "()Ljava/util/ArrayList;"⟩
def dkwX1_living_2 : List UInt8 := [87, 132, 2, 1, 167, 255, 216, 43, 176]
abbrev dktX1_living_2 : List UInt8 := dkwX1_living_2 ++ []
def dkwX1_living_1 : List UInt8 := [180, 0, 42, 28, 182, 0, 68, 192, 0, 72, 180, 0, 112, 153, 0, 12, 43, 28, 184, 0, 95, 182, 0, 101]
abbrev dktX1_living_1 : List UInt8 := dkwX1_living_1 ++ dktX1_living_2
def dkwX1_living_0 : List UInt8 := [187, 0, 35, 89, 183, 0, 37, 76, 3, 61, 28, 42, 180, 0, 42, 182, 0, 60, 162, 0, 35, 42]
abbrev dktX1_living_0 : List UInt8 := dkwX1_living_0 ++ dktX1_living_1
theorem dksX1_living_0 : cX1_living.data.toList.drop 0 = dktX1_living_0 := by decide +kernel
theorem dksX1_living_1 : cX1_living.data.toList.drop 22 = dktX1_living_1 := dk_seg dksX1_living_0 22 rfl rfl
theorem dksX1_living_2 : cX1_living.data.toList.drop 46 = dktX1_living_2 := dk_seg dksX1_living_1 24 rfl rfl
theorem dX1_living_0 : decode cX1_living 0 = .ok (.new 35, 3) := dk_187 0 35 (dk_at dksX1_living_0 0 rfl rfl)
theorem dX1_living_3 : decode cX1_living 3 = .ok (.dup, 1) := dk_89 (dk_at dksX1_living_0 3 rfl rfl)
theorem dX1_living_4 : decode cX1_living 4 = .ok (.invokespecial 37, 3) := dk_183 0 37 (dk_at dksX1_living_0 4 rfl rfl)
theorem dX1_living_7 : decode cX1_living 7 = .ok (.astore_n 1, 1) := dk_76 (dk_at dksX1_living_0 7 rfl rfl)
theorem dX1_living_8 : decode cX1_living 8 = .ok (.iconst 0, 1) := dk_3 (dk_at dksX1_living_0 8 rfl rfl)
theorem dX1_living_9 : decode cX1_living 9 = .ok (.istore_n 2, 1) := dk_61 (dk_at dksX1_living_0 9 rfl rfl)
theorem dX1_living_10 : decode cX1_living 10 = .ok (.iload_n 2, 1) := dk_28 (dk_at dksX1_living_0 10 rfl rfl)
theorem dX1_living_11 : decode cX1_living 11 = .ok (.aload_n 0, 1) := dk_42 (dk_at dksX1_living_0 11 rfl rfl)
theorem dX1_living_12 : decode cX1_living 12 = .ok (.getfield 42, 3) := dk_180 0 42 (dk_at dksX1_living_0 12 rfl rfl)
theorem dX1_living_15 : decode cX1_living 15 = .ok (.invokevirtual 60, 3) := dk_182 0 60 (dk_at dksX1_living_0 15 rfl rfl)
theorem dX1_living_18 : decode cX1_living 18 = .ok (.if_icmp .ge 35, 3) := dk_162 0 35 (dk_at dksX1_living_0 18 rfl rfl)
theorem dX1_living_21 : decode cX1_living 21 = .ok (.aload_n 0, 1) := dk_42 (dk_at dksX1_living_0 21 rfl rfl)
theorem dX1_living_22 : decode cX1_living 22 = .ok (.getfield 42, 3) := dk_180 0 42 (dk_at dksX1_living_1 0 rfl rfl)
theorem dX1_living_25 : decode cX1_living 25 = .ok (.iload_n 2, 1) := dk_28 (dk_at dksX1_living_1 3 rfl rfl)
theorem dX1_living_26 : decode cX1_living 26 = .ok (.invokevirtual 68, 3) := dk_182 0 68 (dk_at dksX1_living_1 4 rfl rfl)
theorem dX1_living_29 : decode cX1_living 29 = .ok (.checkcast 72, 3) := dk_192 0 72 (dk_at dksX1_living_1 7 rfl rfl)
theorem dX1_living_32 : decode cX1_living 32 = .ok (.getfield 112, 3) := dk_180 0 112 (dk_at dksX1_living_1 10 rfl rfl)
theorem dX1_living_35 : decode cX1_living 35 = .ok (.ifCond .eq 12, 3) := dk_153 0 12 (dk_at dksX1_living_1 13 rfl rfl)
theorem dX1_living_38 : decode cX1_living 38 = .ok (.aload_n 1, 1) := dk_43 (dk_at dksX1_living_1 16 rfl rfl)
theorem dX1_living_39 : decode cX1_living 39 = .ok (.iload_n 2, 1) := dk_28 (dk_at dksX1_living_1 17 rfl rfl)
theorem dX1_living_40 : decode cX1_living 40 = .ok (.invokestatic 95, 3) := dk_184 0 95 (dk_at dksX1_living_1 18 rfl rfl)
theorem dX1_living_43 : decode cX1_living 43 = .ok (.invokevirtual 101, 3) := dk_182 0 101 (dk_at dksX1_living_1 21 rfl rfl)
theorem dX1_living_46 : decode cX1_living 46 = .ok (.pop, 1) := dk_87 (dk_at dksX1_living_2 0 rfl rfl)
theorem dX1_living_47 : decode cX1_living 47 = .ok (.iinc 2 1, 3) := dk_132 2 1 (dk_at dksX1_living_2 1 rfl rfl)
theorem dX1_living_50 : decode cX1_living 50 = .ok (.goto (-40), 3) := dk_167 255 216 (dk_at dksX1_living_2 4 rfl rfl)
theorem dX1_living_53 : decode cX1_living 53 = .ok (.aload_n 1, 1) := dk_43 (dk_at dksX1_living_2 7 rfl rfl)
theorem dX1_living_54 : decode cX1_living 54 = .ok (.areturn, 1) := dk_176 (dk_at dksX1_living_2 8 rfl rfl)
abbrev cX1_assignedShare : ByteArray := prog_1_method_49_code
def yX1_assignedShare : MethodName := ⟨RX1, "assignedShare", "()F"⟩
def dkwX1_assignedShare_0 : List UInt8 := [42, 180, 0, 80, 154, 0, 7, 11, 167, 0, 14, 42, 180, 0, 83, 134, 42, 180, 0, 80, 134, 110, 174]
abbrev dktX1_assignedShare_0 : List UInt8 := dkwX1_assignedShare_0 ++ []
theorem dksX1_assignedShare_0 : cX1_assignedShare.data.toList.drop 0 = dktX1_assignedShare_0 := by decide +kernel
theorem dX1_assignedShare_0 : decode cX1_assignedShare 0 = .ok (.aload_n 0, 1) := dk_42 (dk_at dksX1_assignedShare_0 0 rfl rfl)
theorem dX1_assignedShare_1 : decode cX1_assignedShare 1 = .ok (.getfield 80, 3) := dk_180 0 80 (dk_at dksX1_assignedShare_0 1 rfl rfl)
theorem dX1_assignedShare_4 : decode cX1_assignedShare 4 = .ok (.ifCond .ne 7, 3) := dk_154 0 7 (dk_at dksX1_assignedShare_0 4 rfl rfl)
theorem dX1_assignedShare_7 : decode cX1_assignedShare 7 = .ok (.fconst 0, 1) := dk_11 (dk_at dksX1_assignedShare_0 7 rfl rfl)
theorem dX1_assignedShare_8 : decode cX1_assignedShare 8 = .ok (.goto 14, 3) := dk_167 0 14 (dk_at dksX1_assignedShare_0 8 rfl rfl)
theorem dX1_assignedShare_11 : decode cX1_assignedShare 11 = .ok (.aload_n 0, 1) := dk_42 (dk_at dksX1_assignedShare_0 11 rfl rfl)
theorem dX1_assignedShare_12 : decode cX1_assignedShare 12 = .ok (.getfield 83, 3) := dk_180 0 83 (dk_at dksX1_assignedShare_0 12 rfl rfl)
theorem dX1_assignedShare_15 : decode cX1_assignedShare 15 = .ok (.i2f, 1) := dk_134 (dk_at dksX1_assignedShare_0 15 rfl rfl)
theorem dX1_assignedShare_16 : decode cX1_assignedShare 16 = .ok (.aload_n 0, 1) := dk_42 (dk_at dksX1_assignedShare_0 16 rfl rfl)
theorem dX1_assignedShare_17 : decode cX1_assignedShare 17 = .ok (.getfield 80, 3) := dk_180 0 80 (dk_at dksX1_assignedShare_0 17 rfl rfl)
theorem dX1_assignedShare_20 : decode cX1_assignedShare 20 = .ok (.i2f, 1) := dk_134 (dk_at dksX1_assignedShare_0 20 rfl rfl)
theorem dX1_assignedShare_21 : decode cX1_assignedShare 21 = .ok (.fdiv, 1) := dk_110 (dk_at dksX1_assignedShare_0 21 rfl rfl)
theorem dX1_assignedShare_22 : decode cX1_assignedShare 22 = .ok (.freturn, 1) := dk_174 (dk_at dksX1_assignedShare_0 22 rfl rfl)
abbrev cX1_meanLength : ByteArray := prog_1_method_50_code
def yX1_meanLength : MethodName := ⟨RX1, "meanLength", "()D"⟩
def dkwX1_meanLength_2 : List UInt8 := [153, 0, 7, 14, 167, 0, 14, 27, 135, 42, 180, 0, 42, 182, 0, 60, 135, 111, 175]
abbrev dktX1_meanLength_2 : List UInt8 := dkwX1_meanLength_2 ++ []
def dkwX1_meanLength_1 : List UInt8 := [192, 0, 72, 180, 0, 203, 182, 0, 60, 96, 60, 132, 2, 1, 167, 255, 222, 42, 180, 0, 42, 182, 1, 47]
abbrev dktX1_meanLength_1 : List UInt8 := dkwX1_meanLength_1 ++ dktX1_meanLength_2
def dkwX1_meanLength_0 : List UInt8 := [3, 60, 3, 61, 28, 42, 180, 0, 42, 182, 0, 60, 162, 0, 29, 27, 42, 180, 0, 42, 28, 182, 0, 68]
abbrev dktX1_meanLength_0 : List UInt8 := dkwX1_meanLength_0 ++ dktX1_meanLength_1
theorem dksX1_meanLength_0 : cX1_meanLength.data.toList.drop 0 = dktX1_meanLength_0 := by decide +kernel
theorem dksX1_meanLength_1 : cX1_meanLength.data.toList.drop 24 = dktX1_meanLength_1 := dk_seg dksX1_meanLength_0 24 rfl rfl
theorem dksX1_meanLength_2 : cX1_meanLength.data.toList.drop 48 = dktX1_meanLength_2 := dk_seg dksX1_meanLength_1 24 rfl rfl
theorem dX1_meanLength_0 : decode cX1_meanLength 0 = .ok (.iconst 0, 1) := dk_3 (dk_at dksX1_meanLength_0 0 rfl rfl)
theorem dX1_meanLength_1 : decode cX1_meanLength 1 = .ok (.istore_n 1, 1) := dk_60 (dk_at dksX1_meanLength_0 1 rfl rfl)
theorem dX1_meanLength_2 : decode cX1_meanLength 2 = .ok (.iconst 0, 1) := dk_3 (dk_at dksX1_meanLength_0 2 rfl rfl)
theorem dX1_meanLength_3 : decode cX1_meanLength 3 = .ok (.istore_n 2, 1) := dk_61 (dk_at dksX1_meanLength_0 3 rfl rfl)
theorem dX1_meanLength_4 : decode cX1_meanLength 4 = .ok (.iload_n 2, 1) := dk_28 (dk_at dksX1_meanLength_0 4 rfl rfl)
theorem dX1_meanLength_5 : decode cX1_meanLength 5 = .ok (.aload_n 0, 1) := dk_42 (dk_at dksX1_meanLength_0 5 rfl rfl)
theorem dX1_meanLength_6 : decode cX1_meanLength 6 = .ok (.getfield 42, 3) := dk_180 0 42 (dk_at dksX1_meanLength_0 6 rfl rfl)
theorem dX1_meanLength_9 : decode cX1_meanLength 9 = .ok (.invokevirtual 60, 3) := dk_182 0 60 (dk_at dksX1_meanLength_0 9 rfl rfl)
theorem dX1_meanLength_12 : decode cX1_meanLength 12 = .ok (.if_icmp .ge 29, 3) := dk_162 0 29 (dk_at dksX1_meanLength_0 12 rfl rfl)
theorem dX1_meanLength_15 : decode cX1_meanLength 15 = .ok (.iload_n 1, 1) := dk_27 (dk_at dksX1_meanLength_0 15 rfl rfl)
theorem dX1_meanLength_16 : decode cX1_meanLength 16 = .ok (.aload_n 0, 1) := dk_42 (dk_at dksX1_meanLength_0 16 rfl rfl)
theorem dX1_meanLength_17 : decode cX1_meanLength 17 = .ok (.getfield 42, 3) := dk_180 0 42 (dk_at dksX1_meanLength_0 17 rfl rfl)
theorem dX1_meanLength_20 : decode cX1_meanLength 20 = .ok (.iload_n 2, 1) := dk_28 (dk_at dksX1_meanLength_0 20 rfl rfl)
theorem dX1_meanLength_21 : decode cX1_meanLength 21 = .ok (.invokevirtual 68, 3) := dk_182 0 68 (dk_at dksX1_meanLength_0 21 rfl rfl)
theorem dX1_meanLength_24 : decode cX1_meanLength 24 = .ok (.checkcast 72, 3) := dk_192 0 72 (dk_at dksX1_meanLength_1 0 rfl rfl)
theorem dX1_meanLength_27 : decode cX1_meanLength 27 = .ok (.getfield 203, 3) := dk_180 0 203 (dk_at dksX1_meanLength_1 3 rfl rfl)
theorem dX1_meanLength_30 : decode cX1_meanLength 30 = .ok (.invokevirtual 60, 3) := dk_182 0 60 (dk_at dksX1_meanLength_1 6 rfl rfl)
theorem dX1_meanLength_33 : decode cX1_meanLength 33 = .ok (.iadd, 1) := dk_96 (dk_at dksX1_meanLength_1 9 rfl rfl)
theorem dX1_meanLength_34 : decode cX1_meanLength 34 = .ok (.istore_n 1, 1) := dk_60 (dk_at dksX1_meanLength_1 10 rfl rfl)
theorem dX1_meanLength_35 : decode cX1_meanLength 35 = .ok (.iinc 2 1, 3) := dk_132 2 1 (dk_at dksX1_meanLength_1 11 rfl rfl)
theorem dX1_meanLength_38 : decode cX1_meanLength 38 = .ok (.goto (-34), 3) := dk_167 255 222 (dk_at dksX1_meanLength_1 14 rfl rfl)
theorem dX1_meanLength_41 : decode cX1_meanLength 41 = .ok (.aload_n 0, 1) := dk_42 (dk_at dksX1_meanLength_1 17 rfl rfl)
theorem dX1_meanLength_42 : decode cX1_meanLength 42 = .ok (.getfield 42, 3) := dk_180 0 42 (dk_at dksX1_meanLength_1 18 rfl rfl)
theorem dX1_meanLength_45 : decode cX1_meanLength 45 = .ok (.invokevirtual 303, 3) := dk_182 1 47 (dk_at dksX1_meanLength_1 21 rfl rfl)
theorem dX1_meanLength_48 : decode cX1_meanLength 48 = .ok (.ifCond .eq 7, 3) := dk_153 0 7 (dk_at dksX1_meanLength_2 0 rfl rfl)
theorem dX1_meanLength_51 : decode cX1_meanLength 51 = .ok (.dconst 0, 1) := dk_14 (dk_at dksX1_meanLength_2 3 rfl rfl)
theorem dX1_meanLength_52 : decode cX1_meanLength 52 = .ok (.goto 14, 3) := dk_167 0 14 (dk_at dksX1_meanLength_2 4 rfl rfl)
theorem dX1_meanLength_55 : decode cX1_meanLength 55 = .ok (.iload_n 1, 1) := dk_27 (dk_at dksX1_meanLength_2 7 rfl rfl)
theorem dX1_meanLength_56 : decode cX1_meanLength 56 = .ok (.i2d, 1) := dk_135 (dk_at dksX1_meanLength_2 8 rfl rfl)
theorem dX1_meanLength_57 : decode cX1_meanLength 57 = .ok (.aload_n 0, 1) := dk_42 (dk_at dksX1_meanLength_2 9 rfl rfl)
theorem dX1_meanLength_58 : decode cX1_meanLength 58 = .ok (.getfield 42, 3) := dk_180 0 42 (dk_at dksX1_meanLength_2 10 rfl rfl)
theorem dX1_meanLength_61 : decode cX1_meanLength 61 = .ok (.invokevirtual 60, 3) := dk_182 0 60 (dk_at dksX1_meanLength_2 13 rfl rfl)
theorem dX1_meanLength_64 : decode cX1_meanLength 64 = .ok (.i2d, 1) := dk_135 (dk_at dksX1_meanLength_2 16 rfl rfl)
theorem dX1_meanLength_65 : decode cX1_meanLength 65 = .ok (.ddiv, 1) := dk_111 (dk_at dksX1_meanLength_2 17 rfl rfl)
theorem dX1_meanLength_66 : decode cX1_meanLength 66 = .ok (.dreturn, 1) := dk_175 (dk_at dksX1_meanLength_2 18 rfl rfl)
abbrev cX1_setFilter : ByteArray := prog_1_method_8_code
def yX1_setFilter : MethodName := ⟨RX1, "setFilter", "(II)I"⟩
def dkwX1_setFilter_1 : List UInt8 := [184, 0, 86, 87, 42, 180, 0, 16, 62, 42, 27, 181, 0, 16, 42, 28, 181, 0, 22, 29, 172]
abbrev dktX1_setFilter_1 : List UInt8 := dkwX1_setFilter_1 ++ []
def dkwX1_setFilter_0 : List UInt8 := [27, 7, 112, 154, 0, 7, 27, 167, 0, 4, 2, 3, 17, 15, 160, 184, 0, 86, 87, 28, 4, 16, 40]
abbrev dktX1_setFilter_0 : List UInt8 := dkwX1_setFilter_0 ++ dktX1_setFilter_1
theorem dksX1_setFilter_0 : cX1_setFilter.data.toList.drop 0 = dktX1_setFilter_0 := by decide +kernel
theorem dksX1_setFilter_1 : cX1_setFilter.data.toList.drop 23 = dktX1_setFilter_1 := dk_seg dksX1_setFilter_0 23 rfl rfl
theorem dX1_setFilter_0 : decode cX1_setFilter 0 = .ok (.iload_n 1, 1) := dk_27 (dk_at dksX1_setFilter_0 0 rfl rfl)
theorem dX1_setFilter_1 : decode cX1_setFilter 1 = .ok (.iconst 4, 1) := dk_7 (dk_at dksX1_setFilter_0 1 rfl rfl)
theorem dX1_setFilter_2 : decode cX1_setFilter 2 = .ok (.irem, 1) := dk_112 (dk_at dksX1_setFilter_0 2 rfl rfl)
theorem dX1_setFilter_3 : decode cX1_setFilter 3 = .ok (.ifCond .ne 7, 3) := dk_154 0 7 (dk_at dksX1_setFilter_0 3 rfl rfl)
theorem dX1_setFilter_6 : decode cX1_setFilter 6 = .ok (.iload_n 1, 1) := dk_27 (dk_at dksX1_setFilter_0 6 rfl rfl)
theorem dX1_setFilter_7 : decode cX1_setFilter 7 = .ok (.goto 4, 3) := dk_167 0 4 (dk_at dksX1_setFilter_0 7 rfl rfl)
theorem dX1_setFilter_10 : decode cX1_setFilter 10 = .ok (.iconst (-1), 1) := dk_2 (dk_at dksX1_setFilter_0 10 rfl rfl)
theorem dX1_setFilter_11 : decode cX1_setFilter 11 = .ok (.iconst 0, 1) := dk_3 (dk_at dksX1_setFilter_0 11 rfl rfl)
theorem dX1_setFilter_12 : decode cX1_setFilter 12 = .ok (.sipush 4000, 3) := dk_17 15 160 (dk_at dksX1_setFilter_0 12 rfl rfl)
theorem dX1_setFilter_15 : decode cX1_setFilter 15 = .ok (.invokestatic 86, 3) := dk_184 0 86 (dk_at dksX1_setFilter_0 15 rfl rfl)
theorem dX1_setFilter_18 : decode cX1_setFilter 18 = .ok (.pop, 1) := dk_87 (dk_at dksX1_setFilter_0 18 rfl rfl)
theorem dX1_setFilter_19 : decode cX1_setFilter 19 = .ok (.iload_n 2, 1) := dk_28 (dk_at dksX1_setFilter_0 19 rfl rfl)
theorem dX1_setFilter_20 : decode cX1_setFilter 20 = .ok (.iconst 1, 1) := dk_4 (dk_at dksX1_setFilter_0 20 rfl rfl)
theorem dX1_setFilter_21 : decode cX1_setFilter 21 = .ok (.bipush 40, 2) := dk_16 40 (dk_at dksX1_setFilter_0 21 rfl rfl)
theorem dX1_setFilter_23 : decode cX1_setFilter 23 = .ok (.invokestatic 86, 3) := dk_184 0 86 (dk_at dksX1_setFilter_1 0 rfl rfl)
theorem dX1_setFilter_26 : decode cX1_setFilter 26 = .ok (.pop, 1) := dk_87 (dk_at dksX1_setFilter_1 3 rfl rfl)
theorem dX1_setFilter_27 : decode cX1_setFilter 27 = .ok (.aload_n 0, 1) := dk_42 (dk_at dksX1_setFilter_1 4 rfl rfl)
theorem dX1_setFilter_28 : decode cX1_setFilter 28 = .ok (.getfield 16, 3) := dk_180 0 16 (dk_at dksX1_setFilter_1 5 rfl rfl)
theorem dX1_setFilter_31 : decode cX1_setFilter 31 = .ok (.istore_n 3, 1) := dk_62 (dk_at dksX1_setFilter_1 8 rfl rfl)
theorem dX1_setFilter_32 : decode cX1_setFilter 32 = .ok (.aload_n 0, 1) := dk_42 (dk_at dksX1_setFilter_1 9 rfl rfl)
theorem dX1_setFilter_33 : decode cX1_setFilter 33 = .ok (.iload_n 1, 1) := dk_27 (dk_at dksX1_setFilter_1 10 rfl rfl)
theorem dX1_setFilter_34 : decode cX1_setFilter 34 = .ok (.putfield 16, 3) := dk_181 0 16 (dk_at dksX1_setFilter_1 11 rfl rfl)
theorem dX1_setFilter_37 : decode cX1_setFilter 37 = .ok (.aload_n 0, 1) := dk_42 (dk_at dksX1_setFilter_1 14 rfl rfl)
theorem dX1_setFilter_38 : decode cX1_setFilter 38 = .ok (.iload_n 2, 1) := dk_28 (dk_at dksX1_setFilter_1 15 rfl rfl)
theorem dX1_setFilter_39 : decode cX1_setFilter 39 = .ok (.putfield 22, 3) := dk_181 0 22 (dk_at dksX1_setFilter_1 16 rfl rfl)
theorem dX1_setFilter_42 : decode cX1_setFilter 42 = .ok (.iload_n 3, 1) := dk_29 (dk_at dksX1_setFilter_1 19 rfl rfl)
theorem dX1_setFilter_43 : decode cX1_setFilter 43 = .ok (.ireturn, 1) := dk_172 (dk_at dksX1_setFilter_1 20 rfl rfl)
abbrev cX1_check : ByteArray := prog_1_method_3_code
def yX1_check : MethodName := ⟨RX1, "check", "(III)I"⟩
def dkwX1_check_0 : List UInt8 := [26, 27, 161, 0, 8, 26, 28, 164, 0, 11, 187, 0, 51, 89, 183, 0, 53, 191, 26, 172]
abbrev dktX1_check_0 : List UInt8 := dkwX1_check_0 ++ []
theorem dksX1_check_0 : cX1_check.data.toList.drop 0 = dktX1_check_0 := by decide +kernel
theorem dX1_check_0 : decode cX1_check 0 = .ok (.iload_n 0, 1) := dk_26 (dk_at dksX1_check_0 0 rfl rfl)
theorem dX1_check_1 : decode cX1_check 1 = .ok (.iload_n 1, 1) := dk_27 (dk_at dksX1_check_0 1 rfl rfl)
theorem dX1_check_2 : decode cX1_check 2 = .ok (.if_icmp .lt 8, 3) := dk_161 0 8 (dk_at dksX1_check_0 2 rfl rfl)
theorem dX1_check_5 : decode cX1_check 5 = .ok (.iload_n 0, 1) := dk_26 (dk_at dksX1_check_0 5 rfl rfl)
theorem dX1_check_6 : decode cX1_check 6 = .ok (.iload_n 2, 1) := dk_28 (dk_at dksX1_check_0 6 rfl rfl)
theorem dX1_check_7 : decode cX1_check 7 = .ok (.if_icmp .le 11, 3) := dk_164 0 11 (dk_at dksX1_check_0 7 rfl rfl)
theorem dX1_check_10 : decode cX1_check 10 = .ok (.new 51, 3) := dk_187 0 51 (dk_at dksX1_check_0 10 rfl rfl)
theorem dX1_check_13 : decode cX1_check 13 = .ok (.dup, 1) := dk_89 (dk_at dksX1_check_0 13 rfl rfl)
theorem dX1_check_14 : decode cX1_check 14 = .ok (.invokespecial 53, 3) := dk_183 0 53 (dk_at dksX1_check_0 14 rfl rfl)
theorem dX1_check_17 : decode cX1_check 17 = .ok (.athrow, 1) := dk_191 (dk_at dksX1_check_0 17 rfl rfl)
theorem dX1_check_18 : decode cX1_check 18 = .ok (.iload_n 0, 1) := dk_26 (dk_at dksX1_check_0 18 rfl rfl)
theorem dX1_check_19 : decode cX1_check 19 = .ok (.ireturn, 1) := dk_172 (dk_at dksX1_check_0 19 rfl rfl)
abbrev cX1_setTracks : ByteArray := prog_1_method_9_code
def yX1_setTracks : MethodName := ⟨RX1, "setTracks", "(III)I"⟩
def dkwX1_setTracks_1 : List UInt8 := [180, 0, 25, 54, 4, 42, 27, 181, 0, 25, 42, 28, 181, 0, 28, 42, 29, 181, 0, 32, 21, 4, 172]
abbrev dktX1_setTracks_1 : List UInt8 := dkwX1_setTracks_1 ++ []
def dkwX1_setTracks_0 : List UInt8 := [27, 3, 16, 9, 184, 0, 86, 87, 28, 4, 8, 184, 0, 86, 87, 29, 4, 18, 90, 184, 0, 86, 87, 42]
abbrev dktX1_setTracks_0 : List UInt8 := dkwX1_setTracks_0 ++ dktX1_setTracks_1
theorem dksX1_setTracks_0 : cX1_setTracks.data.toList.drop 0 = dktX1_setTracks_0 := by decide +kernel
theorem dksX1_setTracks_1 : cX1_setTracks.data.toList.drop 24 = dktX1_setTracks_1 := dk_seg dksX1_setTracks_0 24 rfl rfl
theorem dX1_setTracks_0 : decode cX1_setTracks 0 = .ok (.iload_n 1, 1) := dk_27 (dk_at dksX1_setTracks_0 0 rfl rfl)
theorem dX1_setTracks_1 : decode cX1_setTracks 1 = .ok (.iconst 0, 1) := dk_3 (dk_at dksX1_setTracks_0 1 rfl rfl)
theorem dX1_setTracks_2 : decode cX1_setTracks 2 = .ok (.bipush 9, 2) := dk_16 9 (dk_at dksX1_setTracks_0 2 rfl rfl)
theorem dX1_setTracks_4 : decode cX1_setTracks 4 = .ok (.invokestatic 86, 3) := dk_184 0 86 (dk_at dksX1_setTracks_0 4 rfl rfl)
theorem dX1_setTracks_7 : decode cX1_setTracks 7 = .ok (.pop, 1) := dk_87 (dk_at dksX1_setTracks_0 7 rfl rfl)
theorem dX1_setTracks_8 : decode cX1_setTracks 8 = .ok (.iload_n 2, 1) := dk_28 (dk_at dksX1_setTracks_0 8 rfl rfl)
theorem dX1_setTracks_9 : decode cX1_setTracks 9 = .ok (.iconst 1, 1) := dk_4 (dk_at dksX1_setTracks_0 9 rfl rfl)
theorem dX1_setTracks_10 : decode cX1_setTracks 10 = .ok (.iconst 5, 1) := dk_8 (dk_at dksX1_setTracks_0 10 rfl rfl)
theorem dX1_setTracks_11 : decode cX1_setTracks 11 = .ok (.invokestatic 86, 3) := dk_184 0 86 (dk_at dksX1_setTracks_0 11 rfl rfl)
theorem dX1_setTracks_14 : decode cX1_setTracks 14 = .ok (.pop, 1) := dk_87 (dk_at dksX1_setTracks_0 14 rfl rfl)
theorem dX1_setTracks_15 : decode cX1_setTracks 15 = .ok (.iload_n 3, 1) := dk_29 (dk_at dksX1_setTracks_0 15 rfl rfl)
theorem dX1_setTracks_16 : decode cX1_setTracks 16 = .ok (.iconst 1, 1) := dk_4 (dk_at dksX1_setTracks_0 16 rfl rfl)
theorem dX1_setTracks_17 : decode cX1_setTracks 17 = .ok (.ldc 90, 2) := dk_18 90 (dk_at dksX1_setTracks_0 17 rfl rfl)
theorem dX1_setTracks_19 : decode cX1_setTracks 19 = .ok (.invokestatic 86, 3) := dk_184 0 86 (dk_at dksX1_setTracks_0 19 rfl rfl)
theorem dX1_setTracks_22 : decode cX1_setTracks 22 = .ok (.pop, 1) := dk_87 (dk_at dksX1_setTracks_0 22 rfl rfl)
theorem dX1_setTracks_23 : decode cX1_setTracks 23 = .ok (.aload_n 0, 1) := dk_42 (dk_at dksX1_setTracks_0 23 rfl rfl)
theorem dX1_setTracks_24 : decode cX1_setTracks 24 = .ok (.getfield 25, 3) := dk_180 0 25 (dk_at dksX1_setTracks_1 0 rfl rfl)
theorem dX1_setTracks_27 : decode cX1_setTracks 27 = .ok (.istore 4, 2) := dk_54 4 (dk_at dksX1_setTracks_1 3 rfl rfl)
theorem dX1_setTracks_29 : decode cX1_setTracks 29 = .ok (.aload_n 0, 1) := dk_42 (dk_at dksX1_setTracks_1 5 rfl rfl)
theorem dX1_setTracks_30 : decode cX1_setTracks 30 = .ok (.iload_n 1, 1) := dk_27 (dk_at dksX1_setTracks_1 6 rfl rfl)
theorem dX1_setTracks_31 : decode cX1_setTracks 31 = .ok (.putfield 25, 3) := dk_181 0 25 (dk_at dksX1_setTracks_1 7 rfl rfl)
theorem dX1_setTracks_34 : decode cX1_setTracks 34 = .ok (.aload_n 0, 1) := dk_42 (dk_at dksX1_setTracks_1 10 rfl rfl)
theorem dX1_setTracks_35 : decode cX1_setTracks 35 = .ok (.iload_n 2, 1) := dk_28 (dk_at dksX1_setTracks_1 11 rfl rfl)
theorem dX1_setTracks_36 : decode cX1_setTracks 36 = .ok (.putfield 28, 3) := dk_181 0 28 (dk_at dksX1_setTracks_1 12 rfl rfl)
theorem dX1_setTracks_39 : decode cX1_setTracks 39 = .ok (.aload_n 0, 1) := dk_42 (dk_at dksX1_setTracks_1 15 rfl rfl)
theorem dX1_setTracks_40 : decode cX1_setTracks 40 = .ok (.iload_n 3, 1) := dk_29 (dk_at dksX1_setTracks_1 16 rfl rfl)
theorem dX1_setTracks_41 : decode cX1_setTracks 41 = .ok (.putfield 32, 3) := dk_181 0 32 (dk_at dksX1_setTracks_1 17 rfl rfl)
theorem dX1_setTracks_44 : decode cX1_setTracks 44 = .ok (.iload 4, 2) := dk_21 4 (dk_at dksX1_setTracks_1 20 rfl rfl)
theorem dX1_setTracks_46 : decode cX1_setTracks 46 = .ok (.ireturn, 1) := dk_172 (dk_at dksX1_setTracks_1 22 rfl rfl)
abbrev cX1_addSensor : ByteArray := prog_1_method_10_code
def yX1_addSensor : MethodName := ⟨RX1, "addSensor", "(I)I"⟩
def dkwX1_addSensor_2 : List UInt8 := [172]
abbrev dktX1_addSensor_2 : List UInt8 := dkwX1_addSensor_2 ++ []
def dkwX1_addSensor_1 : List UInt8 := [184, 0, 91, 42, 180, 0, 38, 27, 184, 0, 95, 182, 0, 101, 87, 42, 180, 0, 38, 182, 0, 60, 4, 100]
abbrev dktX1_addSensor_1 : List UInt8 := dkwX1_addSensor_1 ++ dktX1_addSensor_2
def dkwX1_addSensor_0 : List UInt8 := [27, 4, 18, 31, 184, 0, 86, 87, 42, 180, 0, 38, 182, 0, 60, 7, 162, 0, 7, 4, 167, 0, 4, 3]
abbrev dktX1_addSensor_0 : List UInt8 := dkwX1_addSensor_0 ++ dktX1_addSensor_1
theorem dksX1_addSensor_0 : cX1_addSensor.data.toList.drop 0 = dktX1_addSensor_0 := by decide +kernel
theorem dksX1_addSensor_1 : cX1_addSensor.data.toList.drop 24 = dktX1_addSensor_1 := dk_seg dksX1_addSensor_0 24 rfl rfl
theorem dksX1_addSensor_2 : cX1_addSensor.data.toList.drop 48 = dktX1_addSensor_2 := dk_seg dksX1_addSensor_1 24 rfl rfl
theorem dX1_addSensor_0 : decode cX1_addSensor 0 = .ok (.iload_n 1, 1) := dk_27 (dk_at dksX1_addSensor_0 0 rfl rfl)
theorem dX1_addSensor_1 : decode cX1_addSensor 1 = .ok (.iconst 1, 1) := dk_4 (dk_at dksX1_addSensor_0 1 rfl rfl)
theorem dX1_addSensor_2 : decode cX1_addSensor 2 = .ok (.ldc 31, 2) := dk_18 31 (dk_at dksX1_addSensor_0 2 rfl rfl)
theorem dX1_addSensor_4 : decode cX1_addSensor 4 = .ok (.invokestatic 86, 3) := dk_184 0 86 (dk_at dksX1_addSensor_0 4 rfl rfl)
theorem dX1_addSensor_7 : decode cX1_addSensor 7 = .ok (.pop, 1) := dk_87 (dk_at dksX1_addSensor_0 7 rfl rfl)
theorem dX1_addSensor_8 : decode cX1_addSensor 8 = .ok (.aload_n 0, 1) := dk_42 (dk_at dksX1_addSensor_0 8 rfl rfl)
theorem dX1_addSensor_9 : decode cX1_addSensor 9 = .ok (.getfield 38, 3) := dk_180 0 38 (dk_at dksX1_addSensor_0 9 rfl rfl)
theorem dX1_addSensor_12 : decode cX1_addSensor 12 = .ok (.invokevirtual 60, 3) := dk_182 0 60 (dk_at dksX1_addSensor_0 12 rfl rfl)
theorem dX1_addSensor_15 : decode cX1_addSensor 15 = .ok (.iconst 4, 1) := dk_7 (dk_at dksX1_addSensor_0 15 rfl rfl)
theorem dX1_addSensor_16 : decode cX1_addSensor 16 = .ok (.if_icmp .ge 7, 3) := dk_162 0 7 (dk_at dksX1_addSensor_0 16 rfl rfl)
theorem dX1_addSensor_19 : decode cX1_addSensor 19 = .ok (.iconst 1, 1) := dk_4 (dk_at dksX1_addSensor_0 19 rfl rfl)
theorem dX1_addSensor_20 : decode cX1_addSensor 20 = .ok (.goto 4, 3) := dk_167 0 4 (dk_at dksX1_addSensor_0 20 rfl rfl)
theorem dX1_addSensor_23 : decode cX1_addSensor 23 = .ok (.iconst 0, 1) := dk_3 (dk_at dksX1_addSensor_0 23 rfl rfl)
theorem dX1_addSensor_24 : decode cX1_addSensor 24 = .ok (.invokestatic 91, 3) := dk_184 0 91 (dk_at dksX1_addSensor_1 0 rfl rfl)
theorem dX1_addSensor_27 : decode cX1_addSensor 27 = .ok (.aload_n 0, 1) := dk_42 (dk_at dksX1_addSensor_1 3 rfl rfl)
theorem dX1_addSensor_28 : decode cX1_addSensor 28 = .ok (.getfield 38, 3) := dk_180 0 38 (dk_at dksX1_addSensor_1 4 rfl rfl)
theorem dX1_addSensor_31 : decode cX1_addSensor 31 = .ok (.iload_n 1, 1) := dk_27 (dk_at dksX1_addSensor_1 7 rfl rfl)
theorem dX1_addSensor_32 : decode cX1_addSensor 32 = .ok (.invokestatic 95, 3) := dk_184 0 95 (dk_at dksX1_addSensor_1 8 rfl rfl)
theorem dX1_addSensor_35 : decode cX1_addSensor 35 = .ok (.invokevirtual 101, 3) := dk_182 0 101 (dk_at dksX1_addSensor_1 11 rfl rfl)
theorem dX1_addSensor_38 : decode cX1_addSensor 38 = .ok (.pop, 1) := dk_87 (dk_at dksX1_addSensor_1 14 rfl rfl)
theorem dX1_addSensor_39 : decode cX1_addSensor 39 = .ok (.aload_n 0, 1) := dk_42 (dk_at dksX1_addSensor_1 15 rfl rfl)
theorem dX1_addSensor_40 : decode cX1_addSensor 40 = .ok (.getfield 38, 3) := dk_180 0 38 (dk_at dksX1_addSensor_1 16 rfl rfl)
theorem dX1_addSensor_43 : decode cX1_addSensor 43 = .ok (.invokevirtual 60, 3) := dk_182 0 60 (dk_at dksX1_addSensor_1 19 rfl rfl)
theorem dX1_addSensor_46 : decode cX1_addSensor 46 = .ok (.iconst 1, 1) := dk_4 (dk_at dksX1_addSensor_1 22 rfl rfl)
theorem dX1_addSensor_47 : decode cX1_addSensor 47 = .ok (.isub, 1) := dk_100 (dk_at dksX1_addSensor_1 23 rfl rfl)
theorem dX1_addSensor_48 : decode cX1_addSensor 48 = .ok (.ireturn, 1) := dk_172 (dk_at dksX1_addSensor_2 0 rfl rfl)
abbrev cX1_require : ByteArray := prog_1_method_5_code
def yX1_require : MethodName := ⟨RX1, "require", "(Z)V"⟩
def dkwX1_require_0 : List UInt8 := [26, 154, 0, 11, 187, 0, 57, 89, 183, 0, 59, 191, 177]
abbrev dktX1_require_0 : List UInt8 := dkwX1_require_0 ++ []
theorem dksX1_require_0 : cX1_require.data.toList.drop 0 = dktX1_require_0 := by decide +kernel
theorem dX1_require_0 : decode cX1_require 0 = .ok (.iload_n 0, 1) := dk_26 (dk_at dksX1_require_0 0 rfl rfl)
theorem dX1_require_1 : decode cX1_require 1 = .ok (.ifCond .ne 11, 3) := dk_154 0 11 (dk_at dksX1_require_0 1 rfl rfl)
theorem dX1_require_4 : decode cX1_require 4 = .ok (.new 57, 3) := dk_187 0 57 (dk_at dksX1_require_0 4 rfl rfl)
theorem dX1_require_7 : decode cX1_require 7 = .ok (.dup, 1) := dk_89 (dk_at dksX1_require_0 7 rfl rfl)
theorem dX1_require_8 : decode cX1_require 8 = .ok (.invokespecial 59, 3) := dk_183 0 59 (dk_at dksX1_require_0 8 rfl rfl)
theorem dX1_require_11 : decode cX1_require 11 = .ok (.athrow, 1) := dk_191 (dk_at dksX1_require_0 11 rfl rfl)
theorem dX1_require_12 : decode cX1_require 12 = .ok (.return_, 1) := dk_177 (dk_at dksX1_require_0 12 rfl rfl)
abbrev cX1_hit : ByteArray := prog_1_method_12_code
def yX1_hit : MethodName := ⟨RX1, "hit", "(II)I"⟩
def dkwX1_hit_3 : List UInt8 := [180, 0, 45, 182, 0, 60, 4, 100, 172]
abbrev dktX1_hit_3 : List UInt8 := dkwX1_hit_3 ++ []
def dkwX1_hit_2 : List UInt8 := [3, 184, 0, 91, 42, 180, 0, 45, 187, 0, 107, 89, 27, 28, 183, 0, 109, 182, 0, 101, 87, 42]
abbrev dktX1_hit_2 : List UInt8 := dkwX1_hit_2 ++ dktX1_hit_3
def dkwX1_hit_1 : List UInt8 := [180, 0, 45, 182, 0, 60, 16, 8, 162, 0, 16, 42, 180, 0, 74, 16, 64, 162, 0, 7, 4, 167, 0, 4]
abbrev dktX1_hit_1 : List UInt8 := dkwX1_hit_1 ++ dktX1_hit_2
def dkwX1_hit_0 : List UInt8 := [27, 42, 180, 0, 38, 182, 0, 60, 184, 0, 64, 87, 28, 18, 105, 18, 106, 184, 0, 86, 87, 42]
abbrev dktX1_hit_0 : List UInt8 := dkwX1_hit_0 ++ dktX1_hit_1
theorem dksX1_hit_0 : cX1_hit.data.toList.drop 0 = dktX1_hit_0 := by decide +kernel
theorem dksX1_hit_1 : cX1_hit.data.toList.drop 22 = dktX1_hit_1 := dk_seg dksX1_hit_0 22 rfl rfl
theorem dksX1_hit_2 : cX1_hit.data.toList.drop 46 = dktX1_hit_2 := dk_seg dksX1_hit_1 24 rfl rfl
theorem dksX1_hit_3 : cX1_hit.data.toList.drop 68 = dktX1_hit_3 := dk_seg dksX1_hit_2 22 rfl rfl
theorem dX1_hit_0 : decode cX1_hit 0 = .ok (.iload_n 1, 1) := dk_27 (dk_at dksX1_hit_0 0 rfl rfl)
theorem dX1_hit_1 : decode cX1_hit 1 = .ok (.aload_n 0, 1) := dk_42 (dk_at dksX1_hit_0 1 rfl rfl)
theorem dX1_hit_2 : decode cX1_hit 2 = .ok (.getfield 38, 3) := dk_180 0 38 (dk_at dksX1_hit_0 2 rfl rfl)
theorem dX1_hit_5 : decode cX1_hit 5 = .ok (.invokevirtual 60, 3) := dk_182 0 60 (dk_at dksX1_hit_0 5 rfl rfl)
theorem dX1_hit_8 : decode cX1_hit 8 = .ok (.invokestatic 64, 3) := dk_184 0 64 (dk_at dksX1_hit_0 8 rfl rfl)
theorem dX1_hit_11 : decode cX1_hit 11 = .ok (.pop, 1) := dk_87 (dk_at dksX1_hit_0 11 rfl rfl)
theorem dX1_hit_12 : decode cX1_hit 12 = .ok (.iload_n 2, 1) := dk_28 (dk_at dksX1_hit_0 12 rfl rfl)
theorem dX1_hit_13 : decode cX1_hit 13 = .ok (.ldc 105, 2) := dk_18 105 (dk_at dksX1_hit_0 13 rfl rfl)
theorem dX1_hit_15 : decode cX1_hit 15 = .ok (.ldc 106, 2) := dk_18 106 (dk_at dksX1_hit_0 15 rfl rfl)
theorem dX1_hit_17 : decode cX1_hit 17 = .ok (.invokestatic 86, 3) := dk_184 0 86 (dk_at dksX1_hit_0 17 rfl rfl)
theorem dX1_hit_20 : decode cX1_hit 20 = .ok (.pop, 1) := dk_87 (dk_at dksX1_hit_0 20 rfl rfl)
theorem dX1_hit_21 : decode cX1_hit 21 = .ok (.aload_n 0, 1) := dk_42 (dk_at dksX1_hit_0 21 rfl rfl)
theorem dX1_hit_22 : decode cX1_hit 22 = .ok (.getfield 45, 3) := dk_180 0 45 (dk_at dksX1_hit_1 0 rfl rfl)
theorem dX1_hit_25 : decode cX1_hit 25 = .ok (.invokevirtual 60, 3) := dk_182 0 60 (dk_at dksX1_hit_1 3 rfl rfl)
theorem dX1_hit_28 : decode cX1_hit 28 = .ok (.bipush 8, 2) := dk_16 8 (dk_at dksX1_hit_1 6 rfl rfl)
theorem dX1_hit_30 : decode cX1_hit 30 = .ok (.if_icmp .ge 16, 3) := dk_162 0 16 (dk_at dksX1_hit_1 8 rfl rfl)
theorem dX1_hit_33 : decode cX1_hit 33 = .ok (.aload_n 0, 1) := dk_42 (dk_at dksX1_hit_1 11 rfl rfl)
theorem dX1_hit_34 : decode cX1_hit 34 = .ok (.getfield 74, 3) := dk_180 0 74 (dk_at dksX1_hit_1 12 rfl rfl)
theorem dX1_hit_37 : decode cX1_hit 37 = .ok (.bipush 64, 2) := dk_16 64 (dk_at dksX1_hit_1 15 rfl rfl)
theorem dX1_hit_39 : decode cX1_hit 39 = .ok (.if_icmp .ge 7, 3) := dk_162 0 7 (dk_at dksX1_hit_1 17 rfl rfl)
theorem dX1_hit_42 : decode cX1_hit 42 = .ok (.iconst 1, 1) := dk_4 (dk_at dksX1_hit_1 20 rfl rfl)
theorem dX1_hit_43 : decode cX1_hit 43 = .ok (.goto 4, 3) := dk_167 0 4 (dk_at dksX1_hit_1 21 rfl rfl)
theorem dX1_hit_46 : decode cX1_hit 46 = .ok (.iconst 0, 1) := dk_3 (dk_at dksX1_hit_2 0 rfl rfl)
theorem dX1_hit_47 : decode cX1_hit 47 = .ok (.invokestatic 91, 3) := dk_184 0 91 (dk_at dksX1_hit_2 1 rfl rfl)
theorem dX1_hit_50 : decode cX1_hit 50 = .ok (.aload_n 0, 1) := dk_42 (dk_at dksX1_hit_2 4 rfl rfl)
theorem dX1_hit_51 : decode cX1_hit 51 = .ok (.getfield 45, 3) := dk_180 0 45 (dk_at dksX1_hit_2 5 rfl rfl)
theorem dX1_hit_54 : decode cX1_hit 54 = .ok (.new 107, 3) := dk_187 0 107 (dk_at dksX1_hit_2 8 rfl rfl)
theorem dX1_hit_57 : decode cX1_hit 57 = .ok (.dup, 1) := dk_89 (dk_at dksX1_hit_2 11 rfl rfl)
theorem dX1_hit_58 : decode cX1_hit 58 = .ok (.iload_n 1, 1) := dk_27 (dk_at dksX1_hit_2 12 rfl rfl)
theorem dX1_hit_59 : decode cX1_hit 59 = .ok (.iload_n 2, 1) := dk_28 (dk_at dksX1_hit_2 13 rfl rfl)
theorem dX1_hit_60 : decode cX1_hit 60 = .ok (.invokespecial 109, 3) := dk_183 0 109 (dk_at dksX1_hit_2 14 rfl rfl)
theorem dX1_hit_63 : decode cX1_hit 63 = .ok (.invokevirtual 101, 3) := dk_182 0 101 (dk_at dksX1_hit_2 17 rfl rfl)
theorem dX1_hit_66 : decode cX1_hit 66 = .ok (.pop, 1) := dk_87 (dk_at dksX1_hit_2 20 rfl rfl)
theorem dX1_hit_67 : decode cX1_hit 67 = .ok (.aload_n 0, 1) := dk_42 (dk_at dksX1_hit_2 21 rfl rfl)
theorem dX1_hit_68 : decode cX1_hit 68 = .ok (.getfield 45, 3) := dk_180 0 45 (dk_at dksX1_hit_3 0 rfl rfl)
theorem dX1_hit_71 : decode cX1_hit 71 = .ok (.invokevirtual 60, 3) := dk_182 0 60 (dk_at dksX1_hit_3 3 rfl rfl)
theorem dX1_hit_74 : decode cX1_hit 74 = .ok (.iconst 1, 1) := dk_4 (dk_at dksX1_hit_3 6 rfl rfl)
theorem dX1_hit_75 : decode cX1_hit 75 = .ok (.isub, 1) := dk_100 (dk_at dksX1_hit_3 7 rfl rfl)
theorem dX1_hit_76 : decode cX1_hit 76 = .ok (.ireturn, 1) := dk_172 (dk_at dksX1_hit_3 8 rfl rfl)
abbrev cX1_checkIndex : ByteArray := prog_1_method_4_code
def yX1_checkIndex : MethodName := ⟨RX1, "checkIndex", "(II)I"⟩
def dkwX1_checkIndex_0 : List UInt8 := [26, 155, 0, 8, 26, 27, 161, 0, 11, 187, 0, 54, 89, 183, 0, 56, 191, 26, 172]
abbrev dktX1_checkIndex_0 : List UInt8 := dkwX1_checkIndex_0 ++ []
theorem dksX1_checkIndex_0 : cX1_checkIndex.data.toList.drop 0 = dktX1_checkIndex_0 := by decide +kernel
theorem dX1_checkIndex_0 : decode cX1_checkIndex 0 = .ok (.iload_n 0, 1) := dk_26 (dk_at dksX1_checkIndex_0 0 rfl rfl)
theorem dX1_checkIndex_1 : decode cX1_checkIndex 1 = .ok (.ifCond .lt 8, 3) := dk_155 0 8 (dk_at dksX1_checkIndex_0 1 rfl rfl)
theorem dX1_checkIndex_4 : decode cX1_checkIndex 4 = .ok (.iload_n 0, 1) := dk_26 (dk_at dksX1_checkIndex_0 4 rfl rfl)
theorem dX1_checkIndex_5 : decode cX1_checkIndex 5 = .ok (.iload_n 1, 1) := dk_27 (dk_at dksX1_checkIndex_0 5 rfl rfl)
theorem dX1_checkIndex_6 : decode cX1_checkIndex 6 = .ok (.if_icmp .lt 11, 3) := dk_161 0 11 (dk_at dksX1_checkIndex_0 6 rfl rfl)
theorem dX1_checkIndex_9 : decode cX1_checkIndex 9 = .ok (.new 54, 3) := dk_187 0 54 (dk_at dksX1_checkIndex_0 9 rfl rfl)
theorem dX1_checkIndex_12 : decode cX1_checkIndex 12 = .ok (.dup, 1) := dk_89 (dk_at dksX1_checkIndex_0 12 rfl rfl)
theorem dX1_checkIndex_13 : decode cX1_checkIndex 13 = .ok (.invokespecial 56, 3) := dk_183 0 56 (dk_at dksX1_checkIndex_0 13 rfl rfl)
theorem dX1_checkIndex_16 : decode cX1_checkIndex 16 = .ok (.athrow, 1) := dk_191 (dk_at dksX1_checkIndex_0 16 rfl rfl)
theorem dX1_checkIndex_17 : decode cX1_checkIndex 17 = .ok (.iload_n 0, 1) := dk_26 (dk_at dksX1_checkIndex_0 17 rfl rfl)
theorem dX1_checkIndex_18 : decode cX1_checkIndex 18 = .ok (.ireturn, 1) := dk_172 (dk_at dksX1_checkIndex_0 18 rfl rfl)
abbrev cX1_beat : ByteArray := prog_1_method_21_code
def yX1_beat : MethodName := ⟨RX1, "beat", "()I"⟩
def dkwX1_beat_0 : List UInt8 := [42, 180, 0, 74, 16, 64, 162, 0, 7, 4, 167, 0, 4, 3, 184, 0, 91, 42, 182, 0, 237, 172]
abbrev dktX1_beat_0 : List UInt8 := dkwX1_beat_0 ++ []
theorem dksX1_beat_0 : cX1_beat.data.toList.drop 0 = dktX1_beat_0 := by decide +kernel
theorem dX1_beat_0 : decode cX1_beat 0 = .ok (.aload_n 0, 1) := dk_42 (dk_at dksX1_beat_0 0 rfl rfl)
theorem dX1_beat_1 : decode cX1_beat 1 = .ok (.getfield 74, 3) := dk_180 0 74 (dk_at dksX1_beat_0 1 rfl rfl)
theorem dX1_beat_4 : decode cX1_beat 4 = .ok (.bipush 64, 2) := dk_16 64 (dk_at dksX1_beat_0 4 rfl rfl)
theorem dX1_beat_6 : decode cX1_beat 6 = .ok (.if_icmp .ge 7, 3) := dk_162 0 7 (dk_at dksX1_beat_0 6 rfl rfl)
theorem dX1_beat_9 : decode cX1_beat 9 = .ok (.iconst 1, 1) := dk_4 (dk_at dksX1_beat_0 9 rfl rfl)
theorem dX1_beat_10 : decode cX1_beat 10 = .ok (.goto 4, 3) := dk_167 0 4 (dk_at dksX1_beat_0 10 rfl rfl)
theorem dX1_beat_13 : decode cX1_beat 13 = .ok (.iconst 0, 1) := dk_3 (dk_at dksX1_beat_0 13 rfl rfl)
theorem dX1_beat_14 : decode cX1_beat 14 = .ok (.invokestatic 91, 3) := dk_184 0 91 (dk_at dksX1_beat_0 14 rfl rfl)
theorem dX1_beat_17 : decode cX1_beat 17 = .ok (.aload_n 0, 1) := dk_42 (dk_at dksX1_beat_0 17 rfl rfl)
theorem dX1_beat_18 : decode cX1_beat 18 = .ok (.invokevirtual 237, 3) := dk_182 0 237 (dk_at dksX1_beat_0 18 rfl rfl)
theorem dX1_beat_21 : decode cX1_beat 21 = .ok (.ireturn, 1) := dk_172 (dk_at dksX1_beat_0 21 rfl rfl)
abbrev cX1_doBeat : ByteArray := prog_1_method_20_code
def yX1_doBeat : MethodName := ⟨RX1, "doBeat", "()I"⟩
def dkwX1_doBeat_12 : List UInt8 := [183, 0, 37, 181, 0, 45, 42, 89, 180, 0, 74, 4, 96, 181, 0, 74, 45, 182, 0, 60, 172]
abbrev dktX1_doBeat_12 : List UInt8 := dkwX1_doBeat_12 ++ []
def dkwX1_doBeat_11 : List UInt8 := [180, 0, 45, 182, 0, 60, 96, 181, 0, 80, 42, 42, 180, 0, 45, 181, 0, 48, 42, 187, 0, 35, 89]
abbrev dktX1_doBeat_11 : List UInt8 := dkwX1_doBeat_11 ++ dktX1_doBeat_12
def dkwX1_doBeat_10 : List UInt8 := [161, 0, 7, 4, 167, 0, 4, 3, 128, 181, 0, 234, 132, 4, 1, 167, 255, 177, 42, 89, 180, 0, 80, 42]
abbrev dktX1_doBeat_10 : List UInt8 := dkwX1_doBeat_10 ++ dktX1_doBeat_11
def dkwX1_doBeat_9 : List UInt8 := [21, 4, 182, 0, 68, 192, 0, 96, 182, 0, 126, 182, 0, 68, 192, 0, 72, 180, 0, 206, 42, 180, 0, 28]
abbrev dktX1_doBeat_9 : List UInt8 := dkwX1_doBeat_9 ++ dktX1_doBeat_10
def dkwX1_doBeat_8 : List UInt8 := [182, 0, 68, 192, 0, 96, 182, 0, 126, 182, 0, 68, 192, 0, 72, 89, 180, 0, 234, 42, 180, 0, 42, 45]
abbrev dktX1_doBeat_8 : List UInt8 := dkwX1_doBeat_8 ++ dktX1_doBeat_9
def dkwX1_doBeat_7 : List UInt8 := [42, 182, 0, 191, 78, 3, 54, 4, 21, 4, 45, 182, 0, 60, 162, 0, 76, 42, 180, 0, 42, 45, 21, 4]
abbrev dktX1_doBeat_7 : List UInt8 := dkwX1_doBeat_7 ++ dktX1_doBeat_8
def dkwX1_doBeat_6 : List UInt8 := [182, 0, 68, 192, 0, 72, 44, 43, 29, 182, 0, 68, 182, 0, 227, 182, 0, 230, 132, 3, 1, 167, 255, 211]
abbrev dktX1_doBeat_6 : List UInt8 := dkwX1_doBeat_6 ++ dktX1_doBeat_7
def dkwX1_doBeat_5 : List UInt8 := [182, 0, 60, 162, 0, 43, 42, 42, 180, 0, 42, 43, 29, 182, 0, 68, 192, 0, 96, 182, 0, 126]
abbrev dktX1_doBeat_5 : List UInt8 := dkwX1_doBeat_5 ++ dktX1_doBeat_6
def dkwX1_doBeat_4 : List UInt8 := [162, 0, 16, 42, 29, 43, 44, 182, 0, 220, 132, 3, 1, 167, 255, 235, 42, 182, 0, 224, 3, 62, 29, 43]
abbrev dktX1_doBeat_4 : List UInt8 := dkwX1_doBeat_4 ++ dktX1_doBeat_5
def dkwX1_doBeat_3 : List UInt8 := [180, 0, 116, 182, 0, 101, 87, 132, 3, 1, 167, 255, 191, 3, 62, 29, 42, 180, 0, 38, 182, 0, 60]
abbrev dktX1_doBeat_3 : List UInt8 := dkwX1_doBeat_3 ++ dktX1_doBeat_4
def dkwX1_doBeat_2 : List UInt8 := [25, 4, 180, 0, 116, 42, 180, 0, 16, 182, 0, 213, 181, 0, 116, 25, 4, 180, 0, 217, 25, 4]
abbrev dktX1_doBeat_2 : List UInt8 := dkwX1_doBeat_2 ++ dktX1_doBeat_3
def dkwX1_doBeat_1 : List UInt8 := [180, 0, 42, 43, 29, 182, 0, 68, 192, 0, 96, 182, 0, 126, 182, 0, 68, 192, 0, 72, 58, 4, 25, 4]
abbrev dktX1_doBeat_1 : List UInt8 := dkwX1_doBeat_1 ++ dktX1_doBeat_2
def dkwX1_doBeat_0 : List UInt8 := [42, 182, 0, 191, 76, 187, 0, 189, 89, 183, 0, 212, 77, 3, 62, 29, 43, 182, 0, 60, 162, 0, 63, 42]
abbrev dktX1_doBeat_0 : List UInt8 := dkwX1_doBeat_0 ++ dktX1_doBeat_1
theorem dksX1_doBeat_0 : cX1_doBeat.data.toList.drop 0 = dktX1_doBeat_0 := by decide +kernel
theorem dksX1_doBeat_1 : cX1_doBeat.data.toList.drop 24 = dktX1_doBeat_1 := dk_seg dksX1_doBeat_0 24 rfl rfl
theorem dksX1_doBeat_2 : cX1_doBeat.data.toList.drop 48 = dktX1_doBeat_2 := dk_seg dksX1_doBeat_1 24 rfl rfl
theorem dksX1_doBeat_3 : cX1_doBeat.data.toList.drop 70 = dktX1_doBeat_3 := dk_seg dksX1_doBeat_2 22 rfl rfl
theorem dksX1_doBeat_4 : cX1_doBeat.data.toList.drop 93 = dktX1_doBeat_4 := dk_seg dksX1_doBeat_3 23 rfl rfl
theorem dksX1_doBeat_5 : cX1_doBeat.data.toList.drop 117 = dktX1_doBeat_5 := dk_seg dksX1_doBeat_4 24 rfl rfl
theorem dksX1_doBeat_6 : cX1_doBeat.data.toList.drop 139 = dktX1_doBeat_6 := dk_seg dksX1_doBeat_5 22 rfl rfl
theorem dksX1_doBeat_7 : cX1_doBeat.data.toList.drop 163 = dktX1_doBeat_7 := dk_seg dksX1_doBeat_6 24 rfl rfl
theorem dksX1_doBeat_8 : cX1_doBeat.data.toList.drop 187 = dktX1_doBeat_8 := dk_seg dksX1_doBeat_7 24 rfl rfl
theorem dksX1_doBeat_9 : cX1_doBeat.data.toList.drop 211 = dktX1_doBeat_9 := dk_seg dksX1_doBeat_8 24 rfl rfl
theorem dksX1_doBeat_10 : cX1_doBeat.data.toList.drop 235 = dktX1_doBeat_10 := dk_seg dksX1_doBeat_9 24 rfl rfl
theorem dksX1_doBeat_11 : cX1_doBeat.data.toList.drop 259 = dktX1_doBeat_11 := dk_seg dksX1_doBeat_10 24 rfl rfl
theorem dksX1_doBeat_12 : cX1_doBeat.data.toList.drop 282 = dktX1_doBeat_12 := dk_seg dksX1_doBeat_11 23 rfl rfl
theorem dX1_doBeat_0 : decode cX1_doBeat 0 = .ok (.aload_n 0, 1) := dk_42 (dk_at dksX1_doBeat_0 0 rfl rfl)
theorem dX1_doBeat_1 : decode cX1_doBeat 1 = .ok (.invokevirtual 191, 3) := dk_182 0 191 (dk_at dksX1_doBeat_0 1 rfl rfl)
theorem dX1_doBeat_4 : decode cX1_doBeat 4 = .ok (.astore_n 1, 1) := dk_76 (dk_at dksX1_doBeat_0 4 rfl rfl)
theorem dX1_doBeat_5 : decode cX1_doBeat 5 = .ok (.new 189, 3) := dk_187 0 189 (dk_at dksX1_doBeat_0 5 rfl rfl)
theorem dX1_doBeat_8 : decode cX1_doBeat 8 = .ok (.dup, 1) := dk_89 (dk_at dksX1_doBeat_0 8 rfl rfl)
theorem dX1_doBeat_9 : decode cX1_doBeat 9 = .ok (.invokespecial 212, 3) := dk_183 0 212 (dk_at dksX1_doBeat_0 9 rfl rfl)
theorem dX1_doBeat_12 : decode cX1_doBeat 12 = .ok (.astore_n 2, 1) := dk_77 (dk_at dksX1_doBeat_0 12 rfl rfl)
theorem dX1_doBeat_13 : decode cX1_doBeat 13 = .ok (.iconst 0, 1) := dk_3 (dk_at dksX1_doBeat_0 13 rfl rfl)
theorem dX1_doBeat_14 : decode cX1_doBeat 14 = .ok (.istore_n 3, 1) := dk_62 (dk_at dksX1_doBeat_0 14 rfl rfl)
theorem dX1_doBeat_15 : decode cX1_doBeat 15 = .ok (.iload_n 3, 1) := dk_29 (dk_at dksX1_doBeat_0 15 rfl rfl)
theorem dX1_doBeat_16 : decode cX1_doBeat 16 = .ok (.aload_n 1, 1) := dk_43 (dk_at dksX1_doBeat_0 16 rfl rfl)
theorem dX1_doBeat_17 : decode cX1_doBeat 17 = .ok (.invokevirtual 60, 3) := dk_182 0 60 (dk_at dksX1_doBeat_0 17 rfl rfl)
theorem dX1_doBeat_20 : decode cX1_doBeat 20 = .ok (.if_icmp .ge 63, 3) := dk_162 0 63 (dk_at dksX1_doBeat_0 20 rfl rfl)
theorem dX1_doBeat_23 : decode cX1_doBeat 23 = .ok (.aload_n 0, 1) := dk_42 (dk_at dksX1_doBeat_0 23 rfl rfl)
theorem dX1_doBeat_24 : decode cX1_doBeat 24 = .ok (.getfield 42, 3) := dk_180 0 42 (dk_at dksX1_doBeat_1 0 rfl rfl)
theorem dX1_doBeat_27 : decode cX1_doBeat 27 = .ok (.aload_n 1, 1) := dk_43 (dk_at dksX1_doBeat_1 3 rfl rfl)
theorem dX1_doBeat_28 : decode cX1_doBeat 28 = .ok (.iload_n 3, 1) := dk_29 (dk_at dksX1_doBeat_1 4 rfl rfl)
theorem dX1_doBeat_29 : decode cX1_doBeat 29 = .ok (.invokevirtual 68, 3) := dk_182 0 68 (dk_at dksX1_doBeat_1 5 rfl rfl)
theorem dX1_doBeat_32 : decode cX1_doBeat 32 = .ok (.checkcast 96, 3) := dk_192 0 96 (dk_at dksX1_doBeat_1 8 rfl rfl)
theorem dX1_doBeat_35 : decode cX1_doBeat 35 = .ok (.invokevirtual 126, 3) := dk_182 0 126 (dk_at dksX1_doBeat_1 11 rfl rfl)
theorem dX1_doBeat_38 : decode cX1_doBeat 38 = .ok (.invokevirtual 68, 3) := dk_182 0 68 (dk_at dksX1_doBeat_1 14 rfl rfl)
theorem dX1_doBeat_41 : decode cX1_doBeat 41 = .ok (.checkcast 72, 3) := dk_192 0 72 (dk_at dksX1_doBeat_1 17 rfl rfl)
theorem dX1_doBeat_44 : decode cX1_doBeat 44 = .ok (.astore 4, 2) := dk_58 4 (dk_at dksX1_doBeat_1 20 rfl rfl)
theorem dX1_doBeat_46 : decode cX1_doBeat 46 = .ok (.aload 4, 2) := dk_25 4 (dk_at dksX1_doBeat_1 22 rfl rfl)
theorem dX1_doBeat_48 : decode cX1_doBeat 48 = .ok (.aload 4, 2) := dk_25 4 (dk_at dksX1_doBeat_2 0 rfl rfl)
theorem dX1_doBeat_50 : decode cX1_doBeat 50 = .ok (.getfield 116, 3) := dk_180 0 116 (dk_at dksX1_doBeat_2 2 rfl rfl)
theorem dX1_doBeat_53 : decode cX1_doBeat 53 = .ok (.aload_n 0, 1) := dk_42 (dk_at dksX1_doBeat_2 5 rfl rfl)
theorem dX1_doBeat_54 : decode cX1_doBeat 54 = .ok (.getfield 16, 3) := dk_180 0 16 (dk_at dksX1_doBeat_2 6 rfl rfl)
theorem dX1_doBeat_57 : decode cX1_doBeat 57 = .ok (.invokevirtual 213, 3) := dk_182 0 213 (dk_at dksX1_doBeat_2 9 rfl rfl)
theorem dX1_doBeat_60 : decode cX1_doBeat 60 = .ok (.putfield 116, 3) := dk_181 0 116 (dk_at dksX1_doBeat_2 12 rfl rfl)
theorem dX1_doBeat_63 : decode cX1_doBeat 63 = .ok (.aload 4, 2) := dk_25 4 (dk_at dksX1_doBeat_2 15 rfl rfl)
theorem dX1_doBeat_65 : decode cX1_doBeat 65 = .ok (.getfield 217, 3) := dk_180 0 217 (dk_at dksX1_doBeat_2 17 rfl rfl)
theorem dX1_doBeat_68 : decode cX1_doBeat 68 = .ok (.aload 4, 2) := dk_25 4 (dk_at dksX1_doBeat_2 20 rfl rfl)
theorem dX1_doBeat_70 : decode cX1_doBeat 70 = .ok (.getfield 116, 3) := dk_180 0 116 (dk_at dksX1_doBeat_3 0 rfl rfl)
theorem dX1_doBeat_73 : decode cX1_doBeat 73 = .ok (.invokevirtual 101, 3) := dk_182 0 101 (dk_at dksX1_doBeat_3 3 rfl rfl)
theorem dX1_doBeat_76 : decode cX1_doBeat 76 = .ok (.pop, 1) := dk_87 (dk_at dksX1_doBeat_3 6 rfl rfl)
theorem dX1_doBeat_77 : decode cX1_doBeat 77 = .ok (.iinc 3 1, 3) := dk_132 3 1 (dk_at dksX1_doBeat_3 7 rfl rfl)
theorem dX1_doBeat_80 : decode cX1_doBeat 80 = .ok (.goto (-65), 3) := dk_167 255 191 (dk_at dksX1_doBeat_3 10 rfl rfl)
theorem dX1_doBeat_83 : decode cX1_doBeat 83 = .ok (.iconst 0, 1) := dk_3 (dk_at dksX1_doBeat_3 13 rfl rfl)
theorem dX1_doBeat_84 : decode cX1_doBeat 84 = .ok (.istore_n 3, 1) := dk_62 (dk_at dksX1_doBeat_3 14 rfl rfl)
theorem dX1_doBeat_85 : decode cX1_doBeat 85 = .ok (.iload_n 3, 1) := dk_29 (dk_at dksX1_doBeat_3 15 rfl rfl)
theorem dX1_doBeat_86 : decode cX1_doBeat 86 = .ok (.aload_n 0, 1) := dk_42 (dk_at dksX1_doBeat_3 16 rfl rfl)
theorem dX1_doBeat_87 : decode cX1_doBeat 87 = .ok (.getfield 38, 3) := dk_180 0 38 (dk_at dksX1_doBeat_3 17 rfl rfl)
theorem dX1_doBeat_90 : decode cX1_doBeat 90 = .ok (.invokevirtual 60, 3) := dk_182 0 60 (dk_at dksX1_doBeat_3 20 rfl rfl)
theorem dX1_doBeat_93 : decode cX1_doBeat 93 = .ok (.if_icmp .ge 16, 3) := dk_162 0 16 (dk_at dksX1_doBeat_4 0 rfl rfl)
theorem dX1_doBeat_96 : decode cX1_doBeat 96 = .ok (.aload_n 0, 1) := dk_42 (dk_at dksX1_doBeat_4 3 rfl rfl)
theorem dX1_doBeat_97 : decode cX1_doBeat 97 = .ok (.iload_n 3, 1) := dk_29 (dk_at dksX1_doBeat_4 4 rfl rfl)
theorem dX1_doBeat_98 : decode cX1_doBeat 98 = .ok (.aload_n 1, 1) := dk_43 (dk_at dksX1_doBeat_4 5 rfl rfl)
theorem dX1_doBeat_99 : decode cX1_doBeat 99 = .ok (.aload_n 2, 1) := dk_44 (dk_at dksX1_doBeat_4 6 rfl rfl)
theorem dX1_doBeat_100 : decode cX1_doBeat 100 = .ok (.invokevirtual 220, 3) := dk_182 0 220 (dk_at dksX1_doBeat_4 7 rfl rfl)
theorem dX1_doBeat_103 : decode cX1_doBeat 103 = .ok (.iinc 3 1, 3) := dk_132 3 1 (dk_at dksX1_doBeat_4 10 rfl rfl)
theorem dX1_doBeat_106 : decode cX1_doBeat 106 = .ok (.goto (-21), 3) := dk_167 255 235 (dk_at dksX1_doBeat_4 13 rfl rfl)
theorem dX1_doBeat_109 : decode cX1_doBeat 109 = .ok (.aload_n 0, 1) := dk_42 (dk_at dksX1_doBeat_4 16 rfl rfl)
theorem dX1_doBeat_110 : decode cX1_doBeat 110 = .ok (.invokevirtual 224, 3) := dk_182 0 224 (dk_at dksX1_doBeat_4 17 rfl rfl)
theorem dX1_doBeat_113 : decode cX1_doBeat 113 = .ok (.iconst 0, 1) := dk_3 (dk_at dksX1_doBeat_4 20 rfl rfl)
theorem dX1_doBeat_114 : decode cX1_doBeat 114 = .ok (.istore_n 3, 1) := dk_62 (dk_at dksX1_doBeat_4 21 rfl rfl)
theorem dX1_doBeat_115 : decode cX1_doBeat 115 = .ok (.iload_n 3, 1) := dk_29 (dk_at dksX1_doBeat_4 22 rfl rfl)
theorem dX1_doBeat_116 : decode cX1_doBeat 116 = .ok (.aload_n 1, 1) := dk_43 (dk_at dksX1_doBeat_4 23 rfl rfl)
theorem dX1_doBeat_117 : decode cX1_doBeat 117 = .ok (.invokevirtual 60, 3) := dk_182 0 60 (dk_at dksX1_doBeat_5 0 rfl rfl)
theorem dX1_doBeat_120 : decode cX1_doBeat 120 = .ok (.if_icmp .ge 43, 3) := dk_162 0 43 (dk_at dksX1_doBeat_5 3 rfl rfl)
theorem dX1_doBeat_123 : decode cX1_doBeat 123 = .ok (.aload_n 0, 1) := dk_42 (dk_at dksX1_doBeat_5 6 rfl rfl)
theorem dX1_doBeat_124 : decode cX1_doBeat 124 = .ok (.aload_n 0, 1) := dk_42 (dk_at dksX1_doBeat_5 7 rfl rfl)
theorem dX1_doBeat_125 : decode cX1_doBeat 125 = .ok (.getfield 42, 3) := dk_180 0 42 (dk_at dksX1_doBeat_5 8 rfl rfl)
theorem dX1_doBeat_128 : decode cX1_doBeat 128 = .ok (.aload_n 1, 1) := dk_43 (dk_at dksX1_doBeat_5 11 rfl rfl)
theorem dX1_doBeat_129 : decode cX1_doBeat 129 = .ok (.iload_n 3, 1) := dk_29 (dk_at dksX1_doBeat_5 12 rfl rfl)
theorem dX1_doBeat_130 : decode cX1_doBeat 130 = .ok (.invokevirtual 68, 3) := dk_182 0 68 (dk_at dksX1_doBeat_5 13 rfl rfl)
theorem dX1_doBeat_133 : decode cX1_doBeat 133 = .ok (.checkcast 96, 3) := dk_192 0 96 (dk_at dksX1_doBeat_5 16 rfl rfl)
theorem dX1_doBeat_136 : decode cX1_doBeat 136 = .ok (.invokevirtual 126, 3) := dk_182 0 126 (dk_at dksX1_doBeat_5 19 rfl rfl)
theorem dX1_doBeat_139 : decode cX1_doBeat 139 = .ok (.invokevirtual 68, 3) := dk_182 0 68 (dk_at dksX1_doBeat_6 0 rfl rfl)
theorem dX1_doBeat_142 : decode cX1_doBeat 142 = .ok (.checkcast 72, 3) := dk_192 0 72 (dk_at dksX1_doBeat_6 3 rfl rfl)
theorem dX1_doBeat_145 : decode cX1_doBeat 145 = .ok (.aload_n 2, 1) := dk_44 (dk_at dksX1_doBeat_6 6 rfl rfl)
theorem dX1_doBeat_146 : decode cX1_doBeat 146 = .ok (.aload_n 1, 1) := dk_43 (dk_at dksX1_doBeat_6 7 rfl rfl)
theorem dX1_doBeat_147 : decode cX1_doBeat 147 = .ok (.iload_n 3, 1) := dk_29 (dk_at dksX1_doBeat_6 8 rfl rfl)
theorem dX1_doBeat_148 : decode cX1_doBeat 148 = .ok (.invokevirtual 68, 3) := dk_182 0 68 (dk_at dksX1_doBeat_6 9 rfl rfl)
theorem dX1_doBeat_151 : decode cX1_doBeat 151 = .ok (.invokevirtual 227, 3) := dk_182 0 227 (dk_at dksX1_doBeat_6 12 rfl rfl)
theorem dX1_doBeat_154 : decode cX1_doBeat 154 = .ok (.invokevirtual 230, 3) := dk_182 0 230 (dk_at dksX1_doBeat_6 15 rfl rfl)
theorem dX1_doBeat_157 : decode cX1_doBeat 157 = .ok (.iinc 3 1, 3) := dk_132 3 1 (dk_at dksX1_doBeat_6 18 rfl rfl)
theorem dX1_doBeat_160 : decode cX1_doBeat 160 = .ok (.goto (-45), 3) := dk_167 255 211 (dk_at dksX1_doBeat_6 21 rfl rfl)
theorem dX1_doBeat_163 : decode cX1_doBeat 163 = .ok (.aload_n 0, 1) := dk_42 (dk_at dksX1_doBeat_7 0 rfl rfl)
theorem dX1_doBeat_164 : decode cX1_doBeat 164 = .ok (.invokevirtual 191, 3) := dk_182 0 191 (dk_at dksX1_doBeat_7 1 rfl rfl)
theorem dX1_doBeat_167 : decode cX1_doBeat 167 = .ok (.astore_n 3, 1) := dk_78 (dk_at dksX1_doBeat_7 4 rfl rfl)
theorem dX1_doBeat_168 : decode cX1_doBeat 168 = .ok (.iconst 0, 1) := dk_3 (dk_at dksX1_doBeat_7 5 rfl rfl)
theorem dX1_doBeat_169 : decode cX1_doBeat 169 = .ok (.istore 4, 2) := dk_54 4 (dk_at dksX1_doBeat_7 6 rfl rfl)
theorem dX1_doBeat_171 : decode cX1_doBeat 171 = .ok (.iload 4, 2) := dk_21 4 (dk_at dksX1_doBeat_7 8 rfl rfl)
theorem dX1_doBeat_173 : decode cX1_doBeat 173 = .ok (.aload_n 3, 1) := dk_45 (dk_at dksX1_doBeat_7 10 rfl rfl)
theorem dX1_doBeat_174 : decode cX1_doBeat 174 = .ok (.invokevirtual 60, 3) := dk_182 0 60 (dk_at dksX1_doBeat_7 11 rfl rfl)
theorem dX1_doBeat_177 : decode cX1_doBeat 177 = .ok (.if_icmp .ge 76, 3) := dk_162 0 76 (dk_at dksX1_doBeat_7 14 rfl rfl)
theorem dX1_doBeat_180 : decode cX1_doBeat 180 = .ok (.aload_n 0, 1) := dk_42 (dk_at dksX1_doBeat_7 17 rfl rfl)
theorem dX1_doBeat_181 : decode cX1_doBeat 181 = .ok (.getfield 42, 3) := dk_180 0 42 (dk_at dksX1_doBeat_7 18 rfl rfl)
theorem dX1_doBeat_184 : decode cX1_doBeat 184 = .ok (.aload_n 3, 1) := dk_45 (dk_at dksX1_doBeat_7 21 rfl rfl)
theorem dX1_doBeat_185 : decode cX1_doBeat 185 = .ok (.iload 4, 2) := dk_21 4 (dk_at dksX1_doBeat_7 22 rfl rfl)
theorem dX1_doBeat_187 : decode cX1_doBeat 187 = .ok (.invokevirtual 68, 3) := dk_182 0 68 (dk_at dksX1_doBeat_8 0 rfl rfl)
theorem dX1_doBeat_190 : decode cX1_doBeat 190 = .ok (.checkcast 96, 3) := dk_192 0 96 (dk_at dksX1_doBeat_8 3 rfl rfl)
theorem dX1_doBeat_193 : decode cX1_doBeat 193 = .ok (.invokevirtual 126, 3) := dk_182 0 126 (dk_at dksX1_doBeat_8 6 rfl rfl)
theorem dX1_doBeat_196 : decode cX1_doBeat 196 = .ok (.invokevirtual 68, 3) := dk_182 0 68 (dk_at dksX1_doBeat_8 9 rfl rfl)
theorem dX1_doBeat_199 : decode cX1_doBeat 199 = .ok (.checkcast 72, 3) := dk_192 0 72 (dk_at dksX1_doBeat_8 12 rfl rfl)
theorem dX1_doBeat_202 : decode cX1_doBeat 202 = .ok (.dup, 1) := dk_89 (dk_at dksX1_doBeat_8 15 rfl rfl)
theorem dX1_doBeat_203 : decode cX1_doBeat 203 = .ok (.getfield 234, 3) := dk_180 0 234 (dk_at dksX1_doBeat_8 16 rfl rfl)
theorem dX1_doBeat_206 : decode cX1_doBeat 206 = .ok (.aload_n 0, 1) := dk_42 (dk_at dksX1_doBeat_8 19 rfl rfl)
theorem dX1_doBeat_207 : decode cX1_doBeat 207 = .ok (.getfield 42, 3) := dk_180 0 42 (dk_at dksX1_doBeat_8 20 rfl rfl)
theorem dX1_doBeat_210 : decode cX1_doBeat 210 = .ok (.aload_n 3, 1) := dk_45 (dk_at dksX1_doBeat_8 23 rfl rfl)
theorem dX1_doBeat_211 : decode cX1_doBeat 211 = .ok (.iload 4, 2) := dk_21 4 (dk_at dksX1_doBeat_9 0 rfl rfl)
theorem dX1_doBeat_213 : decode cX1_doBeat 213 = .ok (.invokevirtual 68, 3) := dk_182 0 68 (dk_at dksX1_doBeat_9 2 rfl rfl)
theorem dX1_doBeat_216 : decode cX1_doBeat 216 = .ok (.checkcast 96, 3) := dk_192 0 96 (dk_at dksX1_doBeat_9 5 rfl rfl)
theorem dX1_doBeat_219 : decode cX1_doBeat 219 = .ok (.invokevirtual 126, 3) := dk_182 0 126 (dk_at dksX1_doBeat_9 8 rfl rfl)
theorem dX1_doBeat_222 : decode cX1_doBeat 222 = .ok (.invokevirtual 68, 3) := dk_182 0 68 (dk_at dksX1_doBeat_9 11 rfl rfl)
theorem dX1_doBeat_225 : decode cX1_doBeat 225 = .ok (.checkcast 72, 3) := dk_192 0 72 (dk_at dksX1_doBeat_9 14 rfl rfl)
theorem dX1_doBeat_228 : decode cX1_doBeat 228 = .ok (.getfield 206, 3) := dk_180 0 206 (dk_at dksX1_doBeat_9 17 rfl rfl)
theorem dX1_doBeat_231 : decode cX1_doBeat 231 = .ok (.aload_n 0, 1) := dk_42 (dk_at dksX1_doBeat_9 20 rfl rfl)
theorem dX1_doBeat_232 : decode cX1_doBeat 232 = .ok (.getfield 28, 3) := dk_180 0 28 (dk_at dksX1_doBeat_9 21 rfl rfl)
theorem dX1_doBeat_235 : decode cX1_doBeat 235 = .ok (.if_icmp .lt 7, 3) := dk_161 0 7 (dk_at dksX1_doBeat_10 0 rfl rfl)
theorem dX1_doBeat_238 : decode cX1_doBeat 238 = .ok (.iconst 1, 1) := dk_4 (dk_at dksX1_doBeat_10 3 rfl rfl)
theorem dX1_doBeat_239 : decode cX1_doBeat 239 = .ok (.goto 4, 3) := dk_167 0 4 (dk_at dksX1_doBeat_10 4 rfl rfl)
theorem dX1_doBeat_242 : decode cX1_doBeat 242 = .ok (.iconst 0, 1) := dk_3 (dk_at dksX1_doBeat_10 7 rfl rfl)
theorem dX1_doBeat_243 : decode cX1_doBeat 243 = .ok (.ior, 1) := dk_128 (dk_at dksX1_doBeat_10 8 rfl rfl)
theorem dX1_doBeat_244 : decode cX1_doBeat 244 = .ok (.putfield 234, 3) := dk_181 0 234 (dk_at dksX1_doBeat_10 9 rfl rfl)
theorem dX1_doBeat_247 : decode cX1_doBeat 247 = .ok (.iinc 4 1, 3) := dk_132 4 1 (dk_at dksX1_doBeat_10 12 rfl rfl)
theorem dX1_doBeat_250 : decode cX1_doBeat 250 = .ok (.goto (-79), 3) := dk_167 255 177 (dk_at dksX1_doBeat_10 15 rfl rfl)
theorem dX1_doBeat_253 : decode cX1_doBeat 253 = .ok (.aload_n 0, 1) := dk_42 (dk_at dksX1_doBeat_10 18 rfl rfl)
theorem dX1_doBeat_254 : decode cX1_doBeat 254 = .ok (.dup, 1) := dk_89 (dk_at dksX1_doBeat_10 19 rfl rfl)
theorem dX1_doBeat_255 : decode cX1_doBeat 255 = .ok (.getfield 80, 3) := dk_180 0 80 (dk_at dksX1_doBeat_10 20 rfl rfl)
theorem dX1_doBeat_258 : decode cX1_doBeat 258 = .ok (.aload_n 0, 1) := dk_42 (dk_at dksX1_doBeat_10 23 rfl rfl)
theorem dX1_doBeat_259 : decode cX1_doBeat 259 = .ok (.getfield 45, 3) := dk_180 0 45 (dk_at dksX1_doBeat_11 0 rfl rfl)
theorem dX1_doBeat_262 : decode cX1_doBeat 262 = .ok (.invokevirtual 60, 3) := dk_182 0 60 (dk_at dksX1_doBeat_11 3 rfl rfl)
theorem dX1_doBeat_265 : decode cX1_doBeat 265 = .ok (.iadd, 1) := dk_96 (dk_at dksX1_doBeat_11 6 rfl rfl)
theorem dX1_doBeat_266 : decode cX1_doBeat 266 = .ok (.putfield 80, 3) := dk_181 0 80 (dk_at dksX1_doBeat_11 7 rfl rfl)
theorem dX1_doBeat_269 : decode cX1_doBeat 269 = .ok (.aload_n 0, 1) := dk_42 (dk_at dksX1_doBeat_11 10 rfl rfl)
theorem dX1_doBeat_270 : decode cX1_doBeat 270 = .ok (.aload_n 0, 1) := dk_42 (dk_at dksX1_doBeat_11 11 rfl rfl)
theorem dX1_doBeat_271 : decode cX1_doBeat 271 = .ok (.getfield 45, 3) := dk_180 0 45 (dk_at dksX1_doBeat_11 12 rfl rfl)
theorem dX1_doBeat_274 : decode cX1_doBeat 274 = .ok (.putfield 48, 3) := dk_181 0 48 (dk_at dksX1_doBeat_11 15 rfl rfl)
theorem dX1_doBeat_277 : decode cX1_doBeat 277 = .ok (.aload_n 0, 1) := dk_42 (dk_at dksX1_doBeat_11 18 rfl rfl)
theorem dX1_doBeat_278 : decode cX1_doBeat 278 = .ok (.new 35, 3) := dk_187 0 35 (dk_at dksX1_doBeat_11 19 rfl rfl)
theorem dX1_doBeat_281 : decode cX1_doBeat 281 = .ok (.dup, 1) := dk_89 (dk_at dksX1_doBeat_11 22 rfl rfl)
theorem dX1_doBeat_282 : decode cX1_doBeat 282 = .ok (.invokespecial 37, 3) := dk_183 0 37 (dk_at dksX1_doBeat_12 0 rfl rfl)
theorem dX1_doBeat_285 : decode cX1_doBeat 285 = .ok (.putfield 45, 3) := dk_181 0 45 (dk_at dksX1_doBeat_12 3 rfl rfl)
theorem dX1_doBeat_288 : decode cX1_doBeat 288 = .ok (.aload_n 0, 1) := dk_42 (dk_at dksX1_doBeat_12 6 rfl rfl)
theorem dX1_doBeat_289 : decode cX1_doBeat 289 = .ok (.dup, 1) := dk_89 (dk_at dksX1_doBeat_12 7 rfl rfl)
theorem dX1_doBeat_290 : decode cX1_doBeat 290 = .ok (.getfield 74, 3) := dk_180 0 74 (dk_at dksX1_doBeat_12 8 rfl rfl)
theorem dX1_doBeat_293 : decode cX1_doBeat 293 = .ok (.iconst 1, 1) := dk_4 (dk_at dksX1_doBeat_12 11 rfl rfl)
theorem dX1_doBeat_294 : decode cX1_doBeat 294 = .ok (.iadd, 1) := dk_96 (dk_at dksX1_doBeat_12 12 rfl rfl)
theorem dX1_doBeat_295 : decode cX1_doBeat 295 = .ok (.putfield 74, 3) := dk_181 0 74 (dk_at dksX1_doBeat_12 13 rfl rfl)
theorem dX1_doBeat_298 : decode cX1_doBeat 298 = .ok (.aload_n 3, 1) := dk_45 (dk_at dksX1_doBeat_12 16 rfl rfl)
theorem dX1_doBeat_299 : decode cX1_doBeat 299 = .ok (.invokevirtual 60, 3) := dk_182 0 60 (dk_at dksX1_doBeat_12 17 rfl rfl)
theorem dX1_doBeat_302 : decode cX1_doBeat 302 = .ok (.ireturn, 1) := dk_172 (dk_at dksX1_doBeat_12 20 rfl rfl)
abbrev cX1_held : ByteArray := prog_1_method_1_code
def yX1_held : MethodName := ⟨RX1, "held", "(JII)I"⟩
def dkwX1_held_0 : List UInt8 := [28, 133, 29, 133, 30, 184, 0, 1, 184, 0, 7, 136, 172]
abbrev dktX1_held_0 : List UInt8 := dkwX1_held_0 ++ []
theorem dksX1_held_0 : cX1_held.data.toList.drop 0 = dktX1_held_0 := by decide +kernel
theorem dX1_held_0 : decode cX1_held 0 = .ok (.iload_n 2, 1) := dk_28 (dk_at dksX1_held_0 0 rfl rfl)
theorem dX1_held_1 : decode cX1_held 1 = .ok (.i2l, 1) := dk_133 (dk_at dksX1_held_0 1 rfl rfl)
theorem dX1_held_2 : decode cX1_held 2 = .ok (.iload_n 3, 1) := dk_29 (dk_at dksX1_held_0 2 rfl rfl)
theorem dX1_held_3 : decode cX1_held 3 = .ok (.i2l, 1) := dk_133 (dk_at dksX1_held_0 3 rfl rfl)
theorem dX1_held_4 : decode cX1_held 4 = .ok (.lload_n 0, 1) := dk_30 (dk_at dksX1_held_0 4 rfl rfl)
theorem dX1_held_5 : decode cX1_held 5 = .ok (.invokestatic 1, 3) := dk_184 0 1 (dk_at dksX1_held_0 5 rfl rfl)
theorem dX1_held_8 : decode cX1_held 8 = .ok (.invokestatic 7, 3) := dk_184 0 7 (dk_at dksX1_held_0 8 rfl rfl)
theorem dX1_held_11 : decode cX1_held 11 = .ok (.l2i, 1) := dk_136 (dk_at dksX1_held_0 11 rfl rfl)
theorem dX1_held_12 : decode cX1_held 12 = .ok (.ireturn, 1) := dk_172 (dk_at dksX1_held_0 12 rfl rfl)
abbrev cX1_assign : ByteArray := prog_1_method_17_code
def yX1_assign : MethodName := ⟨RX1, "assign", "(ILjava/util/ArrayList;Ljava/util/HashSet;)V"⟩
def dkwX1_assign_12 : List UInt8 := [132, 8, 1, 167, 255, 191, 177]
abbrev dktX1_assign_12 : List UInt8 := dkwX1_assign_12 ++ []
def dkwX1_assign_11 : List UInt8 := [46, 182, 0, 68, 192, 0, 107, 182, 0, 184, 45, 44, 21, 8, 182, 0, 68, 192, 0, 96, 182, 0, 188, 87]
abbrev dktX1_assign_11 : List UInt8 := dkwX1_assign_11 ++ dktX1_assign_12
def dkwX1_assign_10 : List UInt8 := [159, 0, 48, 42, 44, 21, 8, 182, 0, 68, 192, 0, 96, 182, 0, 126, 42, 180, 0, 45, 25, 7, 21, 8]
abbrev dktX1_assign_10 : List UInt8 := dkwX1_assign_10 ++ dktX1_assign_11
def dkwX1_assign_9 : List UInt8 := [180, 0, 180, 58, 7, 3, 54, 8, 21, 8, 25, 7, 190, 162, 0, 63, 25, 7, 21, 8, 46, 2]
abbrev dktX1_assign_9 : List UInt8 := dkwX1_assign_9 ++ dktX1_assign_10
def dkwX1_assign_8 : List UInt8 := [132, 9, 1, 167, 255, 156, 132, 7, 1, 167, 255, 101, 187, 0, 175, 89, 44, 25, 4, 25, 5, 183, 0, 177]
abbrev dktX1_assign_8 : List UInt8 := dkwX1_assign_8 ++ dktX1_assign_9
def dkwX1_assign_7 : List UInt8 := [183, 0, 161, 25, 10, 25, 8, 180, 0, 120, 21, 6, 182, 0, 162, 184, 0, 166, 182, 0, 171, 87]
abbrev dktX1_assign_7 : List UInt8 := dkwX1_assign_7 ++ dktX1_assign_8
def dkwX1_assign_6 : List UInt8 := [153, 0, 45, 25, 5, 187, 0, 159, 89, 44, 21, 9, 182, 0, 68, 192, 0, 96, 182, 0, 126, 21, 7]
abbrev dktX1_assign_6 : List UInt8 := dkwX1_assign_6 ++ dktX1_assign_7
def dkwX1_assign_5 : List UInt8 := [192, 0, 72, 180, 0, 116, 58, 10, 25, 10, 25, 8, 180, 0, 120, 21, 6, 42, 180, 0, 22, 182, 0, 155]
abbrev dktX1_assign_5 : List UInt8 := dkwX1_assign_5 ++ dktX1_assign_6
def dkwX1_assign_4 : List UInt8 := [162, 0, 97, 42, 180, 0, 42, 44, 21, 9, 182, 0, 68, 192, 0, 96, 182, 0, 126, 182, 0, 68]
abbrev dktX1_assign_4 : List UInt8 := dkwX1_assign_4 ++ dktX1_assign_5
def dkwX1_assign_3 : List UInt8 := [160, 0, 120, 25, 4, 21, 7, 184, 0, 95, 182, 0, 101, 87, 3, 54, 9, 21, 9, 44, 182, 0, 60]
abbrev dktX1_assign_3 : List UInt8 := dkwX1_assign_3 ++ dktX1_assign_4
def dkwX1_assign_2 : List UInt8 := [162, 0, 149, 42, 180, 0, 45, 21, 7, 182, 0, 68, 192, 0, 107, 58, 8, 25, 8, 180, 0, 123, 27]
abbrev dktX1_assign_2 : List UInt8 := dkwX1_assign_2 ++ dktX1_assign_3
def dkwX1_assign_1 : List UInt8 := [182, 0, 68, 192, 0, 96, 182, 0, 126, 54, 6, 3, 54, 7, 21, 7, 42, 180, 0, 45, 182, 0, 60]
abbrev dktX1_assign_1 : List UInt8 := dkwX1_assign_1 ++ dktX1_assign_2
def dkwX1_assign_0 : List UInt8 := [187, 0, 35, 89, 183, 0, 37, 58, 4, 187, 0, 152, 89, 183, 0, 154, 58, 5, 42, 180, 0, 38, 27]
abbrev dktX1_assign_0 : List UInt8 := dkwX1_assign_0 ++ dktX1_assign_1
theorem dksX1_assign_0 : cX1_assign.data.toList.drop 0 = dktX1_assign_0 := by decide +kernel
theorem dksX1_assign_1 : cX1_assign.data.toList.drop 23 = dktX1_assign_1 := dk_seg dksX1_assign_0 23 rfl rfl
theorem dksX1_assign_2 : cX1_assign.data.toList.drop 46 = dktX1_assign_2 := dk_seg dksX1_assign_1 23 rfl rfl
theorem dksX1_assign_3 : cX1_assign.data.toList.drop 69 = dktX1_assign_3 := dk_seg dksX1_assign_2 23 rfl rfl
theorem dksX1_assign_4 : cX1_assign.data.toList.drop 92 = dktX1_assign_4 := dk_seg dksX1_assign_3 23 rfl rfl
theorem dksX1_assign_5 : cX1_assign.data.toList.drop 114 = dktX1_assign_5 := dk_seg dksX1_assign_4 22 rfl rfl
theorem dksX1_assign_6 : cX1_assign.data.toList.drop 138 = dktX1_assign_6 := dk_seg dksX1_assign_5 24 rfl rfl
theorem dksX1_assign_7 : cX1_assign.data.toList.drop 161 = dktX1_assign_7 := dk_seg dksX1_assign_6 23 rfl rfl
theorem dksX1_assign_8 : cX1_assign.data.toList.drop 183 = dktX1_assign_8 := dk_seg dksX1_assign_7 22 rfl rfl
theorem dksX1_assign_9 : cX1_assign.data.toList.drop 207 = dktX1_assign_9 := dk_seg dksX1_assign_8 24 rfl rfl
theorem dksX1_assign_10 : cX1_assign.data.toList.drop 229 = dktX1_assign_10 := dk_seg dksX1_assign_9 22 rfl rfl
theorem dksX1_assign_11 : cX1_assign.data.toList.drop 253 = dktX1_assign_11 := dk_seg dksX1_assign_10 24 rfl rfl
theorem dksX1_assign_12 : cX1_assign.data.toList.drop 277 = dktX1_assign_12 := dk_seg dksX1_assign_11 24 rfl rfl
theorem dX1_assign_0 : decode cX1_assign 0 = .ok (.new 35, 3) := dk_187 0 35 (dk_at dksX1_assign_0 0 rfl rfl)
theorem dX1_assign_3 : decode cX1_assign 3 = .ok (.dup, 1) := dk_89 (dk_at dksX1_assign_0 3 rfl rfl)
theorem dX1_assign_4 : decode cX1_assign 4 = .ok (.invokespecial 37, 3) := dk_183 0 37 (dk_at dksX1_assign_0 4 rfl rfl)
theorem dX1_assign_7 : decode cX1_assign 7 = .ok (.astore 4, 2) := dk_58 4 (dk_at dksX1_assign_0 7 rfl rfl)
theorem dX1_assign_9 : decode cX1_assign 9 = .ok (.new 152, 3) := dk_187 0 152 (dk_at dksX1_assign_0 9 rfl rfl)
theorem dX1_assign_12 : decode cX1_assign 12 = .ok (.dup, 1) := dk_89 (dk_at dksX1_assign_0 12 rfl rfl)
theorem dX1_assign_13 : decode cX1_assign 13 = .ok (.invokespecial 154, 3) := dk_183 0 154 (dk_at dksX1_assign_0 13 rfl rfl)
theorem dX1_assign_16 : decode cX1_assign 16 = .ok (.astore 5, 2) := dk_58 5 (dk_at dksX1_assign_0 16 rfl rfl)
theorem dX1_assign_18 : decode cX1_assign 18 = .ok (.aload_n 0, 1) := dk_42 (dk_at dksX1_assign_0 18 rfl rfl)
theorem dX1_assign_19 : decode cX1_assign 19 = .ok (.getfield 38, 3) := dk_180 0 38 (dk_at dksX1_assign_0 19 rfl rfl)
theorem dX1_assign_22 : decode cX1_assign 22 = .ok (.iload_n 1, 1) := dk_27 (dk_at dksX1_assign_0 22 rfl rfl)
theorem dX1_assign_23 : decode cX1_assign 23 = .ok (.invokevirtual 68, 3) := dk_182 0 68 (dk_at dksX1_assign_1 0 rfl rfl)
theorem dX1_assign_26 : decode cX1_assign 26 = .ok (.checkcast 96, 3) := dk_192 0 96 (dk_at dksX1_assign_1 3 rfl rfl)
theorem dX1_assign_29 : decode cX1_assign 29 = .ok (.invokevirtual 126, 3) := dk_182 0 126 (dk_at dksX1_assign_1 6 rfl rfl)
theorem dX1_assign_32 : decode cX1_assign 32 = .ok (.istore 6, 2) := dk_54 6 (dk_at dksX1_assign_1 9 rfl rfl)
theorem dX1_assign_34 : decode cX1_assign 34 = .ok (.iconst 0, 1) := dk_3 (dk_at dksX1_assign_1 11 rfl rfl)
theorem dX1_assign_35 : decode cX1_assign 35 = .ok (.istore 7, 2) := dk_54 7 (dk_at dksX1_assign_1 12 rfl rfl)
theorem dX1_assign_37 : decode cX1_assign 37 = .ok (.iload 7, 2) := dk_21 7 (dk_at dksX1_assign_1 14 rfl rfl)
theorem dX1_assign_39 : decode cX1_assign 39 = .ok (.aload_n 0, 1) := dk_42 (dk_at dksX1_assign_1 16 rfl rfl)
theorem dX1_assign_40 : decode cX1_assign 40 = .ok (.getfield 45, 3) := dk_180 0 45 (dk_at dksX1_assign_1 17 rfl rfl)
theorem dX1_assign_43 : decode cX1_assign 43 = .ok (.invokevirtual 60, 3) := dk_182 0 60 (dk_at dksX1_assign_1 20 rfl rfl)
theorem dX1_assign_46 : decode cX1_assign 46 = .ok (.if_icmp .ge 149, 3) := dk_162 0 149 (dk_at dksX1_assign_2 0 rfl rfl)
theorem dX1_assign_49 : decode cX1_assign 49 = .ok (.aload_n 0, 1) := dk_42 (dk_at dksX1_assign_2 3 rfl rfl)
theorem dX1_assign_50 : decode cX1_assign 50 = .ok (.getfield 45, 3) := dk_180 0 45 (dk_at dksX1_assign_2 4 rfl rfl)
theorem dX1_assign_53 : decode cX1_assign 53 = .ok (.iload 7, 2) := dk_21 7 (dk_at dksX1_assign_2 7 rfl rfl)
theorem dX1_assign_55 : decode cX1_assign 55 = .ok (.invokevirtual 68, 3) := dk_182 0 68 (dk_at dksX1_assign_2 9 rfl rfl)
theorem dX1_assign_58 : decode cX1_assign 58 = .ok (.checkcast 107, 3) := dk_192 0 107 (dk_at dksX1_assign_2 12 rfl rfl)
theorem dX1_assign_61 : decode cX1_assign 61 = .ok (.astore 8, 2) := dk_58 8 (dk_at dksX1_assign_2 15 rfl rfl)
theorem dX1_assign_63 : decode cX1_assign 63 = .ok (.aload 8, 2) := dk_25 8 (dk_at dksX1_assign_2 17 rfl rfl)
theorem dX1_assign_65 : decode cX1_assign 65 = .ok (.getfield 123, 3) := dk_180 0 123 (dk_at dksX1_assign_2 19 rfl rfl)
theorem dX1_assign_68 : decode cX1_assign 68 = .ok (.iload_n 1, 1) := dk_27 (dk_at dksX1_assign_2 22 rfl rfl)
theorem dX1_assign_69 : decode cX1_assign 69 = .ok (.if_icmp .ne 120, 3) := dk_160 0 120 (dk_at dksX1_assign_3 0 rfl rfl)
theorem dX1_assign_72 : decode cX1_assign 72 = .ok (.aload 4, 2) := dk_25 4 (dk_at dksX1_assign_3 3 rfl rfl)
theorem dX1_assign_74 : decode cX1_assign 74 = .ok (.iload 7, 2) := dk_21 7 (dk_at dksX1_assign_3 5 rfl rfl)
theorem dX1_assign_76 : decode cX1_assign 76 = .ok (.invokestatic 95, 3) := dk_184 0 95 (dk_at dksX1_assign_3 7 rfl rfl)
theorem dX1_assign_79 : decode cX1_assign 79 = .ok (.invokevirtual 101, 3) := dk_182 0 101 (dk_at dksX1_assign_3 10 rfl rfl)
theorem dX1_assign_82 : decode cX1_assign 82 = .ok (.pop, 1) := dk_87 (dk_at dksX1_assign_3 13 rfl rfl)
theorem dX1_assign_83 : decode cX1_assign 83 = .ok (.iconst 0, 1) := dk_3 (dk_at dksX1_assign_3 14 rfl rfl)
theorem dX1_assign_84 : decode cX1_assign 84 = .ok (.istore 9, 2) := dk_54 9 (dk_at dksX1_assign_3 15 rfl rfl)
theorem dX1_assign_86 : decode cX1_assign 86 = .ok (.iload 9, 2) := dk_21 9 (dk_at dksX1_assign_3 17 rfl rfl)
theorem dX1_assign_88 : decode cX1_assign 88 = .ok (.aload_n 2, 1) := dk_44 (dk_at dksX1_assign_3 19 rfl rfl)
theorem dX1_assign_89 : decode cX1_assign 89 = .ok (.invokevirtual 60, 3) := dk_182 0 60 (dk_at dksX1_assign_3 20 rfl rfl)
theorem dX1_assign_92 : decode cX1_assign 92 = .ok (.if_icmp .ge 97, 3) := dk_162 0 97 (dk_at dksX1_assign_4 0 rfl rfl)
theorem dX1_assign_95 : decode cX1_assign 95 = .ok (.aload_n 0, 1) := dk_42 (dk_at dksX1_assign_4 3 rfl rfl)
theorem dX1_assign_96 : decode cX1_assign 96 = .ok (.getfield 42, 3) := dk_180 0 42 (dk_at dksX1_assign_4 4 rfl rfl)
theorem dX1_assign_99 : decode cX1_assign 99 = .ok (.aload_n 2, 1) := dk_44 (dk_at dksX1_assign_4 7 rfl rfl)
theorem dX1_assign_100 : decode cX1_assign 100 = .ok (.iload 9, 2) := dk_21 9 (dk_at dksX1_assign_4 8 rfl rfl)
theorem dX1_assign_102 : decode cX1_assign 102 = .ok (.invokevirtual 68, 3) := dk_182 0 68 (dk_at dksX1_assign_4 10 rfl rfl)
theorem dX1_assign_105 : decode cX1_assign 105 = .ok (.checkcast 96, 3) := dk_192 0 96 (dk_at dksX1_assign_4 13 rfl rfl)
theorem dX1_assign_108 : decode cX1_assign 108 = .ok (.invokevirtual 126, 3) := dk_182 0 126 (dk_at dksX1_assign_4 16 rfl rfl)
theorem dX1_assign_111 : decode cX1_assign 111 = .ok (.invokevirtual 68, 3) := dk_182 0 68 (dk_at dksX1_assign_4 19 rfl rfl)
theorem dX1_assign_114 : decode cX1_assign 114 = .ok (.checkcast 72, 3) := dk_192 0 72 (dk_at dksX1_assign_5 0 rfl rfl)
theorem dX1_assign_117 : decode cX1_assign 117 = .ok (.getfield 116, 3) := dk_180 0 116 (dk_at dksX1_assign_5 3 rfl rfl)
theorem dX1_assign_120 : decode cX1_assign 120 = .ok (.astore 10, 2) := dk_58 10 (dk_at dksX1_assign_5 6 rfl rfl)
theorem dX1_assign_122 : decode cX1_assign 122 = .ok (.aload 10, 2) := dk_25 10 (dk_at dksX1_assign_5 8 rfl rfl)
theorem dX1_assign_124 : decode cX1_assign 124 = .ok (.aload 8, 2) := dk_25 8 (dk_at dksX1_assign_5 10 rfl rfl)
theorem dX1_assign_126 : decode cX1_assign 126 = .ok (.getfield 120, 3) := dk_180 0 120 (dk_at dksX1_assign_5 12 rfl rfl)
theorem dX1_assign_129 : decode cX1_assign 129 = .ok (.iload 6, 2) := dk_21 6 (dk_at dksX1_assign_5 15 rfl rfl)
theorem dX1_assign_131 : decode cX1_assign 131 = .ok (.aload_n 0, 1) := dk_42 (dk_at dksX1_assign_5 17 rfl rfl)
theorem dX1_assign_132 : decode cX1_assign 132 = .ok (.getfield 22, 3) := dk_180 0 22 (dk_at dksX1_assign_5 18 rfl rfl)
theorem dX1_assign_135 : decode cX1_assign 135 = .ok (.invokevirtual 155, 3) := dk_182 0 155 (dk_at dksX1_assign_5 21 rfl rfl)
theorem dX1_assign_138 : decode cX1_assign 138 = .ok (.ifCond .eq 45, 3) := dk_153 0 45 (dk_at dksX1_assign_6 0 rfl rfl)
theorem dX1_assign_141 : decode cX1_assign 141 = .ok (.aload 5, 2) := dk_25 5 (dk_at dksX1_assign_6 3 rfl rfl)
theorem dX1_assign_143 : decode cX1_assign 143 = .ok (.new 159, 3) := dk_187 0 159 (dk_at dksX1_assign_6 5 rfl rfl)
theorem dX1_assign_146 : decode cX1_assign 146 = .ok (.dup, 1) := dk_89 (dk_at dksX1_assign_6 8 rfl rfl)
theorem dX1_assign_147 : decode cX1_assign 147 = .ok (.aload_n 2, 1) := dk_44 (dk_at dksX1_assign_6 9 rfl rfl)
theorem dX1_assign_148 : decode cX1_assign 148 = .ok (.iload 9, 2) := dk_21 9 (dk_at dksX1_assign_6 10 rfl rfl)
theorem dX1_assign_150 : decode cX1_assign 150 = .ok (.invokevirtual 68, 3) := dk_182 0 68 (dk_at dksX1_assign_6 12 rfl rfl)
theorem dX1_assign_153 : decode cX1_assign 153 = .ok (.checkcast 96, 3) := dk_192 0 96 (dk_at dksX1_assign_6 15 rfl rfl)
theorem dX1_assign_156 : decode cX1_assign 156 = .ok (.invokevirtual 126, 3) := dk_182 0 126 (dk_at dksX1_assign_6 18 rfl rfl)
theorem dX1_assign_159 : decode cX1_assign 159 = .ok (.iload 7, 2) := dk_21 7 (dk_at dksX1_assign_6 21 rfl rfl)
theorem dX1_assign_161 : decode cX1_assign 161 = .ok (.invokespecial 161, 3) := dk_183 0 161 (dk_at dksX1_assign_7 0 rfl rfl)
theorem dX1_assign_164 : decode cX1_assign 164 = .ok (.aload 10, 2) := dk_25 10 (dk_at dksX1_assign_7 3 rfl rfl)
theorem dX1_assign_166 : decode cX1_assign 166 = .ok (.aload 8, 2) := dk_25 8 (dk_at dksX1_assign_7 5 rfl rfl)
theorem dX1_assign_168 : decode cX1_assign 168 = .ok (.getfield 120, 3) := dk_180 0 120 (dk_at dksX1_assign_7 7 rfl rfl)
theorem dX1_assign_171 : decode cX1_assign 171 = .ok (.iload 6, 2) := dk_21 6 (dk_at dksX1_assign_7 10 rfl rfl)
theorem dX1_assign_173 : decode cX1_assign 173 = .ok (.invokevirtual 162, 3) := dk_182 0 162 (dk_at dksX1_assign_7 12 rfl rfl)
theorem dX1_assign_176 : decode cX1_assign 176 = .ok (.invokestatic 166, 3) := dk_184 0 166 (dk_at dksX1_assign_7 15 rfl rfl)
theorem dX1_assign_179 : decode cX1_assign 179 = .ok (.invokevirtual 171, 3) := dk_182 0 171 (dk_at dksX1_assign_7 18 rfl rfl)
theorem dX1_assign_182 : decode cX1_assign 182 = .ok (.pop, 1) := dk_87 (dk_at dksX1_assign_7 21 rfl rfl)
theorem dX1_assign_183 : decode cX1_assign 183 = .ok (.iinc 9 1, 3) := dk_132 9 1 (dk_at dksX1_assign_8 0 rfl rfl)
theorem dX1_assign_186 : decode cX1_assign 186 = .ok (.goto (-100), 3) := dk_167 255 156 (dk_at dksX1_assign_8 3 rfl rfl)
theorem dX1_assign_189 : decode cX1_assign 189 = .ok (.iinc 7 1, 3) := dk_132 7 1 (dk_at dksX1_assign_8 6 rfl rfl)
theorem dX1_assign_192 : decode cX1_assign 192 = .ok (.goto (-155), 3) := dk_167 255 101 (dk_at dksX1_assign_8 9 rfl rfl)
theorem dX1_assign_195 : decode cX1_assign 195 = .ok (.new 175, 3) := dk_187 0 175 (dk_at dksX1_assign_8 12 rfl rfl)
theorem dX1_assign_198 : decode cX1_assign 198 = .ok (.dup, 1) := dk_89 (dk_at dksX1_assign_8 15 rfl rfl)
theorem dX1_assign_199 : decode cX1_assign 199 = .ok (.aload_n 2, 1) := dk_44 (dk_at dksX1_assign_8 16 rfl rfl)
theorem dX1_assign_200 : decode cX1_assign 200 = .ok (.aload 4, 2) := dk_25 4 (dk_at dksX1_assign_8 17 rfl rfl)
theorem dX1_assign_202 : decode cX1_assign 202 = .ok (.aload 5, 2) := dk_25 5 (dk_at dksX1_assign_8 19 rfl rfl)
theorem dX1_assign_204 : decode cX1_assign 204 = .ok (.invokespecial 177, 3) := dk_183 0 177 (dk_at dksX1_assign_8 21 rfl rfl)
theorem dX1_assign_207 : decode cX1_assign 207 = .ok (.getfield 180, 3) := dk_180 0 180 (dk_at dksX1_assign_9 0 rfl rfl)
theorem dX1_assign_210 : decode cX1_assign 210 = .ok (.astore 7, 2) := dk_58 7 (dk_at dksX1_assign_9 3 rfl rfl)
theorem dX1_assign_212 : decode cX1_assign 212 = .ok (.iconst 0, 1) := dk_3 (dk_at dksX1_assign_9 5 rfl rfl)
theorem dX1_assign_213 : decode cX1_assign 213 = .ok (.istore 8, 2) := dk_54 8 (dk_at dksX1_assign_9 6 rfl rfl)
theorem dX1_assign_215 : decode cX1_assign 215 = .ok (.iload 8, 2) := dk_21 8 (dk_at dksX1_assign_9 8 rfl rfl)
theorem dX1_assign_217 : decode cX1_assign 217 = .ok (.aload 7, 2) := dk_25 7 (dk_at dksX1_assign_9 10 rfl rfl)
theorem dX1_assign_219 : decode cX1_assign 219 = .ok (.arraylength, 1) := dk_190 (dk_at dksX1_assign_9 12 rfl rfl)
theorem dX1_assign_220 : decode cX1_assign 220 = .ok (.if_icmp .ge 63, 3) := dk_162 0 63 (dk_at dksX1_assign_9 13 rfl rfl)
theorem dX1_assign_223 : decode cX1_assign 223 = .ok (.aload 7, 2) := dk_25 7 (dk_at dksX1_assign_9 16 rfl rfl)
theorem dX1_assign_225 : decode cX1_assign 225 = .ok (.iload 8, 2) := dk_21 8 (dk_at dksX1_assign_9 18 rfl rfl)
theorem dX1_assign_227 : decode cX1_assign 227 = .ok (.iaload, 1) := dk_46 (dk_at dksX1_assign_9 20 rfl rfl)
theorem dX1_assign_228 : decode cX1_assign 228 = .ok (.iconst (-1), 1) := dk_2 (dk_at dksX1_assign_9 21 rfl rfl)
theorem dX1_assign_229 : decode cX1_assign 229 = .ok (.if_icmp .eq 48, 3) := dk_159 0 48 (dk_at dksX1_assign_10 0 rfl rfl)
theorem dX1_assign_232 : decode cX1_assign 232 = .ok (.aload_n 0, 1) := dk_42 (dk_at dksX1_assign_10 3 rfl rfl)
theorem dX1_assign_233 : decode cX1_assign 233 = .ok (.aload_n 2, 1) := dk_44 (dk_at dksX1_assign_10 4 rfl rfl)
theorem dX1_assign_234 : decode cX1_assign 234 = .ok (.iload 8, 2) := dk_21 8 (dk_at dksX1_assign_10 5 rfl rfl)
theorem dX1_assign_236 : decode cX1_assign 236 = .ok (.invokevirtual 68, 3) := dk_182 0 68 (dk_at dksX1_assign_10 7 rfl rfl)
theorem dX1_assign_239 : decode cX1_assign 239 = .ok (.checkcast 96, 3) := dk_192 0 96 (dk_at dksX1_assign_10 10 rfl rfl)
theorem dX1_assign_242 : decode cX1_assign 242 = .ok (.invokevirtual 126, 3) := dk_182 0 126 (dk_at dksX1_assign_10 13 rfl rfl)
theorem dX1_assign_245 : decode cX1_assign 245 = .ok (.aload_n 0, 1) := dk_42 (dk_at dksX1_assign_10 16 rfl rfl)
theorem dX1_assign_246 : decode cX1_assign 246 = .ok (.getfield 45, 3) := dk_180 0 45 (dk_at dksX1_assign_10 17 rfl rfl)
theorem dX1_assign_249 : decode cX1_assign 249 = .ok (.aload 7, 2) := dk_25 7 (dk_at dksX1_assign_10 20 rfl rfl)
theorem dX1_assign_251 : decode cX1_assign 251 = .ok (.iload 8, 2) := dk_21 8 (dk_at dksX1_assign_10 22 rfl rfl)
theorem dX1_assign_253 : decode cX1_assign 253 = .ok (.iaload, 1) := dk_46 (dk_at dksX1_assign_11 0 rfl rfl)
theorem dX1_assign_254 : decode cX1_assign 254 = .ok (.invokevirtual 68, 3) := dk_182 0 68 (dk_at dksX1_assign_11 1 rfl rfl)
theorem dX1_assign_257 : decode cX1_assign 257 = .ok (.checkcast 107, 3) := dk_192 0 107 (dk_at dksX1_assign_11 4 rfl rfl)
theorem dX1_assign_260 : decode cX1_assign 260 = .ok (.invokevirtual 184, 3) := dk_182 0 184 (dk_at dksX1_assign_11 7 rfl rfl)
theorem dX1_assign_263 : decode cX1_assign 263 = .ok (.aload_n 3, 1) := dk_45 (dk_at dksX1_assign_11 10 rfl rfl)
theorem dX1_assign_264 : decode cX1_assign 264 = .ok (.aload_n 2, 1) := dk_44 (dk_at dksX1_assign_11 11 rfl rfl)
theorem dX1_assign_265 : decode cX1_assign 265 = .ok (.iload 8, 2) := dk_21 8 (dk_at dksX1_assign_11 12 rfl rfl)
theorem dX1_assign_267 : decode cX1_assign 267 = .ok (.invokevirtual 68, 3) := dk_182 0 68 (dk_at dksX1_assign_11 14 rfl rfl)
theorem dX1_assign_270 : decode cX1_assign 270 = .ok (.checkcast 96, 3) := dk_192 0 96 (dk_at dksX1_assign_11 17 rfl rfl)
theorem dX1_assign_273 : decode cX1_assign 273 = .ok (.invokevirtual 188, 3) := dk_182 0 188 (dk_at dksX1_assign_11 20 rfl rfl)
theorem dX1_assign_276 : decode cX1_assign 276 = .ok (.pop, 1) := dk_87 (dk_at dksX1_assign_11 23 rfl rfl)
theorem dX1_assign_277 : decode cX1_assign 277 = .ok (.iinc 8 1, 3) := dk_132 8 1 (dk_at dksX1_assign_12 0 rfl rfl)
theorem dX1_assign_280 : decode cX1_assign 280 = .ok (.goto (-65), 3) := dk_167 255 191 (dk_at dksX1_assign_12 3 rfl rfl)
theorem dX1_assign_283 : decode cX1_assign 283 = .ok (.return_, 1) := dk_177 (dk_at dksX1_assign_12 6 rfl rfl)
abbrev cX1_join : ByteArray := prog_1_method_15_code
def yX1_join : MethodName := ⟨RX1, "join", "(ILKalmanQuay$Hit;)V"⟩
def dkwX1_join_2 : List UInt8 := [44, 182, 0, 135, 44, 27, 181, 0, 139, 42, 89, 180, 0, 83, 4, 96, 181, 0, 83, 177]
abbrev dktX1_join_2 : List UInt8 := dkwX1_join_2 ++ []
def dkwX1_join_1 : List UInt8 := [180, 0, 38, 44, 180, 0, 123, 182, 0, 68, 192, 0, 96, 182, 0, 126, 182, 0, 129, 181, 0, 116, 42, 45]
abbrev dktX1_join_1 : List UInt8 := dkwX1_join_1 ++ dktX1_join_2
def dkwX1_join_0 : List UInt8 := [42, 180, 0, 42, 27, 182, 0, 68, 192, 0, 72, 78, 45, 45, 180, 0, 116, 44, 180, 0, 120, 42]
abbrev dktX1_join_0 : List UInt8 := dkwX1_join_0 ++ dktX1_join_1
theorem dksX1_join_0 : cX1_join.data.toList.drop 0 = dktX1_join_0 := by decide +kernel
theorem dksX1_join_1 : cX1_join.data.toList.drop 22 = dktX1_join_1 := dk_seg dksX1_join_0 22 rfl rfl
theorem dksX1_join_2 : cX1_join.data.toList.drop 46 = dktX1_join_2 := dk_seg dksX1_join_1 24 rfl rfl
theorem dX1_join_0 : decode cX1_join 0 = .ok (.aload_n 0, 1) := dk_42 (dk_at dksX1_join_0 0 rfl rfl)
theorem dX1_join_1 : decode cX1_join 1 = .ok (.getfield 42, 3) := dk_180 0 42 (dk_at dksX1_join_0 1 rfl rfl)
theorem dX1_join_4 : decode cX1_join 4 = .ok (.iload_n 1, 1) := dk_27 (dk_at dksX1_join_0 4 rfl rfl)
theorem dX1_join_5 : decode cX1_join 5 = .ok (.invokevirtual 68, 3) := dk_182 0 68 (dk_at dksX1_join_0 5 rfl rfl)
theorem dX1_join_8 : decode cX1_join 8 = .ok (.checkcast 72, 3) := dk_192 0 72 (dk_at dksX1_join_0 8 rfl rfl)
theorem dX1_join_11 : decode cX1_join 11 = .ok (.astore_n 3, 1) := dk_78 (dk_at dksX1_join_0 11 rfl rfl)
theorem dX1_join_12 : decode cX1_join 12 = .ok (.aload_n 3, 1) := dk_45 (dk_at dksX1_join_0 12 rfl rfl)
theorem dX1_join_13 : decode cX1_join 13 = .ok (.aload_n 3, 1) := dk_45 (dk_at dksX1_join_0 13 rfl rfl)
theorem dX1_join_14 : decode cX1_join 14 = .ok (.getfield 116, 3) := dk_180 0 116 (dk_at dksX1_join_0 14 rfl rfl)
theorem dX1_join_17 : decode cX1_join 17 = .ok (.aload_n 2, 1) := dk_44 (dk_at dksX1_join_0 17 rfl rfl)
theorem dX1_join_18 : decode cX1_join 18 = .ok (.getfield 120, 3) := dk_180 0 120 (dk_at dksX1_join_0 18 rfl rfl)
theorem dX1_join_21 : decode cX1_join 21 = .ok (.aload_n 0, 1) := dk_42 (dk_at dksX1_join_0 21 rfl rfl)
theorem dX1_join_22 : decode cX1_join 22 = .ok (.getfield 38, 3) := dk_180 0 38 (dk_at dksX1_join_1 0 rfl rfl)
theorem dX1_join_25 : decode cX1_join 25 = .ok (.aload_n 2, 1) := dk_44 (dk_at dksX1_join_1 3 rfl rfl)
theorem dX1_join_26 : decode cX1_join 26 = .ok (.getfield 123, 3) := dk_180 0 123 (dk_at dksX1_join_1 4 rfl rfl)
theorem dX1_join_29 : decode cX1_join 29 = .ok (.invokevirtual 68, 3) := dk_182 0 68 (dk_at dksX1_join_1 7 rfl rfl)
theorem dX1_join_32 : decode cX1_join 32 = .ok (.checkcast 96, 3) := dk_192 0 96 (dk_at dksX1_join_1 10 rfl rfl)
theorem dX1_join_35 : decode cX1_join 35 = .ok (.invokevirtual 126, 3) := dk_182 0 126 (dk_at dksX1_join_1 13 rfl rfl)
theorem dX1_join_38 : decode cX1_join 38 = .ok (.invokevirtual 129, 3) := dk_182 0 129 (dk_at dksX1_join_1 16 rfl rfl)
theorem dX1_join_41 : decode cX1_join 41 = .ok (.putfield 116, 3) := dk_181 0 116 (dk_at dksX1_join_1 19 rfl rfl)
theorem dX1_join_44 : decode cX1_join 44 = .ok (.aload_n 0, 1) := dk_42 (dk_at dksX1_join_1 22 rfl rfl)
theorem dX1_join_45 : decode cX1_join 45 = .ok (.aload_n 3, 1) := dk_45 (dk_at dksX1_join_1 23 rfl rfl)
theorem dX1_join_46 : decode cX1_join 46 = .ok (.aload_n 2, 1) := dk_44 (dk_at dksX1_join_2 0 rfl rfl)
theorem dX1_join_47 : decode cX1_join 47 = .ok (.invokevirtual 135, 3) := dk_182 0 135 (dk_at dksX1_join_2 1 rfl rfl)
theorem dX1_join_50 : decode cX1_join 50 = .ok (.aload_n 2, 1) := dk_44 (dk_at dksX1_join_2 4 rfl rfl)
theorem dX1_join_51 : decode cX1_join 51 = .ok (.iload_n 1, 1) := dk_27 (dk_at dksX1_join_2 5 rfl rfl)
theorem dX1_join_52 : decode cX1_join 52 = .ok (.putfield 139, 3) := dk_181 0 139 (dk_at dksX1_join_2 6 rfl rfl)
theorem dX1_join_55 : decode cX1_join 55 = .ok (.aload_n 0, 1) := dk_42 (dk_at dksX1_join_2 9 rfl rfl)
theorem dX1_join_56 : decode cX1_join 56 = .ok (.dup, 1) := dk_89 (dk_at dksX1_join_2 10 rfl rfl)
theorem dX1_join_57 : decode cX1_join 57 = .ok (.getfield 83, 3) := dk_180 0 83 (dk_at dksX1_join_2 11 rfl rfl)
theorem dX1_join_60 : decode cX1_join 60 = .ok (.iconst 1, 1) := dk_4 (dk_at dksX1_join_2 14 rfl rfl)
theorem dX1_join_61 : decode cX1_join 61 = .ok (.iadd, 1) := dk_96 (dk_at dksX1_join_2 15 rfl rfl)
theorem dX1_join_62 : decode cX1_join 62 = .ok (.putfield 83, 3) := dk_181 0 83 (dk_at dksX1_join_2 16 rfl rfl)
theorem dX1_join_65 : decode cX1_join 65 = .ok (.return_, 1) := dk_177 (dk_at dksX1_join_2 19 rfl rfl)
abbrev cX1_got : ByteArray := prog_1_method_16_code
def yX1_got : MethodName := ⟨RX1, "got", "(LKalmanQuay$Track;LKalmanQuay$Hit;)V"⟩
def dkwX1_got_2 : List UInt8 := [87, 177]
abbrev dktX1_got_2 : List UInt8 := dkwX1_got_2 ++ []
def dkwX1_got_1 : List UInt8 := [44, 180, 0, 123, 182, 0, 68, 192, 0, 96, 182, 0, 126, 108, 184, 0, 147, 133, 183, 0, 149, 182, 0, 101]
abbrev dktX1_got_1 : List UInt8 := dkwX1_got_1 ++ dktX1_got_2
def dkwX1_got_0 : List UInt8 := [43, 180, 0, 142, 187, 0, 145, 89, 42, 180, 0, 74, 44, 180, 0, 120, 4, 17, 1, 0, 42, 180, 0, 38]
abbrev dktX1_got_0 : List UInt8 := dkwX1_got_0 ++ dktX1_got_1
theorem dksX1_got_0 : cX1_got.data.toList.drop 0 = dktX1_got_0 := by decide +kernel
theorem dksX1_got_1 : cX1_got.data.toList.drop 24 = dktX1_got_1 := dk_seg dksX1_got_0 24 rfl rfl
theorem dksX1_got_2 : cX1_got.data.toList.drop 48 = dktX1_got_2 := dk_seg dksX1_got_1 24 rfl rfl
theorem dX1_got_0 : decode cX1_got 0 = .ok (.aload_n 1, 1) := dk_43 (dk_at dksX1_got_0 0 rfl rfl)
theorem dX1_got_1 : decode cX1_got 1 = .ok (.getfield 142, 3) := dk_180 0 142 (dk_at dksX1_got_0 1 rfl rfl)
theorem dX1_got_4 : decode cX1_got 4 = .ok (.new 145, 3) := dk_187 0 145 (dk_at dksX1_got_0 4 rfl rfl)
theorem dX1_got_7 : decode cX1_got 7 = .ok (.dup, 1) := dk_89 (dk_at dksX1_got_0 7 rfl rfl)
theorem dX1_got_8 : decode cX1_got 8 = .ok (.aload_n 0, 1) := dk_42 (dk_at dksX1_got_0 8 rfl rfl)
theorem dX1_got_9 : decode cX1_got 9 = .ok (.getfield 74, 3) := dk_180 0 74 (dk_at dksX1_got_0 9 rfl rfl)
theorem dX1_got_12 : decode cX1_got 12 = .ok (.aload_n 2, 1) := dk_44 (dk_at dksX1_got_0 12 rfl rfl)
theorem dX1_got_13 : decode cX1_got 13 = .ok (.getfield 120, 3) := dk_180 0 120 (dk_at dksX1_got_0 13 rfl rfl)
theorem dX1_got_16 : decode cX1_got 16 = .ok (.iconst 1, 1) := dk_4 (dk_at dksX1_got_0 16 rfl rfl)
theorem dX1_got_17 : decode cX1_got 17 = .ok (.sipush 256, 3) := dk_17 1 0 (dk_at dksX1_got_0 17 rfl rfl)
theorem dX1_got_20 : decode cX1_got 20 = .ok (.aload_n 0, 1) := dk_42 (dk_at dksX1_got_0 20 rfl rfl)
theorem dX1_got_21 : decode cX1_got 21 = .ok (.getfield 38, 3) := dk_180 0 38 (dk_at dksX1_got_0 21 rfl rfl)
theorem dX1_got_24 : decode cX1_got 24 = .ok (.aload_n 2, 1) := dk_44 (dk_at dksX1_got_1 0 rfl rfl)
theorem dX1_got_25 : decode cX1_got 25 = .ok (.getfield 123, 3) := dk_180 0 123 (dk_at dksX1_got_1 1 rfl rfl)
theorem dX1_got_28 : decode cX1_got 28 = .ok (.invokevirtual 68, 3) := dk_182 0 68 (dk_at dksX1_got_1 4 rfl rfl)
theorem dX1_got_31 : decode cX1_got 31 = .ok (.checkcast 96, 3) := dk_192 0 96 (dk_at dksX1_got_1 7 rfl rfl)
theorem dX1_got_34 : decode cX1_got 34 = .ok (.invokevirtual 126, 3) := dk_182 0 126 (dk_at dksX1_got_1 10 rfl rfl)
theorem dX1_got_37 : decode cX1_got 37 = .ok (.idiv, 1) := dk_108 (dk_at dksX1_got_1 13 rfl rfl)
theorem dX1_got_38 : decode cX1_got 38 = .ok (.invokestatic 147, 3) := dk_184 0 147 (dk_at dksX1_got_1 14 rfl rfl)
theorem dX1_got_41 : decode cX1_got 41 = .ok (.i2l, 1) := dk_133 (dk_at dksX1_got_1 17 rfl rfl)
theorem dX1_got_42 : decode cX1_got 42 = .ok (.invokespecial 149, 3) := dk_183 0 149 (dk_at dksX1_got_1 18 rfl rfl)
theorem dX1_got_45 : decode cX1_got 45 = .ok (.invokevirtual 101, 3) := dk_182 0 101 (dk_at dksX1_got_1 21 rfl rfl)
theorem dX1_got_48 : decode cX1_got 48 = .ok (.pop, 1) := dk_87 (dk_at dksX1_got_2 0 rfl rfl)
theorem dX1_got_49 : decode cX1_got 49 = .ok (.return_, 1) := dk_177 (dk_at dksX1_got_2 1 rfl rfl)
abbrev cX1_beginTracks : ByteArray := prog_1_method_18_code
def yX1_beginTracks : MethodName := ⟨RX1, "beginTracks", "()V"⟩
def dkwX1_beginTracks_6 : List UInt8 := [181, 0, 139, 42, 180, 0, 42, 25, 6, 182, 0, 101, 87, 132, 1, 1, 132, 2, 1, 167, 255, 111, 177]
abbrev dktX1_beginTracks_6 : List UInt8 := dkwX1_beginTracks_6 ++ []
def dkwX1_beginTracks_5 : List UInt8 := [183, 0, 197, 183, 0, 200, 58, 6, 42, 25, 6, 45, 182, 0, 135, 45, 42, 180, 0, 42, 182, 0, 60]
abbrev dktX1_beginTracks_5 : List UInt8 := dkwX1_beginTracks_5 ++ dktX1_beginTracks_6
def dkwX1_beginTracks_4 : List UInt8 := [187, 0, 130, 89, 45, 180, 0, 120, 133, 20, 0, 195, 105, 9, 22, 4, 9, 42, 180, 0, 32, 133]
abbrev dktX1_beginTracks_4 : List UInt8 := dkwX1_beginTracks_4 ++ dktX1_beginTracks_5
def dkwX1_beginTracks_3 : List UInt8 := [180, 0, 123, 182, 0, 68, 192, 0, 96, 182, 0, 126, 133, 105, 55, 4, 187, 0, 72, 89, 42, 180, 0, 74]
abbrev dktX1_beginTracks_3 : List UInt8 := dkwX1_beginTracks_3 ++ dktX1_beginTracks_4
def dkwX1_beginTracks_2 : List UInt8 := [162, 0, 108, 42, 180, 0, 42, 182, 0, 60, 16, 40, 162, 0, 96, 20, 0, 195, 42, 180, 0, 38, 45]
abbrev dktX1_beginTracks_2 : List UInt8 := dkwX1_beginTracks_2 ++ dktX1_beginTracks_3
def dkwX1_beginTracks_1 : List UInt8 := [180, 0, 45, 28, 182, 0, 68, 192, 0, 107, 78, 45, 180, 0, 139, 2, 160, 0, 114, 27, 16, 6]
abbrev dktX1_beginTracks_1 : List UInt8 := dkwX1_beginTracks_1 ++ dktX1_beginTracks_2
def dkwX1_beginTracks_0 : List UInt8 := [42, 182, 0, 191, 182, 0, 60, 60, 3, 61, 28, 42, 180, 0, 45, 182, 0, 60, 162, 0, 140, 42]
abbrev dktX1_beginTracks_0 : List UInt8 := dkwX1_beginTracks_0 ++ dktX1_beginTracks_1
theorem dksX1_beginTracks_0 : cX1_beginTracks.data.toList.drop 0 = dktX1_beginTracks_0 := by decide +kernel
theorem dksX1_beginTracks_1 : cX1_beginTracks.data.toList.drop 22 = dktX1_beginTracks_1 := dk_seg dksX1_beginTracks_0 22 rfl rfl
theorem dksX1_beginTracks_2 : cX1_beginTracks.data.toList.drop 44 = dktX1_beginTracks_2 := dk_seg dksX1_beginTracks_1 22 rfl rfl
theorem dksX1_beginTracks_3 : cX1_beginTracks.data.toList.drop 67 = dktX1_beginTracks_3 := dk_seg dksX1_beginTracks_2 23 rfl rfl
theorem dksX1_beginTracks_4 : cX1_beginTracks.data.toList.drop 91 = dktX1_beginTracks_4 := dk_seg dksX1_beginTracks_3 24 rfl rfl
theorem dksX1_beginTracks_5 : cX1_beginTracks.data.toList.drop 113 = dktX1_beginTracks_5 := dk_seg dksX1_beginTracks_4 22 rfl rfl
theorem dksX1_beginTracks_6 : cX1_beginTracks.data.toList.drop 136 = dktX1_beginTracks_6 := dk_seg dksX1_beginTracks_5 23 rfl rfl
theorem dX1_beginTracks_0 : decode cX1_beginTracks 0 = .ok (.aload_n 0, 1) := dk_42 (dk_at dksX1_beginTracks_0 0 rfl rfl)
theorem dX1_beginTracks_1 : decode cX1_beginTracks 1 = .ok (.invokevirtual 191, 3) := dk_182 0 191 (dk_at dksX1_beginTracks_0 1 rfl rfl)
theorem dX1_beginTracks_4 : decode cX1_beginTracks 4 = .ok (.invokevirtual 60, 3) := dk_182 0 60 (dk_at dksX1_beginTracks_0 4 rfl rfl)
theorem dX1_beginTracks_7 : decode cX1_beginTracks 7 = .ok (.istore_n 1, 1) := dk_60 (dk_at dksX1_beginTracks_0 7 rfl rfl)
theorem dX1_beginTracks_8 : decode cX1_beginTracks 8 = .ok (.iconst 0, 1) := dk_3 (dk_at dksX1_beginTracks_0 8 rfl rfl)
theorem dX1_beginTracks_9 : decode cX1_beginTracks 9 = .ok (.istore_n 2, 1) := dk_61 (dk_at dksX1_beginTracks_0 9 rfl rfl)
theorem dX1_beginTracks_10 : decode cX1_beginTracks 10 = .ok (.iload_n 2, 1) := dk_28 (dk_at dksX1_beginTracks_0 10 rfl rfl)
theorem dX1_beginTracks_11 : decode cX1_beginTracks 11 = .ok (.aload_n 0, 1) := dk_42 (dk_at dksX1_beginTracks_0 11 rfl rfl)
theorem dX1_beginTracks_12 : decode cX1_beginTracks 12 = .ok (.getfield 45, 3) := dk_180 0 45 (dk_at dksX1_beginTracks_0 12 rfl rfl)
theorem dX1_beginTracks_15 : decode cX1_beginTracks 15 = .ok (.invokevirtual 60, 3) := dk_182 0 60 (dk_at dksX1_beginTracks_0 15 rfl rfl)
theorem dX1_beginTracks_18 : decode cX1_beginTracks 18 = .ok (.if_icmp .ge 140, 3) := dk_162 0 140 (dk_at dksX1_beginTracks_0 18 rfl rfl)
theorem dX1_beginTracks_21 : decode cX1_beginTracks 21 = .ok (.aload_n 0, 1) := dk_42 (dk_at dksX1_beginTracks_0 21 rfl rfl)
theorem dX1_beginTracks_22 : decode cX1_beginTracks 22 = .ok (.getfield 45, 3) := dk_180 0 45 (dk_at dksX1_beginTracks_1 0 rfl rfl)
theorem dX1_beginTracks_25 : decode cX1_beginTracks 25 = .ok (.iload_n 2, 1) := dk_28 (dk_at dksX1_beginTracks_1 3 rfl rfl)
theorem dX1_beginTracks_26 : decode cX1_beginTracks 26 = .ok (.invokevirtual 68, 3) := dk_182 0 68 (dk_at dksX1_beginTracks_1 4 rfl rfl)
theorem dX1_beginTracks_29 : decode cX1_beginTracks 29 = .ok (.checkcast 107, 3) := dk_192 0 107 (dk_at dksX1_beginTracks_1 7 rfl rfl)
theorem dX1_beginTracks_32 : decode cX1_beginTracks 32 = .ok (.astore_n 3, 1) := dk_78 (dk_at dksX1_beginTracks_1 10 rfl rfl)
theorem dX1_beginTracks_33 : decode cX1_beginTracks 33 = .ok (.aload_n 3, 1) := dk_45 (dk_at dksX1_beginTracks_1 11 rfl rfl)
theorem dX1_beginTracks_34 : decode cX1_beginTracks 34 = .ok (.getfield 139, 3) := dk_180 0 139 (dk_at dksX1_beginTracks_1 12 rfl rfl)
theorem dX1_beginTracks_37 : decode cX1_beginTracks 37 = .ok (.iconst (-1), 1) := dk_2 (dk_at dksX1_beginTracks_1 15 rfl rfl)
theorem dX1_beginTracks_38 : decode cX1_beginTracks 38 = .ok (.if_icmp .ne 114, 3) := dk_160 0 114 (dk_at dksX1_beginTracks_1 16 rfl rfl)
theorem dX1_beginTracks_41 : decode cX1_beginTracks 41 = .ok (.iload_n 1, 1) := dk_27 (dk_at dksX1_beginTracks_1 19 rfl rfl)
theorem dX1_beginTracks_42 : decode cX1_beginTracks 42 = .ok (.bipush 6, 2) := dk_16 6 (dk_at dksX1_beginTracks_1 20 rfl rfl)
theorem dX1_beginTracks_44 : decode cX1_beginTracks 44 = .ok (.if_icmp .ge 108, 3) := dk_162 0 108 (dk_at dksX1_beginTracks_2 0 rfl rfl)
theorem dX1_beginTracks_47 : decode cX1_beginTracks 47 = .ok (.aload_n 0, 1) := dk_42 (dk_at dksX1_beginTracks_2 3 rfl rfl)
theorem dX1_beginTracks_48 : decode cX1_beginTracks 48 = .ok (.getfield 42, 3) := dk_180 0 42 (dk_at dksX1_beginTracks_2 4 rfl rfl)
theorem dX1_beginTracks_51 : decode cX1_beginTracks 51 = .ok (.invokevirtual 60, 3) := dk_182 0 60 (dk_at dksX1_beginTracks_2 7 rfl rfl)
theorem dX1_beginTracks_54 : decode cX1_beginTracks 54 = .ok (.bipush 40, 2) := dk_16 40 (dk_at dksX1_beginTracks_2 10 rfl rfl)
theorem dX1_beginTracks_56 : decode cX1_beginTracks 56 = .ok (.if_icmp .ge 96, 3) := dk_162 0 96 (dk_at dksX1_beginTracks_2 12 rfl rfl)
theorem dX1_beginTracks_59 : decode cX1_beginTracks 59 = .ok (.ldc2_w 195, 3) := dk_20 0 195 (dk_at dksX1_beginTracks_2 15 rfl rfl)
theorem dX1_beginTracks_62 : decode cX1_beginTracks 62 = .ok (.aload_n 0, 1) := dk_42 (dk_at dksX1_beginTracks_2 18 rfl rfl)
theorem dX1_beginTracks_63 : decode cX1_beginTracks 63 = .ok (.getfield 38, 3) := dk_180 0 38 (dk_at dksX1_beginTracks_2 19 rfl rfl)
theorem dX1_beginTracks_66 : decode cX1_beginTracks 66 = .ok (.aload_n 3, 1) := dk_45 (dk_at dksX1_beginTracks_2 22 rfl rfl)
theorem dX1_beginTracks_67 : decode cX1_beginTracks 67 = .ok (.getfield 123, 3) := dk_180 0 123 (dk_at dksX1_beginTracks_3 0 rfl rfl)
theorem dX1_beginTracks_70 : decode cX1_beginTracks 70 = .ok (.invokevirtual 68, 3) := dk_182 0 68 (dk_at dksX1_beginTracks_3 3 rfl rfl)
theorem dX1_beginTracks_73 : decode cX1_beginTracks 73 = .ok (.checkcast 96, 3) := dk_192 0 96 (dk_at dksX1_beginTracks_3 6 rfl rfl)
theorem dX1_beginTracks_76 : decode cX1_beginTracks 76 = .ok (.invokevirtual 126, 3) := dk_182 0 126 (dk_at dksX1_beginTracks_3 9 rfl rfl)
theorem dX1_beginTracks_79 : decode cX1_beginTracks 79 = .ok (.i2l, 1) := dk_133 (dk_at dksX1_beginTracks_3 12 rfl rfl)
theorem dX1_beginTracks_80 : decode cX1_beginTracks 80 = .ok (.lmul, 1) := dk_105 (dk_at dksX1_beginTracks_3 13 rfl rfl)
theorem dX1_beginTracks_81 : decode cX1_beginTracks 81 = .ok (.lstore 4, 2) := dk_55 4 (dk_at dksX1_beginTracks_3 14 rfl rfl)
theorem dX1_beginTracks_83 : decode cX1_beginTracks 83 = .ok (.new 72, 3) := dk_187 0 72 (dk_at dksX1_beginTracks_3 16 rfl rfl)
theorem dX1_beginTracks_86 : decode cX1_beginTracks 86 = .ok (.dup, 1) := dk_89 (dk_at dksX1_beginTracks_3 19 rfl rfl)
theorem dX1_beginTracks_87 : decode cX1_beginTracks 87 = .ok (.aload_n 0, 1) := dk_42 (dk_at dksX1_beginTracks_3 20 rfl rfl)
theorem dX1_beginTracks_88 : decode cX1_beginTracks 88 = .ok (.getfield 74, 3) := dk_180 0 74 (dk_at dksX1_beginTracks_3 21 rfl rfl)
theorem dX1_beginTracks_91 : decode cX1_beginTracks 91 = .ok (.new 130, 3) := dk_187 0 130 (dk_at dksX1_beginTracks_4 0 rfl rfl)
theorem dX1_beginTracks_94 : decode cX1_beginTracks 94 = .ok (.dup, 1) := dk_89 (dk_at dksX1_beginTracks_4 3 rfl rfl)
theorem dX1_beginTracks_95 : decode cX1_beginTracks 95 = .ok (.aload_n 3, 1) := dk_45 (dk_at dksX1_beginTracks_4 4 rfl rfl)
theorem dX1_beginTracks_96 : decode cX1_beginTracks 96 = .ok (.getfield 120, 3) := dk_180 0 120 (dk_at dksX1_beginTracks_4 5 rfl rfl)
theorem dX1_beginTracks_99 : decode cX1_beginTracks 99 = .ok (.i2l, 1) := dk_133 (dk_at dksX1_beginTracks_4 8 rfl rfl)
theorem dX1_beginTracks_100 : decode cX1_beginTracks 100 = .ok (.ldc2_w 195, 3) := dk_20 0 195 (dk_at dksX1_beginTracks_4 9 rfl rfl)
theorem dX1_beginTracks_103 : decode cX1_beginTracks 103 = .ok (.lmul, 1) := dk_105 (dk_at dksX1_beginTracks_4 12 rfl rfl)
theorem dX1_beginTracks_104 : decode cX1_beginTracks 104 = .ok (.lconst 0, 1) := dk_9 (dk_at dksX1_beginTracks_4 13 rfl rfl)
theorem dX1_beginTracks_105 : decode cX1_beginTracks 105 = .ok (.lload 4, 2) := dk_22 4 (dk_at dksX1_beginTracks_4 14 rfl rfl)
theorem dX1_beginTracks_107 : decode cX1_beginTracks 107 = .ok (.lconst 0, 1) := dk_9 (dk_at dksX1_beginTracks_4 16 rfl rfl)
theorem dX1_beginTracks_108 : decode cX1_beginTracks 108 = .ok (.aload_n 0, 1) := dk_42 (dk_at dksX1_beginTracks_4 17 rfl rfl)
theorem dX1_beginTracks_109 : decode cX1_beginTracks 109 = .ok (.getfield 32, 3) := dk_180 0 32 (dk_at dksX1_beginTracks_4 18 rfl rfl)
theorem dX1_beginTracks_112 : decode cX1_beginTracks 112 = .ok (.i2l, 1) := dk_133 (dk_at dksX1_beginTracks_4 21 rfl rfl)
theorem dX1_beginTracks_113 : decode cX1_beginTracks 113 = .ok (.invokespecial 197, 3) := dk_183 0 197 (dk_at dksX1_beginTracks_5 0 rfl rfl)
theorem dX1_beginTracks_116 : decode cX1_beginTracks 116 = .ok (.invokespecial 200, 3) := dk_183 0 200 (dk_at dksX1_beginTracks_5 3 rfl rfl)
theorem dX1_beginTracks_119 : decode cX1_beginTracks 119 = .ok (.astore 6, 2) := dk_58 6 (dk_at dksX1_beginTracks_5 6 rfl rfl)
theorem dX1_beginTracks_121 : decode cX1_beginTracks 121 = .ok (.aload_n 0, 1) := dk_42 (dk_at dksX1_beginTracks_5 8 rfl rfl)
theorem dX1_beginTracks_122 : decode cX1_beginTracks 122 = .ok (.aload 6, 2) := dk_25 6 (dk_at dksX1_beginTracks_5 9 rfl rfl)
theorem dX1_beginTracks_124 : decode cX1_beginTracks 124 = .ok (.aload_n 3, 1) := dk_45 (dk_at dksX1_beginTracks_5 11 rfl rfl)
theorem dX1_beginTracks_125 : decode cX1_beginTracks 125 = .ok (.invokevirtual 135, 3) := dk_182 0 135 (dk_at dksX1_beginTracks_5 12 rfl rfl)
theorem dX1_beginTracks_128 : decode cX1_beginTracks 128 = .ok (.aload_n 3, 1) := dk_45 (dk_at dksX1_beginTracks_5 15 rfl rfl)
theorem dX1_beginTracks_129 : decode cX1_beginTracks 129 = .ok (.aload_n 0, 1) := dk_42 (dk_at dksX1_beginTracks_5 16 rfl rfl)
theorem dX1_beginTracks_130 : decode cX1_beginTracks 130 = .ok (.getfield 42, 3) := dk_180 0 42 (dk_at dksX1_beginTracks_5 17 rfl rfl)
theorem dX1_beginTracks_133 : decode cX1_beginTracks 133 = .ok (.invokevirtual 60, 3) := dk_182 0 60 (dk_at dksX1_beginTracks_5 20 rfl rfl)
theorem dX1_beginTracks_136 : decode cX1_beginTracks 136 = .ok (.putfield 139, 3) := dk_181 0 139 (dk_at dksX1_beginTracks_6 0 rfl rfl)
theorem dX1_beginTracks_139 : decode cX1_beginTracks 139 = .ok (.aload_n 0, 1) := dk_42 (dk_at dksX1_beginTracks_6 3 rfl rfl)
theorem dX1_beginTracks_140 : decode cX1_beginTracks 140 = .ok (.getfield 42, 3) := dk_180 0 42 (dk_at dksX1_beginTracks_6 4 rfl rfl)
theorem dX1_beginTracks_143 : decode cX1_beginTracks 143 = .ok (.aload 6, 2) := dk_25 6 (dk_at dksX1_beginTracks_6 7 rfl rfl)
theorem dX1_beginTracks_145 : decode cX1_beginTracks 145 = .ok (.invokevirtual 101, 3) := dk_182 0 101 (dk_at dksX1_beginTracks_6 9 rfl rfl)
theorem dX1_beginTracks_148 : decode cX1_beginTracks 148 = .ok (.pop, 1) := dk_87 (dk_at dksX1_beginTracks_6 12 rfl rfl)
theorem dX1_beginTracks_149 : decode cX1_beginTracks 149 = .ok (.iinc 1 1, 3) := dk_132 1 1 (dk_at dksX1_beginTracks_6 13 rfl rfl)
theorem dX1_beginTracks_152 : decode cX1_beginTracks 152 = .ok (.iinc 2 1, 3) := dk_132 2 1 (dk_at dksX1_beginTracks_6 16 rfl rfl)
theorem dX1_beginTracks_155 : decode cX1_beginTracks 155 = .ok (.goto (-145), 3) := dk_167 255 111 (dk_at dksX1_beginTracks_6 19 rfl rfl)
theorem dX1_beginTracks_158 : decode cX1_beginTracks 158 = .ok (.return_, 1) := dk_177 (dk_at dksX1_beginTracks_6 22 rfl rfl)
abbrev cX1_close : ByteArray := prog_1_method_19_code
def yX1_close : MethodName := ⟨RX1, "close", "(LKalmanQuay$Track;Z)V"⟩
def dkwX1_close_2 : List UInt8 := [180, 0, 209, 42, 180, 0, 25, 163, 0, 7, 4, 167, 0, 4, 3, 181, 0, 112, 177]
abbrev dktX1_close_2 : List UInt8 := dkwX1_close_2 ++ []
def dkwX1_close_1 : List UInt8 := [181, 0, 206, 43, 3, 181, 0, 209, 167, 0, 33, 43, 89, 180, 0, 209, 4, 96, 181, 0, 209, 43, 43]
abbrev dktX1_close_1 : List UInt8 := dkwX1_close_1 ++ dktX1_close_2
def dkwX1_close_0 : List UInt8 := [43, 180, 0, 203, 43, 180, 0, 116, 182, 0, 101, 87, 28, 153, 0, 21, 43, 89, 180, 0, 206, 4, 96]
abbrev dktX1_close_0 : List UInt8 := dkwX1_close_0 ++ dktX1_close_1
theorem dksX1_close_0 : cX1_close.data.toList.drop 0 = dktX1_close_0 := by decide +kernel
theorem dksX1_close_1 : cX1_close.data.toList.drop 23 = dktX1_close_1 := dk_seg dksX1_close_0 23 rfl rfl
theorem dksX1_close_2 : cX1_close.data.toList.drop 46 = dktX1_close_2 := dk_seg dksX1_close_1 23 rfl rfl
theorem dX1_close_0 : decode cX1_close 0 = .ok (.aload_n 1, 1) := dk_43 (dk_at dksX1_close_0 0 rfl rfl)
theorem dX1_close_1 : decode cX1_close 1 = .ok (.getfield 203, 3) := dk_180 0 203 (dk_at dksX1_close_0 1 rfl rfl)
theorem dX1_close_4 : decode cX1_close 4 = .ok (.aload_n 1, 1) := dk_43 (dk_at dksX1_close_0 4 rfl rfl)
theorem dX1_close_5 : decode cX1_close 5 = .ok (.getfield 116, 3) := dk_180 0 116 (dk_at dksX1_close_0 5 rfl rfl)
theorem dX1_close_8 : decode cX1_close 8 = .ok (.invokevirtual 101, 3) := dk_182 0 101 (dk_at dksX1_close_0 8 rfl rfl)
theorem dX1_close_11 : decode cX1_close 11 = .ok (.pop, 1) := dk_87 (dk_at dksX1_close_0 11 rfl rfl)
theorem dX1_close_12 : decode cX1_close 12 = .ok (.iload_n 2, 1) := dk_28 (dk_at dksX1_close_0 12 rfl rfl)
theorem dX1_close_13 : decode cX1_close 13 = .ok (.ifCond .eq 21, 3) := dk_153 0 21 (dk_at dksX1_close_0 13 rfl rfl)
theorem dX1_close_16 : decode cX1_close 16 = .ok (.aload_n 1, 1) := dk_43 (dk_at dksX1_close_0 16 rfl rfl)
theorem dX1_close_17 : decode cX1_close 17 = .ok (.dup, 1) := dk_89 (dk_at dksX1_close_0 17 rfl rfl)
theorem dX1_close_18 : decode cX1_close 18 = .ok (.getfield 206, 3) := dk_180 0 206 (dk_at dksX1_close_0 18 rfl rfl)
theorem dX1_close_21 : decode cX1_close 21 = .ok (.iconst 1, 1) := dk_4 (dk_at dksX1_close_0 21 rfl rfl)
theorem dX1_close_22 : decode cX1_close 22 = .ok (.iadd, 1) := dk_96 (dk_at dksX1_close_0 22 rfl rfl)
theorem dX1_close_23 : decode cX1_close 23 = .ok (.putfield 206, 3) := dk_181 0 206 (dk_at dksX1_close_1 0 rfl rfl)
theorem dX1_close_26 : decode cX1_close 26 = .ok (.aload_n 1, 1) := dk_43 (dk_at dksX1_close_1 3 rfl rfl)
theorem dX1_close_27 : decode cX1_close 27 = .ok (.iconst 0, 1) := dk_3 (dk_at dksX1_close_1 4 rfl rfl)
theorem dX1_close_28 : decode cX1_close 28 = .ok (.putfield 209, 3) := dk_181 0 209 (dk_at dksX1_close_1 5 rfl rfl)
theorem dX1_close_31 : decode cX1_close 31 = .ok (.goto 33, 3) := dk_167 0 33 (dk_at dksX1_close_1 8 rfl rfl)
theorem dX1_close_34 : decode cX1_close 34 = .ok (.aload_n 1, 1) := dk_43 (dk_at dksX1_close_1 11 rfl rfl)
theorem dX1_close_35 : decode cX1_close 35 = .ok (.dup, 1) := dk_89 (dk_at dksX1_close_1 12 rfl rfl)
theorem dX1_close_36 : decode cX1_close 36 = .ok (.getfield 209, 3) := dk_180 0 209 (dk_at dksX1_close_1 13 rfl rfl)
theorem dX1_close_39 : decode cX1_close 39 = .ok (.iconst 1, 1) := dk_4 (dk_at dksX1_close_1 16 rfl rfl)
theorem dX1_close_40 : decode cX1_close 40 = .ok (.iadd, 1) := dk_96 (dk_at dksX1_close_1 17 rfl rfl)
theorem dX1_close_41 : decode cX1_close 41 = .ok (.putfield 209, 3) := dk_181 0 209 (dk_at dksX1_close_1 18 rfl rfl)
theorem dX1_close_44 : decode cX1_close 44 = .ok (.aload_n 1, 1) := dk_43 (dk_at dksX1_close_1 21 rfl rfl)
theorem dX1_close_45 : decode cX1_close 45 = .ok (.aload_n 1, 1) := dk_43 (dk_at dksX1_close_1 22 rfl rfl)
theorem dX1_close_46 : decode cX1_close 46 = .ok (.getfield 209, 3) := dk_180 0 209 (dk_at dksX1_close_2 0 rfl rfl)
theorem dX1_close_49 : decode cX1_close 49 = .ok (.aload_n 0, 1) := dk_42 (dk_at dksX1_close_2 3 rfl rfl)
theorem dX1_close_50 : decode cX1_close 50 = .ok (.getfield 25, 3) := dk_180 0 25 (dk_at dksX1_close_2 4 rfl rfl)
theorem dX1_close_53 : decode cX1_close 53 = .ok (.if_icmp .gt 7, 3) := dk_163 0 7 (dk_at dksX1_close_2 7 rfl rfl)
theorem dX1_close_56 : decode cX1_close 56 = .ok (.iconst 1, 1) := dk_4 (dk_at dksX1_close_2 10 rfl rfl)
theorem dX1_close_57 : decode cX1_close 57 = .ok (.goto 4, 3) := dk_167 0 4 (dk_at dksX1_close_2 11 rfl rfl)
theorem dX1_close_60 : decode cX1_close 60 = .ok (.iconst 0, 1) := dk_3 (dk_at dksX1_close_2 14 rfl rfl)
theorem dX1_close_61 : decode cX1_close 61 = .ok (.putfield 112, 3) := dk_181 0 112 (dk_at dksX1_close_2 15 rfl rfl)
theorem dX1_close_64 : decode cX1_close 64 = .ok (.return_, 1) := dk_177 (dk_at dksX1_close_2 18 rfl rfl)
abbrev cX1_beats : ByteArray := prog_1_method_22_code
def yX1_beats : MethodName := ⟨RX1, "beats", "(I)I"⟩
def dkwX1_beats_2 : List UInt8 := [172]
abbrev dktX1_beats_2 : List UInt8 := dkwX1_beats_2 ++ []
def dkwX1_beats_1 : List UInt8 := [184, 0, 91, 3, 61, 3, 62, 29, 27, 162, 0, 14, 42, 182, 0, 237, 61, 132, 3, 1, 167, 255, 243, 28]
abbrev dktX1_beats_1 : List UInt8 := dkwX1_beats_1 ++ dktX1_beats_2
def dkwX1_beats_0 : List UInt8 := [27, 4, 16, 10, 184, 0, 86, 87, 42, 180, 0, 74, 27, 96, 16, 64, 163, 0, 7, 4, 167, 0, 4, 3]
abbrev dktX1_beats_0 : List UInt8 := dkwX1_beats_0 ++ dktX1_beats_1
theorem dksX1_beats_0 : cX1_beats.data.toList.drop 0 = dktX1_beats_0 := by decide +kernel
theorem dksX1_beats_1 : cX1_beats.data.toList.drop 24 = dktX1_beats_1 := dk_seg dksX1_beats_0 24 rfl rfl
theorem dksX1_beats_2 : cX1_beats.data.toList.drop 48 = dktX1_beats_2 := dk_seg dksX1_beats_1 24 rfl rfl
theorem dX1_beats_0 : decode cX1_beats 0 = .ok (.iload_n 1, 1) := dk_27 (dk_at dksX1_beats_0 0 rfl rfl)
theorem dX1_beats_1 : decode cX1_beats 1 = .ok (.iconst 1, 1) := dk_4 (dk_at dksX1_beats_0 1 rfl rfl)
theorem dX1_beats_2 : decode cX1_beats 2 = .ok (.bipush 10, 2) := dk_16 10 (dk_at dksX1_beats_0 2 rfl rfl)
theorem dX1_beats_4 : decode cX1_beats 4 = .ok (.invokestatic 86, 3) := dk_184 0 86 (dk_at dksX1_beats_0 4 rfl rfl)
theorem dX1_beats_7 : decode cX1_beats 7 = .ok (.pop, 1) := dk_87 (dk_at dksX1_beats_0 7 rfl rfl)
theorem dX1_beats_8 : decode cX1_beats 8 = .ok (.aload_n 0, 1) := dk_42 (dk_at dksX1_beats_0 8 rfl rfl)
theorem dX1_beats_9 : decode cX1_beats 9 = .ok (.getfield 74, 3) := dk_180 0 74 (dk_at dksX1_beats_0 9 rfl rfl)
theorem dX1_beats_12 : decode cX1_beats 12 = .ok (.iload_n 1, 1) := dk_27 (dk_at dksX1_beats_0 12 rfl rfl)
theorem dX1_beats_13 : decode cX1_beats 13 = .ok (.iadd, 1) := dk_96 (dk_at dksX1_beats_0 13 rfl rfl)
theorem dX1_beats_14 : decode cX1_beats 14 = .ok (.bipush 64, 2) := dk_16 64 (dk_at dksX1_beats_0 14 rfl rfl)
theorem dX1_beats_16 : decode cX1_beats 16 = .ok (.if_icmp .gt 7, 3) := dk_163 0 7 (dk_at dksX1_beats_0 16 rfl rfl)
theorem dX1_beats_19 : decode cX1_beats 19 = .ok (.iconst 1, 1) := dk_4 (dk_at dksX1_beats_0 19 rfl rfl)
theorem dX1_beats_20 : decode cX1_beats 20 = .ok (.goto 4, 3) := dk_167 0 4 (dk_at dksX1_beats_0 20 rfl rfl)
theorem dX1_beats_23 : decode cX1_beats 23 = .ok (.iconst 0, 1) := dk_3 (dk_at dksX1_beats_0 23 rfl rfl)
theorem dX1_beats_24 : decode cX1_beats 24 = .ok (.invokestatic 91, 3) := dk_184 0 91 (dk_at dksX1_beats_1 0 rfl rfl)
theorem dX1_beats_27 : decode cX1_beats 27 = .ok (.iconst 0, 1) := dk_3 (dk_at dksX1_beats_1 3 rfl rfl)
theorem dX1_beats_28 : decode cX1_beats 28 = .ok (.istore_n 2, 1) := dk_61 (dk_at dksX1_beats_1 4 rfl rfl)
theorem dX1_beats_29 : decode cX1_beats 29 = .ok (.iconst 0, 1) := dk_3 (dk_at dksX1_beats_1 5 rfl rfl)
theorem dX1_beats_30 : decode cX1_beats 30 = .ok (.istore_n 3, 1) := dk_62 (dk_at dksX1_beats_1 6 rfl rfl)
theorem dX1_beats_31 : decode cX1_beats 31 = .ok (.iload_n 3, 1) := dk_29 (dk_at dksX1_beats_1 7 rfl rfl)
theorem dX1_beats_32 : decode cX1_beats 32 = .ok (.iload_n 1, 1) := dk_27 (dk_at dksX1_beats_1 8 rfl rfl)
theorem dX1_beats_33 : decode cX1_beats 33 = .ok (.if_icmp .ge 14, 3) := dk_162 0 14 (dk_at dksX1_beats_1 9 rfl rfl)
theorem dX1_beats_36 : decode cX1_beats 36 = .ok (.aload_n 0, 1) := dk_42 (dk_at dksX1_beats_1 12 rfl rfl)
theorem dX1_beats_37 : decode cX1_beats 37 = .ok (.invokevirtual 237, 3) := dk_182 0 237 (dk_at dksX1_beats_1 13 rfl rfl)
theorem dX1_beats_40 : decode cX1_beats 40 = .ok (.istore_n 2, 1) := dk_61 (dk_at dksX1_beats_1 16 rfl rfl)
theorem dX1_beats_41 : decode cX1_beats 41 = .ok (.iinc 3 1, 3) := dk_132 3 1 (dk_at dksX1_beats_1 17 rfl rfl)
theorem dX1_beats_44 : decode cX1_beats 44 = .ok (.goto (-13), 3) := dk_167 255 243 (dk_at dksX1_beats_1 20 rfl rfl)
theorem dX1_beats_47 : decode cX1_beats 47 = .ok (.iload_n 2, 1) := dk_28 (dk_at dksX1_beats_1 23 rfl rfl)
theorem dX1_beats_48 : decode cX1_beats 48 = .ok (.ireturn, 1) := dk_172 (dk_at dksX1_beats_2 0 rfl rfl)
abbrev cX1_trackOf : ByteArray := prog_1_method_24_code
def yX1_trackOf : MethodName := ⟨RX1, "trackOf", "(I)I"⟩
def dkwX1_trackOf_1 : List UInt8 := [172]
abbrev dktX1_trackOf_1 : List UInt8 := dkwX1_trackOf_1 ++ []
def dkwX1_trackOf_0 : List UInt8 := [42, 180, 0, 48, 27, 42, 180, 0, 48, 182, 0, 60, 184, 0, 64, 182, 0, 68, 192, 0, 107, 180, 0, 139]
abbrev dktX1_trackOf_0 : List UInt8 := dkwX1_trackOf_0 ++ dktX1_trackOf_1
theorem dksX1_trackOf_0 : cX1_trackOf.data.toList.drop 0 = dktX1_trackOf_0 := by decide +kernel
theorem dksX1_trackOf_1 : cX1_trackOf.data.toList.drop 24 = dktX1_trackOf_1 := dk_seg dksX1_trackOf_0 24 rfl rfl
theorem dX1_trackOf_0 : decode cX1_trackOf 0 = .ok (.aload_n 0, 1) := dk_42 (dk_at dksX1_trackOf_0 0 rfl rfl)
theorem dX1_trackOf_1 : decode cX1_trackOf 1 = .ok (.getfield 48, 3) := dk_180 0 48 (dk_at dksX1_trackOf_0 1 rfl rfl)
theorem dX1_trackOf_4 : decode cX1_trackOf 4 = .ok (.iload_n 1, 1) := dk_27 (dk_at dksX1_trackOf_0 4 rfl rfl)
theorem dX1_trackOf_5 : decode cX1_trackOf 5 = .ok (.aload_n 0, 1) := dk_42 (dk_at dksX1_trackOf_0 5 rfl rfl)
theorem dX1_trackOf_6 : decode cX1_trackOf 6 = .ok (.getfield 48, 3) := dk_180 0 48 (dk_at dksX1_trackOf_0 6 rfl rfl)
theorem dX1_trackOf_9 : decode cX1_trackOf 9 = .ok (.invokevirtual 60, 3) := dk_182 0 60 (dk_at dksX1_trackOf_0 9 rfl rfl)
theorem dX1_trackOf_12 : decode cX1_trackOf 12 = .ok (.invokestatic 64, 3) := dk_184 0 64 (dk_at dksX1_trackOf_0 12 rfl rfl)
theorem dX1_trackOf_15 : decode cX1_trackOf 15 = .ok (.invokevirtual 68, 3) := dk_182 0 68 (dk_at dksX1_trackOf_0 15 rfl rfl)
theorem dX1_trackOf_18 : decode cX1_trackOf 18 = .ok (.checkcast 107, 3) := dk_192 0 107 (dk_at dksX1_trackOf_0 18 rfl rfl)
theorem dX1_trackOf_21 : decode cX1_trackOf 21 = .ok (.getfield 139, 3) := dk_180 0 139 (dk_at dksX1_trackOf_0 21 rfl rfl)
theorem dX1_trackOf_24 : decode cX1_trackOf 24 = .ok (.ireturn, 1) := dk_172 (dk_at dksX1_trackOf_1 0 rfl rfl)
abbrev cX1_isAlive : ByteArray := prog_1_method_27_code
def yX1_isAlive : MethodName := ⟨RX1, "isAlive", "(I)Z"⟩
def dkwX1_isAlive_0 : List UInt8 := [42, 27, 182, 0, 240, 180, 0, 112, 172]
abbrev dktX1_isAlive_0 : List UInt8 := dkwX1_isAlive_0 ++ []
theorem dksX1_isAlive_0 : cX1_isAlive.data.toList.drop 0 = dktX1_isAlive_0 := by decide +kernel
theorem dX1_isAlive_0 : decode cX1_isAlive 0 = .ok (.aload_n 0, 1) := dk_42 (dk_at dksX1_isAlive_0 0 rfl rfl)
theorem dX1_isAlive_1 : decode cX1_isAlive 1 = .ok (.iload_n 1, 1) := dk_27 (dk_at dksX1_isAlive_0 1 rfl rfl)
theorem dX1_isAlive_2 : decode cX1_isAlive 2 = .ok (.invokevirtual 240, 3) := dk_182 0 240 (dk_at dksX1_isAlive_0 2 rfl rfl)
theorem dX1_isAlive_5 : decode cX1_isAlive 5 = .ok (.getfield 112, 3) := dk_180 0 112 (dk_at dksX1_isAlive_0 5 rfl rfl)
theorem dX1_isAlive_8 : decode cX1_isAlive 8 = .ok (.ireturn, 1) := dk_172 (dk_at dksX1_isAlive_0 8 rfl rfl)
abbrev cX1_trackBy : ByteArray := prog_1_method_6_code
def yX1_trackBy : MethodName := ⟨RX1, "trackBy", "(I)LKalmanQuay$Track;"⟩
def dkwX1_trackBy_0 : List UInt8 := [42, 180, 0, 42, 27, 42, 180, 0, 42, 182, 0, 60, 184, 0, 64, 182, 0, 68, 192, 0, 72, 176]
abbrev dktX1_trackBy_0 : List UInt8 := dkwX1_trackBy_0 ++ []
theorem dksX1_trackBy_0 : cX1_trackBy.data.toList.drop 0 = dktX1_trackBy_0 := by decide +kernel
theorem dX1_trackBy_0 : decode cX1_trackBy 0 = .ok (.aload_n 0, 1) := dk_42 (dk_at dksX1_trackBy_0 0 rfl rfl)
theorem dX1_trackBy_1 : decode cX1_trackBy 1 = .ok (.getfield 42, 3) := dk_180 0 42 (dk_at dksX1_trackBy_0 1 rfl rfl)
theorem dX1_trackBy_4 : decode cX1_trackBy 4 = .ok (.iload_n 1, 1) := dk_27 (dk_at dksX1_trackBy_0 4 rfl rfl)
theorem dX1_trackBy_5 : decode cX1_trackBy 5 = .ok (.aload_n 0, 1) := dk_42 (dk_at dksX1_trackBy_0 5 rfl rfl)
theorem dX1_trackBy_6 : decode cX1_trackBy 6 = .ok (.getfield 42, 3) := dk_180 0 42 (dk_at dksX1_trackBy_0 6 rfl rfl)
theorem dX1_trackBy_9 : decode cX1_trackBy 9 = .ok (.invokevirtual 60, 3) := dk_182 0 60 (dk_at dksX1_trackBy_0 9 rfl rfl)
theorem dX1_trackBy_12 : decode cX1_trackBy 12 = .ok (.invokestatic 64, 3) := dk_184 0 64 (dk_at dksX1_trackBy_0 12 rfl rfl)
theorem dX1_trackBy_15 : decode cX1_trackBy 15 = .ok (.invokevirtual 68, 3) := dk_182 0 68 (dk_at dksX1_trackBy_0 15 rfl rfl)
theorem dX1_trackBy_18 : decode cX1_trackBy 18 = .ok (.checkcast 72, 3) := dk_192 0 72 (dk_at dksX1_trackBy_0 18 rfl rfl)
theorem dX1_trackBy_21 : decode cX1_trackBy 21 = .ok (.areturn, 1) := dk_176 (dk_at dksX1_trackBy_0 21 rfl rfl)
abbrev cX1_isProven : ByteArray := prog_1_method_28_code
def yX1_isProven : MethodName := ⟨RX1, "isProven", "(I)Z"⟩
def dkwX1_isProven_0 : List UInt8 := [42, 27, 182, 0, 240, 180, 0, 234, 172]
abbrev dktX1_isProven_0 : List UInt8 := dkwX1_isProven_0 ++ []
theorem dksX1_isProven_0 : cX1_isProven.data.toList.drop 0 = dktX1_isProven_0 := by decide +kernel
theorem dX1_isProven_0 : decode cX1_isProven 0 = .ok (.aload_n 0, 1) := dk_42 (dk_at dksX1_isProven_0 0 rfl rfl)
theorem dX1_isProven_1 : decode cX1_isProven 1 = .ok (.iload_n 1, 1) := dk_27 (dk_at dksX1_isProven_0 1 rfl rfl)
theorem dX1_isProven_2 : decode cX1_isProven 2 = .ok (.invokevirtual 240, 3) := dk_182 0 240 (dk_at dksX1_isProven_0 2 rfl rfl)
theorem dX1_isProven_5 : decode cX1_isProven 5 = .ok (.getfield 234, 3) := dk_180 0 234 (dk_at dksX1_isProven_0 5 rfl rfl)
theorem dX1_isProven_8 : decode cX1_isProven 8 = .ok (.ireturn, 1) := dk_172 (dk_at dksX1_isProven_0 8 rfl rfl)
abbrev cX1_placeOf : ByteArray := prog_1_method_29_code
def yX1_placeOf : MethodName := ⟨RX1, "placeOf", "(I)I"⟩
def dkwX1_placeOf_0 : List UInt8 := [42, 27, 182, 0, 240, 180, 0, 116, 180, 0, 244, 172]
abbrev dktX1_placeOf_0 : List UInt8 := dkwX1_placeOf_0 ++ []
theorem dksX1_placeOf_0 : cX1_placeOf.data.toList.drop 0 = dktX1_placeOf_0 := by decide +kernel
theorem dX1_placeOf_0 : decode cX1_placeOf 0 = .ok (.aload_n 0, 1) := dk_42 (dk_at dksX1_placeOf_0 0 rfl rfl)
theorem dX1_placeOf_1 : decode cX1_placeOf 1 = .ok (.iload_n 1, 1) := dk_27 (dk_at dksX1_placeOf_0 1 rfl rfl)
theorem dX1_placeOf_2 : decode cX1_placeOf 2 = .ok (.invokevirtual 240, 3) := dk_182 0 240 (dk_at dksX1_placeOf_0 2 rfl rfl)
theorem dX1_placeOf_5 : decode cX1_placeOf 5 = .ok (.getfield 116, 3) := dk_180 0 116 (dk_at dksX1_placeOf_0 5 rfl rfl)
theorem dX1_placeOf_8 : decode cX1_placeOf 8 = .ok (.getfield 244, 3) := dk_180 0 244 (dk_at dksX1_placeOf_0 8 rfl rfl)
theorem dX1_placeOf_11 : decode cX1_placeOf 11 = .ok (.ireturn, 1) := dk_172 (dk_at dksX1_placeOf_0 11 rfl rfl)
abbrev cX1_speedOf : ByteArray := prog_1_method_30_code
def yX1_speedOf : MethodName := ⟨RX1, "speedOf", "(I)I"⟩
def dkwX1_speedOf_0 : List UInt8 := [42, 27, 182, 0, 240, 180, 0, 116, 180, 0, 247, 172]
abbrev dktX1_speedOf_0 : List UInt8 := dkwX1_speedOf_0 ++ []
theorem dksX1_speedOf_0 : cX1_speedOf.data.toList.drop 0 = dktX1_speedOf_0 := by decide +kernel
theorem dX1_speedOf_0 : decode cX1_speedOf 0 = .ok (.aload_n 0, 1) := dk_42 (dk_at dksX1_speedOf_0 0 rfl rfl)
theorem dX1_speedOf_1 : decode cX1_speedOf 1 = .ok (.iload_n 1, 1) := dk_27 (dk_at dksX1_speedOf_0 1 rfl rfl)
theorem dX1_speedOf_2 : decode cX1_speedOf 2 = .ok (.invokevirtual 240, 3) := dk_182 0 240 (dk_at dksX1_speedOf_0 2 rfl rfl)
theorem dX1_speedOf_5 : decode cX1_speedOf 5 = .ok (.getfield 116, 3) := dk_180 0 116 (dk_at dksX1_speedOf_0 5 rfl rfl)
theorem dX1_speedOf_8 : decode cX1_speedOf 8 = .ok (.getfield 247, 3) := dk_180 0 247 (dk_at dksX1_speedOf_0 8 rfl rfl)
theorem dX1_speedOf_11 : decode cX1_speedOf 11 = .ok (.ireturn, 1) := dk_172 (dk_at dksX1_speedOf_0 11 rfl rfl)
abbrev cX1_varianceOf : ByteArray := prog_1_method_31_code
def yX1_varianceOf : MethodName := ⟨RX1, "varianceOf", "(II)I"⟩
def dkwX1_varianceOf_1 : List UInt8 := [167, 0, 19, 28, 4, 160, 0, 10, 45, 180, 0, 253, 167, 0, 7, 45, 180, 1, 0, 172]
abbrev dktX1_varianceOf_1 : List UInt8 := dkwX1_varianceOf_1 ++ []
def dkwX1_varianceOf_0 : List UInt8 := [42, 27, 182, 0, 240, 180, 0, 116, 78, 28, 3, 5, 184, 0, 86, 87, 28, 154, 0, 10, 45, 180, 0, 250]
abbrev dktX1_varianceOf_0 : List UInt8 := dkwX1_varianceOf_0 ++ dktX1_varianceOf_1
theorem dksX1_varianceOf_0 : cX1_varianceOf.data.toList.drop 0 = dktX1_varianceOf_0 := by decide +kernel
theorem dksX1_varianceOf_1 : cX1_varianceOf.data.toList.drop 24 = dktX1_varianceOf_1 := dk_seg dksX1_varianceOf_0 24 rfl rfl
theorem dX1_varianceOf_0 : decode cX1_varianceOf 0 = .ok (.aload_n 0, 1) := dk_42 (dk_at dksX1_varianceOf_0 0 rfl rfl)
theorem dX1_varianceOf_1 : decode cX1_varianceOf 1 = .ok (.iload_n 1, 1) := dk_27 (dk_at dksX1_varianceOf_0 1 rfl rfl)
theorem dX1_varianceOf_2 : decode cX1_varianceOf 2 = .ok (.invokevirtual 240, 3) := dk_182 0 240 (dk_at dksX1_varianceOf_0 2 rfl rfl)
theorem dX1_varianceOf_5 : decode cX1_varianceOf 5 = .ok (.getfield 116, 3) := dk_180 0 116 (dk_at dksX1_varianceOf_0 5 rfl rfl)
theorem dX1_varianceOf_8 : decode cX1_varianceOf 8 = .ok (.astore_n 3, 1) := dk_78 (dk_at dksX1_varianceOf_0 8 rfl rfl)
theorem dX1_varianceOf_9 : decode cX1_varianceOf 9 = .ok (.iload_n 2, 1) := dk_28 (dk_at dksX1_varianceOf_0 9 rfl rfl)
theorem dX1_varianceOf_10 : decode cX1_varianceOf 10 = .ok (.iconst 0, 1) := dk_3 (dk_at dksX1_varianceOf_0 10 rfl rfl)
theorem dX1_varianceOf_11 : decode cX1_varianceOf 11 = .ok (.iconst 2, 1) := dk_5 (dk_at dksX1_varianceOf_0 11 rfl rfl)
theorem dX1_varianceOf_12 : decode cX1_varianceOf 12 = .ok (.invokestatic 86, 3) := dk_184 0 86 (dk_at dksX1_varianceOf_0 12 rfl rfl)
theorem dX1_varianceOf_15 : decode cX1_varianceOf 15 = .ok (.pop, 1) := dk_87 (dk_at dksX1_varianceOf_0 15 rfl rfl)
theorem dX1_varianceOf_16 : decode cX1_varianceOf 16 = .ok (.iload_n 2, 1) := dk_28 (dk_at dksX1_varianceOf_0 16 rfl rfl)
theorem dX1_varianceOf_17 : decode cX1_varianceOf 17 = .ok (.ifCond .ne 10, 3) := dk_154 0 10 (dk_at dksX1_varianceOf_0 17 rfl rfl)
theorem dX1_varianceOf_20 : decode cX1_varianceOf 20 = .ok (.aload_n 3, 1) := dk_45 (dk_at dksX1_varianceOf_0 20 rfl rfl)
theorem dX1_varianceOf_21 : decode cX1_varianceOf 21 = .ok (.getfield 250, 3) := dk_180 0 250 (dk_at dksX1_varianceOf_0 21 rfl rfl)
theorem dX1_varianceOf_24 : decode cX1_varianceOf 24 = .ok (.goto 19, 3) := dk_167 0 19 (dk_at dksX1_varianceOf_1 0 rfl rfl)
theorem dX1_varianceOf_27 : decode cX1_varianceOf 27 = .ok (.iload_n 2, 1) := dk_28 (dk_at dksX1_varianceOf_1 3 rfl rfl)
theorem dX1_varianceOf_28 : decode cX1_varianceOf 28 = .ok (.iconst 1, 1) := dk_4 (dk_at dksX1_varianceOf_1 4 rfl rfl)
theorem dX1_varianceOf_29 : decode cX1_varianceOf 29 = .ok (.if_icmp .ne 10, 3) := dk_160 0 10 (dk_at dksX1_varianceOf_1 5 rfl rfl)
theorem dX1_varianceOf_32 : decode cX1_varianceOf 32 = .ok (.aload_n 3, 1) := dk_45 (dk_at dksX1_varianceOf_1 8 rfl rfl)
theorem dX1_varianceOf_33 : decode cX1_varianceOf 33 = .ok (.getfield 253, 3) := dk_180 0 253 (dk_at dksX1_varianceOf_1 9 rfl rfl)
theorem dX1_varianceOf_36 : decode cX1_varianceOf 36 = .ok (.goto 7, 3) := dk_167 0 7 (dk_at dksX1_varianceOf_1 12 rfl rfl)
theorem dX1_varianceOf_39 : decode cX1_varianceOf 39 = .ok (.aload_n 3, 1) := dk_45 (dk_at dksX1_varianceOf_1 15 rfl rfl)
theorem dX1_varianceOf_40 : decode cX1_varianceOf 40 = .ok (.getfield 256, 3) := dk_180 1 0 (dk_at dksX1_varianceOf_1 16 rfl rfl)
theorem dX1_varianceOf_43 : decode cX1_varianceOf 43 = .ok (.ireturn, 1) := dk_172 (dk_at dksX1_varianceOf_1 19 rfl rfl)
abbrev cX1_hitBeats : ByteArray := prog_1_method_32_code
def yX1_hitBeats : MethodName := ⟨RX1, "hitBeats", "(I)I"⟩
def dkwX1_hitBeats_0 : List UInt8 := [42, 27, 182, 0, 240, 180, 0, 206, 172]
abbrev dktX1_hitBeats_0 : List UInt8 := dkwX1_hitBeats_0 ++ []
theorem dksX1_hitBeats_0 : cX1_hitBeats.data.toList.drop 0 = dktX1_hitBeats_0 := by decide +kernel
theorem dX1_hitBeats_0 : decode cX1_hitBeats 0 = .ok (.aload_n 0, 1) := dk_42 (dk_at dksX1_hitBeats_0 0 rfl rfl)
theorem dX1_hitBeats_1 : decode cX1_hitBeats 1 = .ok (.iload_n 1, 1) := dk_27 (dk_at dksX1_hitBeats_0 1 rfl rfl)
theorem dX1_hitBeats_2 : decode cX1_hitBeats 2 = .ok (.invokevirtual 240, 3) := dk_182 0 240 (dk_at dksX1_hitBeats_0 2 rfl rfl)
theorem dX1_hitBeats_5 : decode cX1_hitBeats 5 = .ok (.getfield 206, 3) := dk_180 0 206 (dk_at dksX1_hitBeats_0 5 rfl rfl)
theorem dX1_hitBeats_8 : decode cX1_hitBeats 8 = .ok (.ireturn, 1) := dk_172 (dk_at dksX1_hitBeats_0 8 rfl rfl)
abbrev cX1_misses : ByteArray := prog_1_method_33_code
def yX1_misses : MethodName := ⟨RX1, "misses", "(I)I"⟩
def dkwX1_misses_0 : List UInt8 := [42, 27, 182, 0, 240, 180, 0, 209, 172]
abbrev dktX1_misses_0 : List UInt8 := dkwX1_misses_0 ++ []
theorem dksX1_misses_0 : cX1_misses.data.toList.drop 0 = dktX1_misses_0 := by decide +kernel
theorem dX1_misses_0 : decode cX1_misses 0 = .ok (.aload_n 0, 1) := dk_42 (dk_at dksX1_misses_0 0 rfl rfl)
theorem dX1_misses_1 : decode cX1_misses 1 = .ok (.iload_n 1, 1) := dk_27 (dk_at dksX1_misses_0 1 rfl rfl)
theorem dX1_misses_2 : decode cX1_misses 2 = .ok (.invokevirtual 240, 3) := dk_182 0 240 (dk_at dksX1_misses_0 2 rfl rfl)
theorem dX1_misses_5 : decode cX1_misses 5 = .ok (.getfield 209, 3) := dk_180 0 209 (dk_at dksX1_misses_0 5 rfl rfl)
theorem dX1_misses_8 : decode cX1_misses 8 = .ok (.ireturn, 1) := dk_172 (dk_at dksX1_misses_0 8 rfl rfl)
abbrev cX1_hitsOf : ByteArray := prog_1_method_34_code
def yX1_hitsOf : MethodName := ⟨RX1, "hitsOf", "(I)I"⟩
def dkwX1_hitsOf_0 : List UInt8 := [42, 27, 182, 0, 240, 180, 0, 142, 182, 0, 60, 172]
abbrev dktX1_hitsOf_0 : List UInt8 := dkwX1_hitsOf_0 ++ []
theorem dksX1_hitsOf_0 : cX1_hitsOf.data.toList.drop 0 = dktX1_hitsOf_0 := by decide +kernel
theorem dX1_hitsOf_0 : decode cX1_hitsOf 0 = .ok (.aload_n 0, 1) := dk_42 (dk_at dksX1_hitsOf_0 0 rfl rfl)
theorem dX1_hitsOf_1 : decode cX1_hitsOf 1 = .ok (.iload_n 1, 1) := dk_27 (dk_at dksX1_hitsOf_0 1 rfl rfl)
theorem dX1_hitsOf_2 : decode cX1_hitsOf 2 = .ok (.invokevirtual 240, 3) := dk_182 0 240 (dk_at dksX1_hitsOf_0 2 rfl rfl)
theorem dX1_hitsOf_5 : decode cX1_hitsOf 5 = .ok (.getfield 142, 3) := dk_180 0 142 (dk_at dksX1_hitsOf_0 5 rfl rfl)
theorem dX1_hitsOf_8 : decode cX1_hitsOf 8 = .ok (.invokevirtual 60, 3) := dk_182 0 60 (dk_at dksX1_hitsOf_0 8 rfl rfl)
theorem dX1_hitsOf_11 : decode cX1_hitsOf 11 = .ok (.ireturn, 1) := dk_172 (dk_at dksX1_hitsOf_0 11 rfl rfl)
abbrev cX1_beginOf : ByteArray := prog_1_method_35_code
def yX1_beginOf : MethodName := ⟨RX1, "beginOf", "(I)I"⟩
def dkwX1_beginOf_0 : List UInt8 := [42, 27, 182, 0, 240, 180, 1, 3, 172]
abbrev dktX1_beginOf_0 : List UInt8 := dkwX1_beginOf_0 ++ []
theorem dksX1_beginOf_0 : cX1_beginOf.data.toList.drop 0 = dktX1_beginOf_0 := by decide +kernel
theorem dX1_beginOf_0 : decode cX1_beginOf 0 = .ok (.aload_n 0, 1) := dk_42 (dk_at dksX1_beginOf_0 0 rfl rfl)
theorem dX1_beginOf_1 : decode cX1_beginOf 1 = .ok (.iload_n 1, 1) := dk_27 (dk_at dksX1_beginOf_0 1 rfl rfl)
theorem dX1_beginOf_2 : decode cX1_beginOf 2 = .ok (.invokevirtual 240, 3) := dk_182 0 240 (dk_at dksX1_beginOf_0 2 rfl rfl)
theorem dX1_beginOf_5 : decode cX1_beginOf 5 = .ok (.getfield 259, 3) := dk_180 1 3 (dk_at dksX1_beginOf_0 5 rfl rfl)
theorem dX1_beginOf_8 : decode cX1_beginOf 8 = .ok (.ireturn, 1) := dk_172 (dk_at dksX1_beginOf_0 8 rfl rfl)
abbrev cX1_endOf : ByteArray := prog_1_method_36_code
def yX1_endOf : MethodName := ⟨RX1, "endOf", "(I)I"⟩
def dkwX1_endOf_0 : List UInt8 := [42, 27, 182, 0, 240, 182, 1, 6, 172]
abbrev dktX1_endOf_0 : List UInt8 := dkwX1_endOf_0 ++ []
theorem dksX1_endOf_0 : cX1_endOf.data.toList.drop 0 = dktX1_endOf_0 := by decide +kernel
theorem dX1_endOf_0 : decode cX1_endOf 0 = .ok (.aload_n 0, 1) := dk_42 (dk_at dksX1_endOf_0 0 rfl rfl)
theorem dX1_endOf_1 : decode cX1_endOf 1 = .ok (.iload_n 1, 1) := dk_27 (dk_at dksX1_endOf_0 1 rfl rfl)
theorem dX1_endOf_2 : decode cX1_endOf 2 = .ok (.invokevirtual 240, 3) := dk_182 0 240 (dk_at dksX1_endOf_0 2 rfl rfl)
theorem dX1_endOf_5 : decode cX1_endOf 5 = .ok (.invokevirtual 262, 3) := dk_182 1 6 (dk_at dksX1_endOf_0 5 rfl rfl)
theorem dX1_endOf_8 : decode cX1_endOf 8 = .ok (.ireturn, 1) := dk_172 (dk_at dksX1_endOf_0 8 rfl rfl)
abbrev cX1_placeAt : ByteArray := prog_1_method_38_code
def yX1_placeAt : MethodName := ⟨RX1, "placeAt", "(II)I"⟩
def dkwX1_placeAt_1 : List UInt8 := [172]
abbrev dktX1_placeAt_1 : List UInt8 := dkwX1_placeAt_1 ++ []
def dkwX1_placeAt_0 : List UInt8 := [42, 27, 182, 0, 240, 78, 45, 180, 0, 203, 45, 28, 184, 1, 11, 182, 0, 68, 192, 0, 130, 180, 0, 244]
abbrev dktX1_placeAt_0 : List UInt8 := dkwX1_placeAt_0 ++ dktX1_placeAt_1
theorem dksX1_placeAt_0 : cX1_placeAt.data.toList.drop 0 = dktX1_placeAt_0 := by decide +kernel
theorem dksX1_placeAt_1 : cX1_placeAt.data.toList.drop 24 = dktX1_placeAt_1 := dk_seg dksX1_placeAt_0 24 rfl rfl
theorem dX1_placeAt_0 : decode cX1_placeAt 0 = .ok (.aload_n 0, 1) := dk_42 (dk_at dksX1_placeAt_0 0 rfl rfl)
theorem dX1_placeAt_1 : decode cX1_placeAt 1 = .ok (.iload_n 1, 1) := dk_27 (dk_at dksX1_placeAt_0 1 rfl rfl)
theorem dX1_placeAt_2 : decode cX1_placeAt 2 = .ok (.invokevirtual 240, 3) := dk_182 0 240 (dk_at dksX1_placeAt_0 2 rfl rfl)
theorem dX1_placeAt_5 : decode cX1_placeAt 5 = .ok (.astore_n 3, 1) := dk_78 (dk_at dksX1_placeAt_0 5 rfl rfl)
theorem dX1_placeAt_6 : decode cX1_placeAt 6 = .ok (.aload_n 3, 1) := dk_45 (dk_at dksX1_placeAt_0 6 rfl rfl)
theorem dX1_placeAt_7 : decode cX1_placeAt 7 = .ok (.getfield 203, 3) := dk_180 0 203 (dk_at dksX1_placeAt_0 7 rfl rfl)
theorem dX1_placeAt_10 : decode cX1_placeAt 10 = .ok (.aload_n 3, 1) := dk_45 (dk_at dksX1_placeAt_0 10 rfl rfl)
theorem dX1_placeAt_11 : decode cX1_placeAt 11 = .ok (.iload_n 2, 1) := dk_28 (dk_at dksX1_placeAt_0 11 rfl rfl)
theorem dX1_placeAt_12 : decode cX1_placeAt 12 = .ok (.invokestatic 267, 3) := dk_184 1 11 (dk_at dksX1_placeAt_0 12 rfl rfl)
theorem dX1_placeAt_15 : decode cX1_placeAt 15 = .ok (.invokevirtual 68, 3) := dk_182 0 68 (dk_at dksX1_placeAt_0 15 rfl rfl)
theorem dX1_placeAt_18 : decode cX1_placeAt 18 = .ok (.checkcast 130, 3) := dk_192 0 130 (dk_at dksX1_placeAt_0 18 rfl rfl)
theorem dX1_placeAt_21 : decode cX1_placeAt 21 = .ok (.getfield 244, 3) := dk_180 0 244 (dk_at dksX1_placeAt_0 21 rfl rfl)
theorem dX1_placeAt_24 : decode cX1_placeAt 24 = .ok (.ireturn, 1) := dk_172 (dk_at dksX1_placeAt_1 0 rfl rfl)
abbrev cX1_checkBeat : ByteArray := prog_1_method_37_code
def yX1_checkBeat : MethodName := ⟨RX1, "checkBeat", "(LKalmanQuay$Track;I)I"⟩
def dkwX1_checkBeat_1 : List UInt8 := [42, 180, 0, 203, 182, 0, 60, 184, 0, 64, 172]
abbrev dktX1_checkBeat_1 : List UInt8 := dkwX1_checkBeat_1 ++ []
def dkwX1_checkBeat_0 : List UInt8 := [27, 27, 42, 180, 1, 3, 184, 1, 9, 100, 27, 42, 180, 1, 3, 162, 0, 7, 4, 167, 0, 4, 3, 100]
abbrev dktX1_checkBeat_0 : List UInt8 := dkwX1_checkBeat_0 ++ dktX1_checkBeat_1
theorem dksX1_checkBeat_0 : cX1_checkBeat.data.toList.drop 0 = dktX1_checkBeat_0 := by decide +kernel
theorem dksX1_checkBeat_1 : cX1_checkBeat.data.toList.drop 24 = dktX1_checkBeat_1 := dk_seg dksX1_checkBeat_0 24 rfl rfl
theorem dX1_checkBeat_0 : decode cX1_checkBeat 0 = .ok (.iload_n 1, 1) := dk_27 (dk_at dksX1_checkBeat_0 0 rfl rfl)
theorem dX1_checkBeat_1 : decode cX1_checkBeat 1 = .ok (.iload_n 1, 1) := dk_27 (dk_at dksX1_checkBeat_0 1 rfl rfl)
theorem dX1_checkBeat_2 : decode cX1_checkBeat 2 = .ok (.aload_n 0, 1) := dk_42 (dk_at dksX1_checkBeat_0 2 rfl rfl)
theorem dX1_checkBeat_3 : decode cX1_checkBeat 3 = .ok (.getfield 259, 3) := dk_180 1 3 (dk_at dksX1_checkBeat_0 3 rfl rfl)
theorem dX1_checkBeat_6 : decode cX1_checkBeat 6 = .ok (.invokestatic 265, 3) := dk_184 1 9 (dk_at dksX1_checkBeat_0 6 rfl rfl)
theorem dX1_checkBeat_9 : decode cX1_checkBeat 9 = .ok (.isub, 1) := dk_100 (dk_at dksX1_checkBeat_0 9 rfl rfl)
theorem dX1_checkBeat_10 : decode cX1_checkBeat 10 = .ok (.iload_n 1, 1) := dk_27 (dk_at dksX1_checkBeat_0 10 rfl rfl)
theorem dX1_checkBeat_11 : decode cX1_checkBeat 11 = .ok (.aload_n 0, 1) := dk_42 (dk_at dksX1_checkBeat_0 11 rfl rfl)
theorem dX1_checkBeat_12 : decode cX1_checkBeat 12 = .ok (.getfield 259, 3) := dk_180 1 3 (dk_at dksX1_checkBeat_0 12 rfl rfl)
theorem dX1_checkBeat_15 : decode cX1_checkBeat 15 = .ok (.if_icmp .ge 7, 3) := dk_162 0 7 (dk_at dksX1_checkBeat_0 15 rfl rfl)
theorem dX1_checkBeat_18 : decode cX1_checkBeat 18 = .ok (.iconst 1, 1) := dk_4 (dk_at dksX1_checkBeat_0 18 rfl rfl)
theorem dX1_checkBeat_19 : decode cX1_checkBeat 19 = .ok (.goto 4, 3) := dk_167 0 4 (dk_at dksX1_checkBeat_0 19 rfl rfl)
theorem dX1_checkBeat_22 : decode cX1_checkBeat 22 = .ok (.iconst 0, 1) := dk_3 (dk_at dksX1_checkBeat_0 22 rfl rfl)
theorem dX1_checkBeat_23 : decode cX1_checkBeat 23 = .ok (.isub, 1) := dk_100 (dk_at dksX1_checkBeat_0 23 rfl rfl)
theorem dX1_checkBeat_24 : decode cX1_checkBeat 24 = .ok (.aload_n 0, 1) := dk_42 (dk_at dksX1_checkBeat_1 0 rfl rfl)
theorem dX1_checkBeat_25 : decode cX1_checkBeat 25 = .ok (.getfield 203, 3) := dk_180 0 203 (dk_at dksX1_checkBeat_1 1 rfl rfl)
theorem dX1_checkBeat_28 : decode cX1_checkBeat 28 = .ok (.invokevirtual 60, 3) := dk_182 0 60 (dk_at dksX1_checkBeat_1 4 rfl rfl)
theorem dX1_checkBeat_31 : decode cX1_checkBeat 31 = .ok (.invokestatic 64, 3) := dk_184 0 64 (dk_at dksX1_checkBeat_1 7 rfl rfl)
theorem dX1_checkBeat_34 : decode cX1_checkBeat 34 = .ok (.ireturn, 1) := dk_172 (dk_at dksX1_checkBeat_1 10 rfl rfl)
abbrev cX1_foretoldAt : ByteArray := prog_1_method_39_code
def yX1_foretoldAt : MethodName := ⟨RX1, "foretoldAt", "(II)I"⟩
def dkwX1_foretoldAt_1 : List UInt8 := [172]
abbrev dktX1_foretoldAt_1 : List UInt8 := dkwX1_foretoldAt_1 ++ []
def dkwX1_foretoldAt_0 : List UInt8 := [42, 27, 182, 0, 240, 78, 45, 180, 0, 217, 45, 28, 184, 1, 11, 182, 0, 68, 192, 0, 130, 180, 0, 244]
abbrev dktX1_foretoldAt_0 : List UInt8 := dkwX1_foretoldAt_0 ++ dktX1_foretoldAt_1
theorem dksX1_foretoldAt_0 : cX1_foretoldAt.data.toList.drop 0 = dktX1_foretoldAt_0 := by decide +kernel
theorem dksX1_foretoldAt_1 : cX1_foretoldAt.data.toList.drop 24 = dktX1_foretoldAt_1 := dk_seg dksX1_foretoldAt_0 24 rfl rfl
theorem dX1_foretoldAt_0 : decode cX1_foretoldAt 0 = .ok (.aload_n 0, 1) := dk_42 (dk_at dksX1_foretoldAt_0 0 rfl rfl)
theorem dX1_foretoldAt_1 : decode cX1_foretoldAt 1 = .ok (.iload_n 1, 1) := dk_27 (dk_at dksX1_foretoldAt_0 1 rfl rfl)
theorem dX1_foretoldAt_2 : decode cX1_foretoldAt 2 = .ok (.invokevirtual 240, 3) := dk_182 0 240 (dk_at dksX1_foretoldAt_0 2 rfl rfl)
theorem dX1_foretoldAt_5 : decode cX1_foretoldAt 5 = .ok (.astore_n 3, 1) := dk_78 (dk_at dksX1_foretoldAt_0 5 rfl rfl)
theorem dX1_foretoldAt_6 : decode cX1_foretoldAt 6 = .ok (.aload_n 3, 1) := dk_45 (dk_at dksX1_foretoldAt_0 6 rfl rfl)
theorem dX1_foretoldAt_7 : decode cX1_foretoldAt 7 = .ok (.getfield 217, 3) := dk_180 0 217 (dk_at dksX1_foretoldAt_0 7 rfl rfl)
theorem dX1_foretoldAt_10 : decode cX1_foretoldAt 10 = .ok (.aload_n 3, 1) := dk_45 (dk_at dksX1_foretoldAt_0 10 rfl rfl)
theorem dX1_foretoldAt_11 : decode cX1_foretoldAt 11 = .ok (.iload_n 2, 1) := dk_28 (dk_at dksX1_foretoldAt_0 11 rfl rfl)
theorem dX1_foretoldAt_12 : decode cX1_foretoldAt 12 = .ok (.invokestatic 267, 3) := dk_184 1 11 (dk_at dksX1_foretoldAt_0 12 rfl rfl)
theorem dX1_foretoldAt_15 : decode cX1_foretoldAt 15 = .ok (.invokevirtual 68, 3) := dk_182 0 68 (dk_at dksX1_foretoldAt_0 15 rfl rfl)
theorem dX1_foretoldAt_18 : decode cX1_foretoldAt 18 = .ok (.checkcast 130, 3) := dk_192 0 130 (dk_at dksX1_foretoldAt_0 18 rfl rfl)
theorem dX1_foretoldAt_21 : decode cX1_foretoldAt 21 = .ok (.getfield 244, 3) := dk_180 0 244 (dk_at dksX1_foretoldAt_0 21 rfl rfl)
theorem dX1_foretoldAt_24 : decode cX1_foretoldAt 24 = .ok (.ireturn, 1) := dk_172 (dk_at dksX1_foretoldAt_1 0 rfl rfl)
abbrev cX1_smoothedAt : ByteArray := prog_1_method_41_code
def yX1_smoothedAt : MethodName := ⟨RX1, "smoothedAt", "(II)J"⟩
def dkwX1_smoothedAt_0 : List UInt8 := [42, 27, 182, 0, 240, 78, 45, 28, 184, 1, 11, 54, 4, 45, 184, 1, 20, 5, 21, 4, 104, 47, 173]
abbrev dktX1_smoothedAt_0 : List UInt8 := dkwX1_smoothedAt_0 ++ []
theorem dksX1_smoothedAt_0 : cX1_smoothedAt.data.toList.drop 0 = dktX1_smoothedAt_0 := by decide +kernel
theorem dX1_smoothedAt_0 : decode cX1_smoothedAt 0 = .ok (.aload_n 0, 1) := dk_42 (dk_at dksX1_smoothedAt_0 0 rfl rfl)
theorem dX1_smoothedAt_1 : decode cX1_smoothedAt 1 = .ok (.iload_n 1, 1) := dk_27 (dk_at dksX1_smoothedAt_0 1 rfl rfl)
theorem dX1_smoothedAt_2 : decode cX1_smoothedAt 2 = .ok (.invokevirtual 240, 3) := dk_182 0 240 (dk_at dksX1_smoothedAt_0 2 rfl rfl)
theorem dX1_smoothedAt_5 : decode cX1_smoothedAt 5 = .ok (.astore_n 3, 1) := dk_78 (dk_at dksX1_smoothedAt_0 5 rfl rfl)
theorem dX1_smoothedAt_6 : decode cX1_smoothedAt 6 = .ok (.aload_n 3, 1) := dk_45 (dk_at dksX1_smoothedAt_0 6 rfl rfl)
theorem dX1_smoothedAt_7 : decode cX1_smoothedAt 7 = .ok (.iload_n 2, 1) := dk_28 (dk_at dksX1_smoothedAt_0 7 rfl rfl)
theorem dX1_smoothedAt_8 : decode cX1_smoothedAt 8 = .ok (.invokestatic 267, 3) := dk_184 1 11 (dk_at dksX1_smoothedAt_0 8 rfl rfl)
theorem dX1_smoothedAt_11 : decode cX1_smoothedAt 11 = .ok (.istore 4, 2) := dk_54 4 (dk_at dksX1_smoothedAt_0 11 rfl rfl)
theorem dX1_smoothedAt_13 : decode cX1_smoothedAt 13 = .ok (.aload_n 3, 1) := dk_45 (dk_at dksX1_smoothedAt_0 13 rfl rfl)
theorem dX1_smoothedAt_14 : decode cX1_smoothedAt 14 = .ok (.invokestatic 276, 3) := dk_184 1 20 (dk_at dksX1_smoothedAt_0 14 rfl rfl)
theorem dX1_smoothedAt_17 : decode cX1_smoothedAt 17 = .ok (.iconst 2, 1) := dk_5 (dk_at dksX1_smoothedAt_0 17 rfl rfl)
theorem dX1_smoothedAt_18 : decode cX1_smoothedAt 18 = .ok (.iload 4, 2) := dk_21 4 (dk_at dksX1_smoothedAt_0 18 rfl rfl)
theorem dX1_smoothedAt_20 : decode cX1_smoothedAt 20 = .ok (.imul, 1) := dk_104 (dk_at dksX1_smoothedAt_0 20 rfl rfl)
theorem dX1_smoothedAt_21 : decode cX1_smoothedAt 21 = .ok (.laload, 1) := dk_47 (dk_at dksX1_smoothedAt_0 21 rfl rfl)
theorem dX1_smoothedAt_22 : decode cX1_smoothedAt 22 = .ok (.lreturn, 1) := dk_173 (dk_at dksX1_smoothedAt_0 22 rfl rfl)
abbrev cX1_smooth : ByteArray := prog_1_method_40_code
def yX1_smooth : MethodName := ⟨RX1, "smooth", "(LKalmanQuay$Track;)[J"⟩
def dkwX1_smooth_16 : List UInt8 := [20, 1, 15, 184, 1, 17, 97, 80, 132, 3, 255, 167, 254, 191, 44, 176]
abbrev dktX1_smooth_16 : List UInt8 := dkwX1_smooth_16 ++ []
def dkwX1_smooth_15 : List UInt8 := [184, 1, 17, 97, 80, 44, 5, 29, 104, 4, 96, 92, 47, 22, 26, 22, 14, 105, 22, 28, 22, 16, 105, 97]
abbrev dktX1_smooth_15 : List UInt8 := dkwX1_smooth_15 ++ dktX1_smooth_16
def dkwX1_smooth_14 : List UInt8 := [55, 28, 44, 5, 29, 104, 92, 47, 22, 22, 22, 14, 105, 22, 24, 22, 16, 105, 97, 20, 1, 15]
abbrev dktX1_smooth_14 : List UInt8 := dkwX1_smooth_14 ++ dktX1_smooth_15
def dkwX1_smooth_13 : List UInt8 := [25, 4, 180, 1, 0, 133, 22, 6, 105, 22, 20, 22, 8, 105, 101, 20, 1, 15, 105, 22, 12, 184, 1, 17]
abbrev dktX1_smooth_13 : List UInt8 := dkwX1_smooth_13 ++ dktX1_smooth_14
def dkwX1_smooth_12 : List UInt8 := [22, 10, 105, 25, 4, 180, 1, 0, 133, 22, 8, 105, 101, 20, 1, 15, 105, 22, 12, 184, 1, 17, 55, 26]
abbrev dktX1_smooth_12 : List UInt8 := dkwX1_smooth_12 ++ dktX1_smooth_13
def dkwX1_smooth_11 : List UInt8 := [133, 22, 6, 105, 22, 18, 22, 8, 105, 101, 20, 1, 15, 105, 22, 12, 184, 1, 17, 55, 24, 22, 20]
abbrev dktX1_smooth_11 : List UInt8 := dkwX1_smooth_11 ++ dktX1_smooth_12
def dkwX1_smooth_10 : List UInt8 := [180, 0, 253, 133, 22, 8, 105, 101, 20, 1, 15, 105, 22, 12, 184, 1, 17, 55, 22, 25, 4, 180, 0, 253]
abbrev dktX1_smooth_10 : List UInt8 := dkwX1_smooth_10 ++ dktX1_smooth_11
def dkwX1_smooth_9 : List UInt8 := [55, 18, 25, 4, 180, 0, 253, 133, 25, 4, 180, 1, 0, 133, 97, 55, 20, 22, 18, 22, 10, 105, 25, 4]
abbrev dktX1_smooth_9 : List UInt8 := dkwX1_smooth_9 ++ dktX1_smooth_10
def dkwX1_smooth_8 : List UInt8 := [96, 47, 25, 5, 180, 0, 247, 133, 101, 55, 16, 25, 4, 180, 0, 250, 133, 25, 4, 180, 0, 253, 133, 97]
abbrev dktX1_smooth_8 : List UInt8 := dkwX1_smooth_8 ++ dktX1_smooth_9
def dkwX1_smooth_7 : List UInt8 := [158, 0, 221, 44, 5, 29, 104, 5, 96, 47, 25, 5, 180, 0, 244, 133, 101, 55, 14, 44, 5, 29, 104, 6]
abbrev dktX1_smooth_7 : List UInt8 := dkwX1_smooth_7 ++ dktX1_smooth_8
def dkwX1_smooth_6 : List UInt8 := [25, 4, 180, 0, 244, 133, 80, 44, 5, 29, 104, 4, 96, 25, 4, 180, 0, 247, 133, 80, 22, 12, 9, 148]
abbrev dktX1_smooth_6 : List UInt8 := dkwX1_smooth_6 ++ dktX1_smooth_7
def dkwX1_smooth_5 : List UInt8 := [180, 1, 0, 133, 55, 10, 22, 6, 22, 10, 105, 22, 8, 22, 8, 105, 101, 55, 12, 44, 5, 29, 104]
abbrev dktX1_smooth_5 : List UInt8 := dkwX1_smooth_5 ++ dktX1_smooth_6
def dkwX1_smooth_4 : List UInt8 := [192, 0, 130, 58, 5, 25, 5, 180, 0, 250, 133, 55, 6, 25, 5, 180, 0, 253, 133, 55, 8, 25, 5]
abbrev dktX1_smooth_4 : List UInt8 := dkwX1_smooth_4 ++ dktX1_smooth_5
def dkwX1_smooth_3 : List UInt8 := [180, 0, 203, 29, 182, 0, 68, 192, 0, 130, 58, 4, 42, 180, 0, 217, 29, 4, 96, 182, 0, 68]
abbrev dktX1_smooth_3 : List UInt8 := dkwX1_smooth_3 ++ dktX1_smooth_4
def dkwX1_smooth_2 : List UInt8 := [27, 4, 100, 182, 0, 68, 192, 0, 130, 180, 0, 247, 133, 80, 27, 5, 100, 62, 29, 155, 1, 67, 42]
abbrev dktX1_smooth_2 : List UInt8 := dkwX1_smooth_2 ++ dktX1_smooth_3
def dkwX1_smooth_1 : List UInt8 := [27, 4, 100, 182, 0, 68, 192, 0, 130, 180, 0, 244, 133, 80, 44, 5, 27, 104, 4, 100, 42, 180, 0, 203]
abbrev dktX1_smooth_1 : List UInt8 := dkwX1_smooth_1 ++ dktX1_smooth_2
def dkwX1_smooth_0 : List UInt8 := [42, 180, 0, 203, 182, 0, 60, 60, 5, 27, 104, 188, 11, 77, 44, 5, 27, 104, 5, 100, 42, 180, 0, 203]
abbrev dktX1_smooth_0 : List UInt8 := dkwX1_smooth_0 ++ dktX1_smooth_1
theorem dksX1_smooth_0 : cX1_smooth.data.toList.drop 0 = dktX1_smooth_0 := by decide +kernel
theorem dksX1_smooth_1 : cX1_smooth.data.toList.drop 24 = dktX1_smooth_1 := dk_seg dksX1_smooth_0 24 rfl rfl
theorem dksX1_smooth_2 : cX1_smooth.data.toList.drop 48 = dktX1_smooth_2 := dk_seg dksX1_smooth_1 24 rfl rfl
theorem dksX1_smooth_3 : cX1_smooth.data.toList.drop 71 = dktX1_smooth_3 := dk_seg dksX1_smooth_2 23 rfl rfl
theorem dksX1_smooth_4 : cX1_smooth.data.toList.drop 93 = dktX1_smooth_4 := dk_seg dksX1_smooth_3 22 rfl rfl
theorem dksX1_smooth_5 : cX1_smooth.data.toList.drop 116 = dktX1_smooth_5 := dk_seg dksX1_smooth_4 23 rfl rfl
theorem dksX1_smooth_6 : cX1_smooth.data.toList.drop 139 = dktX1_smooth_6 := dk_seg dksX1_smooth_5 23 rfl rfl
theorem dksX1_smooth_7 : cX1_smooth.data.toList.drop 163 = dktX1_smooth_7 := dk_seg dksX1_smooth_6 24 rfl rfl
theorem dksX1_smooth_8 : cX1_smooth.data.toList.drop 187 = dktX1_smooth_8 := dk_seg dksX1_smooth_7 24 rfl rfl
theorem dksX1_smooth_9 : cX1_smooth.data.toList.drop 211 = dktX1_smooth_9 := dk_seg dksX1_smooth_8 24 rfl rfl
theorem dksX1_smooth_10 : cX1_smooth.data.toList.drop 235 = dktX1_smooth_10 := dk_seg dksX1_smooth_9 24 rfl rfl
theorem dksX1_smooth_11 : cX1_smooth.data.toList.drop 259 = dktX1_smooth_11 := dk_seg dksX1_smooth_10 24 rfl rfl
theorem dksX1_smooth_12 : cX1_smooth.data.toList.drop 282 = dktX1_smooth_12 := dk_seg dksX1_smooth_11 23 rfl rfl
theorem dksX1_smooth_13 : cX1_smooth.data.toList.drop 306 = dktX1_smooth_13 := dk_seg dksX1_smooth_12 24 rfl rfl
theorem dksX1_smooth_14 : cX1_smooth.data.toList.drop 330 = dktX1_smooth_14 := dk_seg dksX1_smooth_13 24 rfl rfl
theorem dksX1_smooth_15 : cX1_smooth.data.toList.drop 352 = dktX1_smooth_15 := dk_seg dksX1_smooth_14 22 rfl rfl
theorem dksX1_smooth_16 : cX1_smooth.data.toList.drop 376 = dktX1_smooth_16 := dk_seg dksX1_smooth_15 24 rfl rfl
theorem dX1_smooth_0 : decode cX1_smooth 0 = .ok (.aload_n 0, 1) := dk_42 (dk_at dksX1_smooth_0 0 rfl rfl)
theorem dX1_smooth_1 : decode cX1_smooth 1 = .ok (.getfield 203, 3) := dk_180 0 203 (dk_at dksX1_smooth_0 1 rfl rfl)
theorem dX1_smooth_4 : decode cX1_smooth 4 = .ok (.invokevirtual 60, 3) := dk_182 0 60 (dk_at dksX1_smooth_0 4 rfl rfl)
theorem dX1_smooth_7 : decode cX1_smooth 7 = .ok (.istore_n 1, 1) := dk_60 (dk_at dksX1_smooth_0 7 rfl rfl)
theorem dX1_smooth_8 : decode cX1_smooth 8 = .ok (.iconst 2, 1) := dk_5 (dk_at dksX1_smooth_0 8 rfl rfl)
theorem dX1_smooth_9 : decode cX1_smooth 9 = .ok (.iload_n 1, 1) := dk_27 (dk_at dksX1_smooth_0 9 rfl rfl)
theorem dX1_smooth_10 : decode cX1_smooth 10 = .ok (.imul, 1) := dk_104 (dk_at dksX1_smooth_0 10 rfl rfl)
theorem dX1_smooth_11 : decode cX1_smooth 11 = .ok (.newarray .long, 2) := dk_188_11 (dk_at dksX1_smooth_0 11 rfl rfl)
theorem dX1_smooth_13 : decode cX1_smooth 13 = .ok (.astore_n 2, 1) := dk_77 (dk_at dksX1_smooth_0 13 rfl rfl)
theorem dX1_smooth_14 : decode cX1_smooth 14 = .ok (.aload_n 2, 1) := dk_44 (dk_at dksX1_smooth_0 14 rfl rfl)
theorem dX1_smooth_15 : decode cX1_smooth 15 = .ok (.iconst 2, 1) := dk_5 (dk_at dksX1_smooth_0 15 rfl rfl)
theorem dX1_smooth_16 : decode cX1_smooth 16 = .ok (.iload_n 1, 1) := dk_27 (dk_at dksX1_smooth_0 16 rfl rfl)
theorem dX1_smooth_17 : decode cX1_smooth 17 = .ok (.imul, 1) := dk_104 (dk_at dksX1_smooth_0 17 rfl rfl)
theorem dX1_smooth_18 : decode cX1_smooth 18 = .ok (.iconst 2, 1) := dk_5 (dk_at dksX1_smooth_0 18 rfl rfl)
theorem dX1_smooth_19 : decode cX1_smooth 19 = .ok (.isub, 1) := dk_100 (dk_at dksX1_smooth_0 19 rfl rfl)
theorem dX1_smooth_20 : decode cX1_smooth 20 = .ok (.aload_n 0, 1) := dk_42 (dk_at dksX1_smooth_0 20 rfl rfl)
theorem dX1_smooth_21 : decode cX1_smooth 21 = .ok (.getfield 203, 3) := dk_180 0 203 (dk_at dksX1_smooth_0 21 rfl rfl)
theorem dX1_smooth_24 : decode cX1_smooth 24 = .ok (.iload_n 1, 1) := dk_27 (dk_at dksX1_smooth_1 0 rfl rfl)
theorem dX1_smooth_25 : decode cX1_smooth 25 = .ok (.iconst 1, 1) := dk_4 (dk_at dksX1_smooth_1 1 rfl rfl)
theorem dX1_smooth_26 : decode cX1_smooth 26 = .ok (.isub, 1) := dk_100 (dk_at dksX1_smooth_1 2 rfl rfl)
theorem dX1_smooth_27 : decode cX1_smooth 27 = .ok (.invokevirtual 68, 3) := dk_182 0 68 (dk_at dksX1_smooth_1 3 rfl rfl)
theorem dX1_smooth_30 : decode cX1_smooth 30 = .ok (.checkcast 130, 3) := dk_192 0 130 (dk_at dksX1_smooth_1 6 rfl rfl)
theorem dX1_smooth_33 : decode cX1_smooth 33 = .ok (.getfield 244, 3) := dk_180 0 244 (dk_at dksX1_smooth_1 9 rfl rfl)
theorem dX1_smooth_36 : decode cX1_smooth 36 = .ok (.i2l, 1) := dk_133 (dk_at dksX1_smooth_1 12 rfl rfl)
theorem dX1_smooth_37 : decode cX1_smooth 37 = .ok (.lastore, 1) := dk_80 (dk_at dksX1_smooth_1 13 rfl rfl)
theorem dX1_smooth_38 : decode cX1_smooth 38 = .ok (.aload_n 2, 1) := dk_44 (dk_at dksX1_smooth_1 14 rfl rfl)
theorem dX1_smooth_39 : decode cX1_smooth 39 = .ok (.iconst 2, 1) := dk_5 (dk_at dksX1_smooth_1 15 rfl rfl)
theorem dX1_smooth_40 : decode cX1_smooth 40 = .ok (.iload_n 1, 1) := dk_27 (dk_at dksX1_smooth_1 16 rfl rfl)
theorem dX1_smooth_41 : decode cX1_smooth 41 = .ok (.imul, 1) := dk_104 (dk_at dksX1_smooth_1 17 rfl rfl)
theorem dX1_smooth_42 : decode cX1_smooth 42 = .ok (.iconst 1, 1) := dk_4 (dk_at dksX1_smooth_1 18 rfl rfl)
theorem dX1_smooth_43 : decode cX1_smooth 43 = .ok (.isub, 1) := dk_100 (dk_at dksX1_smooth_1 19 rfl rfl)
theorem dX1_smooth_44 : decode cX1_smooth 44 = .ok (.aload_n 0, 1) := dk_42 (dk_at dksX1_smooth_1 20 rfl rfl)
theorem dX1_smooth_45 : decode cX1_smooth 45 = .ok (.getfield 203, 3) := dk_180 0 203 (dk_at dksX1_smooth_1 21 rfl rfl)
theorem dX1_smooth_48 : decode cX1_smooth 48 = .ok (.iload_n 1, 1) := dk_27 (dk_at dksX1_smooth_2 0 rfl rfl)
theorem dX1_smooth_49 : decode cX1_smooth 49 = .ok (.iconst 1, 1) := dk_4 (dk_at dksX1_smooth_2 1 rfl rfl)
theorem dX1_smooth_50 : decode cX1_smooth 50 = .ok (.isub, 1) := dk_100 (dk_at dksX1_smooth_2 2 rfl rfl)
theorem dX1_smooth_51 : decode cX1_smooth 51 = .ok (.invokevirtual 68, 3) := dk_182 0 68 (dk_at dksX1_smooth_2 3 rfl rfl)
theorem dX1_smooth_54 : decode cX1_smooth 54 = .ok (.checkcast 130, 3) := dk_192 0 130 (dk_at dksX1_smooth_2 6 rfl rfl)
theorem dX1_smooth_57 : decode cX1_smooth 57 = .ok (.getfield 247, 3) := dk_180 0 247 (dk_at dksX1_smooth_2 9 rfl rfl)
theorem dX1_smooth_60 : decode cX1_smooth 60 = .ok (.i2l, 1) := dk_133 (dk_at dksX1_smooth_2 12 rfl rfl)
theorem dX1_smooth_61 : decode cX1_smooth 61 = .ok (.lastore, 1) := dk_80 (dk_at dksX1_smooth_2 13 rfl rfl)
theorem dX1_smooth_62 : decode cX1_smooth 62 = .ok (.iload_n 1, 1) := dk_27 (dk_at dksX1_smooth_2 14 rfl rfl)
theorem dX1_smooth_63 : decode cX1_smooth 63 = .ok (.iconst 2, 1) := dk_5 (dk_at dksX1_smooth_2 15 rfl rfl)
theorem dX1_smooth_64 : decode cX1_smooth 64 = .ok (.isub, 1) := dk_100 (dk_at dksX1_smooth_2 16 rfl rfl)
theorem dX1_smooth_65 : decode cX1_smooth 65 = .ok (.istore_n 3, 1) := dk_62 (dk_at dksX1_smooth_2 17 rfl rfl)
theorem dX1_smooth_66 : decode cX1_smooth 66 = .ok (.iload_n 3, 1) := dk_29 (dk_at dksX1_smooth_2 18 rfl rfl)
theorem dX1_smooth_67 : decode cX1_smooth 67 = .ok (.ifCond .lt 323, 3) := dk_155 1 67 (dk_at dksX1_smooth_2 19 rfl rfl)
theorem dX1_smooth_70 : decode cX1_smooth 70 = .ok (.aload_n 0, 1) := dk_42 (dk_at dksX1_smooth_2 22 rfl rfl)
theorem dX1_smooth_71 : decode cX1_smooth 71 = .ok (.getfield 203, 3) := dk_180 0 203 (dk_at dksX1_smooth_3 0 rfl rfl)
theorem dX1_smooth_74 : decode cX1_smooth 74 = .ok (.iload_n 3, 1) := dk_29 (dk_at dksX1_smooth_3 3 rfl rfl)
theorem dX1_smooth_75 : decode cX1_smooth 75 = .ok (.invokevirtual 68, 3) := dk_182 0 68 (dk_at dksX1_smooth_3 4 rfl rfl)
theorem dX1_smooth_78 : decode cX1_smooth 78 = .ok (.checkcast 130, 3) := dk_192 0 130 (dk_at dksX1_smooth_3 7 rfl rfl)
theorem dX1_smooth_81 : decode cX1_smooth 81 = .ok (.astore 4, 2) := dk_58 4 (dk_at dksX1_smooth_3 10 rfl rfl)
theorem dX1_smooth_83 : decode cX1_smooth 83 = .ok (.aload_n 0, 1) := dk_42 (dk_at dksX1_smooth_3 12 rfl rfl)
theorem dX1_smooth_84 : decode cX1_smooth 84 = .ok (.getfield 217, 3) := dk_180 0 217 (dk_at dksX1_smooth_3 13 rfl rfl)
theorem dX1_smooth_87 : decode cX1_smooth 87 = .ok (.iload_n 3, 1) := dk_29 (dk_at dksX1_smooth_3 16 rfl rfl)
theorem dX1_smooth_88 : decode cX1_smooth 88 = .ok (.iconst 1, 1) := dk_4 (dk_at dksX1_smooth_3 17 rfl rfl)
theorem dX1_smooth_89 : decode cX1_smooth 89 = .ok (.iadd, 1) := dk_96 (dk_at dksX1_smooth_3 18 rfl rfl)
theorem dX1_smooth_90 : decode cX1_smooth 90 = .ok (.invokevirtual 68, 3) := dk_182 0 68 (dk_at dksX1_smooth_3 19 rfl rfl)
theorem dX1_smooth_93 : decode cX1_smooth 93 = .ok (.checkcast 130, 3) := dk_192 0 130 (dk_at dksX1_smooth_4 0 rfl rfl)
theorem dX1_smooth_96 : decode cX1_smooth 96 = .ok (.astore 5, 2) := dk_58 5 (dk_at dksX1_smooth_4 3 rfl rfl)
theorem dX1_smooth_98 : decode cX1_smooth 98 = .ok (.aload 5, 2) := dk_25 5 (dk_at dksX1_smooth_4 5 rfl rfl)
theorem dX1_smooth_100 : decode cX1_smooth 100 = .ok (.getfield 250, 3) := dk_180 0 250 (dk_at dksX1_smooth_4 7 rfl rfl)
theorem dX1_smooth_103 : decode cX1_smooth 103 = .ok (.i2l, 1) := dk_133 (dk_at dksX1_smooth_4 10 rfl rfl)
theorem dX1_smooth_104 : decode cX1_smooth 104 = .ok (.lstore 6, 2) := dk_55 6 (dk_at dksX1_smooth_4 11 rfl rfl)
theorem dX1_smooth_106 : decode cX1_smooth 106 = .ok (.aload 5, 2) := dk_25 5 (dk_at dksX1_smooth_4 13 rfl rfl)
theorem dX1_smooth_108 : decode cX1_smooth 108 = .ok (.getfield 253, 3) := dk_180 0 253 (dk_at dksX1_smooth_4 15 rfl rfl)
theorem dX1_smooth_111 : decode cX1_smooth 111 = .ok (.i2l, 1) := dk_133 (dk_at dksX1_smooth_4 18 rfl rfl)
theorem dX1_smooth_112 : decode cX1_smooth 112 = .ok (.lstore 8, 2) := dk_55 8 (dk_at dksX1_smooth_4 19 rfl rfl)
theorem dX1_smooth_114 : decode cX1_smooth 114 = .ok (.aload 5, 2) := dk_25 5 (dk_at dksX1_smooth_4 21 rfl rfl)
theorem dX1_smooth_116 : decode cX1_smooth 116 = .ok (.getfield 256, 3) := dk_180 1 0 (dk_at dksX1_smooth_5 0 rfl rfl)
theorem dX1_smooth_119 : decode cX1_smooth 119 = .ok (.i2l, 1) := dk_133 (dk_at dksX1_smooth_5 3 rfl rfl)
theorem dX1_smooth_120 : decode cX1_smooth 120 = .ok (.lstore 10, 2) := dk_55 10 (dk_at dksX1_smooth_5 4 rfl rfl)
theorem dX1_smooth_122 : decode cX1_smooth 122 = .ok (.lload 6, 2) := dk_22 6 (dk_at dksX1_smooth_5 6 rfl rfl)
theorem dX1_smooth_124 : decode cX1_smooth 124 = .ok (.lload 10, 2) := dk_22 10 (dk_at dksX1_smooth_5 8 rfl rfl)
theorem dX1_smooth_126 : decode cX1_smooth 126 = .ok (.lmul, 1) := dk_105 (dk_at dksX1_smooth_5 10 rfl rfl)
theorem dX1_smooth_127 : decode cX1_smooth 127 = .ok (.lload 8, 2) := dk_22 8 (dk_at dksX1_smooth_5 11 rfl rfl)
theorem dX1_smooth_129 : decode cX1_smooth 129 = .ok (.lload 8, 2) := dk_22 8 (dk_at dksX1_smooth_5 13 rfl rfl)
theorem dX1_smooth_131 : decode cX1_smooth 131 = .ok (.lmul, 1) := dk_105 (dk_at dksX1_smooth_5 15 rfl rfl)
theorem dX1_smooth_132 : decode cX1_smooth 132 = .ok (.lsub, 1) := dk_101 (dk_at dksX1_smooth_5 16 rfl rfl)
theorem dX1_smooth_133 : decode cX1_smooth 133 = .ok (.lstore 12, 2) := dk_55 12 (dk_at dksX1_smooth_5 17 rfl rfl)
theorem dX1_smooth_135 : decode cX1_smooth 135 = .ok (.aload_n 2, 1) := dk_44 (dk_at dksX1_smooth_5 19 rfl rfl)
theorem dX1_smooth_136 : decode cX1_smooth 136 = .ok (.iconst 2, 1) := dk_5 (dk_at dksX1_smooth_5 20 rfl rfl)
theorem dX1_smooth_137 : decode cX1_smooth 137 = .ok (.iload_n 3, 1) := dk_29 (dk_at dksX1_smooth_5 21 rfl rfl)
theorem dX1_smooth_138 : decode cX1_smooth 138 = .ok (.imul, 1) := dk_104 (dk_at dksX1_smooth_5 22 rfl rfl)
theorem dX1_smooth_139 : decode cX1_smooth 139 = .ok (.aload 4, 2) := dk_25 4 (dk_at dksX1_smooth_6 0 rfl rfl)
theorem dX1_smooth_141 : decode cX1_smooth 141 = .ok (.getfield 244, 3) := dk_180 0 244 (dk_at dksX1_smooth_6 2 rfl rfl)
theorem dX1_smooth_144 : decode cX1_smooth 144 = .ok (.i2l, 1) := dk_133 (dk_at dksX1_smooth_6 5 rfl rfl)
theorem dX1_smooth_145 : decode cX1_smooth 145 = .ok (.lastore, 1) := dk_80 (dk_at dksX1_smooth_6 6 rfl rfl)
theorem dX1_smooth_146 : decode cX1_smooth 146 = .ok (.aload_n 2, 1) := dk_44 (dk_at dksX1_smooth_6 7 rfl rfl)
theorem dX1_smooth_147 : decode cX1_smooth 147 = .ok (.iconst 2, 1) := dk_5 (dk_at dksX1_smooth_6 8 rfl rfl)
theorem dX1_smooth_148 : decode cX1_smooth 148 = .ok (.iload_n 3, 1) := dk_29 (dk_at dksX1_smooth_6 9 rfl rfl)
theorem dX1_smooth_149 : decode cX1_smooth 149 = .ok (.imul, 1) := dk_104 (dk_at dksX1_smooth_6 10 rfl rfl)
theorem dX1_smooth_150 : decode cX1_smooth 150 = .ok (.iconst 1, 1) := dk_4 (dk_at dksX1_smooth_6 11 rfl rfl)
theorem dX1_smooth_151 : decode cX1_smooth 151 = .ok (.iadd, 1) := dk_96 (dk_at dksX1_smooth_6 12 rfl rfl)
theorem dX1_smooth_152 : decode cX1_smooth 152 = .ok (.aload 4, 2) := dk_25 4 (dk_at dksX1_smooth_6 13 rfl rfl)
theorem dX1_smooth_154 : decode cX1_smooth 154 = .ok (.getfield 247, 3) := dk_180 0 247 (dk_at dksX1_smooth_6 15 rfl rfl)
theorem dX1_smooth_157 : decode cX1_smooth 157 = .ok (.i2l, 1) := dk_133 (dk_at dksX1_smooth_6 18 rfl rfl)
theorem dX1_smooth_158 : decode cX1_smooth 158 = .ok (.lastore, 1) := dk_80 (dk_at dksX1_smooth_6 19 rfl rfl)
theorem dX1_smooth_159 : decode cX1_smooth 159 = .ok (.lload 12, 2) := dk_22 12 (dk_at dksX1_smooth_6 20 rfl rfl)
theorem dX1_smooth_161 : decode cX1_smooth 161 = .ok (.lconst 0, 1) := dk_9 (dk_at dksX1_smooth_6 22 rfl rfl)
theorem dX1_smooth_162 : decode cX1_smooth 162 = .ok (.lcmp, 1) := dk_148 (dk_at dksX1_smooth_6 23 rfl rfl)
theorem dX1_smooth_163 : decode cX1_smooth 163 = .ok (.ifCond .le 221, 3) := dk_158 0 221 (dk_at dksX1_smooth_7 0 rfl rfl)
theorem dX1_smooth_166 : decode cX1_smooth 166 = .ok (.aload_n 2, 1) := dk_44 (dk_at dksX1_smooth_7 3 rfl rfl)
theorem dX1_smooth_167 : decode cX1_smooth 167 = .ok (.iconst 2, 1) := dk_5 (dk_at dksX1_smooth_7 4 rfl rfl)
theorem dX1_smooth_168 : decode cX1_smooth 168 = .ok (.iload_n 3, 1) := dk_29 (dk_at dksX1_smooth_7 5 rfl rfl)
theorem dX1_smooth_169 : decode cX1_smooth 169 = .ok (.imul, 1) := dk_104 (dk_at dksX1_smooth_7 6 rfl rfl)
theorem dX1_smooth_170 : decode cX1_smooth 170 = .ok (.iconst 2, 1) := dk_5 (dk_at dksX1_smooth_7 7 rfl rfl)
theorem dX1_smooth_171 : decode cX1_smooth 171 = .ok (.iadd, 1) := dk_96 (dk_at dksX1_smooth_7 8 rfl rfl)
theorem dX1_smooth_172 : decode cX1_smooth 172 = .ok (.laload, 1) := dk_47 (dk_at dksX1_smooth_7 9 rfl rfl)
theorem dX1_smooth_173 : decode cX1_smooth 173 = .ok (.aload 5, 2) := dk_25 5 (dk_at dksX1_smooth_7 10 rfl rfl)
theorem dX1_smooth_175 : decode cX1_smooth 175 = .ok (.getfield 244, 3) := dk_180 0 244 (dk_at dksX1_smooth_7 12 rfl rfl)
theorem dX1_smooth_178 : decode cX1_smooth 178 = .ok (.i2l, 1) := dk_133 (dk_at dksX1_smooth_7 15 rfl rfl)
theorem dX1_smooth_179 : decode cX1_smooth 179 = .ok (.lsub, 1) := dk_101 (dk_at dksX1_smooth_7 16 rfl rfl)
theorem dX1_smooth_180 : decode cX1_smooth 180 = .ok (.lstore 14, 2) := dk_55 14 (dk_at dksX1_smooth_7 17 rfl rfl)
theorem dX1_smooth_182 : decode cX1_smooth 182 = .ok (.aload_n 2, 1) := dk_44 (dk_at dksX1_smooth_7 19 rfl rfl)
theorem dX1_smooth_183 : decode cX1_smooth 183 = .ok (.iconst 2, 1) := dk_5 (dk_at dksX1_smooth_7 20 rfl rfl)
theorem dX1_smooth_184 : decode cX1_smooth 184 = .ok (.iload_n 3, 1) := dk_29 (dk_at dksX1_smooth_7 21 rfl rfl)
theorem dX1_smooth_185 : decode cX1_smooth 185 = .ok (.imul, 1) := dk_104 (dk_at dksX1_smooth_7 22 rfl rfl)
theorem dX1_smooth_186 : decode cX1_smooth 186 = .ok (.iconst 3, 1) := dk_6 (dk_at dksX1_smooth_7 23 rfl rfl)
theorem dX1_smooth_187 : decode cX1_smooth 187 = .ok (.iadd, 1) := dk_96 (dk_at dksX1_smooth_8 0 rfl rfl)
theorem dX1_smooth_188 : decode cX1_smooth 188 = .ok (.laload, 1) := dk_47 (dk_at dksX1_smooth_8 1 rfl rfl)
theorem dX1_smooth_189 : decode cX1_smooth 189 = .ok (.aload 5, 2) := dk_25 5 (dk_at dksX1_smooth_8 2 rfl rfl)
theorem dX1_smooth_191 : decode cX1_smooth 191 = .ok (.getfield 247, 3) := dk_180 0 247 (dk_at dksX1_smooth_8 4 rfl rfl)
theorem dX1_smooth_194 : decode cX1_smooth 194 = .ok (.i2l, 1) := dk_133 (dk_at dksX1_smooth_8 7 rfl rfl)
theorem dX1_smooth_195 : decode cX1_smooth 195 = .ok (.lsub, 1) := dk_101 (dk_at dksX1_smooth_8 8 rfl rfl)
theorem dX1_smooth_196 : decode cX1_smooth 196 = .ok (.lstore 16, 2) := dk_55 16 (dk_at dksX1_smooth_8 9 rfl rfl)
theorem dX1_smooth_198 : decode cX1_smooth 198 = .ok (.aload 4, 2) := dk_25 4 (dk_at dksX1_smooth_8 11 rfl rfl)
theorem dX1_smooth_200 : decode cX1_smooth 200 = .ok (.getfield 250, 3) := dk_180 0 250 (dk_at dksX1_smooth_8 13 rfl rfl)
theorem dX1_smooth_203 : decode cX1_smooth 203 = .ok (.i2l, 1) := dk_133 (dk_at dksX1_smooth_8 16 rfl rfl)
theorem dX1_smooth_204 : decode cX1_smooth 204 = .ok (.aload 4, 2) := dk_25 4 (dk_at dksX1_smooth_8 17 rfl rfl)
theorem dX1_smooth_206 : decode cX1_smooth 206 = .ok (.getfield 253, 3) := dk_180 0 253 (dk_at dksX1_smooth_8 19 rfl rfl)
theorem dX1_smooth_209 : decode cX1_smooth 209 = .ok (.i2l, 1) := dk_133 (dk_at dksX1_smooth_8 22 rfl rfl)
theorem dX1_smooth_210 : decode cX1_smooth 210 = .ok (.ladd, 1) := dk_97 (dk_at dksX1_smooth_8 23 rfl rfl)
theorem dX1_smooth_211 : decode cX1_smooth 211 = .ok (.lstore 18, 2) := dk_55 18 (dk_at dksX1_smooth_9 0 rfl rfl)
theorem dX1_smooth_213 : decode cX1_smooth 213 = .ok (.aload 4, 2) := dk_25 4 (dk_at dksX1_smooth_9 2 rfl rfl)
theorem dX1_smooth_215 : decode cX1_smooth 215 = .ok (.getfield 253, 3) := dk_180 0 253 (dk_at dksX1_smooth_9 4 rfl rfl)
theorem dX1_smooth_218 : decode cX1_smooth 218 = .ok (.i2l, 1) := dk_133 (dk_at dksX1_smooth_9 7 rfl rfl)
theorem dX1_smooth_219 : decode cX1_smooth 219 = .ok (.aload 4, 2) := dk_25 4 (dk_at dksX1_smooth_9 8 rfl rfl)
theorem dX1_smooth_221 : decode cX1_smooth 221 = .ok (.getfield 256, 3) := dk_180 1 0 (dk_at dksX1_smooth_9 10 rfl rfl)
theorem dX1_smooth_224 : decode cX1_smooth 224 = .ok (.i2l, 1) := dk_133 (dk_at dksX1_smooth_9 13 rfl rfl)
theorem dX1_smooth_225 : decode cX1_smooth 225 = .ok (.ladd, 1) := dk_97 (dk_at dksX1_smooth_9 14 rfl rfl)
theorem dX1_smooth_226 : decode cX1_smooth 226 = .ok (.lstore 20, 2) := dk_55 20 (dk_at dksX1_smooth_9 15 rfl rfl)
theorem dX1_smooth_228 : decode cX1_smooth 228 = .ok (.lload 18, 2) := dk_22 18 (dk_at dksX1_smooth_9 17 rfl rfl)
theorem dX1_smooth_230 : decode cX1_smooth 230 = .ok (.lload 10, 2) := dk_22 10 (dk_at dksX1_smooth_9 19 rfl rfl)
theorem dX1_smooth_232 : decode cX1_smooth 232 = .ok (.lmul, 1) := dk_105 (dk_at dksX1_smooth_9 21 rfl rfl)
theorem dX1_smooth_233 : decode cX1_smooth 233 = .ok (.aload 4, 2) := dk_25 4 (dk_at dksX1_smooth_9 22 rfl rfl)
theorem dX1_smooth_235 : decode cX1_smooth 235 = .ok (.getfield 253, 3) := dk_180 0 253 (dk_at dksX1_smooth_10 0 rfl rfl)
theorem dX1_smooth_238 : decode cX1_smooth 238 = .ok (.i2l, 1) := dk_133 (dk_at dksX1_smooth_10 3 rfl rfl)
theorem dX1_smooth_239 : decode cX1_smooth 239 = .ok (.lload 8, 2) := dk_22 8 (dk_at dksX1_smooth_10 4 rfl rfl)
theorem dX1_smooth_241 : decode cX1_smooth 241 = .ok (.lmul, 1) := dk_105 (dk_at dksX1_smooth_10 6 rfl rfl)
theorem dX1_smooth_242 : decode cX1_smooth 242 = .ok (.lsub, 1) := dk_101 (dk_at dksX1_smooth_10 7 rfl rfl)
theorem dX1_smooth_243 : decode cX1_smooth 243 = .ok (.ldc2_w 271, 3) := dk_20 1 15 (dk_at dksX1_smooth_10 8 rfl rfl)
theorem dX1_smooth_246 : decode cX1_smooth 246 = .ok (.lmul, 1) := dk_105 (dk_at dksX1_smooth_10 11 rfl rfl)
theorem dX1_smooth_247 : decode cX1_smooth 247 = .ok (.lload 12, 2) := dk_22 12 (dk_at dksX1_smooth_10 12 rfl rfl)
theorem dX1_smooth_249 : decode cX1_smooth 249 = .ok (.invokestatic 273, 3) := dk_184 1 17 (dk_at dksX1_smooth_10 14 rfl rfl)
theorem dX1_smooth_252 : decode cX1_smooth 252 = .ok (.lstore 22, 2) := dk_55 22 (dk_at dksX1_smooth_10 17 rfl rfl)
theorem dX1_smooth_254 : decode cX1_smooth 254 = .ok (.aload 4, 2) := dk_25 4 (dk_at dksX1_smooth_10 19 rfl rfl)
theorem dX1_smooth_256 : decode cX1_smooth 256 = .ok (.getfield 253, 3) := dk_180 0 253 (dk_at dksX1_smooth_10 21 rfl rfl)
theorem dX1_smooth_259 : decode cX1_smooth 259 = .ok (.i2l, 1) := dk_133 (dk_at dksX1_smooth_11 0 rfl rfl)
theorem dX1_smooth_260 : decode cX1_smooth 260 = .ok (.lload 6, 2) := dk_22 6 (dk_at dksX1_smooth_11 1 rfl rfl)
theorem dX1_smooth_262 : decode cX1_smooth 262 = .ok (.lmul, 1) := dk_105 (dk_at dksX1_smooth_11 3 rfl rfl)
theorem dX1_smooth_263 : decode cX1_smooth 263 = .ok (.lload 18, 2) := dk_22 18 (dk_at dksX1_smooth_11 4 rfl rfl)
theorem dX1_smooth_265 : decode cX1_smooth 265 = .ok (.lload 8, 2) := dk_22 8 (dk_at dksX1_smooth_11 6 rfl rfl)
theorem dX1_smooth_267 : decode cX1_smooth 267 = .ok (.lmul, 1) := dk_105 (dk_at dksX1_smooth_11 8 rfl rfl)
theorem dX1_smooth_268 : decode cX1_smooth 268 = .ok (.lsub, 1) := dk_101 (dk_at dksX1_smooth_11 9 rfl rfl)
theorem dX1_smooth_269 : decode cX1_smooth 269 = .ok (.ldc2_w 271, 3) := dk_20 1 15 (dk_at dksX1_smooth_11 10 rfl rfl)
theorem dX1_smooth_272 : decode cX1_smooth 272 = .ok (.lmul, 1) := dk_105 (dk_at dksX1_smooth_11 13 rfl rfl)
theorem dX1_smooth_273 : decode cX1_smooth 273 = .ok (.lload 12, 2) := dk_22 12 (dk_at dksX1_smooth_11 14 rfl rfl)
theorem dX1_smooth_275 : decode cX1_smooth 275 = .ok (.invokestatic 273, 3) := dk_184 1 17 (dk_at dksX1_smooth_11 16 rfl rfl)
theorem dX1_smooth_278 : decode cX1_smooth 278 = .ok (.lstore 24, 2) := dk_55 24 (dk_at dksX1_smooth_11 19 rfl rfl)
theorem dX1_smooth_280 : decode cX1_smooth 280 = .ok (.lload 20, 2) := dk_22 20 (dk_at dksX1_smooth_11 21 rfl rfl)
theorem dX1_smooth_282 : decode cX1_smooth 282 = .ok (.lload 10, 2) := dk_22 10 (dk_at dksX1_smooth_12 0 rfl rfl)
theorem dX1_smooth_284 : decode cX1_smooth 284 = .ok (.lmul, 1) := dk_105 (dk_at dksX1_smooth_12 2 rfl rfl)
theorem dX1_smooth_285 : decode cX1_smooth 285 = .ok (.aload 4, 2) := dk_25 4 (dk_at dksX1_smooth_12 3 rfl rfl)
theorem dX1_smooth_287 : decode cX1_smooth 287 = .ok (.getfield 256, 3) := dk_180 1 0 (dk_at dksX1_smooth_12 5 rfl rfl)
theorem dX1_smooth_290 : decode cX1_smooth 290 = .ok (.i2l, 1) := dk_133 (dk_at dksX1_smooth_12 8 rfl rfl)
theorem dX1_smooth_291 : decode cX1_smooth 291 = .ok (.lload 8, 2) := dk_22 8 (dk_at dksX1_smooth_12 9 rfl rfl)
theorem dX1_smooth_293 : decode cX1_smooth 293 = .ok (.lmul, 1) := dk_105 (dk_at dksX1_smooth_12 11 rfl rfl)
theorem dX1_smooth_294 : decode cX1_smooth 294 = .ok (.lsub, 1) := dk_101 (dk_at dksX1_smooth_12 12 rfl rfl)
theorem dX1_smooth_295 : decode cX1_smooth 295 = .ok (.ldc2_w 271, 3) := dk_20 1 15 (dk_at dksX1_smooth_12 13 rfl rfl)
theorem dX1_smooth_298 : decode cX1_smooth 298 = .ok (.lmul, 1) := dk_105 (dk_at dksX1_smooth_12 16 rfl rfl)
theorem dX1_smooth_299 : decode cX1_smooth 299 = .ok (.lload 12, 2) := dk_22 12 (dk_at dksX1_smooth_12 17 rfl rfl)
theorem dX1_smooth_301 : decode cX1_smooth 301 = .ok (.invokestatic 273, 3) := dk_184 1 17 (dk_at dksX1_smooth_12 19 rfl rfl)
theorem dX1_smooth_304 : decode cX1_smooth 304 = .ok (.lstore 26, 2) := dk_55 26 (dk_at dksX1_smooth_12 22 rfl rfl)
theorem dX1_smooth_306 : decode cX1_smooth 306 = .ok (.aload 4, 2) := dk_25 4 (dk_at dksX1_smooth_13 0 rfl rfl)
theorem dX1_smooth_308 : decode cX1_smooth 308 = .ok (.getfield 256, 3) := dk_180 1 0 (dk_at dksX1_smooth_13 2 rfl rfl)
theorem dX1_smooth_311 : decode cX1_smooth 311 = .ok (.i2l, 1) := dk_133 (dk_at dksX1_smooth_13 5 rfl rfl)
theorem dX1_smooth_312 : decode cX1_smooth 312 = .ok (.lload 6, 2) := dk_22 6 (dk_at dksX1_smooth_13 6 rfl rfl)
theorem dX1_smooth_314 : decode cX1_smooth 314 = .ok (.lmul, 1) := dk_105 (dk_at dksX1_smooth_13 8 rfl rfl)
theorem dX1_smooth_315 : decode cX1_smooth 315 = .ok (.lload 20, 2) := dk_22 20 (dk_at dksX1_smooth_13 9 rfl rfl)
theorem dX1_smooth_317 : decode cX1_smooth 317 = .ok (.lload 8, 2) := dk_22 8 (dk_at dksX1_smooth_13 11 rfl rfl)
theorem dX1_smooth_319 : decode cX1_smooth 319 = .ok (.lmul, 1) := dk_105 (dk_at dksX1_smooth_13 13 rfl rfl)
theorem dX1_smooth_320 : decode cX1_smooth 320 = .ok (.lsub, 1) := dk_101 (dk_at dksX1_smooth_13 14 rfl rfl)
theorem dX1_smooth_321 : decode cX1_smooth 321 = .ok (.ldc2_w 271, 3) := dk_20 1 15 (dk_at dksX1_smooth_13 15 rfl rfl)
theorem dX1_smooth_324 : decode cX1_smooth 324 = .ok (.lmul, 1) := dk_105 (dk_at dksX1_smooth_13 18 rfl rfl)
theorem dX1_smooth_325 : decode cX1_smooth 325 = .ok (.lload 12, 2) := dk_22 12 (dk_at dksX1_smooth_13 19 rfl rfl)
theorem dX1_smooth_327 : decode cX1_smooth 327 = .ok (.invokestatic 273, 3) := dk_184 1 17 (dk_at dksX1_smooth_13 21 rfl rfl)
theorem dX1_smooth_330 : decode cX1_smooth 330 = .ok (.lstore 28, 2) := dk_55 28 (dk_at dksX1_smooth_14 0 rfl rfl)
theorem dX1_smooth_332 : decode cX1_smooth 332 = .ok (.aload_n 2, 1) := dk_44 (dk_at dksX1_smooth_14 2 rfl rfl)
theorem dX1_smooth_333 : decode cX1_smooth 333 = .ok (.iconst 2, 1) := dk_5 (dk_at dksX1_smooth_14 3 rfl rfl)
theorem dX1_smooth_334 : decode cX1_smooth 334 = .ok (.iload_n 3, 1) := dk_29 (dk_at dksX1_smooth_14 4 rfl rfl)
theorem dX1_smooth_335 : decode cX1_smooth 335 = .ok (.imul, 1) := dk_104 (dk_at dksX1_smooth_14 5 rfl rfl)
theorem dX1_smooth_336 : decode cX1_smooth 336 = .ok (.dup2, 1) := dk_92 (dk_at dksX1_smooth_14 6 rfl rfl)
theorem dX1_smooth_337 : decode cX1_smooth 337 = .ok (.laload, 1) := dk_47 (dk_at dksX1_smooth_14 7 rfl rfl)
theorem dX1_smooth_338 : decode cX1_smooth 338 = .ok (.lload 22, 2) := dk_22 22 (dk_at dksX1_smooth_14 8 rfl rfl)
theorem dX1_smooth_340 : decode cX1_smooth 340 = .ok (.lload 14, 2) := dk_22 14 (dk_at dksX1_smooth_14 10 rfl rfl)
theorem dX1_smooth_342 : decode cX1_smooth 342 = .ok (.lmul, 1) := dk_105 (dk_at dksX1_smooth_14 12 rfl rfl)
theorem dX1_smooth_343 : decode cX1_smooth 343 = .ok (.lload 24, 2) := dk_22 24 (dk_at dksX1_smooth_14 13 rfl rfl)
theorem dX1_smooth_345 : decode cX1_smooth 345 = .ok (.lload 16, 2) := dk_22 16 (dk_at dksX1_smooth_14 15 rfl rfl)
theorem dX1_smooth_347 : decode cX1_smooth 347 = .ok (.lmul, 1) := dk_105 (dk_at dksX1_smooth_14 17 rfl rfl)
theorem dX1_smooth_348 : decode cX1_smooth 348 = .ok (.ladd, 1) := dk_97 (dk_at dksX1_smooth_14 18 rfl rfl)
theorem dX1_smooth_349 : decode cX1_smooth 349 = .ok (.ldc2_w 271, 3) := dk_20 1 15 (dk_at dksX1_smooth_14 19 rfl rfl)
theorem dX1_smooth_352 : decode cX1_smooth 352 = .ok (.invokestatic 273, 3) := dk_184 1 17 (dk_at dksX1_smooth_15 0 rfl rfl)
theorem dX1_smooth_355 : decode cX1_smooth 355 = .ok (.ladd, 1) := dk_97 (dk_at dksX1_smooth_15 3 rfl rfl)
theorem dX1_smooth_356 : decode cX1_smooth 356 = .ok (.lastore, 1) := dk_80 (dk_at dksX1_smooth_15 4 rfl rfl)
theorem dX1_smooth_357 : decode cX1_smooth 357 = .ok (.aload_n 2, 1) := dk_44 (dk_at dksX1_smooth_15 5 rfl rfl)
theorem dX1_smooth_358 : decode cX1_smooth 358 = .ok (.iconst 2, 1) := dk_5 (dk_at dksX1_smooth_15 6 rfl rfl)
theorem dX1_smooth_359 : decode cX1_smooth 359 = .ok (.iload_n 3, 1) := dk_29 (dk_at dksX1_smooth_15 7 rfl rfl)
theorem dX1_smooth_360 : decode cX1_smooth 360 = .ok (.imul, 1) := dk_104 (dk_at dksX1_smooth_15 8 rfl rfl)
theorem dX1_smooth_361 : decode cX1_smooth 361 = .ok (.iconst 1, 1) := dk_4 (dk_at dksX1_smooth_15 9 rfl rfl)
theorem dX1_smooth_362 : decode cX1_smooth 362 = .ok (.iadd, 1) := dk_96 (dk_at dksX1_smooth_15 10 rfl rfl)
theorem dX1_smooth_363 : decode cX1_smooth 363 = .ok (.dup2, 1) := dk_92 (dk_at dksX1_smooth_15 11 rfl rfl)
theorem dX1_smooth_364 : decode cX1_smooth 364 = .ok (.laload, 1) := dk_47 (dk_at dksX1_smooth_15 12 rfl rfl)
theorem dX1_smooth_365 : decode cX1_smooth 365 = .ok (.lload 26, 2) := dk_22 26 (dk_at dksX1_smooth_15 13 rfl rfl)
theorem dX1_smooth_367 : decode cX1_smooth 367 = .ok (.lload 14, 2) := dk_22 14 (dk_at dksX1_smooth_15 15 rfl rfl)
theorem dX1_smooth_369 : decode cX1_smooth 369 = .ok (.lmul, 1) := dk_105 (dk_at dksX1_smooth_15 17 rfl rfl)
theorem dX1_smooth_370 : decode cX1_smooth 370 = .ok (.lload 28, 2) := dk_22 28 (dk_at dksX1_smooth_15 18 rfl rfl)
theorem dX1_smooth_372 : decode cX1_smooth 372 = .ok (.lload 16, 2) := dk_22 16 (dk_at dksX1_smooth_15 20 rfl rfl)
theorem dX1_smooth_374 : decode cX1_smooth 374 = .ok (.lmul, 1) := dk_105 (dk_at dksX1_smooth_15 22 rfl rfl)
theorem dX1_smooth_375 : decode cX1_smooth 375 = .ok (.ladd, 1) := dk_97 (dk_at dksX1_smooth_15 23 rfl rfl)
theorem dX1_smooth_376 : decode cX1_smooth 376 = .ok (.ldc2_w 271, 3) := dk_20 1 15 (dk_at dksX1_smooth_16 0 rfl rfl)
theorem dX1_smooth_379 : decode cX1_smooth 379 = .ok (.invokestatic 273, 3) := dk_184 1 17 (dk_at dksX1_smooth_16 3 rfl rfl)
theorem dX1_smooth_382 : decode cX1_smooth 382 = .ok (.ladd, 1) := dk_97 (dk_at dksX1_smooth_16 6 rfl rfl)
theorem dX1_smooth_383 : decode cX1_smooth 383 = .ok (.lastore, 1) := dk_80 (dk_at dksX1_smooth_16 7 rfl rfl)
theorem dX1_smooth_384 : decode cX1_smooth 384 = .ok (.iinc 3 (-1), 3) := dk_132 3 255 (dk_at dksX1_smooth_16 8 rfl rfl)
theorem dX1_smooth_387 : decode cX1_smooth 387 = .ok (.goto (-321), 3) := dk_167 254 191 (dk_at dksX1_smooth_16 11 rfl rfl)
theorem dX1_smooth_390 : decode cX1_smooth 390 = .ok (.aload_n 2, 1) := dk_44 (dk_at dksX1_smooth_16 14 rfl rfl)
theorem dX1_smooth_391 : decode cX1_smooth 391 = .ok (.areturn, 1) := dk_176 (dk_at dksX1_smooth_16 15 rfl rfl)
abbrev cX1_smoothedSpeedAt : ByteArray := prog_1_method_42_code
def yX1_smoothedSpeedAt : MethodName := ⟨RX1, "smoothedSpeedAt", "(II)J"⟩
def dkwX1_smoothedSpeedAt_1 : List UInt8 := [173]
abbrev dktX1_smoothedSpeedAt_1 : List UInt8 := dkwX1_smoothedSpeedAt_1 ++ []
def dkwX1_smoothedSpeedAt_0 : List UInt8 := [42, 27, 182, 0, 240, 78, 45, 28, 184, 1, 11, 54, 4, 45, 184, 1, 20, 5, 21, 4, 104, 4, 96, 47]
abbrev dktX1_smoothedSpeedAt_0 : List UInt8 := dkwX1_smoothedSpeedAt_0 ++ dktX1_smoothedSpeedAt_1
theorem dksX1_smoothedSpeedAt_0 : cX1_smoothedSpeedAt.data.toList.drop 0 = dktX1_smoothedSpeedAt_0 := by decide +kernel
theorem dksX1_smoothedSpeedAt_1 : cX1_smoothedSpeedAt.data.toList.drop 24 = dktX1_smoothedSpeedAt_1 := dk_seg dksX1_smoothedSpeedAt_0 24 rfl rfl
theorem dX1_smoothedSpeedAt_0 : decode cX1_smoothedSpeedAt 0 = .ok (.aload_n 0, 1) := dk_42 (dk_at dksX1_smoothedSpeedAt_0 0 rfl rfl)
theorem dX1_smoothedSpeedAt_1 : decode cX1_smoothedSpeedAt 1 = .ok (.iload_n 1, 1) := dk_27 (dk_at dksX1_smoothedSpeedAt_0 1 rfl rfl)
theorem dX1_smoothedSpeedAt_2 : decode cX1_smoothedSpeedAt 2 = .ok (.invokevirtual 240, 3) := dk_182 0 240 (dk_at dksX1_smoothedSpeedAt_0 2 rfl rfl)
theorem dX1_smoothedSpeedAt_5 : decode cX1_smoothedSpeedAt 5 = .ok (.astore_n 3, 1) := dk_78 (dk_at dksX1_smoothedSpeedAt_0 5 rfl rfl)
theorem dX1_smoothedSpeedAt_6 : decode cX1_smoothedSpeedAt 6 = .ok (.aload_n 3, 1) := dk_45 (dk_at dksX1_smoothedSpeedAt_0 6 rfl rfl)
theorem dX1_smoothedSpeedAt_7 : decode cX1_smoothedSpeedAt 7 = .ok (.iload_n 2, 1) := dk_28 (dk_at dksX1_smoothedSpeedAt_0 7 rfl rfl)
theorem dX1_smoothedSpeedAt_8 : decode cX1_smoothedSpeedAt 8 = .ok (.invokestatic 267, 3) := dk_184 1 11 (dk_at dksX1_smoothedSpeedAt_0 8 rfl rfl)
theorem dX1_smoothedSpeedAt_11 : decode cX1_smoothedSpeedAt 11 = .ok (.istore 4, 2) := dk_54 4 (dk_at dksX1_smoothedSpeedAt_0 11 rfl rfl)
theorem dX1_smoothedSpeedAt_13 : decode cX1_smoothedSpeedAt 13 = .ok (.aload_n 3, 1) := dk_45 (dk_at dksX1_smoothedSpeedAt_0 13 rfl rfl)
theorem dX1_smoothedSpeedAt_14 : decode cX1_smoothedSpeedAt 14 = .ok (.invokestatic 276, 3) := dk_184 1 20 (dk_at dksX1_smoothedSpeedAt_0 14 rfl rfl)
theorem dX1_smoothedSpeedAt_17 : decode cX1_smoothedSpeedAt 17 = .ok (.iconst 2, 1) := dk_5 (dk_at dksX1_smoothedSpeedAt_0 17 rfl rfl)
theorem dX1_smoothedSpeedAt_18 : decode cX1_smoothedSpeedAt 18 = .ok (.iload 4, 2) := dk_21 4 (dk_at dksX1_smoothedSpeedAt_0 18 rfl rfl)
theorem dX1_smoothedSpeedAt_20 : decode cX1_smoothedSpeedAt 20 = .ok (.imul, 1) := dk_104 (dk_at dksX1_smoothedSpeedAt_0 20 rfl rfl)
theorem dX1_smoothedSpeedAt_21 : decode cX1_smoothedSpeedAt 21 = .ok (.iconst 1, 1) := dk_4 (dk_at dksX1_smoothedSpeedAt_0 21 rfl rfl)
theorem dX1_smoothedSpeedAt_22 : decode cX1_smoothedSpeedAt 22 = .ok (.iadd, 1) := dk_96 (dk_at dksX1_smoothedSpeedAt_0 22 rfl rfl)
theorem dX1_smoothedSpeedAt_23 : decode cX1_smoothedSpeedAt 23 = .ok (.laload, 1) := dk_47 (dk_at dksX1_smoothedSpeedAt_0 23 rfl rfl)
theorem dX1_smoothedSpeedAt_24 : decode cX1_smoothedSpeedAt 24 = .ok (.lreturn, 1) := dk_173 (dk_at dksX1_smoothedSpeedAt_1 0 rfl rfl)
abbrev cX1_bend : ByteArray := prog_1_method_43_code
def yX1_bend : MethodName := ⟨RX1, "bend", "(I)J"⟩
def dkwX1_bend_3 : List UInt8 := [173]
abbrev dktX1_bend_3 : List UInt8 := dkwX1_bend_3 ++ []
def dkwX1_bend_2 : List UInt8 := [192, 0, 130, 180, 0, 244, 133, 101, 184, 1, 24, 184, 0, 7, 55, 4, 132, 6, 1, 167, 255, 208, 22, 4]
abbrev dktX1_bend_2 : List UInt8 := dkwX1_bend_2 ++ dktX1_bend_3
def dkwX1_bend_1 : List UInt8 := [182, 0, 60, 162, 0, 42, 22, 4, 45, 5, 21, 6, 104, 47, 44, 180, 0, 203, 21, 6, 182, 0, 68]
abbrev dktX1_bend_1 : List UInt8 := dkwX1_bend_1 ++ dktX1_bend_2
def dkwX1_bend_0 : List UInt8 := [42, 27, 182, 0, 240, 77, 44, 184, 1, 20, 78, 9, 55, 4, 3, 54, 6, 21, 6, 44, 180, 0, 203]
abbrev dktX1_bend_0 : List UInt8 := dkwX1_bend_0 ++ dktX1_bend_1
theorem dksX1_bend_0 : cX1_bend.data.toList.drop 0 = dktX1_bend_0 := by decide +kernel
theorem dksX1_bend_1 : cX1_bend.data.toList.drop 23 = dktX1_bend_1 := dk_seg dksX1_bend_0 23 rfl rfl
theorem dksX1_bend_2 : cX1_bend.data.toList.drop 46 = dktX1_bend_2 := dk_seg dksX1_bend_1 23 rfl rfl
theorem dksX1_bend_3 : cX1_bend.data.toList.drop 70 = dktX1_bend_3 := dk_seg dksX1_bend_2 24 rfl rfl
theorem dX1_bend_0 : decode cX1_bend 0 = .ok (.aload_n 0, 1) := dk_42 (dk_at dksX1_bend_0 0 rfl rfl)
theorem dX1_bend_1 : decode cX1_bend 1 = .ok (.iload_n 1, 1) := dk_27 (dk_at dksX1_bend_0 1 rfl rfl)
theorem dX1_bend_2 : decode cX1_bend 2 = .ok (.invokevirtual 240, 3) := dk_182 0 240 (dk_at dksX1_bend_0 2 rfl rfl)
theorem dX1_bend_5 : decode cX1_bend 5 = .ok (.astore_n 2, 1) := dk_77 (dk_at dksX1_bend_0 5 rfl rfl)
theorem dX1_bend_6 : decode cX1_bend 6 = .ok (.aload_n 2, 1) := dk_44 (dk_at dksX1_bend_0 6 rfl rfl)
theorem dX1_bend_7 : decode cX1_bend 7 = .ok (.invokestatic 276, 3) := dk_184 1 20 (dk_at dksX1_bend_0 7 rfl rfl)
theorem dX1_bend_10 : decode cX1_bend 10 = .ok (.astore_n 3, 1) := dk_78 (dk_at dksX1_bend_0 10 rfl rfl)
theorem dX1_bend_11 : decode cX1_bend 11 = .ok (.lconst 0, 1) := dk_9 (dk_at dksX1_bend_0 11 rfl rfl)
theorem dX1_bend_12 : decode cX1_bend 12 = .ok (.lstore 4, 2) := dk_55 4 (dk_at dksX1_bend_0 12 rfl rfl)
theorem dX1_bend_14 : decode cX1_bend 14 = .ok (.iconst 0, 1) := dk_3 (dk_at dksX1_bend_0 14 rfl rfl)
theorem dX1_bend_15 : decode cX1_bend 15 = .ok (.istore 6, 2) := dk_54 6 (dk_at dksX1_bend_0 15 rfl rfl)
theorem dX1_bend_17 : decode cX1_bend 17 = .ok (.iload 6, 2) := dk_21 6 (dk_at dksX1_bend_0 17 rfl rfl)
theorem dX1_bend_19 : decode cX1_bend 19 = .ok (.aload_n 2, 1) := dk_44 (dk_at dksX1_bend_0 19 rfl rfl)
theorem dX1_bend_20 : decode cX1_bend 20 = .ok (.getfield 203, 3) := dk_180 0 203 (dk_at dksX1_bend_0 20 rfl rfl)
theorem dX1_bend_23 : decode cX1_bend 23 = .ok (.invokevirtual 60, 3) := dk_182 0 60 (dk_at dksX1_bend_1 0 rfl rfl)
theorem dX1_bend_26 : decode cX1_bend 26 = .ok (.if_icmp .ge 42, 3) := dk_162 0 42 (dk_at dksX1_bend_1 3 rfl rfl)
theorem dX1_bend_29 : decode cX1_bend 29 = .ok (.lload 4, 2) := dk_22 4 (dk_at dksX1_bend_1 6 rfl rfl)
theorem dX1_bend_31 : decode cX1_bend 31 = .ok (.aload_n 3, 1) := dk_45 (dk_at dksX1_bend_1 8 rfl rfl)
theorem dX1_bend_32 : decode cX1_bend 32 = .ok (.iconst 2, 1) := dk_5 (dk_at dksX1_bend_1 9 rfl rfl)
theorem dX1_bend_33 : decode cX1_bend 33 = .ok (.iload 6, 2) := dk_21 6 (dk_at dksX1_bend_1 10 rfl rfl)
theorem dX1_bend_35 : decode cX1_bend 35 = .ok (.imul, 1) := dk_104 (dk_at dksX1_bend_1 12 rfl rfl)
theorem dX1_bend_36 : decode cX1_bend 36 = .ok (.laload, 1) := dk_47 (dk_at dksX1_bend_1 13 rfl rfl)
theorem dX1_bend_37 : decode cX1_bend 37 = .ok (.aload_n 2, 1) := dk_44 (dk_at dksX1_bend_1 14 rfl rfl)
theorem dX1_bend_38 : decode cX1_bend 38 = .ok (.getfield 203, 3) := dk_180 0 203 (dk_at dksX1_bend_1 15 rfl rfl)
theorem dX1_bend_41 : decode cX1_bend 41 = .ok (.iload 6, 2) := dk_21 6 (dk_at dksX1_bend_1 18 rfl rfl)
theorem dX1_bend_43 : decode cX1_bend 43 = .ok (.invokevirtual 68, 3) := dk_182 0 68 (dk_at dksX1_bend_1 20 rfl rfl)
theorem dX1_bend_46 : decode cX1_bend 46 = .ok (.checkcast 130, 3) := dk_192 0 130 (dk_at dksX1_bend_2 0 rfl rfl)
theorem dX1_bend_49 : decode cX1_bend 49 = .ok (.getfield 244, 3) := dk_180 0 244 (dk_at dksX1_bend_2 3 rfl rfl)
theorem dX1_bend_52 : decode cX1_bend 52 = .ok (.i2l, 1) := dk_133 (dk_at dksX1_bend_2 6 rfl rfl)
theorem dX1_bend_53 : decode cX1_bend 53 = .ok (.lsub, 1) := dk_101 (dk_at dksX1_bend_2 7 rfl rfl)
theorem dX1_bend_54 : decode cX1_bend 54 = .ok (.invokestatic 280, 3) := dk_184 1 24 (dk_at dksX1_bend_2 8 rfl rfl)
theorem dX1_bend_57 : decode cX1_bend 57 = .ok (.invokestatic 7, 3) := dk_184 0 7 (dk_at dksX1_bend_2 11 rfl rfl)
theorem dX1_bend_60 : decode cX1_bend 60 = .ok (.lstore 4, 2) := dk_55 4 (dk_at dksX1_bend_2 14 rfl rfl)
theorem dX1_bend_62 : decode cX1_bend 62 = .ok (.iinc 6 1, 3) := dk_132 6 1 (dk_at dksX1_bend_2 16 rfl rfl)
theorem dX1_bend_65 : decode cX1_bend 65 = .ok (.goto (-48), 3) := dk_167 255 208 (dk_at dksX1_bend_2 19 rfl rfl)
theorem dX1_bend_68 : decode cX1_bend 68 = .ok (.lload 4, 2) := dk_22 4 (dk_at dksX1_bend_2 22 rfl rfl)
theorem dX1_bend_70 : decode cX1_bend 70 = .ok (.lreturn, 1) := dk_173 (dk_at dksX1_bend_3 0 rfl rfl)
abbrev cX1_fittedPlace : ByteArray := prog_1_method_45_code
def yX1_fittedPlace : MethodName := ⟨RX1, "fittedPlace", "(I)J"⟩
def dkwX1_fittedPlace_0 : List UInt8 := [42, 27, 182, 0, 240, 184, 1, 37, 3, 47, 173]
abbrev dktX1_fittedPlace_0 : List UInt8 := dkwX1_fittedPlace_0 ++ []
theorem dksX1_fittedPlace_0 : cX1_fittedPlace.data.toList.drop 0 = dktX1_fittedPlace_0 := by decide +kernel
theorem dX1_fittedPlace_0 : decode cX1_fittedPlace 0 = .ok (.aload_n 0, 1) := dk_42 (dk_at dksX1_fittedPlace_0 0 rfl rfl)
theorem dX1_fittedPlace_1 : decode cX1_fittedPlace 1 = .ok (.iload_n 1, 1) := dk_27 (dk_at dksX1_fittedPlace_0 1 rfl rfl)
theorem dX1_fittedPlace_2 : decode cX1_fittedPlace 2 = .ok (.invokevirtual 240, 3) := dk_182 0 240 (dk_at dksX1_fittedPlace_0 2 rfl rfl)
theorem dX1_fittedPlace_5 : decode cX1_fittedPlace 5 = .ok (.invokestatic 293, 3) := dk_184 1 37 (dk_at dksX1_fittedPlace_0 5 rfl rfl)
theorem dX1_fittedPlace_8 : decode cX1_fittedPlace 8 = .ok (.iconst 0, 1) := dk_3 (dk_at dksX1_fittedPlace_0 8 rfl rfl)
theorem dX1_fittedPlace_9 : decode cX1_fittedPlace 9 = .ok (.laload, 1) := dk_47 (dk_at dksX1_fittedPlace_0 9 rfl rfl)
theorem dX1_fittedPlace_10 : decode cX1_fittedPlace 10 = .ok (.lreturn, 1) := dk_173 (dk_at dksX1_fittedPlace_0 10 rfl rfl)
abbrev cX1_fit : ByteArray := prog_1_method_44_code
def yX1_fit : MethodName := ⟨RX1, "fit", "(LKalmanQuay$Track;)[J"⟩
def dkwX1_fit_9 : List UInt8 := [105, 33, 101, 22, 13, 105, 97, 31, 184, 1, 17, 80, 89, 4, 22, 13, 80, 176]
abbrev dktX1_fit_9 : List UInt8 := dkwX1_fit_9 ++ []
def dkwX1_fit_8 : List UInt8 := [22, 11, 184, 1, 17, 55, 13, 5, 188, 11, 89, 3, 22, 7, 20, 0, 195, 105, 31, 42, 182, 1, 6, 133]
abbrev dktX1_fit_8 : List UInt8 := dkwX1_fit_8 ++ dktX1_fit_9
def dkwX1_fit_7 : List UInt8 := [105, 31, 184, 1, 17, 80, 89, 4, 9, 80, 176, 31, 22, 9, 105, 33, 22, 7, 105, 101, 20, 0, 195, 105]
abbrev dktX1_fit_7 : List UInt8 := dkwX1_fit_7 ++ dktX1_fit_8
def dkwX1_fit_6 : List UInt8 := [105, 33, 33, 105, 101, 55, 11, 22, 11, 9, 148, 154, 0, 24, 5, 188, 11, 89, 3, 22, 7, 20, 0, 195]
abbrev dktX1_fit_6 : List UInt8 := dkwX1_fit_6 ++ dktX1_fit_7
def dkwX1_fit_5 : List UInt8 := [182, 1, 32, 133, 105, 25, 12, 182, 1, 35, 133, 105, 97, 55, 9, 132, 11, 1, 167, 255, 139, 31, 22, 5]
abbrev dktX1_fit_5 : List UInt8 := dkwX1_fit_5 ++ dktX1_fit_6
def dkwX1_fit_4 : List UInt8 := [182, 1, 28, 25, 12, 182, 1, 35, 133, 105, 97, 55, 7, 22, 9, 25, 12, 182, 1, 28, 25, 12]
abbrev dktX1_fit_4 : List UInt8 := dkwX1_fit_4 ++ dktX1_fit_5
def dkwX1_fit_3 : List UInt8 := [182, 1, 28, 25, 12, 182, 1, 32, 133, 105, 25, 12, 182, 1, 32, 133, 105, 97, 55, 5, 22, 7, 25, 12]
abbrev dktX1_fit_3 : List UInt8 := dkwX1_fit_3 ++ dktX1_fit_4
def dkwX1_fit_2 : List UInt8 := [182, 1, 28, 97, 64, 33, 25, 12, 182, 1, 28, 25, 12, 182, 1, 32, 133, 105, 97, 66, 22, 5, 25, 12]
abbrev dktX1_fit_2 : List UInt8 := dkwX1_fit_2 ++ dktX1_fit_3
def dkwX1_fit_1 : List UInt8 := [182, 0, 60, 162, 0, 111, 42, 180, 0, 142, 21, 11, 182, 0, 68, 192, 0, 145, 58, 12, 31, 25, 12]
abbrev dktX1_fit_1 : List UInt8 := dkwX1_fit_1 ++ dktX1_fit_2
def dkwX1_fit_0 : List UInt8 := [9, 64, 9, 66, 9, 55, 5, 9, 55, 7, 9, 55, 9, 3, 54, 11, 21, 11, 42, 180, 0, 142]
abbrev dktX1_fit_0 : List UInt8 := dkwX1_fit_0 ++ dktX1_fit_1
theorem dksX1_fit_0 : cX1_fit.data.toList.drop 0 = dktX1_fit_0 := by decide +kernel
theorem dksX1_fit_1 : cX1_fit.data.toList.drop 22 = dktX1_fit_1 := dk_seg dksX1_fit_0 22 rfl rfl
theorem dksX1_fit_2 : cX1_fit.data.toList.drop 45 = dktX1_fit_2 := dk_seg dksX1_fit_1 23 rfl rfl
theorem dksX1_fit_3 : cX1_fit.data.toList.drop 69 = dktX1_fit_3 := dk_seg dksX1_fit_2 24 rfl rfl
theorem dksX1_fit_4 : cX1_fit.data.toList.drop 93 = dktX1_fit_4 := dk_seg dksX1_fit_3 24 rfl rfl
theorem dksX1_fit_5 : cX1_fit.data.toList.drop 115 = dktX1_fit_5 := dk_seg dksX1_fit_4 22 rfl rfl
theorem dksX1_fit_6 : cX1_fit.data.toList.drop 139 = dktX1_fit_6 := dk_seg dksX1_fit_5 24 rfl rfl
theorem dksX1_fit_7 : cX1_fit.data.toList.drop 163 = dktX1_fit_7 := dk_seg dksX1_fit_6 24 rfl rfl
theorem dksX1_fit_8 : cX1_fit.data.toList.drop 187 = dktX1_fit_8 := dk_seg dksX1_fit_7 24 rfl rfl
theorem dksX1_fit_9 : cX1_fit.data.toList.drop 211 = dktX1_fit_9 := dk_seg dksX1_fit_8 24 rfl rfl
theorem dX1_fit_0 : decode cX1_fit 0 = .ok (.lconst 0, 1) := dk_9 (dk_at dksX1_fit_0 0 rfl rfl)
theorem dX1_fit_1 : decode cX1_fit 1 = .ok (.lstore_n 1, 1) := dk_64 (dk_at dksX1_fit_0 1 rfl rfl)
theorem dX1_fit_2 : decode cX1_fit 2 = .ok (.lconst 0, 1) := dk_9 (dk_at dksX1_fit_0 2 rfl rfl)
theorem dX1_fit_3 : decode cX1_fit 3 = .ok (.lstore_n 3, 1) := dk_66 (dk_at dksX1_fit_0 3 rfl rfl)
theorem dX1_fit_4 : decode cX1_fit 4 = .ok (.lconst 0, 1) := dk_9 (dk_at dksX1_fit_0 4 rfl rfl)
theorem dX1_fit_5 : decode cX1_fit 5 = .ok (.lstore 5, 2) := dk_55 5 (dk_at dksX1_fit_0 5 rfl rfl)
theorem dX1_fit_7 : decode cX1_fit 7 = .ok (.lconst 0, 1) := dk_9 (dk_at dksX1_fit_0 7 rfl rfl)
theorem dX1_fit_8 : decode cX1_fit 8 = .ok (.lstore 7, 2) := dk_55 7 (dk_at dksX1_fit_0 8 rfl rfl)
theorem dX1_fit_10 : decode cX1_fit 10 = .ok (.lconst 0, 1) := dk_9 (dk_at dksX1_fit_0 10 rfl rfl)
theorem dX1_fit_11 : decode cX1_fit 11 = .ok (.lstore 9, 2) := dk_55 9 (dk_at dksX1_fit_0 11 rfl rfl)
theorem dX1_fit_13 : decode cX1_fit 13 = .ok (.iconst 0, 1) := dk_3 (dk_at dksX1_fit_0 13 rfl rfl)
theorem dX1_fit_14 : decode cX1_fit 14 = .ok (.istore 11, 2) := dk_54 11 (dk_at dksX1_fit_0 14 rfl rfl)
theorem dX1_fit_16 : decode cX1_fit 16 = .ok (.iload 11, 2) := dk_21 11 (dk_at dksX1_fit_0 16 rfl rfl)
theorem dX1_fit_18 : decode cX1_fit 18 = .ok (.aload_n 0, 1) := dk_42 (dk_at dksX1_fit_0 18 rfl rfl)
theorem dX1_fit_19 : decode cX1_fit 19 = .ok (.getfield 142, 3) := dk_180 0 142 (dk_at dksX1_fit_0 19 rfl rfl)
theorem dX1_fit_22 : decode cX1_fit 22 = .ok (.invokevirtual 60, 3) := dk_182 0 60 (dk_at dksX1_fit_1 0 rfl rfl)
theorem dX1_fit_25 : decode cX1_fit 25 = .ok (.if_icmp .ge 111, 3) := dk_162 0 111 (dk_at dksX1_fit_1 3 rfl rfl)
theorem dX1_fit_28 : decode cX1_fit 28 = .ok (.aload_n 0, 1) := dk_42 (dk_at dksX1_fit_1 6 rfl rfl)
theorem dX1_fit_29 : decode cX1_fit 29 = .ok (.getfield 142, 3) := dk_180 0 142 (dk_at dksX1_fit_1 7 rfl rfl)
theorem dX1_fit_32 : decode cX1_fit 32 = .ok (.iload 11, 2) := dk_21 11 (dk_at dksX1_fit_1 10 rfl rfl)
theorem dX1_fit_34 : decode cX1_fit 34 = .ok (.invokevirtual 68, 3) := dk_182 0 68 (dk_at dksX1_fit_1 12 rfl rfl)
theorem dX1_fit_37 : decode cX1_fit 37 = .ok (.checkcast 145, 3) := dk_192 0 145 (dk_at dksX1_fit_1 15 rfl rfl)
theorem dX1_fit_40 : decode cX1_fit 40 = .ok (.astore 12, 2) := dk_58 12 (dk_at dksX1_fit_1 18 rfl rfl)
theorem dX1_fit_42 : decode cX1_fit 42 = .ok (.lload_n 1, 1) := dk_31 (dk_at dksX1_fit_1 20 rfl rfl)
theorem dX1_fit_43 : decode cX1_fit 43 = .ok (.aload 12, 2) := dk_25 12 (dk_at dksX1_fit_1 21 rfl rfl)
theorem dX1_fit_45 : decode cX1_fit 45 = .ok (.invokevirtual 284, 3) := dk_182 1 28 (dk_at dksX1_fit_2 0 rfl rfl)
theorem dX1_fit_48 : decode cX1_fit 48 = .ok (.ladd, 1) := dk_97 (dk_at dksX1_fit_2 3 rfl rfl)
theorem dX1_fit_49 : decode cX1_fit 49 = .ok (.lstore_n 1, 1) := dk_64 (dk_at dksX1_fit_2 4 rfl rfl)
theorem dX1_fit_50 : decode cX1_fit 50 = .ok (.lload_n 3, 1) := dk_33 (dk_at dksX1_fit_2 5 rfl rfl)
theorem dX1_fit_51 : decode cX1_fit 51 = .ok (.aload 12, 2) := dk_25 12 (dk_at dksX1_fit_2 6 rfl rfl)
theorem dX1_fit_53 : decode cX1_fit 53 = .ok (.invokevirtual 284, 3) := dk_182 1 28 (dk_at dksX1_fit_2 8 rfl rfl)
theorem dX1_fit_56 : decode cX1_fit 56 = .ok (.aload 12, 2) := dk_25 12 (dk_at dksX1_fit_2 11 rfl rfl)
theorem dX1_fit_58 : decode cX1_fit 58 = .ok (.invokevirtual 288, 3) := dk_182 1 32 (dk_at dksX1_fit_2 13 rfl rfl)
theorem dX1_fit_61 : decode cX1_fit 61 = .ok (.i2l, 1) := dk_133 (dk_at dksX1_fit_2 16 rfl rfl)
theorem dX1_fit_62 : decode cX1_fit 62 = .ok (.lmul, 1) := dk_105 (dk_at dksX1_fit_2 17 rfl rfl)
theorem dX1_fit_63 : decode cX1_fit 63 = .ok (.ladd, 1) := dk_97 (dk_at dksX1_fit_2 18 rfl rfl)
theorem dX1_fit_64 : decode cX1_fit 64 = .ok (.lstore_n 3, 1) := dk_66 (dk_at dksX1_fit_2 19 rfl rfl)
theorem dX1_fit_65 : decode cX1_fit 65 = .ok (.lload 5, 2) := dk_22 5 (dk_at dksX1_fit_2 20 rfl rfl)
theorem dX1_fit_67 : decode cX1_fit 67 = .ok (.aload 12, 2) := dk_25 12 (dk_at dksX1_fit_2 22 rfl rfl)
theorem dX1_fit_69 : decode cX1_fit 69 = .ok (.invokevirtual 284, 3) := dk_182 1 28 (dk_at dksX1_fit_3 0 rfl rfl)
theorem dX1_fit_72 : decode cX1_fit 72 = .ok (.aload 12, 2) := dk_25 12 (dk_at dksX1_fit_3 3 rfl rfl)
theorem dX1_fit_74 : decode cX1_fit 74 = .ok (.invokevirtual 288, 3) := dk_182 1 32 (dk_at dksX1_fit_3 5 rfl rfl)
theorem dX1_fit_77 : decode cX1_fit 77 = .ok (.i2l, 1) := dk_133 (dk_at dksX1_fit_3 8 rfl rfl)
theorem dX1_fit_78 : decode cX1_fit 78 = .ok (.lmul, 1) := dk_105 (dk_at dksX1_fit_3 9 rfl rfl)
theorem dX1_fit_79 : decode cX1_fit 79 = .ok (.aload 12, 2) := dk_25 12 (dk_at dksX1_fit_3 10 rfl rfl)
theorem dX1_fit_81 : decode cX1_fit 81 = .ok (.invokevirtual 288, 3) := dk_182 1 32 (dk_at dksX1_fit_3 12 rfl rfl)
theorem dX1_fit_84 : decode cX1_fit 84 = .ok (.i2l, 1) := dk_133 (dk_at dksX1_fit_3 15 rfl rfl)
theorem dX1_fit_85 : decode cX1_fit 85 = .ok (.lmul, 1) := dk_105 (dk_at dksX1_fit_3 16 rfl rfl)
theorem dX1_fit_86 : decode cX1_fit 86 = .ok (.ladd, 1) := dk_97 (dk_at dksX1_fit_3 17 rfl rfl)
theorem dX1_fit_87 : decode cX1_fit 87 = .ok (.lstore 5, 2) := dk_55 5 (dk_at dksX1_fit_3 18 rfl rfl)
theorem dX1_fit_89 : decode cX1_fit 89 = .ok (.lload 7, 2) := dk_22 7 (dk_at dksX1_fit_3 20 rfl rfl)
theorem dX1_fit_91 : decode cX1_fit 91 = .ok (.aload 12, 2) := dk_25 12 (dk_at dksX1_fit_3 22 rfl rfl)
theorem dX1_fit_93 : decode cX1_fit 93 = .ok (.invokevirtual 284, 3) := dk_182 1 28 (dk_at dksX1_fit_4 0 rfl rfl)
theorem dX1_fit_96 : decode cX1_fit 96 = .ok (.aload 12, 2) := dk_25 12 (dk_at dksX1_fit_4 3 rfl rfl)
theorem dX1_fit_98 : decode cX1_fit 98 = .ok (.invokevirtual 291, 3) := dk_182 1 35 (dk_at dksX1_fit_4 5 rfl rfl)
theorem dX1_fit_101 : decode cX1_fit 101 = .ok (.i2l, 1) := dk_133 (dk_at dksX1_fit_4 8 rfl rfl)
theorem dX1_fit_102 : decode cX1_fit 102 = .ok (.lmul, 1) := dk_105 (dk_at dksX1_fit_4 9 rfl rfl)
theorem dX1_fit_103 : decode cX1_fit 103 = .ok (.ladd, 1) := dk_97 (dk_at dksX1_fit_4 10 rfl rfl)
theorem dX1_fit_104 : decode cX1_fit 104 = .ok (.lstore 7, 2) := dk_55 7 (dk_at dksX1_fit_4 11 rfl rfl)
theorem dX1_fit_106 : decode cX1_fit 106 = .ok (.lload 9, 2) := dk_22 9 (dk_at dksX1_fit_4 13 rfl rfl)
theorem dX1_fit_108 : decode cX1_fit 108 = .ok (.aload 12, 2) := dk_25 12 (dk_at dksX1_fit_4 15 rfl rfl)
theorem dX1_fit_110 : decode cX1_fit 110 = .ok (.invokevirtual 284, 3) := dk_182 1 28 (dk_at dksX1_fit_4 17 rfl rfl)
theorem dX1_fit_113 : decode cX1_fit 113 = .ok (.aload 12, 2) := dk_25 12 (dk_at dksX1_fit_4 20 rfl rfl)
theorem dX1_fit_115 : decode cX1_fit 115 = .ok (.invokevirtual 288, 3) := dk_182 1 32 (dk_at dksX1_fit_5 0 rfl rfl)
theorem dX1_fit_118 : decode cX1_fit 118 = .ok (.i2l, 1) := dk_133 (dk_at dksX1_fit_5 3 rfl rfl)
theorem dX1_fit_119 : decode cX1_fit 119 = .ok (.lmul, 1) := dk_105 (dk_at dksX1_fit_5 4 rfl rfl)
theorem dX1_fit_120 : decode cX1_fit 120 = .ok (.aload 12, 2) := dk_25 12 (dk_at dksX1_fit_5 5 rfl rfl)
theorem dX1_fit_122 : decode cX1_fit 122 = .ok (.invokevirtual 291, 3) := dk_182 1 35 (dk_at dksX1_fit_5 7 rfl rfl)
theorem dX1_fit_125 : decode cX1_fit 125 = .ok (.i2l, 1) := dk_133 (dk_at dksX1_fit_5 10 rfl rfl)
theorem dX1_fit_126 : decode cX1_fit 126 = .ok (.lmul, 1) := dk_105 (dk_at dksX1_fit_5 11 rfl rfl)
theorem dX1_fit_127 : decode cX1_fit 127 = .ok (.ladd, 1) := dk_97 (dk_at dksX1_fit_5 12 rfl rfl)
theorem dX1_fit_128 : decode cX1_fit 128 = .ok (.lstore 9, 2) := dk_55 9 (dk_at dksX1_fit_5 13 rfl rfl)
theorem dX1_fit_130 : decode cX1_fit 130 = .ok (.iinc 11 1, 3) := dk_132 11 1 (dk_at dksX1_fit_5 15 rfl rfl)
theorem dX1_fit_133 : decode cX1_fit 133 = .ok (.goto (-117), 3) := dk_167 255 139 (dk_at dksX1_fit_5 18 rfl rfl)
theorem dX1_fit_136 : decode cX1_fit 136 = .ok (.lload_n 1, 1) := dk_31 (dk_at dksX1_fit_5 21 rfl rfl)
theorem dX1_fit_137 : decode cX1_fit 137 = .ok (.lload 5, 2) := dk_22 5 (dk_at dksX1_fit_5 22 rfl rfl)
theorem dX1_fit_139 : decode cX1_fit 139 = .ok (.lmul, 1) := dk_105 (dk_at dksX1_fit_6 0 rfl rfl)
theorem dX1_fit_140 : decode cX1_fit 140 = .ok (.lload_n 3, 1) := dk_33 (dk_at dksX1_fit_6 1 rfl rfl)
theorem dX1_fit_141 : decode cX1_fit 141 = .ok (.lload_n 3, 1) := dk_33 (dk_at dksX1_fit_6 2 rfl rfl)
theorem dX1_fit_142 : decode cX1_fit 142 = .ok (.lmul, 1) := dk_105 (dk_at dksX1_fit_6 3 rfl rfl)
theorem dX1_fit_143 : decode cX1_fit 143 = .ok (.lsub, 1) := dk_101 (dk_at dksX1_fit_6 4 rfl rfl)
theorem dX1_fit_144 : decode cX1_fit 144 = .ok (.lstore 11, 2) := dk_55 11 (dk_at dksX1_fit_6 5 rfl rfl)
theorem dX1_fit_146 : decode cX1_fit 146 = .ok (.lload 11, 2) := dk_22 11 (dk_at dksX1_fit_6 7 rfl rfl)
theorem dX1_fit_148 : decode cX1_fit 148 = .ok (.lconst 0, 1) := dk_9 (dk_at dksX1_fit_6 9 rfl rfl)
theorem dX1_fit_149 : decode cX1_fit 149 = .ok (.lcmp, 1) := dk_148 (dk_at dksX1_fit_6 10 rfl rfl)
theorem dX1_fit_150 : decode cX1_fit 150 = .ok (.ifCond .ne 24, 3) := dk_154 0 24 (dk_at dksX1_fit_6 11 rfl rfl)
theorem dX1_fit_153 : decode cX1_fit 153 = .ok (.iconst 2, 1) := dk_5 (dk_at dksX1_fit_6 14 rfl rfl)
theorem dX1_fit_154 : decode cX1_fit 154 = .ok (.newarray .long, 2) := dk_188_11 (dk_at dksX1_fit_6 15 rfl rfl)
theorem dX1_fit_156 : decode cX1_fit 156 = .ok (.dup, 1) := dk_89 (dk_at dksX1_fit_6 17 rfl rfl)
theorem dX1_fit_157 : decode cX1_fit 157 = .ok (.iconst 0, 1) := dk_3 (dk_at dksX1_fit_6 18 rfl rfl)
theorem dX1_fit_158 : decode cX1_fit 158 = .ok (.lload 7, 2) := dk_22 7 (dk_at dksX1_fit_6 19 rfl rfl)
theorem dX1_fit_160 : decode cX1_fit 160 = .ok (.ldc2_w 195, 3) := dk_20 0 195 (dk_at dksX1_fit_6 21 rfl rfl)
theorem dX1_fit_163 : decode cX1_fit 163 = .ok (.lmul, 1) := dk_105 (dk_at dksX1_fit_7 0 rfl rfl)
theorem dX1_fit_164 : decode cX1_fit 164 = .ok (.lload_n 1, 1) := dk_31 (dk_at dksX1_fit_7 1 rfl rfl)
theorem dX1_fit_165 : decode cX1_fit 165 = .ok (.invokestatic 273, 3) := dk_184 1 17 (dk_at dksX1_fit_7 2 rfl rfl)
theorem dX1_fit_168 : decode cX1_fit 168 = .ok (.lastore, 1) := dk_80 (dk_at dksX1_fit_7 5 rfl rfl)
theorem dX1_fit_169 : decode cX1_fit 169 = .ok (.dup, 1) := dk_89 (dk_at dksX1_fit_7 6 rfl rfl)
theorem dX1_fit_170 : decode cX1_fit 170 = .ok (.iconst 1, 1) := dk_4 (dk_at dksX1_fit_7 7 rfl rfl)
theorem dX1_fit_171 : decode cX1_fit 171 = .ok (.lconst 0, 1) := dk_9 (dk_at dksX1_fit_7 8 rfl rfl)
theorem dX1_fit_172 : decode cX1_fit 172 = .ok (.lastore, 1) := dk_80 (dk_at dksX1_fit_7 9 rfl rfl)
theorem dX1_fit_173 : decode cX1_fit 173 = .ok (.areturn, 1) := dk_176 (dk_at dksX1_fit_7 10 rfl rfl)
theorem dX1_fit_174 : decode cX1_fit 174 = .ok (.lload_n 1, 1) := dk_31 (dk_at dksX1_fit_7 11 rfl rfl)
theorem dX1_fit_175 : decode cX1_fit 175 = .ok (.lload 9, 2) := dk_22 9 (dk_at dksX1_fit_7 12 rfl rfl)
theorem dX1_fit_177 : decode cX1_fit 177 = .ok (.lmul, 1) := dk_105 (dk_at dksX1_fit_7 14 rfl rfl)
theorem dX1_fit_178 : decode cX1_fit 178 = .ok (.lload_n 3, 1) := dk_33 (dk_at dksX1_fit_7 15 rfl rfl)
theorem dX1_fit_179 : decode cX1_fit 179 = .ok (.lload 7, 2) := dk_22 7 (dk_at dksX1_fit_7 16 rfl rfl)
theorem dX1_fit_181 : decode cX1_fit 181 = .ok (.lmul, 1) := dk_105 (dk_at dksX1_fit_7 18 rfl rfl)
theorem dX1_fit_182 : decode cX1_fit 182 = .ok (.lsub, 1) := dk_101 (dk_at dksX1_fit_7 19 rfl rfl)
theorem dX1_fit_183 : decode cX1_fit 183 = .ok (.ldc2_w 195, 3) := dk_20 0 195 (dk_at dksX1_fit_7 20 rfl rfl)
theorem dX1_fit_186 : decode cX1_fit 186 = .ok (.lmul, 1) := dk_105 (dk_at dksX1_fit_7 23 rfl rfl)
theorem dX1_fit_187 : decode cX1_fit 187 = .ok (.lload 11, 2) := dk_22 11 (dk_at dksX1_fit_8 0 rfl rfl)
theorem dX1_fit_189 : decode cX1_fit 189 = .ok (.invokestatic 273, 3) := dk_184 1 17 (dk_at dksX1_fit_8 2 rfl rfl)
theorem dX1_fit_192 : decode cX1_fit 192 = .ok (.lstore 13, 2) := dk_55 13 (dk_at dksX1_fit_8 5 rfl rfl)
theorem dX1_fit_194 : decode cX1_fit 194 = .ok (.iconst 2, 1) := dk_5 (dk_at dksX1_fit_8 7 rfl rfl)
theorem dX1_fit_195 : decode cX1_fit 195 = .ok (.newarray .long, 2) := dk_188_11 (dk_at dksX1_fit_8 8 rfl rfl)
theorem dX1_fit_197 : decode cX1_fit 197 = .ok (.dup, 1) := dk_89 (dk_at dksX1_fit_8 10 rfl rfl)
theorem dX1_fit_198 : decode cX1_fit 198 = .ok (.iconst 0, 1) := dk_3 (dk_at dksX1_fit_8 11 rfl rfl)
theorem dX1_fit_199 : decode cX1_fit 199 = .ok (.lload 7, 2) := dk_22 7 (dk_at dksX1_fit_8 12 rfl rfl)
theorem dX1_fit_201 : decode cX1_fit 201 = .ok (.ldc2_w 195, 3) := dk_20 0 195 (dk_at dksX1_fit_8 14 rfl rfl)
theorem dX1_fit_204 : decode cX1_fit 204 = .ok (.lmul, 1) := dk_105 (dk_at dksX1_fit_8 17 rfl rfl)
theorem dX1_fit_205 : decode cX1_fit 205 = .ok (.lload_n 1, 1) := dk_31 (dk_at dksX1_fit_8 18 rfl rfl)
theorem dX1_fit_206 : decode cX1_fit 206 = .ok (.aload_n 0, 1) := dk_42 (dk_at dksX1_fit_8 19 rfl rfl)
theorem dX1_fit_207 : decode cX1_fit 207 = .ok (.invokevirtual 262, 3) := dk_182 1 6 (dk_at dksX1_fit_8 20 rfl rfl)
theorem dX1_fit_210 : decode cX1_fit 210 = .ok (.i2l, 1) := dk_133 (dk_at dksX1_fit_8 23 rfl rfl)
theorem dX1_fit_211 : decode cX1_fit 211 = .ok (.lmul, 1) := dk_105 (dk_at dksX1_fit_9 0 rfl rfl)
theorem dX1_fit_212 : decode cX1_fit 212 = .ok (.lload_n 3, 1) := dk_33 (dk_at dksX1_fit_9 1 rfl rfl)
theorem dX1_fit_213 : decode cX1_fit 213 = .ok (.lsub, 1) := dk_101 (dk_at dksX1_fit_9 2 rfl rfl)
theorem dX1_fit_214 : decode cX1_fit 214 = .ok (.lload 13, 2) := dk_22 13 (dk_at dksX1_fit_9 3 rfl rfl)
theorem dX1_fit_216 : decode cX1_fit 216 = .ok (.lmul, 1) := dk_105 (dk_at dksX1_fit_9 5 rfl rfl)
theorem dX1_fit_217 : decode cX1_fit 217 = .ok (.ladd, 1) := dk_97 (dk_at dksX1_fit_9 6 rfl rfl)
theorem dX1_fit_218 : decode cX1_fit 218 = .ok (.lload_n 1, 1) := dk_31 (dk_at dksX1_fit_9 7 rfl rfl)
theorem dX1_fit_219 : decode cX1_fit 219 = .ok (.invokestatic 273, 3) := dk_184 1 17 (dk_at dksX1_fit_9 8 rfl rfl)
theorem dX1_fit_222 : decode cX1_fit 222 = .ok (.lastore, 1) := dk_80 (dk_at dksX1_fit_9 11 rfl rfl)
theorem dX1_fit_223 : decode cX1_fit 223 = .ok (.dup, 1) := dk_89 (dk_at dksX1_fit_9 12 rfl rfl)
theorem dX1_fit_224 : decode cX1_fit 224 = .ok (.iconst 1, 1) := dk_4 (dk_at dksX1_fit_9 13 rfl rfl)
theorem dX1_fit_225 : decode cX1_fit 225 = .ok (.lload 13, 2) := dk_22 13 (dk_at dksX1_fit_9 14 rfl rfl)
theorem dX1_fit_227 : decode cX1_fit 227 = .ok (.lastore, 1) := dk_80 (dk_at dksX1_fit_9 16 rfl rfl)
theorem dX1_fit_228 : decode cX1_fit 228 = .ok (.areturn, 1) := dk_176 (dk_at dksX1_fit_9 17 rfl rfl)
abbrev cX1_fittedSpeed : ByteArray := prog_1_method_46_code
def yX1_fittedSpeed : MethodName := ⟨RX1, "fittedSpeed", "(I)J"⟩
def dkwX1_fittedSpeed_0 : List UInt8 := [42, 27, 182, 0, 240, 184, 1, 37, 4, 47, 173]
abbrev dktX1_fittedSpeed_0 : List UInt8 := dkwX1_fittedSpeed_0 ++ []
theorem dksX1_fittedSpeed_0 : cX1_fittedSpeed.data.toList.drop 0 = dktX1_fittedSpeed_0 := by decide +kernel
theorem dX1_fittedSpeed_0 : decode cX1_fittedSpeed 0 = .ok (.aload_n 0, 1) := dk_42 (dk_at dksX1_fittedSpeed_0 0 rfl rfl)
theorem dX1_fittedSpeed_1 : decode cX1_fittedSpeed 1 = .ok (.iload_n 1, 1) := dk_27 (dk_at dksX1_fittedSpeed_0 1 rfl rfl)
theorem dX1_fittedSpeed_2 : decode cX1_fittedSpeed 2 = .ok (.invokevirtual 240, 3) := dk_182 0 240 (dk_at dksX1_fittedSpeed_0 2 rfl rfl)
theorem dX1_fittedSpeed_5 : decode cX1_fittedSpeed 5 = .ok (.invokestatic 293, 3) := dk_184 1 37 (dk_at dksX1_fittedSpeed_0 5 rfl rfl)
theorem dX1_fittedSpeed_8 : decode cX1_fittedSpeed 8 = .ok (.iconst 1, 1) := dk_4 (dk_at dksX1_fittedSpeed_0 8 rfl rfl)
theorem dX1_fittedSpeed_9 : decode cX1_fittedSpeed 9 = .ok (.laload, 1) := dk_47 (dk_at dksX1_fittedSpeed_0 9 rfl rfl)
theorem dX1_fittedSpeed_10 : decode cX1_fittedSpeed 10 = .ok (.lreturn, 1) := dk_173 (dk_at dksX1_fittedSpeed_0 10 rfl rfl)
abbrev cX1_apart : ByteArray := prog_1_method_47_code
def yX1_apart : MethodName := ⟨RX1, "apart", "(I)J"⟩
def dkwX1_apart_1 : List UInt8 := [173]
abbrev dktX1_apart_1 : List UInt8 := dkwX1_apart_1 ++ []
def dkwX1_apart_0 : List UInt8 := [42, 27, 182, 0, 240, 77, 44, 180, 0, 116, 180, 0, 244, 133, 44, 184, 1, 37, 3, 47, 101, 184, 1, 24]
abbrev dktX1_apart_0 : List UInt8 := dkwX1_apart_0 ++ dktX1_apart_1
theorem dksX1_apart_0 : cX1_apart.data.toList.drop 0 = dktX1_apart_0 := by decide +kernel
theorem dksX1_apart_1 : cX1_apart.data.toList.drop 24 = dktX1_apart_1 := dk_seg dksX1_apart_0 24 rfl rfl
theorem dX1_apart_0 : decode cX1_apart 0 = .ok (.aload_n 0, 1) := dk_42 (dk_at dksX1_apart_0 0 rfl rfl)
theorem dX1_apart_1 : decode cX1_apart 1 = .ok (.iload_n 1, 1) := dk_27 (dk_at dksX1_apart_0 1 rfl rfl)
theorem dX1_apart_2 : decode cX1_apart 2 = .ok (.invokevirtual 240, 3) := dk_182 0 240 (dk_at dksX1_apart_0 2 rfl rfl)
theorem dX1_apart_5 : decode cX1_apart 5 = .ok (.astore_n 2, 1) := dk_77 (dk_at dksX1_apart_0 5 rfl rfl)
theorem dX1_apart_6 : decode cX1_apart 6 = .ok (.aload_n 2, 1) := dk_44 (dk_at dksX1_apart_0 6 rfl rfl)
theorem dX1_apart_7 : decode cX1_apart 7 = .ok (.getfield 116, 3) := dk_180 0 116 (dk_at dksX1_apart_0 7 rfl rfl)
theorem dX1_apart_10 : decode cX1_apart 10 = .ok (.getfield 244, 3) := dk_180 0 244 (dk_at dksX1_apart_0 10 rfl rfl)
theorem dX1_apart_13 : decode cX1_apart 13 = .ok (.i2l, 1) := dk_133 (dk_at dksX1_apart_0 13 rfl rfl)
theorem dX1_apart_14 : decode cX1_apart 14 = .ok (.aload_n 2, 1) := dk_44 (dk_at dksX1_apart_0 14 rfl rfl)
theorem dX1_apart_15 : decode cX1_apart 15 = .ok (.invokestatic 293, 3) := dk_184 1 37 (dk_at dksX1_apart_0 15 rfl rfl)
theorem dX1_apart_18 : decode cX1_apart 18 = .ok (.iconst 0, 1) := dk_3 (dk_at dksX1_apart_0 18 rfl rfl)
theorem dX1_apart_19 : decode cX1_apart 19 = .ok (.laload, 1) := dk_47 (dk_at dksX1_apart_0 19 rfl rfl)
theorem dX1_apart_20 : decode cX1_apart 20 = .ok (.lsub, 1) := dk_101 (dk_at dksX1_apart_0 20 rfl rfl)
theorem dX1_apart_21 : decode cX1_apart 21 = .ok (.invokestatic 280, 3) := dk_184 1 24 (dk_at dksX1_apart_0 21 rfl rfl)
theorem dX1_apart_24 : decode cX1_apart 24 = .ok (.lreturn, 1) := dk_173 (dk_at dksX1_apart_1 0 rfl rfl)
abbrev cX1_nearest : ByteArray := prog_1_method_48_code
def yX1_nearest : MethodName := ⟨RX1, "nearest", "(I)I"⟩
def dkwX1_nearest_5 : List UInt8 := [2, 160, 0, 11, 187, 1, 44, 89, 183, 1, 46, 191, 28, 172]
abbrev dktX1_nearest_5 : List UInt8 := dkwX1_nearest_5 ++ []
def dkwX1_nearest_4 : List UInt8 := [180, 0, 234, 153, 0, 12, 21, 5, 153, 0, 7, 29, 167, 0, 4, 28, 61, 132, 3, 1, 167, 255, 153, 28]
abbrev dktX1_nearest_4 : List UInt8 := dkwX1_nearest_4 ++ dktX1_nearest_5
def dkwX1_nearest_3 : List UInt8 := [184, 1, 24, 148, 156, 0, 7, 4, 167, 0, 4, 3, 54, 5, 25, 4, 180, 0, 112, 153, 0, 20, 25, 4]
abbrev dktX1_nearest_3 : List UInt8 := dkwX1_nearest_3 ++ dktX1_nearest_4
def dkwX1_nearest_2 : List UInt8 := [182, 1, 40, 184, 1, 24, 42, 180, 0, 42, 28, 182, 0, 68, 192, 0, 72, 180, 0, 116, 27, 182, 1, 40]
abbrev dktX1_nearest_2 : List UInt8 := dkwX1_nearest_2 ++ dktX1_nearest_3
def dkwX1_nearest_1 : List UInt8 := [42, 180, 0, 42, 29, 182, 0, 68, 192, 0, 72, 58, 4, 28, 2, 159, 0, 40, 25, 4, 180, 0, 116, 27]
abbrev dktX1_nearest_1 : List UInt8 := dkwX1_nearest_1 ++ dktX1_nearest_2
def dkwX1_nearest_0 : List UInt8 := [27, 18, 105, 18, 106, 184, 0, 86, 87, 2, 61, 3, 62, 29, 42, 180, 0, 42, 182, 0, 60, 162, 0, 98]
abbrev dktX1_nearest_0 : List UInt8 := dkwX1_nearest_0 ++ dktX1_nearest_1
theorem dksX1_nearest_0 : cX1_nearest.data.toList.drop 0 = dktX1_nearest_0 := by decide +kernel
theorem dksX1_nearest_1 : cX1_nearest.data.toList.drop 24 = dktX1_nearest_1 := dk_seg dksX1_nearest_0 24 rfl rfl
theorem dksX1_nearest_2 : cX1_nearest.data.toList.drop 48 = dktX1_nearest_2 := dk_seg dksX1_nearest_1 24 rfl rfl
theorem dksX1_nearest_3 : cX1_nearest.data.toList.drop 72 = dktX1_nearest_3 := dk_seg dksX1_nearest_2 24 rfl rfl
theorem dksX1_nearest_4 : cX1_nearest.data.toList.drop 96 = dktX1_nearest_4 := dk_seg dksX1_nearest_3 24 rfl rfl
theorem dksX1_nearest_5 : cX1_nearest.data.toList.drop 120 = dktX1_nearest_5 := dk_seg dksX1_nearest_4 24 rfl rfl
theorem dX1_nearest_0 : decode cX1_nearest 0 = .ok (.iload_n 1, 1) := dk_27 (dk_at dksX1_nearest_0 0 rfl rfl)
theorem dX1_nearest_1 : decode cX1_nearest 1 = .ok (.ldc 105, 2) := dk_18 105 (dk_at dksX1_nearest_0 1 rfl rfl)
theorem dX1_nearest_3 : decode cX1_nearest 3 = .ok (.ldc 106, 2) := dk_18 106 (dk_at dksX1_nearest_0 3 rfl rfl)
theorem dX1_nearest_5 : decode cX1_nearest 5 = .ok (.invokestatic 86, 3) := dk_184 0 86 (dk_at dksX1_nearest_0 5 rfl rfl)
theorem dX1_nearest_8 : decode cX1_nearest 8 = .ok (.pop, 1) := dk_87 (dk_at dksX1_nearest_0 8 rfl rfl)
theorem dX1_nearest_9 : decode cX1_nearest 9 = .ok (.iconst (-1), 1) := dk_2 (dk_at dksX1_nearest_0 9 rfl rfl)
theorem dX1_nearest_10 : decode cX1_nearest 10 = .ok (.istore_n 2, 1) := dk_61 (dk_at dksX1_nearest_0 10 rfl rfl)
theorem dX1_nearest_11 : decode cX1_nearest 11 = .ok (.iconst 0, 1) := dk_3 (dk_at dksX1_nearest_0 11 rfl rfl)
theorem dX1_nearest_12 : decode cX1_nearest 12 = .ok (.istore_n 3, 1) := dk_62 (dk_at dksX1_nearest_0 12 rfl rfl)
theorem dX1_nearest_13 : decode cX1_nearest 13 = .ok (.iload_n 3, 1) := dk_29 (dk_at dksX1_nearest_0 13 rfl rfl)
theorem dX1_nearest_14 : decode cX1_nearest 14 = .ok (.aload_n 0, 1) := dk_42 (dk_at dksX1_nearest_0 14 rfl rfl)
theorem dX1_nearest_15 : decode cX1_nearest 15 = .ok (.getfield 42, 3) := dk_180 0 42 (dk_at dksX1_nearest_0 15 rfl rfl)
theorem dX1_nearest_18 : decode cX1_nearest 18 = .ok (.invokevirtual 60, 3) := dk_182 0 60 (dk_at dksX1_nearest_0 18 rfl rfl)
theorem dX1_nearest_21 : decode cX1_nearest 21 = .ok (.if_icmp .ge 98, 3) := dk_162 0 98 (dk_at dksX1_nearest_0 21 rfl rfl)
theorem dX1_nearest_24 : decode cX1_nearest 24 = .ok (.aload_n 0, 1) := dk_42 (dk_at dksX1_nearest_1 0 rfl rfl)
theorem dX1_nearest_25 : decode cX1_nearest 25 = .ok (.getfield 42, 3) := dk_180 0 42 (dk_at dksX1_nearest_1 1 rfl rfl)
theorem dX1_nearest_28 : decode cX1_nearest 28 = .ok (.iload_n 3, 1) := dk_29 (dk_at dksX1_nearest_1 4 rfl rfl)
theorem dX1_nearest_29 : decode cX1_nearest 29 = .ok (.invokevirtual 68, 3) := dk_182 0 68 (dk_at dksX1_nearest_1 5 rfl rfl)
theorem dX1_nearest_32 : decode cX1_nearest 32 = .ok (.checkcast 72, 3) := dk_192 0 72 (dk_at dksX1_nearest_1 8 rfl rfl)
theorem dX1_nearest_35 : decode cX1_nearest 35 = .ok (.astore 4, 2) := dk_58 4 (dk_at dksX1_nearest_1 11 rfl rfl)
theorem dX1_nearest_37 : decode cX1_nearest 37 = .ok (.iload_n 2, 1) := dk_28 (dk_at dksX1_nearest_1 13 rfl rfl)
theorem dX1_nearest_38 : decode cX1_nearest 38 = .ok (.iconst (-1), 1) := dk_2 (dk_at dksX1_nearest_1 14 rfl rfl)
theorem dX1_nearest_39 : decode cX1_nearest 39 = .ok (.if_icmp .eq 40, 3) := dk_159 0 40 (dk_at dksX1_nearest_1 15 rfl rfl)
theorem dX1_nearest_42 : decode cX1_nearest 42 = .ok (.aload 4, 2) := dk_25 4 (dk_at dksX1_nearest_1 18 rfl rfl)
theorem dX1_nearest_44 : decode cX1_nearest 44 = .ok (.getfield 116, 3) := dk_180 0 116 (dk_at dksX1_nearest_1 20 rfl rfl)
theorem dX1_nearest_47 : decode cX1_nearest 47 = .ok (.iload_n 1, 1) := dk_27 (dk_at dksX1_nearest_1 23 rfl rfl)
theorem dX1_nearest_48 : decode cX1_nearest 48 = .ok (.invokevirtual 296, 3) := dk_182 1 40 (dk_at dksX1_nearest_2 0 rfl rfl)
theorem dX1_nearest_51 : decode cX1_nearest 51 = .ok (.invokestatic 280, 3) := dk_184 1 24 (dk_at dksX1_nearest_2 3 rfl rfl)
theorem dX1_nearest_54 : decode cX1_nearest 54 = .ok (.aload_n 0, 1) := dk_42 (dk_at dksX1_nearest_2 6 rfl rfl)
theorem dX1_nearest_55 : decode cX1_nearest 55 = .ok (.getfield 42, 3) := dk_180 0 42 (dk_at dksX1_nearest_2 7 rfl rfl)
theorem dX1_nearest_58 : decode cX1_nearest 58 = .ok (.iload_n 2, 1) := dk_28 (dk_at dksX1_nearest_2 10 rfl rfl)
theorem dX1_nearest_59 : decode cX1_nearest 59 = .ok (.invokevirtual 68, 3) := dk_182 0 68 (dk_at dksX1_nearest_2 11 rfl rfl)
theorem dX1_nearest_62 : decode cX1_nearest 62 = .ok (.checkcast 72, 3) := dk_192 0 72 (dk_at dksX1_nearest_2 14 rfl rfl)
theorem dX1_nearest_65 : decode cX1_nearest 65 = .ok (.getfield 116, 3) := dk_180 0 116 (dk_at dksX1_nearest_2 17 rfl rfl)
theorem dX1_nearest_68 : decode cX1_nearest 68 = .ok (.iload_n 1, 1) := dk_27 (dk_at dksX1_nearest_2 20 rfl rfl)
theorem dX1_nearest_69 : decode cX1_nearest 69 = .ok (.invokevirtual 296, 3) := dk_182 1 40 (dk_at dksX1_nearest_2 21 rfl rfl)
theorem dX1_nearest_72 : decode cX1_nearest 72 = .ok (.invokestatic 280, 3) := dk_184 1 24 (dk_at dksX1_nearest_3 0 rfl rfl)
theorem dX1_nearest_75 : decode cX1_nearest 75 = .ok (.lcmp, 1) := dk_148 (dk_at dksX1_nearest_3 3 rfl rfl)
theorem dX1_nearest_76 : decode cX1_nearest 76 = .ok (.ifCond .ge 7, 3) := dk_156 0 7 (dk_at dksX1_nearest_3 4 rfl rfl)
theorem dX1_nearest_79 : decode cX1_nearest 79 = .ok (.iconst 1, 1) := dk_4 (dk_at dksX1_nearest_3 7 rfl rfl)
theorem dX1_nearest_80 : decode cX1_nearest 80 = .ok (.goto 4, 3) := dk_167 0 4 (dk_at dksX1_nearest_3 8 rfl rfl)
theorem dX1_nearest_83 : decode cX1_nearest 83 = .ok (.iconst 0, 1) := dk_3 (dk_at dksX1_nearest_3 11 rfl rfl)
theorem dX1_nearest_84 : decode cX1_nearest 84 = .ok (.istore 5, 2) := dk_54 5 (dk_at dksX1_nearest_3 12 rfl rfl)
theorem dX1_nearest_86 : decode cX1_nearest 86 = .ok (.aload 4, 2) := dk_25 4 (dk_at dksX1_nearest_3 14 rfl rfl)
theorem dX1_nearest_88 : decode cX1_nearest 88 = .ok (.getfield 112, 3) := dk_180 0 112 (dk_at dksX1_nearest_3 16 rfl rfl)
theorem dX1_nearest_91 : decode cX1_nearest 91 = .ok (.ifCond .eq 20, 3) := dk_153 0 20 (dk_at dksX1_nearest_3 19 rfl rfl)
theorem dX1_nearest_94 : decode cX1_nearest 94 = .ok (.aload 4, 2) := dk_25 4 (dk_at dksX1_nearest_3 22 rfl rfl)
theorem dX1_nearest_96 : decode cX1_nearest 96 = .ok (.getfield 234, 3) := dk_180 0 234 (dk_at dksX1_nearest_4 0 rfl rfl)
theorem dX1_nearest_99 : decode cX1_nearest 99 = .ok (.ifCond .eq 12, 3) := dk_153 0 12 (dk_at dksX1_nearest_4 3 rfl rfl)
theorem dX1_nearest_102 : decode cX1_nearest 102 = .ok (.iload 5, 2) := dk_21 5 (dk_at dksX1_nearest_4 6 rfl rfl)
theorem dX1_nearest_104 : decode cX1_nearest 104 = .ok (.ifCond .eq 7, 3) := dk_153 0 7 (dk_at dksX1_nearest_4 8 rfl rfl)
theorem dX1_nearest_107 : decode cX1_nearest 107 = .ok (.iload_n 3, 1) := dk_29 (dk_at dksX1_nearest_4 11 rfl rfl)
theorem dX1_nearest_108 : decode cX1_nearest 108 = .ok (.goto 4, 3) := dk_167 0 4 (dk_at dksX1_nearest_4 12 rfl rfl)
theorem dX1_nearest_111 : decode cX1_nearest 111 = .ok (.iload_n 2, 1) := dk_28 (dk_at dksX1_nearest_4 15 rfl rfl)
theorem dX1_nearest_112 : decode cX1_nearest 112 = .ok (.istore_n 2, 1) := dk_61 (dk_at dksX1_nearest_4 16 rfl rfl)
theorem dX1_nearest_113 : decode cX1_nearest 113 = .ok (.iinc 3 1, 3) := dk_132 3 1 (dk_at dksX1_nearest_4 17 rfl rfl)
theorem dX1_nearest_116 : decode cX1_nearest 116 = .ok (.goto (-103), 3) := dk_167 255 153 (dk_at dksX1_nearest_4 20 rfl rfl)
theorem dX1_nearest_119 : decode cX1_nearest 119 = .ok (.iload_n 2, 1) := dk_28 (dk_at dksX1_nearest_4 23 rfl rfl)
theorem dX1_nearest_120 : decode cX1_nearest 120 = .ok (.iconst (-1), 1) := dk_2 (dk_at dksX1_nearest_5 0 rfl rfl)
theorem dX1_nearest_121 : decode cX1_nearest 121 = .ok (.if_icmp .ne 11, 3) := dk_160 0 11 (dk_at dksX1_nearest_5 1 rfl rfl)
theorem dX1_nearest_124 : decode cX1_nearest 124 = .ok (.new 300, 3) := dk_187 1 44 (dk_at dksX1_nearest_5 4 rfl rfl)
theorem dX1_nearest_127 : decode cX1_nearest 127 = .ok (.dup, 1) := dk_89 (dk_at dksX1_nearest_5 7 rfl rfl)
theorem dX1_nearest_128 : decode cX1_nearest 128 = .ok (.invokespecial 302, 3) := dk_183 1 46 (dk_at dksX1_nearest_5 8 rfl rfl)
theorem dX1_nearest_131 : decode cX1_nearest 131 = .ok (.athrow, 1) := dk_191 (dk_at dksX1_nearest_5 11 rfl rfl)
theorem dX1_nearest_132 : decode cX1_nearest 132 = .ok (.iload_n 2, 1) := dk_28 (dk_at dksX1_nearest_5 12 rfl rfl)
theorem dX1_nearest_133 : decode cX1_nearest 133 = .ok (.ireturn, 1) := dk_172 (dk_at dksX1_nearest_5 13 rfl rfl)
theorem q38 : (Jvm.Cond.initialized "KalmanQuay") ∈ lw_all := lw_g (lw_at lw_m1 1 rfl) rfl
theorem q78 : (Jvm.Cond.instantiable "KalmanQuay" (12 : Nat)) ∈ lw_all := lw_g (lw_at lw_m1 41 rfl) rfl
theorem q80 : (Jvm.Cond.instanceMethod ({ cls := "KalmanQuay", name := "<init>", desc := "()V" } : Jvm.MethodName)) ∈ lw_all := lw_g (lw_at lw_m1 43 rfl) rfl
theorem q81 : (Jvm.Cond.code ({ cls := "KalmanQuay", name := "<init>", desc := "()V" } : Jvm.MethodName) prog_1_method_2_code (1 : Nat) (Option.none : Option Jvm.ClassFile.FieldType)) ∈ lw_all := lw_g (lw_at lw_m1 44 rfl) rfl
theorem q82 : (Jvm.Cond.methodLink "KalmanQuay" (10 : Nat) ({ cls := "java/lang/Object", name := "<init>", desc := "()V" } : Jvm.MethodName)) ∈ lw_all := lw_g (lw_at lw_m1 45 rfl) rfl
theorem q85 : (Jvm.Cond.constant "KalmanQuay" (31 : Nat) (65536 : Int32)) ∈ lw_all := lw_g (lw_at lw_m1 48 rfl) rfl
theorem q86 : (Jvm.Cond.classLink "KalmanQuay" (35 : Nat) "java/util/ArrayList") ∈ lw_all := lw_g (lw_at lw_m1 49 rfl) rfl
theorem q88 : (Jvm.Cond.methodLink "KalmanQuay" (37 : Nat) ({ cls := "java/util/ArrayList", name := "<init>", desc := "()V" } : Jvm.MethodName)) ∈ lw_all := lw_g (lw_at lw_m1 51 rfl) rfl
theorem q112 : (Jvm.Cond.fieldLink "KalmanQuay" (16 : Nat) "KalmanQuay" "noise" "I") ∈ lw_all := lw_g (lw_at lw_m1 75 rfl) rfl
theorem q113 : (Jvm.Cond.fieldLink "KalmanQuay" (22 : Nat) "KalmanQuay" "gate" "I") ∈ lw_all := lw_g (lw_at lw_m1 76 rfl) rfl
theorem q114 : (Jvm.Cond.fieldLink "KalmanQuay" (25 : Nat) "KalmanQuay" "patience" "I") ∈ lw_all := lw_g (lw_at lw_m1 77 rfl) rfl
theorem q115 : (Jvm.Cond.fieldLink "KalmanQuay" (28 : Nat) "KalmanQuay" "proof" "I") ∈ lw_all := lw_g (lw_at lw_m1 78 rfl) rfl
theorem q116 : (Jvm.Cond.fieldLink "KalmanQuay" (32 : Nat) "KalmanQuay" "startVariance" "I") ∈ lw_all := lw_g (lw_at lw_m1 79 rfl) rfl
theorem q117 : (Jvm.Cond.fieldLink "KalmanQuay" (38 : Nat) "KalmanQuay" "sensors" "Ljava/util/ArrayList;") ∈ lw_all := lw_g (lw_at lw_m1 80 rfl) rfl
theorem q118 : (Jvm.Cond.fieldLink "KalmanQuay" (42 : Nat) "KalmanQuay" "tracks" "Ljava/util/ArrayList;") ∈ lw_all := lw_g (lw_at lw_m1 81 rfl) rfl
theorem q119 : (Jvm.Cond.fieldLink "KalmanQuay" (45 : Nat) "KalmanQuay" "next" "Ljava/util/ArrayList;") ∈ lw_all := lw_g (lw_at lw_m1 82 rfl) rfl
theorem q120 : (Jvm.Cond.fieldLink "KalmanQuay" (48 : Nat) "KalmanQuay" "latest" "Ljava/util/ArrayList;") ∈ lw_all := lw_g (lw_at lw_m1 83 rfl) rfl
theorem q121 : (Jvm.Cond.fieldLink "KalmanQuay" (74 : Nat) "KalmanQuay" "beats" "I") ∈ lw_all := lw_g (lw_at lw_m1 84 rfl) rfl
theorem q122 : (Jvm.Cond.fieldLink "KalmanQuay" (80 : Nat) "KalmanQuay" "allHits" "I") ∈ lw_all := lw_g (lw_at lw_m1 85 rfl) rfl
theorem q123 : (Jvm.Cond.fieldLink "KalmanQuay" (83 : Nat) "KalmanQuay" "assigned" "I") ∈ lw_all := lw_g (lw_at lw_m1 86 rfl) rfl
theorem q124 : (Jvm.Cond.lays "KalmanQuay" "KalmanQuay" "noise" "I") ∈ lw_all := lw_g (lw_at lw_m1 87 rfl) rfl
theorem q125 : (Jvm.Cond.soleField "KalmanQuay" "noise") ∈ lw_all := lw_g (lw_at lw_m1 88 rfl) rfl
theorem q126 : (Jvm.Cond.lays "KalmanQuay" "KalmanQuay" "gate" "I") ∈ lw_all := lw_g (lw_at lw_m1 89 rfl) rfl
theorem q127 : (Jvm.Cond.soleField "KalmanQuay" "gate") ∈ lw_all := lw_g (lw_at lw_m1 90 rfl) rfl
theorem q128 : (Jvm.Cond.lays "KalmanQuay" "KalmanQuay" "patience" "I") ∈ lw_all := lw_g (lw_at lw_m1 91 rfl) rfl
theorem q129 : (Jvm.Cond.soleField "KalmanQuay" "patience") ∈ lw_all := lw_g (lw_at lw_m1 92 rfl) rfl
theorem q130 : (Jvm.Cond.lays "KalmanQuay" "KalmanQuay" "proof" "I") ∈ lw_all := lw_g (lw_at lw_m1 93 rfl) rfl
theorem q131 : (Jvm.Cond.soleField "KalmanQuay" "proof") ∈ lw_all := lw_g (lw_at lw_m1 94 rfl) rfl
theorem q132 : (Jvm.Cond.lays "KalmanQuay" "KalmanQuay" "startVariance" "I") ∈ lw_all := lw_g (lw_at lw_m1 95 rfl) rfl
theorem q133 : (Jvm.Cond.soleField "KalmanQuay" "startVariance") ∈ lw_all := lw_g (lw_at lw_m1 96 rfl) rfl
theorem q134 : (Jvm.Cond.laysFinal "KalmanQuay" "KalmanQuay" "sensors" "Ljava/util/ArrayList;") ∈ lw_all := lw_g (lw_at lw_m1 97 rfl) rfl
theorem q135 : (Jvm.Cond.soleField "KalmanQuay" "sensors") ∈ lw_all := lw_g (lw_at lw_m1 98 rfl) rfl
theorem q136 : (Jvm.Cond.laysFinal "KalmanQuay" "KalmanQuay" "tracks" "Ljava/util/ArrayList;") ∈ lw_all := lw_g (lw_at lw_m1 99 rfl) rfl
theorem q137 : (Jvm.Cond.soleField "KalmanQuay" "tracks") ∈ lw_all := lw_g (lw_at lw_m1 100 rfl) rfl
theorem q138 : (Jvm.Cond.lays "KalmanQuay" "KalmanQuay" "next" "Ljava/util/ArrayList;") ∈ lw_all := lw_g (lw_at lw_m1 101 rfl) rfl
theorem q139 : (Jvm.Cond.soleField "KalmanQuay" "next") ∈ lw_all := lw_g (lw_at lw_m1 102 rfl) rfl
theorem q140 : (Jvm.Cond.lays "KalmanQuay" "KalmanQuay" "latest" "Ljava/util/ArrayList;") ∈ lw_all := lw_g (lw_at lw_m1 103 rfl) rfl
theorem q141 : (Jvm.Cond.soleField "KalmanQuay" "latest") ∈ lw_all := lw_g (lw_at lw_m1 104 rfl) rfl
theorem q142 : (Jvm.Cond.lays "KalmanQuay" "KalmanQuay" "beats" "I") ∈ lw_all := lw_g (lw_at lw_m1 105 rfl) rfl
theorem q143 : (Jvm.Cond.soleField "KalmanQuay" "beats") ∈ lw_all := lw_g (lw_at lw_m1 106 rfl) rfl
theorem q144 : (Jvm.Cond.lays "KalmanQuay" "KalmanQuay" "allHits" "I") ∈ lw_all := lw_g (lw_at lw_m1 107 rfl) rfl
theorem q145 : (Jvm.Cond.soleField "KalmanQuay" "allHits") ∈ lw_all := lw_g (lw_at lw_m1 108 rfl) rfl
theorem q146 : (Jvm.Cond.lays "KalmanQuay" "KalmanQuay" "assigned" "I") ∈ lw_all := lw_g (lw_at lw_m1 109 rfl) rfl
theorem q147 : (Jvm.Cond.soleField "KalmanQuay" "assigned") ∈ lw_all := lw_g (lw_at lw_m1 110 rfl) rfl
theorem q148 : (Jvm.Cond.superclass "KalmanQuay" "java/lang/Object") ∈ lw_all := lw_g (lw_at lw_m1 111 rfl) rfl
theorem q150 : (Jvm.Cond.instanceMethod ({ cls := "KalmanQuay", name := "begin", desc := "()I" } : Jvm.MethodName)) ∈ lw_all := lw_g (lw_at lw_m1 113 rfl) rfl
theorem q151 : (Jvm.Cond.selects "KalmanQuay" ({ cls := "KalmanQuay", name := "begin", desc := "()I" } : Jvm.MethodName) ({ cls := "KalmanQuay", name := "begin", desc := "()I" } : Jvm.MethodName)) ∈ lw_all := lw_g (lw_at lw_m1 114 rfl) rfl
theorem q152 : (Jvm.Cond.code ({ cls := "KalmanQuay", name := "begin", desc := "()I" } : Jvm.MethodName) prog_1_method_7_code (2 : Nat) (Option.some Jvm.ClassFile.FieldType.int)) ∈ lw_all := lw_g (lw_at lw_m1 115 rfl) rfl
theorem q153 : (Jvm.Cond.methodLink "KalmanQuay" (77 : Nat) ({ cls := "java/util/ArrayList", name := "clear", desc := "()V" } : Jvm.MethodName)) ∈ lw_all := lw_g (lw_at lw_m1 116 rfl) rfl
theorem q158 : (Jvm.Cond.instanceMethod ({ cls := "KalmanQuay", name := "sensorCount", desc := "()I" } : Jvm.MethodName)) ∈ lw_all := lw_g (lw_at lw_m1 121 rfl) rfl
theorem q159 : (Jvm.Cond.selects "KalmanQuay" ({ cls := "KalmanQuay", name := "sensorCount", desc := "()I" } : Jvm.MethodName) ({ cls := "KalmanQuay", name := "sensorCount", desc := "()I" } : Jvm.MethodName)) ∈ lw_all := lw_g (lw_at lw_m1 122 rfl) rfl
theorem q160 : (Jvm.Cond.code ({ cls := "KalmanQuay", name := "sensorCount", desc := "()I" } : Jvm.MethodName) prog_1_method_11_code (1 : Nat) (Option.some Jvm.ClassFile.FieldType.int)) ∈ lw_all := lw_g (lw_at lw_m1 123 rfl) rfl
theorem q161 : (Jvm.Cond.methodLink "KalmanQuay" (60 : Nat) ({ cls := "java/util/ArrayList", name := "size", desc := "()I" } : Jvm.MethodName)) ∈ lw_all := lw_g (lw_at lw_m1 124 rfl) rfl
theorem q166 : (Jvm.Cond.instanceMethod ({ cls := "KalmanQuay", name := "hits", desc := "()I" } : Jvm.MethodName)) ∈ lw_all := lw_g (lw_at lw_m1 129 rfl) rfl
theorem q167 : (Jvm.Cond.selects "KalmanQuay" ({ cls := "KalmanQuay", name := "hits", desc := "()I" } : Jvm.MethodName) ({ cls := "KalmanQuay", name := "hits", desc := "()I" } : Jvm.MethodName)) ∈ lw_all := lw_g (lw_at lw_m1 130 rfl) rfl
theorem q168 : (Jvm.Cond.code ({ cls := "KalmanQuay", name := "hits", desc := "()I" } : Jvm.MethodName) prog_1_method_13_code (1 : Nat) (Option.some Jvm.ClassFile.FieldType.int)) ∈ lw_all := lw_g (lw_at lw_m1 131 rfl) rfl
theorem q170 : (Jvm.Cond.instanceMethod ({ cls := "KalmanQuay", name := "beatCount", desc := "()I" } : Jvm.MethodName)) ∈ lw_all := lw_g (lw_at lw_m1 133 rfl) rfl
theorem q171 : (Jvm.Cond.selects "KalmanQuay" ({ cls := "KalmanQuay", name := "beatCount", desc := "()I" } : Jvm.MethodName) ({ cls := "KalmanQuay", name := "beatCount", desc := "()I" } : Jvm.MethodName)) ∈ lw_all := lw_g (lw_at lw_m1 134 rfl) rfl
theorem q172 : (Jvm.Cond.code ({ cls := "KalmanQuay", name := "beatCount", desc := "()I" } : Jvm.MethodName) prog_1_method_23_code (1 : Nat) (Option.some Jvm.ClassFile.FieldType.int)) ∈ lw_all := lw_g (lw_at lw_m1 135 rfl) rfl
theorem q174 : (Jvm.Cond.instanceMethod ({ cls := "KalmanQuay", name := "trackCount", desc := "()I" } : Jvm.MethodName)) ∈ lw_all := lw_g (lw_at lw_m1 137 rfl) rfl
theorem q175 : (Jvm.Cond.selects "KalmanQuay" ({ cls := "KalmanQuay", name := "trackCount", desc := "()I" } : Jvm.MethodName) ({ cls := "KalmanQuay", name := "trackCount", desc := "()I" } : Jvm.MethodName)) ∈ lw_all := lw_g (lw_at lw_m1 138 rfl) rfl
theorem q176 : (Jvm.Cond.code ({ cls := "KalmanQuay", name := "trackCount", desc := "()I" } : Jvm.MethodName) prog_1_method_25_code (1 : Nat) (Option.some Jvm.ClassFile.FieldType.int)) ∈ lw_all := lw_g (lw_at lw_m1 139 rfl) rfl
theorem q178 : (Jvm.Cond.instanceMethod ({ cls := "KalmanQuay", name := "alive", desc := "()I" } : Jvm.MethodName)) ∈ lw_all := lw_g (lw_at lw_m1 141 rfl) rfl
theorem q179 : (Jvm.Cond.selects "KalmanQuay" ({ cls := "KalmanQuay", name := "alive", desc := "()I" } : Jvm.MethodName) ({ cls := "KalmanQuay", name := "alive", desc := "()I" } : Jvm.MethodName)) ∈ lw_all := lw_g (lw_at lw_m1 142 rfl) rfl
theorem q180 : (Jvm.Cond.code ({ cls := "KalmanQuay", name := "alive", desc := "()I" } : Jvm.MethodName) prog_1_method_26_code (1 : Nat) (Option.some Jvm.ClassFile.FieldType.int)) ∈ lw_all := lw_g (lw_at lw_m1 143 rfl) rfl
theorem q181 : (Jvm.Cond.methodLink "KalmanQuay" (191 : Nat) ({ cls := "KalmanQuay", name := "living", desc := "()Ljava/util/ArrayList;" } : Jvm.MethodName)) ∈ lw_all := lw_g (lw_at lw_m1 144 rfl) rfl
theorem q182 : (Jvm.Cond.privateMethod ({ cls := "KalmanQuay", name := "living", desc := "()Ljava/util/ArrayList;" } : Jvm.MethodName)) ∈ lw_tbl := lw_at lw_m1 145 rfl
theorem q183 : (Jvm.Cond.instanceMethod ({ cls := "KalmanQuay", name := "living", desc := "()Ljava/util/ArrayList;" } : Jvm.MethodName)) ∈ lw_all := lw_g (lw_at lw_m1 146 rfl) rfl
theorem q184 : (Jvm.Cond.code ({ cls := "KalmanQuay", name := "living", desc := "()Ljava/util/ArrayList;" } : Jvm.MethodName) prog_1_method_14_code (3 : Nat) (Option.some (Jvm.ClassFile.FieldType.object "java/util/ArrayList"))) ∈ lw_all := lw_g (lw_at lw_m1 147 rfl) rfl
theorem q185 : (Jvm.Cond.methodLink "KalmanQuay" (68 : Nat) ({ cls := "java/util/ArrayList", name := "get", desc := "(I)Ljava/lang/Object;" } : Jvm.MethodName)) ∈ lw_all := lw_g (lw_at lw_m1 148 rfl) rfl
theorem q199 : (Jvm.Cond.classLink "KalmanQuay" (72 : Nat) "KalmanQuay$Track") ∈ lw_all := lw_g (lw_at lw_m1 162 rfl) rfl
theorem q200 : (Jvm.Cond.methodLink "KalmanQuay" (95 : Nat) ({ cls := "java/lang/Integer", name := "valueOf", desc := "(I)Ljava/lang/Integer;" } : Jvm.MethodName)) ∈ lw_all := lw_g (lw_at lw_m1 163 rfl) rfl
theorem q220 : (Jvm.Cond.methodLink "KalmanQuay" (101 : Nat) ({ cls := "java/util/ArrayList", name := "add", desc := "(Ljava/lang/Object;)Z" } : Jvm.MethodName)) ∈ lw_all := lw_g (lw_at lw_m1 183 rfl) rfl
theorem q252 : (Jvm.Cond.selects "KalmanQuay" ({ cls := "java/lang/Object", name := "getClass", desc := "()Ljava/lang/Class;" } : Jvm.MethodName) ({ cls := "java/lang/Object", name := "getClass", desc := "()Ljava/lang/Class;" } : Jvm.MethodName)) ∈ lw_all := lw_g (lw_at lw_m1 215 rfl) rfl
theorem q288 : (Jvm.Cond.instanceMethod ({ cls := "KalmanQuay", name := "assignedShare", desc := "()F" } : Jvm.MethodName)) ∈ lw_all := lw_g (lw_at lw_m2 11 rfl) rfl
theorem q289 : (Jvm.Cond.selects "KalmanQuay" ({ cls := "KalmanQuay", name := "assignedShare", desc := "()F" } : Jvm.MethodName) ({ cls := "KalmanQuay", name := "assignedShare", desc := "()F" } : Jvm.MethodName)) ∈ lw_all := lw_g (lw_at lw_m2 12 rfl) rfl
theorem q290 : (Jvm.Cond.code ({ cls := "KalmanQuay", name := "assignedShare", desc := "()F" } : Jvm.MethodName) prog_1_method_49_code (1 : Nat) (Option.some Jvm.ClassFile.FieldType.float)) ∈ lw_all := lw_g (lw_at lw_m2 13 rfl) rfl
theorem q292 : (Jvm.Cond.instanceMethod ({ cls := "KalmanQuay", name := "meanLength", desc := "()D" } : Jvm.MethodName)) ∈ lw_all := lw_g (lw_at lw_m2 15 rfl) rfl
theorem q293 : (Jvm.Cond.selects "KalmanQuay" ({ cls := "KalmanQuay", name := "meanLength", desc := "()D" } : Jvm.MethodName) ({ cls := "KalmanQuay", name := "meanLength", desc := "()D" } : Jvm.MethodName)) ∈ lw_all := lw_g (lw_at lw_m2 16 rfl) rfl
theorem q294 : (Jvm.Cond.code ({ cls := "KalmanQuay", name := "meanLength", desc := "()D" } : Jvm.MethodName) prog_1_method_50_code (3 : Nat) (Option.some Jvm.ClassFile.FieldType.double)) ∈ lw_all := lw_g (lw_at lw_m2 17 rfl) rfl
theorem q295 : (Jvm.Cond.methodLink "KalmanQuay" (303 : Nat) ({ cls := "java/util/ArrayList", name := "isEmpty", desc := "()Z" } : Jvm.MethodName)) ∈ lw_all := lw_g (lw_at lw_m2 18 rfl) rfl
theorem q304 : (Jvm.Cond.instanceMethod ({ cls := "KalmanQuay", name := "setFilter", desc := "(II)I" } : Jvm.MethodName)) ∈ lw_all := lw_g (lw_at lw_m2 27 rfl) rfl
theorem q305 : (Jvm.Cond.selects "KalmanQuay" ({ cls := "KalmanQuay", name := "setFilter", desc := "(II)I" } : Jvm.MethodName) ({ cls := "KalmanQuay", name := "setFilter", desc := "(II)I" } : Jvm.MethodName)) ∈ lw_all := lw_g (lw_at lw_m2 28 rfl) rfl
theorem q306 : (Jvm.Cond.code ({ cls := "KalmanQuay", name := "setFilter", desc := "(II)I" } : Jvm.MethodName) prog_1_method_8_code (4 : Nat) (Option.some Jvm.ClassFile.FieldType.int)) ∈ lw_all := lw_g (lw_at lw_m2 29 rfl) rfl
theorem q307 : (Jvm.Cond.methodLink "KalmanQuay" (86 : Nat) ({ cls := "KalmanQuay", name := "check", desc := "(III)I" } : Jvm.MethodName)) ∈ lw_all := lw_g (lw_at lw_m2 30 rfl) rfl
theorem q308 : (Jvm.Cond.static ({ cls := "KalmanQuay", name := "check", desc := "(III)I" } : Jvm.MethodName)) ∈ lw_all := lw_g (lw_at lw_m2 31 rfl) rfl
theorem q309 : (Jvm.Cond.code ({ cls := "KalmanQuay", name := "check", desc := "(III)I" } : Jvm.MethodName) prog_1_method_3_code (3 : Nat) (Option.some Jvm.ClassFile.FieldType.int)) ∈ lw_all := lw_g (lw_at lw_m2 32 rfl) rfl
theorem q310 : (Jvm.Cond.classLink "KalmanQuay" (51 : Nat) "java/lang/IllegalArgumentException") ∈ lw_all := lw_g (lw_at lw_m2 33 rfl) rfl
theorem q353 : (Jvm.Cond.methodLink "KalmanQuay" (53 : Nat) ({ cls := "java/lang/IllegalArgumentException", name := "<init>", desc := "()V" } : Jvm.MethodName)) ∈ lw_all := lw_g (lw_at lw_m2 76 rfl) rfl
theorem q380 : (Jvm.Cond.instanceMethod ({ cls := "KalmanQuay", name := "setTracks", desc := "(III)I" } : Jvm.MethodName)) ∈ lw_all := lw_g (lw_at lw_m2 103 rfl) rfl
theorem q381 : (Jvm.Cond.selects "KalmanQuay" ({ cls := "KalmanQuay", name := "setTracks", desc := "(III)I" } : Jvm.MethodName) ({ cls := "KalmanQuay", name := "setTracks", desc := "(III)I" } : Jvm.MethodName)) ∈ lw_all := lw_g (lw_at lw_m2 104 rfl) rfl
theorem q382 : (Jvm.Cond.code ({ cls := "KalmanQuay", name := "setTracks", desc := "(III)I" } : Jvm.MethodName) prog_1_method_9_code (5 : Nat) (Option.some Jvm.ClassFile.FieldType.int)) ∈ lw_all := lw_g (lw_at lw_m2 105 rfl) rfl
theorem q383 : (Jvm.Cond.constant "KalmanQuay" (90 : Nat) (16777216 : Int32)) ∈ lw_all := lw_g (lw_at lw_m2 106 rfl) rfl
theorem q389 : (Jvm.Cond.instanceMethod ({ cls := "KalmanQuay", name := "addSensor", desc := "(I)I" } : Jvm.MethodName)) ∈ lw_all := lw_g (lw_at lw_m2 112 rfl) rfl
theorem q390 : (Jvm.Cond.selects "KalmanQuay" ({ cls := "KalmanQuay", name := "addSensor", desc := "(I)I" } : Jvm.MethodName) ({ cls := "KalmanQuay", name := "addSensor", desc := "(I)I" } : Jvm.MethodName)) ∈ lw_all := lw_g (lw_at lw_m2 113 rfl) rfl
theorem q391 : (Jvm.Cond.code ({ cls := "KalmanQuay", name := "addSensor", desc := "(I)I" } : Jvm.MethodName) prog_1_method_10_code (2 : Nat) (Option.some Jvm.ClassFile.FieldType.int)) ∈ lw_all := lw_g (lw_at lw_m2 114 rfl) rfl
theorem q392 : (Jvm.Cond.methodLink "KalmanQuay" (91 : Nat) ({ cls := "KalmanQuay", name := "require", desc := "(Z)V" } : Jvm.MethodName)) ∈ lw_all := lw_g (lw_at lw_m2 115 rfl) rfl
theorem q393 : (Jvm.Cond.static ({ cls := "KalmanQuay", name := "require", desc := "(Z)V" } : Jvm.MethodName)) ∈ lw_all := lw_g (lw_at lw_m2 116 rfl) rfl
theorem q394 : (Jvm.Cond.code ({ cls := "KalmanQuay", name := "require", desc := "(Z)V" } : Jvm.MethodName) prog_1_method_5_code (1 : Nat) (Option.none : Option Jvm.ClassFile.FieldType)) ∈ lw_all := lw_g (lw_at lw_m2 117 rfl) rfl
theorem q395 : (Jvm.Cond.classLink "KalmanQuay" (57 : Nat) "java/lang/IllegalStateException") ∈ lw_all := lw_g (lw_at lw_m2 118 rfl) rfl
theorem q404 : (Jvm.Cond.methodLink "KalmanQuay" (59 : Nat) ({ cls := "java/lang/IllegalStateException", name := "<init>", desc := "()V" } : Jvm.MethodName)) ∈ lw_all := lw_g (lw_at lw_m2 127 rfl) rfl
theorem q447 : (Jvm.Cond.instanceMethod ({ cls := "KalmanQuay", name := "hit", desc := "(II)I" } : Jvm.MethodName)) ∈ lw_all := lw_g (lw_at lw_m2 170 rfl) rfl
theorem q448 : (Jvm.Cond.selects "KalmanQuay" ({ cls := "KalmanQuay", name := "hit", desc := "(II)I" } : Jvm.MethodName) ({ cls := "KalmanQuay", name := "hit", desc := "(II)I" } : Jvm.MethodName)) ∈ lw_all := lw_g (lw_at lw_m2 171 rfl) rfl
theorem q449 : (Jvm.Cond.code ({ cls := "KalmanQuay", name := "hit", desc := "(II)I" } : Jvm.MethodName) prog_1_method_12_code (3 : Nat) (Option.some Jvm.ClassFile.FieldType.int)) ∈ lw_all := lw_g (lw_at lw_m2 172 rfl) rfl
theorem q450 : (Jvm.Cond.methodLink "KalmanQuay" (64 : Nat) ({ cls := "KalmanQuay", name := "checkIndex", desc := "(II)I" } : Jvm.MethodName)) ∈ lw_all := lw_g (lw_at lw_m2 173 rfl) rfl
theorem q451 : (Jvm.Cond.static ({ cls := "KalmanQuay", name := "checkIndex", desc := "(II)I" } : Jvm.MethodName)) ∈ lw_all := lw_g (lw_at lw_m2 174 rfl) rfl
theorem q452 : (Jvm.Cond.code ({ cls := "KalmanQuay", name := "checkIndex", desc := "(II)I" } : Jvm.MethodName) prog_1_method_4_code (2 : Nat) (Option.some Jvm.ClassFile.FieldType.int)) ∈ lw_all := lw_g (lw_at lw_m2 175 rfl) rfl
theorem q453 : (Jvm.Cond.classLink "KalmanQuay" (54 : Nat) "java/lang/IndexOutOfBoundsException") ∈ lw_all := lw_g (lw_at lw_m2 176 rfl) rfl
theorem q462 : (Jvm.Cond.methodLink "KalmanQuay" (56 : Nat) ({ cls := "java/lang/IndexOutOfBoundsException", name := "<init>", desc := "()V" } : Jvm.MethodName)) ∈ lw_all := lw_g (lw_at lw_m2 185 rfl) rfl
theorem q468 : (Jvm.Cond.constant "KalmanQuay" (105 : Nat) (-100000 : Int32)) ∈ lw_all := lw_g (lw_at lw_m2 191 rfl) rfl
theorem q469 : (Jvm.Cond.constant "KalmanQuay" (106 : Nat) (100000 : Int32)) ∈ lw_all := lw_g (lw_at lw_m2 192 rfl) rfl
theorem q470 : (Jvm.Cond.classLink "KalmanQuay" (107 : Nat) "KalmanQuay$Hit") ∈ lw_all := lw_g (lw_at lw_m2 193 rfl) rfl
theorem q472 : (Jvm.Cond.methodLink "KalmanQuay" (109 : Nat) ({ cls := "KalmanQuay$Hit", name := "<init>", desc := "(II)V" } : Jvm.MethodName)) ∈ lw_all := lw_g (lw_at lw_m2 195 rfl) rfl
theorem q477 : (Jvm.Cond.fieldLink "KalmanQuay" (123 : Nat) "KalmanQuay$Hit" "sensor" "I") ∈ lw_all := lw_g (lw_at lw_m2 200 rfl) rfl
theorem q479 : (Jvm.Cond.fieldLink "KalmanQuay" (120 : Nat) "KalmanQuay$Hit" "place" "I") ∈ lw_all := lw_g (lw_at lw_m2 202 rfl) rfl
theorem q481 : (Jvm.Cond.fieldLink "KalmanQuay" (139 : Nat) "KalmanQuay$Hit" "track" "I") ∈ lw_all := lw_g (lw_at lw_m2 204 rfl) rfl
theorem q493 : (Jvm.Cond.instanceMethod ({ cls := "KalmanQuay", name := "beat", desc := "()I" } : Jvm.MethodName)) ∈ lw_all := lw_g (lw_at lw_m2 216 rfl) rfl
theorem q494 : (Jvm.Cond.selects "KalmanQuay" ({ cls := "KalmanQuay", name := "beat", desc := "()I" } : Jvm.MethodName) ({ cls := "KalmanQuay", name := "beat", desc := "()I" } : Jvm.MethodName)) ∈ lw_all := lw_g (lw_at lw_m2 217 rfl) rfl
theorem q495 : (Jvm.Cond.code ({ cls := "KalmanQuay", name := "beat", desc := "()I" } : Jvm.MethodName) prog_1_method_21_code (1 : Nat) (Option.some Jvm.ClassFile.FieldType.int)) ∈ lw_all := lw_g (lw_at lw_m2 218 rfl) rfl
theorem q496 : (Jvm.Cond.methodLink "KalmanQuay" (237 : Nat) ({ cls := "KalmanQuay", name := "doBeat", desc := "()I" } : Jvm.MethodName)) ∈ lw_all := lw_g (lw_at lw_m2 219 rfl) rfl
theorem q497 : (Jvm.Cond.privateMethod ({ cls := "KalmanQuay", name := "doBeat", desc := "()I" } : Jvm.MethodName)) ∈ lw_tbl := lw_at lw_m2 220 rfl
theorem q498 : (Jvm.Cond.instanceMethod ({ cls := "KalmanQuay", name := "doBeat", desc := "()I" } : Jvm.MethodName)) ∈ lw_all := lw_g (lw_at lw_m2 221 rfl) rfl
theorem q499 : (Jvm.Cond.code ({ cls := "KalmanQuay", name := "doBeat", desc := "()I" } : Jvm.MethodName) prog_1_method_20_code (5 : Nat) (Option.some Jvm.ClassFile.FieldType.int)) ∈ lw_all := lw_g (lw_at lw_m2 222 rfl) rfl
theorem q500 : (Jvm.Cond.classLink "KalmanQuay" (189 : Nat) "java/util/HashSet") ∈ lw_all := lw_g (lw_at lw_m2 223 rfl) rfl
theorem q502 : (Jvm.Cond.methodLink "KalmanQuay" (212 : Nat) ({ cls := "java/util/HashSet", name := "<init>", desc := "()V" } : Jvm.MethodName)) ∈ lw_all := lw_g (lw_at lw_m2 225 rfl) rfl
theorem q545 : (Jvm.Cond.classLink "KalmanQuay" (96 : Nat) "java/lang/Integer") ∈ lw_all := lw_g (lw_at lw_m3 28 rfl) rfl
theorem q546 : (Jvm.Cond.methodLink "KalmanQuay" (126 : Nat) ({ cls := "java/lang/Integer", name := "intValue", desc := "()I" } : Jvm.MethodName)) ∈ lw_all := lw_g (lw_at lw_m3 29 rfl) rfl
theorem q550 : (Jvm.Cond.methodLink "KalmanQuay" (213 : Nat) ({ cls := "KalmanQuay$State", name := "foretell", desc := "(I)LKalmanQuay$State;" } : Jvm.MethodName)) ∈ lw_all := lw_g (lw_at lw_m3 33 rfl) rfl
theorem q564 : (Jvm.Cond.static ({ cls := "KalmanQuay", name := "held", desc := "(JII)I" } : Jvm.MethodName)) ∈ lw_all := lw_g (lw_at lw_m3 47 rfl) rfl
theorem q565 : (Jvm.Cond.code ({ cls := "KalmanQuay", name := "held", desc := "(JII)I" } : Jvm.MethodName) prog_1_method_1_code (4 : Nat) (Option.some Jvm.ClassFile.FieldType.int)) ∈ lw_all := lw_g (lw_at lw_m3 48 rfl) rfl
theorem q566 : (Jvm.Cond.methodLink "KalmanQuay" (1 : Nat) ({ cls := "java/lang/Math", name := "min", desc := "(JJ)J" } : Jvm.MethodName)) ∈ lw_all := lw_g (lw_at lw_m3 49 rfl) rfl
theorem q569 : (Jvm.Cond.methodLink "KalmanQuay" (7 : Nat) ({ cls := "java/lang/Math", name := "max", desc := "(JJ)J" } : Jvm.MethodName)) ∈ lw_all := lw_g (lw_at lw_m3 52 rfl) rfl
theorem q575 : (Jvm.Cond.fieldLink "KalmanQuay" (244 : Nat) "KalmanQuay$State" "x" "I") ∈ lw_all := lw_g (lw_at lw_m3 58 rfl) rfl
theorem q577 : (Jvm.Cond.fieldLink "KalmanQuay" (247 : Nat) "KalmanQuay$State" "v" "I") ∈ lw_all := lw_g (lw_at lw_m3 60 rfl) rfl
theorem q579 : (Jvm.Cond.fieldLink "KalmanQuay" (250 : Nat) "KalmanQuay$State" "a" "I") ∈ lw_all := lw_g (lw_at lw_m3 62 rfl) rfl
theorem q581 : (Jvm.Cond.fieldLink "KalmanQuay" (253 : Nat) "KalmanQuay$State" "b" "I") ∈ lw_all := lw_g (lw_at lw_m3 64 rfl) rfl
theorem q583 : (Jvm.Cond.fieldLink "KalmanQuay" (256 : Nat) "KalmanQuay$State" "c" "I") ∈ lw_all := lw_g (lw_at lw_m3 66 rfl) rfl
theorem q595 : (Jvm.Cond.methodLink "KalmanQuay" (220 : Nat) ({ cls := "KalmanQuay", name := "assign", desc := "(ILjava/util/ArrayList;Ljava/util/HashSet;)V" } : Jvm.MethodName)) ∈ lw_all := lw_g (lw_at lw_m3 78 rfl) rfl
theorem q596 : (Jvm.Cond.privateMethod ({ cls := "KalmanQuay", name := "assign", desc := "(ILjava/util/ArrayList;Ljava/util/HashSet;)V" } : Jvm.MethodName)) ∈ lw_tbl := lw_at lw_m3 79 rfl
theorem q597 : (Jvm.Cond.instanceMethod ({ cls := "KalmanQuay", name := "assign", desc := "(ILjava/util/ArrayList;Ljava/util/HashSet;)V" } : Jvm.MethodName)) ∈ lw_all := lw_g (lw_at lw_m3 80 rfl) rfl
theorem q598 : (Jvm.Cond.code ({ cls := "KalmanQuay", name := "assign", desc := "(ILjava/util/ArrayList;Ljava/util/HashSet;)V" } : Jvm.MethodName) prog_1_method_17_code (11 : Nat) (Option.none : Option Jvm.ClassFile.FieldType)) ∈ lw_all := lw_g (lw_at lw_m3 81 rfl) rfl
theorem q599 : (Jvm.Cond.classLink "KalmanQuay" (152 : Nat) "java/util/HashMap") ∈ lw_all := lw_g (lw_at lw_m3 82 rfl) rfl
theorem q600 : (Jvm.Cond.methodLink "KalmanQuay" (154 : Nat) ({ cls := "java/util/HashMap", name := "<init>", desc := "()V" } : Jvm.MethodName)) ∈ lw_all := lw_g (lw_at lw_m3 83 rfl) rfl
theorem q601 : (Jvm.Cond.methodLink "KalmanQuay" (155 : Nat) ({ cls := "KalmanQuay$State", name := "isInGate", desc := "(III)Z" } : Jvm.MethodName)) ∈ lw_all := lw_g (lw_at lw_m3 84 rfl) rfl
theorem q615 : (Jvm.Cond.classLink "KalmanQuay" (159 : Nat) "KalmanQuay$Pair") ∈ lw_all := lw_g (lw_at lw_m3 98 rfl) rfl
theorem q617 : (Jvm.Cond.methodLink "KalmanQuay" (161 : Nat) ({ cls := "KalmanQuay$Pair", name := "<init>", desc := "(II)V" } : Jvm.MethodName)) ∈ lw_all := lw_g (lw_at lw_m3 100 rfl) rfl
theorem q628 : (Jvm.Cond.methodLink "KalmanQuay" (162 : Nat) ({ cls := "KalmanQuay$State", name := "cost", desc := "(II)J" } : Jvm.MethodName)) ∈ lw_all := lw_g (lw_at lw_m3 111 rfl) rfl
theorem q632 : (Jvm.Cond.methodLink "KalmanQuay" (166 : Nat) ({ cls := "java/lang/Long", name := "valueOf", desc := "(J)Ljava/lang/Long;" } : Jvm.MethodName)) ∈ lw_all := lw_g (lw_at lw_m3 115 rfl) rfl
theorem q649 : (Jvm.Cond.methodLink "KalmanQuay" (171 : Nat) ({ cls := "java/util/HashMap", name := "put", desc := "(Ljava/lang/Object;Ljava/lang/Object;)Ljava/lang/Object;" } : Jvm.MethodName)) ∈ lw_all := lw_g (lw_at lw_m3 132 rfl) rfl
theorem q660 : (Jvm.Cond.selects "KalmanQuay" ({ cls := "java/lang/Object", name := "hashCode", desc := "()I" } : Jvm.MethodName) ({ cls := "java/lang/Object", name := "hashCode", desc := "()I" } : Jvm.MethodName)) ∈ lw_all := lw_g (lw_at lw_m3 143 rfl) rfl
theorem q808 : (Jvm.Cond.selects "KalmanQuay" ({ cls := "java/lang/Object", name := "equals", desc := "(Ljava/lang/Object;)Z" } : Jvm.MethodName) ({ cls := "java/lang/Object", name := "equals", desc := "(Ljava/lang/Object;)Z" } : Jvm.MethodName)) ∈ lw_all := lw_g (lw_at lw_m4 51 rfl) rfl
theorem q901 : (Jvm.Cond.classLink "KalmanQuay" (175 : Nat) "KalmanQuay$Assignment") ∈ lw_all := lw_g (lw_at lw_m4 144 rfl) rfl
theorem q903 : (Jvm.Cond.methodLink "KalmanQuay" (177 : Nat) ({ cls := "KalmanQuay$Assignment", name := "<init>", desc := "(Ljava/util/ArrayList;Ljava/util/ArrayList;Ljava/util/HashMap;)V" } : Jvm.MethodName)) ∈ lw_all := lw_g (lw_at lw_m4 146 rfl) rfl
theorem q947 : (Jvm.Cond.fieldLinkNest "KalmanQuay" (180 : Nat) "KalmanQuay$Assignment" "best" "[I" "KalmanQuay") ∈ lw_tbl := lw_at lw_m4 190 rfl
theorem q967 : (Jvm.Cond.methodLink "KalmanQuay" (184 : Nat) ({ cls := "KalmanQuay", name := "join", desc := "(ILKalmanQuay$Hit;)V" } : Jvm.MethodName)) ∈ lw_all := lw_g (lw_at lw_m4 210 rfl) rfl
theorem q968 : (Jvm.Cond.privateMethod ({ cls := "KalmanQuay", name := "join", desc := "(ILKalmanQuay$Hit;)V" } : Jvm.MethodName)) ∈ lw_tbl := lw_at lw_m4 211 rfl
theorem q969 : (Jvm.Cond.instanceMethod ({ cls := "KalmanQuay", name := "join", desc := "(ILKalmanQuay$Hit;)V" } : Jvm.MethodName)) ∈ lw_all := lw_g (lw_at lw_m4 212 rfl) rfl
theorem q970 : (Jvm.Cond.code ({ cls := "KalmanQuay", name := "join", desc := "(ILKalmanQuay$Hit;)V" } : Jvm.MethodName) prog_1_method_15_code (4 : Nat) (Option.none : Option Jvm.ClassFile.FieldType)) ∈ lw_all := lw_g (lw_at lw_m4 213 rfl) rfl
theorem q971 : (Jvm.Cond.methodLink "KalmanQuay" (129 : Nat) ({ cls := "KalmanQuay$State", name := "correct", desc := "(II)LKalmanQuay$State;" } : Jvm.MethodName)) ∈ lw_all := lw_g (lw_at lw_m4 214 rfl) rfl
theorem q979 : (Jvm.Cond.methodLink "KalmanQuay" (135 : Nat) ({ cls := "KalmanQuay", name := "got", desc := "(LKalmanQuay$Track;LKalmanQuay$Hit;)V" } : Jvm.MethodName)) ∈ lw_all := lw_g (lw_at lw_m4 222 rfl) rfl
theorem q980 : (Jvm.Cond.privateMethod ({ cls := "KalmanQuay", name := "got", desc := "(LKalmanQuay$Track;LKalmanQuay$Hit;)V" } : Jvm.MethodName)) ∈ lw_tbl := lw_at lw_m4 223 rfl
theorem q981 : (Jvm.Cond.instanceMethod ({ cls := "KalmanQuay", name := "got", desc := "(LKalmanQuay$Track;LKalmanQuay$Hit;)V" } : Jvm.MethodName)) ∈ lw_all := lw_g (lw_at lw_m4 224 rfl) rfl
theorem q982 : (Jvm.Cond.code ({ cls := "KalmanQuay", name := "got", desc := "(LKalmanQuay$Track;LKalmanQuay$Hit;)V" } : Jvm.MethodName) prog_1_method_16_code (3 : Nat) (Option.none : Option Jvm.ClassFile.FieldType)) ∈ lw_all := lw_g (lw_at lw_m4 225 rfl) rfl
theorem q983 : (Jvm.Cond.classLink "KalmanQuay" (145 : Nat) "KalmanQuay$Got") ∈ lw_all := lw_g (lw_at lw_m4 226 rfl) rfl
theorem q985 : (Jvm.Cond.methodLink "KalmanQuay" (147 : Nat) ({ cls := "java/lang/Math", name := "max", desc := "(II)I" } : Jvm.MethodName)) ∈ lw_all := lw_g (lw_at lw_m4 228 rfl) rfl
theorem q986 : (Jvm.Cond.methodLinkNest "KalmanQuay" (149 : Nat) ({ cls := "KalmanQuay$Got", name := "<init>", desc := "(IIJ)V" } : Jvm.MethodName) "KalmanQuay") ∈ lw_tbl := lw_at lw_m4 229 rfl
theorem q1003 : (Jvm.Cond.methodLink "KalmanQuay" (188 : Nat) ({ cls := "java/util/HashSet", name := "add", desc := "(Ljava/lang/Object;)Z" } : Jvm.MethodName)) ∈ lw_all := lw_g (lw_at lw_m5 6 rfl) rfl
theorem q1010 : (Jvm.Cond.methodLink "KalmanQuay" (224 : Nat) ({ cls := "KalmanQuay", name := "beginTracks", desc := "()V" } : Jvm.MethodName)) ∈ lw_all := lw_g (lw_at lw_m5 13 rfl) rfl
theorem q1011 : (Jvm.Cond.privateMethod ({ cls := "KalmanQuay", name := "beginTracks", desc := "()V" } : Jvm.MethodName)) ∈ lw_tbl := lw_at lw_m5 14 rfl
theorem q1012 : (Jvm.Cond.instanceMethod ({ cls := "KalmanQuay", name := "beginTracks", desc := "()V" } : Jvm.MethodName)) ∈ lw_all := lw_g (lw_at lw_m5 15 rfl) rfl
theorem q1013 : (Jvm.Cond.code ({ cls := "KalmanQuay", name := "beginTracks", desc := "()V" } : Jvm.MethodName) prog_1_method_18_code (7 : Nat) (Option.none : Option Jvm.ClassFile.FieldType)) ∈ lw_all := lw_g (lw_at lw_m5 16 rfl) rfl
theorem q1014 : (Jvm.Cond.constantLong "KalmanQuay" (195 : Nat) (256 : Int64)) ∈ lw_all := lw_g (lw_at lw_m5 17 rfl) rfl
theorem q1016 : (Jvm.Cond.classLink "KalmanQuay" (130 : Nat) "KalmanQuay$State") ∈ lw_all := lw_g (lw_at lw_m5 19 rfl) rfl
theorem q1017 : (Jvm.Cond.methodLink "KalmanQuay" (197 : Nat) ({ cls := "KalmanQuay$State", name := "<init>", desc := "(JJJJJ)V" } : Jvm.MethodName)) ∈ lw_all := lw_g (lw_at lw_m5 20 rfl) rfl
theorem q1018 : (Jvm.Cond.methodLink "KalmanQuay" (200 : Nat) ({ cls := "KalmanQuay$Track", name := "<init>", desc := "(ILKalmanQuay$State;)V" } : Jvm.MethodName)) ∈ lw_all := lw_g (lw_at lw_m5 21 rfl) rfl
theorem q1026 : (Jvm.Cond.fieldLink "KalmanQuay" (259 : Nat) "KalmanQuay$Track" "begin" "I") ∈ lw_all := lw_g (lw_at lw_m5 29 rfl) rfl
theorem q1028 : (Jvm.Cond.fieldLink "KalmanQuay" (217 : Nat) "KalmanQuay$Track" "foretold" "Ljava/util/ArrayList;") ∈ lw_all := lw_g (lw_at lw_m5 31 rfl) rfl
theorem q1030 : (Jvm.Cond.fieldLink "KalmanQuay" (203 : Nat) "KalmanQuay$Track" "behind" "Ljava/util/ArrayList;") ∈ lw_all := lw_g (lw_at lw_m5 33 rfl) rfl
theorem q1032 : (Jvm.Cond.fieldLink "KalmanQuay" (142 : Nat) "KalmanQuay$Track" "hits" "Ljava/util/ArrayList;") ∈ lw_all := lw_g (lw_at lw_m5 35 rfl) rfl
theorem q1034 : (Jvm.Cond.fieldLink "KalmanQuay" (116 : Nat) "KalmanQuay$Track" "state" "LKalmanQuay$State;") ∈ lw_all := lw_g (lw_at lw_m5 37 rfl) rfl
theorem q1036 : (Jvm.Cond.fieldLink "KalmanQuay" (112 : Nat) "KalmanQuay$Track" "alive" "Z") ∈ lw_all := lw_g (lw_at lw_m5 39 rfl) rfl
theorem q1037 : (Jvm.Cond.fieldLink "KalmanQuay" (234 : Nat) "KalmanQuay$Track" "proven" "Z") ∈ lw_all := lw_g (lw_at lw_m5 40 rfl) rfl
theorem q1039 : (Jvm.Cond.fieldLink "KalmanQuay" (206 : Nat) "KalmanQuay$Track" "hitBeats" "I") ∈ lw_all := lw_g (lw_at lw_m5 42 rfl) rfl
theorem q1040 : (Jvm.Cond.fieldLink "KalmanQuay" (209 : Nat) "KalmanQuay$Track" "misses" "I") ∈ lw_all := lw_g (lw_at lw_m5 43 rfl) rfl
theorem q1060 : (Jvm.Cond.methodLink "KalmanQuay" (227 : Nat) ({ cls := "java/util/HashSet", name := "contains", desc := "(Ljava/lang/Object;)Z" } : Jvm.MethodName)) ∈ lw_all := lw_g (lw_at lw_m5 63 rfl) rfl
theorem q1068 : (Jvm.Cond.methodLink "KalmanQuay" (230 : Nat) ({ cls := "KalmanQuay", name := "close", desc := "(LKalmanQuay$Track;Z)V" } : Jvm.MethodName)) ∈ lw_all := lw_g (lw_at lw_m5 71 rfl) rfl
theorem q1069 : (Jvm.Cond.privateMethod ({ cls := "KalmanQuay", name := "close", desc := "(LKalmanQuay$Track;Z)V" } : Jvm.MethodName)) ∈ lw_tbl := lw_at lw_m5 72 rfl
theorem q1070 : (Jvm.Cond.instanceMethod ({ cls := "KalmanQuay", name := "close", desc := "(LKalmanQuay$Track;Z)V" } : Jvm.MethodName)) ∈ lw_all := lw_g (lw_at lw_m5 73 rfl) rfl
theorem q1071 : (Jvm.Cond.code ({ cls := "KalmanQuay", name := "close", desc := "(LKalmanQuay$Track;Z)V" } : Jvm.MethodName) prog_1_method_19_code (3 : Nat) (Option.none : Option Jvm.ClassFile.FieldType)) ∈ lw_all := lw_g (lw_at lw_m5 74 rfl) rfl
theorem q1076 : (Jvm.Cond.instanceMethod ({ cls := "KalmanQuay", name := "beats", desc := "(I)I" } : Jvm.MethodName)) ∈ lw_all := lw_g (lw_at lw_m5 79 rfl) rfl
theorem q1077 : (Jvm.Cond.selects "KalmanQuay" ({ cls := "KalmanQuay", name := "beats", desc := "(I)I" } : Jvm.MethodName) ({ cls := "KalmanQuay", name := "beats", desc := "(I)I" } : Jvm.MethodName)) ∈ lw_all := lw_g (lw_at lw_m5 80 rfl) rfl
theorem q1078 : (Jvm.Cond.code ({ cls := "KalmanQuay", name := "beats", desc := "(I)I" } : Jvm.MethodName) prog_1_method_22_code (4 : Nat) (Option.some Jvm.ClassFile.FieldType.int)) ∈ lw_all := lw_g (lw_at lw_m5 81 rfl) rfl
theorem q1083 : (Jvm.Cond.instanceMethod ({ cls := "KalmanQuay", name := "trackOf", desc := "(I)I" } : Jvm.MethodName)) ∈ lw_all := lw_g (lw_at lw_m5 86 rfl) rfl
theorem q1084 : (Jvm.Cond.selects "KalmanQuay" ({ cls := "KalmanQuay", name := "trackOf", desc := "(I)I" } : Jvm.MethodName) ({ cls := "KalmanQuay", name := "trackOf", desc := "(I)I" } : Jvm.MethodName)) ∈ lw_all := lw_g (lw_at lw_m5 87 rfl) rfl
theorem q1085 : (Jvm.Cond.code ({ cls := "KalmanQuay", name := "trackOf", desc := "(I)I" } : Jvm.MethodName) prog_1_method_24_code (2 : Nat) (Option.some Jvm.ClassFile.FieldType.int)) ∈ lw_all := lw_g (lw_at lw_m5 88 rfl) rfl
theorem q1090 : (Jvm.Cond.instanceMethod ({ cls := "KalmanQuay", name := "isAlive", desc := "(I)Z" } : Jvm.MethodName)) ∈ lw_all := lw_g (lw_at lw_m5 93 rfl) rfl
theorem q1091 : (Jvm.Cond.selects "KalmanQuay" ({ cls := "KalmanQuay", name := "isAlive", desc := "(I)Z" } : Jvm.MethodName) ({ cls := "KalmanQuay", name := "isAlive", desc := "(I)Z" } : Jvm.MethodName)) ∈ lw_all := lw_g (lw_at lw_m5 94 rfl) rfl
theorem q1092 : (Jvm.Cond.code ({ cls := "KalmanQuay", name := "isAlive", desc := "(I)Z" } : Jvm.MethodName) prog_1_method_27_code (2 : Nat) (Option.some Jvm.ClassFile.FieldType.boolean)) ∈ lw_all := lw_g (lw_at lw_m5 95 rfl) rfl
theorem q1093 : (Jvm.Cond.methodLink "KalmanQuay" (240 : Nat) ({ cls := "KalmanQuay", name := "trackBy", desc := "(I)LKalmanQuay$Track;" } : Jvm.MethodName)) ∈ lw_all := lw_g (lw_at lw_m5 96 rfl) rfl
theorem q1094 : (Jvm.Cond.privateMethod ({ cls := "KalmanQuay", name := "trackBy", desc := "(I)LKalmanQuay$Track;" } : Jvm.MethodName)) ∈ lw_tbl := lw_at lw_m5 97 rfl
theorem q1095 : (Jvm.Cond.instanceMethod ({ cls := "KalmanQuay", name := "trackBy", desc := "(I)LKalmanQuay$Track;" } : Jvm.MethodName)) ∈ lw_all := lw_g (lw_at lw_m5 98 rfl) rfl
theorem q1096 : (Jvm.Cond.code ({ cls := "KalmanQuay", name := "trackBy", desc := "(I)LKalmanQuay$Track;" } : Jvm.MethodName) prog_1_method_6_code (2 : Nat) (Option.some (Jvm.ClassFile.FieldType.object "KalmanQuay$Track"))) ∈ lw_all := lw_g (lw_at lw_m5 99 rfl) rfl
theorem q1101 : (Jvm.Cond.instanceMethod ({ cls := "KalmanQuay", name := "isProven", desc := "(I)Z" } : Jvm.MethodName)) ∈ lw_all := lw_g (lw_at lw_m5 104 rfl) rfl
theorem q1102 : (Jvm.Cond.selects "KalmanQuay" ({ cls := "KalmanQuay", name := "isProven", desc := "(I)Z" } : Jvm.MethodName) ({ cls := "KalmanQuay", name := "isProven", desc := "(I)Z" } : Jvm.MethodName)) ∈ lw_all := lw_g (lw_at lw_m5 105 rfl) rfl
theorem q1103 : (Jvm.Cond.code ({ cls := "KalmanQuay", name := "isProven", desc := "(I)Z" } : Jvm.MethodName) prog_1_method_28_code (2 : Nat) (Option.some Jvm.ClassFile.FieldType.boolean)) ∈ lw_all := lw_g (lw_at lw_m5 106 rfl) rfl
theorem q1108 : (Jvm.Cond.instanceMethod ({ cls := "KalmanQuay", name := "placeOf", desc := "(I)I" } : Jvm.MethodName)) ∈ lw_all := lw_g (lw_at lw_m5 111 rfl) rfl
theorem q1109 : (Jvm.Cond.selects "KalmanQuay" ({ cls := "KalmanQuay", name := "placeOf", desc := "(I)I" } : Jvm.MethodName) ({ cls := "KalmanQuay", name := "placeOf", desc := "(I)I" } : Jvm.MethodName)) ∈ lw_all := lw_g (lw_at lw_m5 112 rfl) rfl
theorem q1110 : (Jvm.Cond.code ({ cls := "KalmanQuay", name := "placeOf", desc := "(I)I" } : Jvm.MethodName) prog_1_method_29_code (2 : Nat) (Option.some Jvm.ClassFile.FieldType.int)) ∈ lw_all := lw_g (lw_at lw_m5 113 rfl) rfl
theorem q1115 : (Jvm.Cond.instanceMethod ({ cls := "KalmanQuay", name := "speedOf", desc := "(I)I" } : Jvm.MethodName)) ∈ lw_all := lw_g (lw_at lw_m5 118 rfl) rfl
theorem q1116 : (Jvm.Cond.selects "KalmanQuay" ({ cls := "KalmanQuay", name := "speedOf", desc := "(I)I" } : Jvm.MethodName) ({ cls := "KalmanQuay", name := "speedOf", desc := "(I)I" } : Jvm.MethodName)) ∈ lw_all := lw_g (lw_at lw_m5 119 rfl) rfl
theorem q1117 : (Jvm.Cond.code ({ cls := "KalmanQuay", name := "speedOf", desc := "(I)I" } : Jvm.MethodName) prog_1_method_30_code (2 : Nat) (Option.some Jvm.ClassFile.FieldType.int)) ∈ lw_all := lw_g (lw_at lw_m5 120 rfl) rfl
theorem q1122 : (Jvm.Cond.instanceMethod ({ cls := "KalmanQuay", name := "varianceOf", desc := "(II)I" } : Jvm.MethodName)) ∈ lw_all := lw_g (lw_at lw_m5 125 rfl) rfl
theorem q1123 : (Jvm.Cond.selects "KalmanQuay" ({ cls := "KalmanQuay", name := "varianceOf", desc := "(II)I" } : Jvm.MethodName) ({ cls := "KalmanQuay", name := "varianceOf", desc := "(II)I" } : Jvm.MethodName)) ∈ lw_all := lw_g (lw_at lw_m5 126 rfl) rfl
theorem q1124 : (Jvm.Cond.code ({ cls := "KalmanQuay", name := "varianceOf", desc := "(II)I" } : Jvm.MethodName) prog_1_method_31_code (4 : Nat) (Option.some Jvm.ClassFile.FieldType.int)) ∈ lw_all := lw_g (lw_at lw_m5 127 rfl) rfl
theorem q1129 : (Jvm.Cond.instanceMethod ({ cls := "KalmanQuay", name := "hitBeats", desc := "(I)I" } : Jvm.MethodName)) ∈ lw_all := lw_g (lw_at lw_m5 132 rfl) rfl
theorem q1130 : (Jvm.Cond.selects "KalmanQuay" ({ cls := "KalmanQuay", name := "hitBeats", desc := "(I)I" } : Jvm.MethodName) ({ cls := "KalmanQuay", name := "hitBeats", desc := "(I)I" } : Jvm.MethodName)) ∈ lw_all := lw_g (lw_at lw_m5 133 rfl) rfl
theorem q1131 : (Jvm.Cond.code ({ cls := "KalmanQuay", name := "hitBeats", desc := "(I)I" } : Jvm.MethodName) prog_1_method_32_code (2 : Nat) (Option.some Jvm.ClassFile.FieldType.int)) ∈ lw_all := lw_g (lw_at lw_m5 134 rfl) rfl
theorem q1136 : (Jvm.Cond.instanceMethod ({ cls := "KalmanQuay", name := "misses", desc := "(I)I" } : Jvm.MethodName)) ∈ lw_all := lw_g (lw_at lw_m5 139 rfl) rfl
theorem q1137 : (Jvm.Cond.selects "KalmanQuay" ({ cls := "KalmanQuay", name := "misses", desc := "(I)I" } : Jvm.MethodName) ({ cls := "KalmanQuay", name := "misses", desc := "(I)I" } : Jvm.MethodName)) ∈ lw_all := lw_g (lw_at lw_m5 140 rfl) rfl
theorem q1138 : (Jvm.Cond.code ({ cls := "KalmanQuay", name := "misses", desc := "(I)I" } : Jvm.MethodName) prog_1_method_33_code (2 : Nat) (Option.some Jvm.ClassFile.FieldType.int)) ∈ lw_all := lw_g (lw_at lw_m5 141 rfl) rfl
theorem q1143 : (Jvm.Cond.instanceMethod ({ cls := "KalmanQuay", name := "hitsOf", desc := "(I)I" } : Jvm.MethodName)) ∈ lw_all := lw_g (lw_at lw_m5 146 rfl) rfl
theorem q1144 : (Jvm.Cond.selects "KalmanQuay" ({ cls := "KalmanQuay", name := "hitsOf", desc := "(I)I" } : Jvm.MethodName) ({ cls := "KalmanQuay", name := "hitsOf", desc := "(I)I" } : Jvm.MethodName)) ∈ lw_all := lw_g (lw_at lw_m5 147 rfl) rfl
theorem q1145 : (Jvm.Cond.code ({ cls := "KalmanQuay", name := "hitsOf", desc := "(I)I" } : Jvm.MethodName) prog_1_method_34_code (2 : Nat) (Option.some Jvm.ClassFile.FieldType.int)) ∈ lw_all := lw_g (lw_at lw_m5 148 rfl) rfl
theorem q1150 : (Jvm.Cond.instanceMethod ({ cls := "KalmanQuay", name := "beginOf", desc := "(I)I" } : Jvm.MethodName)) ∈ lw_all := lw_g (lw_at lw_m5 153 rfl) rfl
theorem q1151 : (Jvm.Cond.selects "KalmanQuay" ({ cls := "KalmanQuay", name := "beginOf", desc := "(I)I" } : Jvm.MethodName) ({ cls := "KalmanQuay", name := "beginOf", desc := "(I)I" } : Jvm.MethodName)) ∈ lw_all := lw_g (lw_at lw_m5 154 rfl) rfl
theorem q1152 : (Jvm.Cond.code ({ cls := "KalmanQuay", name := "beginOf", desc := "(I)I" } : Jvm.MethodName) prog_1_method_35_code (2 : Nat) (Option.some Jvm.ClassFile.FieldType.int)) ∈ lw_all := lw_g (lw_at lw_m5 155 rfl) rfl
theorem q1157 : (Jvm.Cond.instanceMethod ({ cls := "KalmanQuay", name := "endOf", desc := "(I)I" } : Jvm.MethodName)) ∈ lw_all := lw_g (lw_at lw_m5 160 rfl) rfl
theorem q1158 : (Jvm.Cond.selects "KalmanQuay" ({ cls := "KalmanQuay", name := "endOf", desc := "(I)I" } : Jvm.MethodName) ({ cls := "KalmanQuay", name := "endOf", desc := "(I)I" } : Jvm.MethodName)) ∈ lw_all := lw_g (lw_at lw_m5 161 rfl) rfl
theorem q1159 : (Jvm.Cond.code ({ cls := "KalmanQuay", name := "endOf", desc := "(I)I" } : Jvm.MethodName) prog_1_method_36_code (2 : Nat) (Option.some Jvm.ClassFile.FieldType.int)) ∈ lw_all := lw_g (lw_at lw_m5 162 rfl) rfl
theorem q1160 : (Jvm.Cond.methodLink "KalmanQuay" (262 : Nat) ({ cls := "KalmanQuay$Track", name := "end", desc := "()I" } : Jvm.MethodName)) ∈ lw_all := lw_g (lw_at lw_m5 163 rfl) rfl
theorem q1169 : (Jvm.Cond.instanceMethod ({ cls := "KalmanQuay", name := "placeAt", desc := "(II)I" } : Jvm.MethodName)) ∈ lw_all := lw_g (lw_at lw_m5 172 rfl) rfl
theorem q1170 : (Jvm.Cond.selects "KalmanQuay" ({ cls := "KalmanQuay", name := "placeAt", desc := "(II)I" } : Jvm.MethodName) ({ cls := "KalmanQuay", name := "placeAt", desc := "(II)I" } : Jvm.MethodName)) ∈ lw_all := lw_g (lw_at lw_m5 173 rfl) rfl
theorem q1171 : (Jvm.Cond.code ({ cls := "KalmanQuay", name := "placeAt", desc := "(II)I" } : Jvm.MethodName) prog_1_method_38_code (4 : Nat) (Option.some Jvm.ClassFile.FieldType.int)) ∈ lw_all := lw_g (lw_at lw_m5 174 rfl) rfl
theorem q1172 : (Jvm.Cond.methodLink "KalmanQuay" (267 : Nat) ({ cls := "KalmanQuay", name := "checkBeat", desc := "(LKalmanQuay$Track;I)I" } : Jvm.MethodName)) ∈ lw_all := lw_g (lw_at lw_m5 175 rfl) rfl
theorem q1173 : (Jvm.Cond.static ({ cls := "KalmanQuay", name := "checkBeat", desc := "(LKalmanQuay$Track;I)I" } : Jvm.MethodName)) ∈ lw_all := lw_g (lw_at lw_m5 176 rfl) rfl
theorem q1174 : (Jvm.Cond.code ({ cls := "KalmanQuay", name := "checkBeat", desc := "(LKalmanQuay$Track;I)I" } : Jvm.MethodName) prog_1_method_37_code (2 : Nat) (Option.some Jvm.ClassFile.FieldType.int)) ∈ lw_all := lw_g (lw_at lw_m5 177 rfl) rfl
theorem q1175 : (Jvm.Cond.methodLink "KalmanQuay" (265 : Nat) ({ cls := "java/lang/Math", name := "min", desc := "(II)I" } : Jvm.MethodName)) ∈ lw_all := lw_g (lw_at lw_m5 178 rfl) rfl
theorem q1180 : (Jvm.Cond.instanceMethod ({ cls := "KalmanQuay", name := "foretoldAt", desc := "(II)I" } : Jvm.MethodName)) ∈ lw_all := lw_g (lw_at lw_m5 183 rfl) rfl
theorem q1181 : (Jvm.Cond.selects "KalmanQuay" ({ cls := "KalmanQuay", name := "foretoldAt", desc := "(II)I" } : Jvm.MethodName) ({ cls := "KalmanQuay", name := "foretoldAt", desc := "(II)I" } : Jvm.MethodName)) ∈ lw_all := lw_g (lw_at lw_m5 184 rfl) rfl
theorem q1182 : (Jvm.Cond.code ({ cls := "KalmanQuay", name := "foretoldAt", desc := "(II)I" } : Jvm.MethodName) prog_1_method_39_code (4 : Nat) (Option.some Jvm.ClassFile.FieldType.int)) ∈ lw_all := lw_g (lw_at lw_m5 185 rfl) rfl
theorem q1187 : (Jvm.Cond.instanceMethod ({ cls := "KalmanQuay", name := "smoothedAt", desc := "(II)J" } : Jvm.MethodName)) ∈ lw_all := lw_g (lw_at lw_m5 190 rfl) rfl
theorem q1188 : (Jvm.Cond.selects "KalmanQuay" ({ cls := "KalmanQuay", name := "smoothedAt", desc := "(II)J" } : Jvm.MethodName) ({ cls := "KalmanQuay", name := "smoothedAt", desc := "(II)J" } : Jvm.MethodName)) ∈ lw_all := lw_g (lw_at lw_m5 191 rfl) rfl
theorem q1189 : (Jvm.Cond.code ({ cls := "KalmanQuay", name := "smoothedAt", desc := "(II)J" } : Jvm.MethodName) prog_1_method_41_code (5 : Nat) (Option.some Jvm.ClassFile.FieldType.long)) ∈ lw_all := lw_g (lw_at lw_m5 192 rfl) rfl
theorem q1190 : (Jvm.Cond.methodLink "KalmanQuay" (276 : Nat) ({ cls := "KalmanQuay", name := "smooth", desc := "(LKalmanQuay$Track;)[J" } : Jvm.MethodName)) ∈ lw_all := lw_g (lw_at lw_m5 193 rfl) rfl
theorem q1191 : (Jvm.Cond.static ({ cls := "KalmanQuay", name := "smooth", desc := "(LKalmanQuay$Track;)[J" } : Jvm.MethodName)) ∈ lw_all := lw_g (lw_at lw_m5 194 rfl) rfl
theorem q1192 : (Jvm.Cond.code ({ cls := "KalmanQuay", name := "smooth", desc := "(LKalmanQuay$Track;)[J" } : Jvm.MethodName) prog_1_method_40_code (30 : Nat) (Option.some (Jvm.ClassFile.FieldType.array Jvm.ClassFile.FieldType.long))) ∈ lw_all := lw_g (lw_at lw_m5 195 rfl) rfl
theorem q1193 : (Jvm.Cond.constantLong "KalmanQuay" (271 : Nat) (4096 : Int64)) ∈ lw_all := lw_g (lw_at lw_m5 196 rfl) rfl
theorem q1194 : (Jvm.Cond.methodLink "KalmanQuay" (273 : Nat) ({ cls := "java/lang/Math", name := "floorDiv", desc := "(JJ)J" } : Jvm.MethodName)) ∈ lw_all := lw_g (lw_at lw_m5 197 rfl) rfl
theorem q1199 : (Jvm.Cond.instanceMethod ({ cls := "KalmanQuay", name := "smoothedSpeedAt", desc := "(II)J" } : Jvm.MethodName)) ∈ lw_all := lw_g (lw_at lw_m5 202 rfl) rfl
theorem q1200 : (Jvm.Cond.selects "KalmanQuay" ({ cls := "KalmanQuay", name := "smoothedSpeedAt", desc := "(II)J" } : Jvm.MethodName) ({ cls := "KalmanQuay", name := "smoothedSpeedAt", desc := "(II)J" } : Jvm.MethodName)) ∈ lw_all := lw_g (lw_at lw_m5 203 rfl) rfl
theorem q1201 : (Jvm.Cond.code ({ cls := "KalmanQuay", name := "smoothedSpeedAt", desc := "(II)J" } : Jvm.MethodName) prog_1_method_42_code (5 : Nat) (Option.some Jvm.ClassFile.FieldType.long)) ∈ lw_all := lw_g (lw_at lw_m5 204 rfl) rfl
theorem q1206 : (Jvm.Cond.instanceMethod ({ cls := "KalmanQuay", name := "bend", desc := "(I)J" } : Jvm.MethodName)) ∈ lw_all := lw_g (lw_at lw_m5 209 rfl) rfl
theorem q1207 : (Jvm.Cond.selects "KalmanQuay" ({ cls := "KalmanQuay", name := "bend", desc := "(I)J" } : Jvm.MethodName) ({ cls := "KalmanQuay", name := "bend", desc := "(I)J" } : Jvm.MethodName)) ∈ lw_all := lw_g (lw_at lw_m5 210 rfl) rfl
theorem q1208 : (Jvm.Cond.code ({ cls := "KalmanQuay", name := "bend", desc := "(I)J" } : Jvm.MethodName) prog_1_method_43_code (7 : Nat) (Option.some Jvm.ClassFile.FieldType.long)) ∈ lw_all := lw_g (lw_at lw_m5 211 rfl) rfl
theorem q1209 : (Jvm.Cond.methodLink "KalmanQuay" (280 : Nat) ({ cls := "java/lang/Math", name := "abs", desc := "(J)J" } : Jvm.MethodName)) ∈ lw_all := lw_g (lw_at lw_m5 212 rfl) rfl
theorem q1216 : (Jvm.Cond.instanceMethod ({ cls := "KalmanQuay", name := "fittedPlace", desc := "(I)J" } : Jvm.MethodName)) ∈ lw_all := lw_g (lw_at lw_m5 219 rfl) rfl
theorem q1217 : (Jvm.Cond.selects "KalmanQuay" ({ cls := "KalmanQuay", name := "fittedPlace", desc := "(I)J" } : Jvm.MethodName) ({ cls := "KalmanQuay", name := "fittedPlace", desc := "(I)J" } : Jvm.MethodName)) ∈ lw_all := lw_g (lw_at lw_m5 220 rfl) rfl
theorem q1218 : (Jvm.Cond.code ({ cls := "KalmanQuay", name := "fittedPlace", desc := "(I)J" } : Jvm.MethodName) prog_1_method_45_code (2 : Nat) (Option.some Jvm.ClassFile.FieldType.long)) ∈ lw_all := lw_g (lw_at lw_m5 221 rfl) rfl
theorem q1219 : (Jvm.Cond.methodLink "KalmanQuay" (293 : Nat) ({ cls := "KalmanQuay", name := "fit", desc := "(LKalmanQuay$Track;)[J" } : Jvm.MethodName)) ∈ lw_all := lw_g (lw_at lw_m5 222 rfl) rfl
theorem q1220 : (Jvm.Cond.static ({ cls := "KalmanQuay", name := "fit", desc := "(LKalmanQuay$Track;)[J" } : Jvm.MethodName)) ∈ lw_all := lw_g (lw_at lw_m5 223 rfl) rfl
theorem q1221 : (Jvm.Cond.code ({ cls := "KalmanQuay", name := "fit", desc := "(LKalmanQuay$Track;)[J" } : Jvm.MethodName) prog_1_method_44_code (15 : Nat) (Option.some (Jvm.ClassFile.FieldType.array Jvm.ClassFile.FieldType.long))) ∈ lw_all := lw_g (lw_at lw_m5 224 rfl) rfl
theorem q1222 : (Jvm.Cond.methodLink "KalmanQuay" (284 : Nat) ({ cls := "KalmanQuay$Got", name := "weight", desc := "()J" } : Jvm.MethodName)) ∈ lw_all := lw_g (lw_at lw_m5 225 rfl) rfl
theorem q1226 : (Jvm.Cond.methodLink "KalmanQuay" (288 : Nat) ({ cls := "KalmanQuay$Got", name := "beat", desc := "()I" } : Jvm.MethodName)) ∈ lw_all := lw_g (lw_at lw_m5 229 rfl) rfl
theorem q1230 : (Jvm.Cond.methodLink "KalmanQuay" (291 : Nat) ({ cls := "KalmanQuay$Got", name := "place", desc := "()I" } : Jvm.MethodName)) ∈ lw_all := lw_g (lw_at lw_m5 233 rfl) rfl
theorem q1238 : (Jvm.Cond.instanceMethod ({ cls := "KalmanQuay", name := "fittedSpeed", desc := "(I)J" } : Jvm.MethodName)) ∈ lw_all := lw_g (lw_at lw_m6 1 rfl) rfl
theorem q1239 : (Jvm.Cond.selects "KalmanQuay" ({ cls := "KalmanQuay", name := "fittedSpeed", desc := "(I)J" } : Jvm.MethodName) ({ cls := "KalmanQuay", name := "fittedSpeed", desc := "(I)J" } : Jvm.MethodName)) ∈ lw_all := lw_g (lw_at lw_m6 2 rfl) rfl
theorem q1240 : (Jvm.Cond.code ({ cls := "KalmanQuay", name := "fittedSpeed", desc := "(I)J" } : Jvm.MethodName) prog_1_method_46_code (2 : Nat) (Option.some Jvm.ClassFile.FieldType.long)) ∈ lw_all := lw_g (lw_at lw_m6 3 rfl) rfl
theorem q1245 : (Jvm.Cond.instanceMethod ({ cls := "KalmanQuay", name := "apart", desc := "(I)J" } : Jvm.MethodName)) ∈ lw_all := lw_g (lw_at lw_m6 8 rfl) rfl
theorem q1246 : (Jvm.Cond.selects "KalmanQuay" ({ cls := "KalmanQuay", name := "apart", desc := "(I)J" } : Jvm.MethodName) ({ cls := "KalmanQuay", name := "apart", desc := "(I)J" } : Jvm.MethodName)) ∈ lw_all := lw_g (lw_at lw_m6 9 rfl) rfl
theorem q1247 : (Jvm.Cond.code ({ cls := "KalmanQuay", name := "apart", desc := "(I)J" } : Jvm.MethodName) prog_1_method_47_code (3 : Nat) (Option.some Jvm.ClassFile.FieldType.long)) ∈ lw_all := lw_g (lw_at lw_m6 10 rfl) rfl
theorem q1253 : (Jvm.Cond.instanceMethod ({ cls := "KalmanQuay", name := "nearest", desc := "(I)I" } : Jvm.MethodName)) ∈ lw_all := lw_g (lw_at lw_m6 16 rfl) rfl
theorem q1254 : (Jvm.Cond.selects "KalmanQuay" ({ cls := "KalmanQuay", name := "nearest", desc := "(I)I" } : Jvm.MethodName) ({ cls := "KalmanQuay", name := "nearest", desc := "(I)I" } : Jvm.MethodName)) ∈ lw_all := lw_g (lw_at lw_m6 17 rfl) rfl
theorem q1255 : (Jvm.Cond.code ({ cls := "KalmanQuay", name := "nearest", desc := "(I)I" } : Jvm.MethodName) prog_1_method_48_code (6 : Nat) (Option.some Jvm.ClassFile.FieldType.int)) ∈ lw_all := lw_g (lw_at lw_m6 18 rfl) rfl
theorem q1256 : (Jvm.Cond.methodLink "KalmanQuay" (296 : Nat) ({ cls := "KalmanQuay$State", name := "miss", desc := "(I)J" } : Jvm.MethodName)) ∈ lw_all := lw_g (lw_at lw_m6 19 rfl) rfl
theorem q1257 : (Jvm.Cond.classLink "KalmanQuay" (300 : Nat) "java/util/NoSuchElementException") ∈ lw_all := lw_g (lw_at lw_m6 20 rfl) rfl
theorem q1266 : (Jvm.Cond.methodLink "KalmanQuay" (302 : Nat) ({ cls := "java/util/NoSuchElementException", name := "<init>", desc := "()V" } : Jvm.MethodName)) ∈ lw_all := lw_g (lw_at lw_m6 29 rfl) rfl
theorem q1683 : (Jvm.Cond.castable "KalmanQuay" "java/lang/Object") ∈ lw_tbl := lw_at lw_m7 206 rfl
theorem in_X1 : ∀ w ∈ wsX10, w ∈ lw_all := lw_in wsX10 [124, 126, 128, 130, 132, 134, 136, 138, 140, 142, 144, 146] (by decide +kernel) (by decide +kernel)

