theorem q1834 : (Jvm.Cond.castable "[B" "java/lang/Object") ∈ lw_tbl := lw_at lw_m8 69 rfl
set_option maxRecDepth 100000
theorem q1833 : (Jvm.Cond.castable "[I" "java/lang/Object") ∈ lw_tbl := lw_at lw_m8 68 rfl
set_option maxRecDepth 100000
theorem q1840 : (Jvm.Cond.castable "[J" "java/lang/Object") ∈ lw_tbl := lw_at lw_m8 75 rfl
set_option maxRecDepth 100000
theorem q1831 : (Jvm.Cond.castable "[LTourRooms$Person;" "java/lang/Object") ∈ lw_tbl := lw_at lw_m8 66 rfl
set_option maxRecDepth 100000
theorem q1841 : (Jvm.Cond.castable "[LTourRooms$Room;" "java/lang/Object") ∈ lw_tbl := lw_at lw_m8 76 rfl
set_option maxRecDepth 100000
theorem q1832 : (Jvm.Cond.castable "[LTourRooms$Town;" "java/lang/Object") ∈ lw_tbl := lw_at lw_m8 67 rfl
set_option maxRecDepth 100000
theorem q1828 : (Jvm.Cond.sameMethod "[Ljava/lang/Object;" "java/lang/Object" "getClass" "()Ljava/lang/Class;") ∈ lw_all := lw_g (lw_at lw_m8 63 rfl) rfl
set_option maxRecDepth 100000
theorem q1829 : (Jvm.Cond.selects "[Ljava/lang/Object;" ({ cls := "java/lang/Object", name := "getClass", desc := "()Ljava/lang/Class;" } : Jvm.MethodName) ({ cls := "java/lang/Object", name := "getClass", desc := "()Ljava/lang/Class;" } : Jvm.MethodName)) ∈ lw_all := lw_g (lw_at lw_m8 64 rfl) rfl
theorem q1842 : (Jvm.Cond.castable "[Ljava/lang/Object;" "java/lang/Object") ∈ lw_tbl := lw_at lw_m8 77 rfl
theorem q1839 : (Jvm.Cond.castable "[Z" "java/lang/Object") ∈ lw_tbl := lw_at lw_m8 74 rfl
set_option maxRecDepth 100000
theorem q1836 : (Jvm.Cond.castable "[[I" "java/lang/Object") ∈ lw_tbl := lw_at lw_m8 71 rfl
set_option maxRecDepth 100000
theorem q1837 : (Jvm.Cond.castable "[[J" "java/lang/Object") ∈ lw_tbl := lw_at lw_m8 72 rfl
set_option maxRecDepth 100000
theorem q1835 : (Jvm.Cond.castable "[[Z" "java/lang/Object") ∈ lw_tbl := lw_at lw_m8 70 rfl
set_option maxRecDepth 100000
theorem q1838 : (Jvm.Cond.castable "[[[I" "java/lang/Object") ∈ lw_tbl := lw_at lw_m8 73 rfl
set_option maxRecDepth 100000
theorem q117 : (Jvm.Cond.initialized "java/lang/System") ∈ lw_all := lw_g (lw_at lw_m1 32 rfl) rfl
set_option maxRecDepth 100000
theorem q1001 : (Jvm.Cond.static ({ cls := "java/lang/System", name := "arraycopy", desc := "(Ljava/lang/Object;ILjava/lang/Object;II)V" } : Jvm.MethodName)) ∈ lw_all := lw_g (lw_at lw_m4 196 rfl) rfl
theorem q1002 : (Jvm.Cond.native ({ cls := "java/lang/System", name := "arraycopy", desc := "(Ljava/lang/Object;ILjava/lang/Object;II)V" } : Jvm.MethodName)) ∈ lw_all := lw_g (lw_at lw_m4 197 rfl) rfl
theorem q129 : (Jvm.Cond.arrayOver (Jvm.ClassFile.FieldType.object "TourRooms$Person")) ∈ lw_tbl := lw_at lw_m1 44 rfl
set_option maxRecDepth 100000
theorem q131 : (Jvm.Cond.arrayOver (Jvm.ClassFile.FieldType.object "TourRooms$Town")) ∈ lw_tbl := lw_at lw_m1 46 rfl
theorem q159 : (Jvm.Cond.arrayClass Jvm.ClassFile.FieldType.int) ∈ lw_all := lw_g (lw_at lw_m1 74 rfl) rfl
theorem q160 : (Jvm.Cond.arrayClass Jvm.ClassFile.FieldType.byte) ∈ lw_all := lw_g (lw_at lw_m1 75 rfl) rfl
theorem q162 : (Jvm.Cond.arrayOver (Jvm.ClassFile.FieldType.array Jvm.ClassFile.FieldType.boolean)) ∈ lw_tbl := lw_at lw_m1 77 rfl
theorem q164 : (Jvm.Cond.arrayOver (Jvm.ClassFile.FieldType.array Jvm.ClassFile.FieldType.int)) ∈ lw_tbl := lw_at lw_m1 79 rfl
theorem q166 : (Jvm.Cond.arrayOver (Jvm.ClassFile.FieldType.array Jvm.ClassFile.FieldType.long)) ∈ lw_tbl := lw_at lw_m1 81 rfl
theorem q168 : (Jvm.Cond.arrayOver (Jvm.ClassFile.FieldType.array (Jvm.ClassFile.FieldType.array Jvm.ClassFile.FieldType.int))) ∈ lw_tbl := lw_at lw_m1 83 rfl
theorem q289 : (Jvm.Cond.arrayClass Jvm.ClassFile.FieldType.boolean) ∈ lw_all := lw_g (lw_at lw_m1 204 rfl) rfl
theorem q290 : (Jvm.Cond.arrayClass Jvm.ClassFile.FieldType.long) ∈ lw_all := lw_g (lw_at lw_m1 205 rfl) rfl
theorem q397 : (Jvm.Cond.arrayOver (Jvm.ClassFile.FieldType.object "TourRooms$Room")) ∈ lw_tbl := lw_at lw_m2 72 rfl
theorem q411 : (Jvm.Cond.arrayOver (Jvm.ClassFile.FieldType.object "java/lang/Object")) ∈ lw_tbl := lw_at lw_m2 86 rfl
/-! java/util/AbstractCollection -/
set_option maxRecDepth 100000
def RJ0 : String := "java/util/AbstractCollection"
abbrev cJ0_init : ByteArray := prog_35_method_1_code
def yJ0_init : MethodName := ⟨RJ0, "<init>", "()V"⟩
theorem dJ0_init_0 : decode cJ0_init 0 = .ok (.aload_n 0, 1) := by decide +kernel
theorem dJ0_init_1 : decode cJ0_init 1 = .ok (.invokespecial 1, 3) := by decide +kernel
theorem dJ0_init_4 : decode cJ0_init 4 = .ok (.return_, 1) := by decide +kernel
theorem q91 : (Jvm.Cond.initialized "java/util/AbstractCollection") ∈ lw_all := lw_g (lw_at lw_m1 6 rfl) rfl
theorem q407 : (Jvm.Cond.instanceMethod ({ cls := "java/util/AbstractCollection", name := "<init>", desc := "()V" } : Jvm.MethodName)) ∈ lw_all := lw_g (lw_at lw_m2 82 rfl) rfl
theorem q408 : (Jvm.Cond.code ({ cls := "java/util/AbstractCollection", name := "<init>", desc := "()V" } : Jvm.MethodName) prog_35_method_1_code (1 : Nat) (Option.none : Option Jvm.ClassFile.FieldType)) ∈ lw_all := lw_g (lw_at lw_m2 83 rfl) rfl
theorem q409 : (Jvm.Cond.methodLink "java/util/AbstractCollection" (1 : Nat) ({ cls := "java/lang/Object", name := "<init>", desc := "()V" } : Jvm.MethodName)) ∈ lw_all := lw_g (lw_at lw_m2 84 rfl) rfl
/-! java/util/AbstractList -/
set_option maxRecDepth 100000
def RJ1 : String := "java/util/AbstractList"
abbrev cJ1_init : ByteArray := prog_36_method_1_code
def yJ1_init : MethodName := ⟨RJ1, "<init>", "()V"⟩
theorem dJ1_init_0 : decode cJ1_init 0 = .ok (.aload_n 0, 1) := by decide +kernel
theorem dJ1_init_1 : decode cJ1_init 1 = .ok (.invokespecial 1, 3) := by decide +kernel
theorem dJ1_init_4 : decode cJ1_init 4 = .ok (.aload_n 0, 1) := by decide +kernel
theorem dJ1_init_5 : decode cJ1_init 5 = .ok (.iconst 0, 1) := by decide +kernel
theorem dJ1_init_6 : decode cJ1_init 6 = .ok (.putfield 7, 3) := by decide +kernel
theorem dJ1_init_9 : decode cJ1_init 9 = .ok (.return_, 1) := by decide +kernel
theorem q92 : (Jvm.Cond.initialized "java/util/AbstractList") ∈ lw_all := lw_g (lw_at lw_m1 7 rfl) rfl
theorem q404 : (Jvm.Cond.instanceMethod ({ cls := "java/util/AbstractList", name := "<init>", desc := "()V" } : Jvm.MethodName)) ∈ lw_all := lw_g (lw_at lw_m2 79 rfl) rfl
theorem q405 : (Jvm.Cond.code ({ cls := "java/util/AbstractList", name := "<init>", desc := "()V" } : Jvm.MethodName) prog_36_method_1_code (1 : Nat) (Option.none : Option Jvm.ClassFile.FieldType)) ∈ lw_all := lw_g (lw_at lw_m2 80 rfl) rfl
theorem q406 : (Jvm.Cond.methodLink "java/util/AbstractList" (1 : Nat) ({ cls := "java/util/AbstractCollection", name := "<init>", desc := "()V" } : Jvm.MethodName)) ∈ lw_all := lw_g (lw_at lw_m2 81 rfl) rfl
theorem q416 : (Jvm.Cond.fieldLink "java/util/AbstractList" (7 : Nat) "java/util/AbstractList" "modCount" "I") ∈ lw_all := lw_g (lw_at lw_m2 91 rfl) rfl
theorem q424 : (Jvm.Cond.soleField "java/util/AbstractList" "modCount") ∈ lw_all := lw_g (lw_at lw_m2 99 rfl) rfl
/-! java/lang/Throwable -/
set_option maxRecDepth 100000
def RJ10 : String := "java/lang/Throwable"
def TJ10 : u_T := fun k => match k with
  | 0 => ("java/lang/Throwable", "cause", "Ljava/lang/Throwable;", false)
  | 1 => ("java/lang/Throwable", "stackTrace", "[Ljava/lang/StackTraceElement;", false)
  | 2 => ("java/lang/Throwable", "suppressedExceptions", "Ljava/util/List;", false)
  | 3 => ("java/lang/Throwable", "detailMessage", "Ljava/lang/String;", false)
  | _ => ("java/lang/Throwable", "backtrace", "Ljava/lang/Object;", false)
def tyJ10 : Nat → FieldType := fun k => match k with
  | 0 => .object "java/lang/Throwable"
  | 1 => .array (.object "java/lang/StackTraceElement")
  | 2 => .object "java/util/List"
  | 3 => .object "java/lang/String"
  | _ => .object "java/lang/Object"
abbrev wsJ100 : List Cond := u_ws RJ10 TJ10 5
theorem nmJ10 : ∀ a, a < 5 → ∀ b, b < 5 → a ≠ b → (TJ10 a).2.1 ≠ (TJ10 b).2.1 := by decide +kernel
theorem tyJ10_ok : ∀ k, k < 5 → parseFieldDescriptor (TJ10 k).2.2.1 = some (tyJ10 k) := by decide +kernel
abbrev cJ10_init : ByteArray := prog_32_method_1_code
def yJ10_init : MethodName := ⟨RJ10, "<init>", "()V"⟩
theorem dJ10_init_0 : decode cJ10_init 0 = .ok (.aload_n 0, 1) := by decide +kernel
theorem dJ10_init_1 : decode cJ10_init 1 = .ok (.invokespecial 1, 3) := by decide +kernel
theorem dJ10_init_4 : decode cJ10_init 4 = .ok (.aload_n 0, 1) := by decide +kernel
theorem dJ10_init_5 : decode cJ10_init 5 = .ok (.aload_n 0, 1) := by decide +kernel
theorem dJ10_init_6 : decode cJ10_init 6 = .ok (.putfield 7, 3) := by decide +kernel
theorem dJ10_init_9 : decode cJ10_init 9 = .ok (.aload_n 0, 1) := by decide +kernel
theorem dJ10_init_10 : decode cJ10_init 10 = .ok (.getstatic 13, 3) := by decide +kernel
theorem dJ10_init_13 : decode cJ10_init 13 = .ok (.putfield 17, 3) := by decide +kernel
theorem dJ10_init_16 : decode cJ10_init 16 = .ok (.aload_n 0, 1) := by decide +kernel
theorem dJ10_init_17 : decode cJ10_init 17 = .ok (.getstatic 20, 3) := by decide +kernel
theorem dJ10_init_20 : decode cJ10_init 20 = .ok (.putfield 24, 3) := by decide +kernel
theorem dJ10_init_23 : decode cJ10_init 23 = .ok (.aload_n 0, 1) := by decide +kernel
theorem dJ10_init_24 : decode cJ10_init 24 = .ok (.invokevirtual 27, 3) := by decide +kernel
theorem dJ10_init_27 : decode cJ10_init 27 = .ok (.pop, 1) := by decide +kernel
theorem dJ10_init_28 : decode cJ10_init 28 = .ok (.return_, 1) := by decide +kernel
abbrev cJ10_init_2 : ByteArray := prog_32_method_5_code
def yJ10_init_2 : MethodName := ⟨RJ10, "<init>", "(Ljava/lang/String;Ljava/lang/Throwable;ZZ)V"⟩
theorem dJ10_init_2_0 : decode cJ10_init_2 0 = .ok (.aload_n 0, 1) := by decide +kernel
theorem dJ10_init_2_1 : decode cJ10_init_2 1 = .ok (.invokespecial 1, 3) := by decide +kernel
theorem dJ10_init_2_4 : decode cJ10_init_2 4 = .ok (.aload_n 0, 1) := by decide +kernel
theorem dJ10_init_2_5 : decode cJ10_init_2 5 = .ok (.aload_n 0, 1) := by decide +kernel
theorem dJ10_init_2_6 : decode cJ10_init_2 6 = .ok (.putfield 7, 3) := by decide +kernel
theorem dJ10_init_2_9 : decode cJ10_init_2 9 = .ok (.aload_n 0, 1) := by decide +kernel
theorem dJ10_init_2_10 : decode cJ10_init_2 10 = .ok (.getstatic 13, 3) := by decide +kernel
theorem dJ10_init_2_13 : decode cJ10_init_2 13 = .ok (.putfield 17, 3) := by decide +kernel
theorem dJ10_init_2_16 : decode cJ10_init_2 16 = .ok (.aload_n 0, 1) := by decide +kernel
theorem dJ10_init_2_17 : decode cJ10_init_2 17 = .ok (.getstatic 20, 3) := by decide +kernel
theorem dJ10_init_2_20 : decode cJ10_init_2 20 = .ok (.putfield 24, 3) := by decide +kernel
theorem dJ10_init_2_23 : decode cJ10_init_2 23 = .ok (.iload 4, 2) := by decide +kernel
theorem dJ10_init_2_25 : decode cJ10_init_2 25 = .ok (.ifCond .eq 11, 3) := by decide +kernel
theorem dJ10_init_2_28 : decode cJ10_init_2 28 = .ok (.aload_n 0, 1) := by decide +kernel
theorem dJ10_init_2_29 : decode cJ10_init_2 29 = .ok (.invokevirtual 27, 3) := by decide +kernel
theorem dJ10_init_2_32 : decode cJ10_init_2 32 = .ok (.pop, 1) := by decide +kernel
theorem dJ10_init_2_33 : decode cJ10_init_2 33 = .ok (.goto 8, 3) := by decide +kernel
theorem dJ10_init_2_36 : decode cJ10_init_2 36 = .ok (.aload_n 0, 1) := by decide +kernel
theorem dJ10_init_2_37 : decode cJ10_init_2 37 = .ok (.aconst_null, 1) := by decide +kernel
theorem dJ10_init_2_38 : decode cJ10_init_2 38 = .ok (.putfield 17, 3) := by decide +kernel
theorem dJ10_init_2_41 : decode cJ10_init_2 41 = .ok (.aload_n 0, 1) := by decide +kernel
theorem dJ10_init_2_42 : decode cJ10_init_2 42 = .ok (.aload_n 1, 1) := by decide +kernel
theorem dJ10_init_2_43 : decode cJ10_init_2 43 = .ok (.putfield 31, 3) := by decide +kernel
theorem dJ10_init_2_46 : decode cJ10_init_2 46 = .ok (.aload_n 0, 1) := by decide +kernel
theorem dJ10_init_2_47 : decode cJ10_init_2 47 = .ok (.aload_n 2, 1) := by decide +kernel
theorem dJ10_init_2_48 : decode cJ10_init_2 48 = .ok (.putfield 7, 3) := by decide +kernel
theorem dJ10_init_2_51 : decode cJ10_init_2 51 = .ok (.iload_n 3, 1) := by decide +kernel
theorem dJ10_init_2_52 : decode cJ10_init_2 52 = .ok (.ifCond .ne 8, 3) := by decide +kernel
theorem dJ10_init_2_55 : decode cJ10_init_2 55 = .ok (.aload_n 0, 1) := by decide +kernel
theorem dJ10_init_2_56 : decode cJ10_init_2 56 = .ok (.aconst_null, 1) := by decide +kernel
theorem dJ10_init_2_57 : decode cJ10_init_2 57 = .ok (.putfield 24, 3) := by decide +kernel
theorem dJ10_init_2_60 : decode cJ10_init_2 60 = .ok (.return_, 1) := by decide +kernel
theorem q103 : (Jvm.Cond.initialized "java/lang/Throwable") ∈ lw_all := lw_g (lw_at lw_m1 18 rfl) rfl
theorem q772 : (Jvm.Cond.declares ({ cls := "java/lang/Throwable", name := "<init>", desc := "()V" } : Jvm.MethodName)) ∈ lw_tbl := lw_at lw_m3 207 rfl
theorem q773 : (Jvm.Cond.declares ({ cls := "java/lang/Throwable", name := "<init>", desc := "(Ljava/lang/String;)V" } : Jvm.MethodName)) ∈ lw_tbl := lw_at lw_m3 208 rfl
theorem q777 : (Jvm.Cond.lays "java/lang/Throwable" "java/lang/Throwable" "cause" "Ljava/lang/Throwable;") ∈ lw_all := lw_g (lw_at lw_m3 212 rfl) rfl
theorem q779 : (Jvm.Cond.lays "java/lang/Throwable" "java/lang/Throwable" "stackTrace" "[Ljava/lang/StackTraceElement;") ∈ lw_all := lw_g (lw_at lw_m3 214 rfl) rfl
theorem q781 : (Jvm.Cond.lays "java/lang/Throwable" "java/lang/Throwable" "suppressedExceptions" "Ljava/util/List;") ∈ lw_all := lw_g (lw_at lw_m3 216 rfl) rfl
theorem q783 : (Jvm.Cond.lays "java/lang/Throwable" "java/lang/Throwable" "detailMessage" "Ljava/lang/String;") ∈ lw_all := lw_g (lw_at lw_m3 218 rfl) rfl
theorem q785 : (Jvm.Cond.lays "java/lang/Throwable" "java/lang/Throwable" "backtrace" "Ljava/lang/Object;") ∈ lw_all := lw_g (lw_at lw_m3 220 rfl) rfl
theorem q786 : (Jvm.Cond.fieldLink "java/lang/Throwable" (198 : Nat) "java/lang/Throwable" "backtrace" "Ljava/lang/Object;") ∈ lw_all := lw_g (lw_at lw_m3 221 rfl) rfl
theorem q787 : (Jvm.Cond.superclass "java/lang/Throwable" "java/lang/Object") ∈ lw_all := lw_g (lw_at lw_m3 222 rfl) rfl
theorem q788 : (Jvm.Cond.instanceMethod ({ cls := "java/lang/Throwable", name := "<init>", desc := "()V" } : Jvm.MethodName)) ∈ lw_all := lw_g (lw_at lw_m3 223 rfl) rfl
theorem q789 : (Jvm.Cond.code ({ cls := "java/lang/Throwable", name := "<init>", desc := "()V" } : Jvm.MethodName) prog_32_method_1_code (1 : Nat) (Option.none : Option Jvm.ClassFile.FieldType)) ∈ lw_all := lw_g (lw_at lw_m3 224 rfl) rfl
theorem q790 : (Jvm.Cond.methodLink "java/lang/Throwable" (1 : Nat) ({ cls := "java/lang/Object", name := "<init>", desc := "()V" } : Jvm.MethodName)) ∈ lw_all := lw_g (lw_at lw_m3 225 rfl) rfl
theorem q791 : (Jvm.Cond.fieldLink "java/lang/Throwable" (13 : Nat) "java/lang/Throwable" "UNASSIGNED_STACK" "[Ljava/lang/StackTraceElement;") ∈ lw_all := lw_g (lw_at lw_m3 226 rfl) rfl
theorem q792 : (Jvm.Cond.laysStatic "java/lang/Throwable" "UNASSIGNED_STACK" "[Ljava/lang/StackTraceElement;") ∈ lw_tbl := lw_at lw_m3 227 rfl
theorem q793 : (Jvm.Cond.fieldLink "java/lang/Throwable" (20 : Nat) "java/lang/Throwable" "SUPPRESSED_SENTINEL" "Ljava/util/List;") ∈ lw_all := lw_g (lw_at lw_m3 228 rfl) rfl
theorem q794 : (Jvm.Cond.laysStatic "java/lang/Throwable" "SUPPRESSED_SENTINEL" "Ljava/util/List;") ∈ lw_tbl := lw_at lw_m3 229 rfl
theorem q795 : (Jvm.Cond.methodLink "java/lang/Throwable" (27 : Nat) ({ cls := "java/lang/Throwable", name := "fillInStackTrace", desc := "()Ljava/lang/Throwable;" } : Jvm.MethodName)) ∈ lw_all := lw_g (lw_at lw_m3 230 rfl) rfl
theorem q796 : (Jvm.Cond.instanceMethod ({ cls := "java/lang/Throwable", name := "fillInStackTrace", desc := "()Ljava/lang/Throwable;" } : Jvm.MethodName)) ∈ lw_all := lw_g (lw_at lw_m3 231 rfl) rfl
theorem q797 : (Jvm.Cond.sameMethod "java/lang/Throwable" "java/lang/Throwable" "fillInStackTrace" "()Ljava/lang/Throwable;") ∈ lw_all := lw_g (lw_at lw_m3 232 rfl) rfl
theorem q799 : (Jvm.Cond.codeSync ({ cls := "java/lang/Throwable", name := "fillInStackTrace", desc := "()Ljava/lang/Throwable;" } : Jvm.MethodName) prog_32_method_18_code (1 : Nat) (Option.some (Jvm.ClassFile.FieldType.object "java/lang/Throwable"))) ∈ lw_all := lw_g (lw_at lw_m3 234 rfl) rfl
theorem q800 : (Jvm.Cond.methodLink "java/lang/Throwable" (202 : Nat) ({ cls := "java/lang/Throwable", name := "fillInStackTrace", desc := "(I)Ljava/lang/Throwable;" } : Jvm.MethodName)) ∈ lw_all := lw_g (lw_at lw_m3 235 rfl) rfl
theorem q801 : (Jvm.Cond.privateMethod ({ cls := "java/lang/Throwable", name := "fillInStackTrace", desc := "(I)Ljava/lang/Throwable;" } : Jvm.MethodName)) ∈ lw_tbl := lw_at lw_m3 236 rfl
theorem q802 : (Jvm.Cond.instanceMethod ({ cls := "java/lang/Throwable", name := "fillInStackTrace", desc := "(I)Ljava/lang/Throwable;" } : Jvm.MethodName)) ∈ lw_all := lw_g (lw_at lw_m3 237 rfl) rfl
theorem q803 : (Jvm.Cond.instantiable "java/lang/Throwable" (6 : Nat)) ∈ lw_all := lw_g (lw_at lw_m3 238 rfl) rfl
theorem q804 : (Jvm.Cond.native ({ cls := "java/lang/Throwable", name := "fillInStackTrace", desc := "(I)Ljava/lang/Throwable;" } : Jvm.MethodName)) ∈ lw_all := lw_g (lw_at lw_m3 239 rfl) rfl
theorem q815 : (Jvm.Cond.instanceMethod ({ cls := "java/lang/Throwable", name := "<init>", desc := "(Ljava/lang/String;Ljava/lang/Throwable;ZZ)V" } : Jvm.MethodName)) ∈ lw_all := lw_g (lw_at lw_m4 10 rfl) rfl
theorem q816 : (Jvm.Cond.code ({ cls := "java/lang/Throwable", name := "<init>", desc := "(Ljava/lang/String;Ljava/lang/Throwable;ZZ)V" } : Jvm.MethodName) prog_32_method_5_code (5 : Nat) (Option.none : Option Jvm.ClassFile.FieldType)) ∈ lw_all := lw_g (lw_at lw_m4 11 rfl) rfl
theorem q819 : (Jvm.Cond.fieldLink "java/lang/Throwable" (198 : Nat) "java/lang/Throwable" "backtrace" "Ljava/lang/Object;") ∈ lw_all := lw_g (lw_at lw_m4 14 rfl) rfl
theorem q820 : (Jvm.Cond.fieldLink "java/lang/Throwable" (31 : Nat) "java/lang/Throwable" "detailMessage" "Ljava/lang/String;") ∈ lw_all := lw_g (lw_at lw_m4 15 rfl) rfl
theorem q821 : (Jvm.Cond.fieldLink "java/lang/Throwable" (7 : Nat) "java/lang/Throwable" "cause" "Ljava/lang/Throwable;") ∈ lw_all := lw_g (lw_at lw_m4 16 rfl) rfl
theorem q822 : (Jvm.Cond.fieldLink "java/lang/Throwable" (17 : Nat) "java/lang/Throwable" "stackTrace" "[Ljava/lang/StackTraceElement;") ∈ lw_all := lw_g (lw_at lw_m4 17 rfl) rfl
theorem q823 : (Jvm.Cond.fieldLink "java/lang/Throwable" (24 : Nat) "java/lang/Throwable" "suppressedExceptions" "Ljava/util/List;") ∈ lw_all := lw_g (lw_at lw_m4 18 rfl) rfl
theorem q826 : (Jvm.Cond.soleField "java/lang/Throwable" "backtrace") ∈ lw_all := lw_g (lw_at lw_m4 21 rfl) rfl
theorem q827 : (Jvm.Cond.soleField "java/lang/Throwable" "detailMessage") ∈ lw_all := lw_g (lw_at lw_m4 22 rfl) rfl
theorem q828 : (Jvm.Cond.soleField "java/lang/Throwable" "cause") ∈ lw_all := lw_g (lw_at lw_m4 23 rfl) rfl
theorem q829 : (Jvm.Cond.soleField "java/lang/Throwable" "stackTrace") ∈ lw_all := lw_g (lw_at lw_m4 24 rfl) rfl
theorem q831 : (Jvm.Cond.soleField "java/lang/Throwable" "depth") ∈ lw_all := lw_g (lw_at lw_m4 26 rfl) rfl
theorem q832 : (Jvm.Cond.soleField "java/lang/Throwable" "suppressedExceptions") ∈ lw_all := lw_g (lw_at lw_m4 27 rfl) rfl
theorem q1809 : (Jvm.Cond.sameMethod "java/lang/Throwable" "java/lang/Throwable" "fillInStackTrace" "(I)Ljava/lang/Throwable;") ∈ lw_all := lw_g (lw_at lw_m8 44 rfl) rfl
theorem q1826 : (Jvm.Cond.castable "java/lang/Throwable" "java/lang/Object") ∈ lw_tbl := lw_at lw_m8 61 rfl
theorem in_J10 : ∀ w ∈ wsJ100, w ∈ lw_all := lw_in wsJ100 [777, 779, 781, 783, 785] (by decide +kernel) (by decide +kernel)
/-! java/lang/Exception -/
set_option maxRecDepth 100000
def RJ11 : String := "java/lang/Exception"
abbrev cJ11_init : ByteArray := prog_23_method_5_code
def yJ11_init : MethodName := ⟨RJ11, "<init>", "(Ljava/lang/String;Ljava/lang/Throwable;ZZ)V"⟩
theorem dJ11_init_0 : decode cJ11_init 0 = .ok (.aload_n 0, 1) := by decide +kernel
theorem dJ11_init_1 : decode cJ11_init 1 = .ok (.aload_n 1, 1) := by decide +kernel
theorem dJ11_init_2 : decode cJ11_init 2 = .ok (.aload_n 2, 1) := by decide +kernel
theorem dJ11_init_3 : decode cJ11_init 3 = .ok (.iload_n 3, 1) := by decide +kernel
theorem dJ11_init_4 : decode cJ11_init 4 = .ok (.iload 4, 2) := by decide +kernel
theorem dJ11_init_6 : decode cJ11_init 6 = .ok (.invokespecial 16, 3) := by decide +kernel
theorem dJ11_init_9 : decode cJ11_init 9 = .ok (.return_, 1) := by decide +kernel
abbrev cJ11_init_2 : ByteArray := prog_23_method_1_code
def yJ11_init_2 : MethodName := ⟨RJ11, "<init>", "()V"⟩
theorem dJ11_init_2_0 : decode cJ11_init_2 0 = .ok (.aload_n 0, 1) := by decide +kernel
theorem dJ11_init_2_1 : decode cJ11_init_2 1 = .ok (.invokespecial 1, 3) := by decide +kernel
theorem dJ11_init_2_4 : decode cJ11_init_2 4 = .ok (.return_, 1) := by decide +kernel
theorem q104 : (Jvm.Cond.initialized "java/lang/Exception") ∈ lw_all := lw_g (lw_at lw_m1 19 rfl) rfl
theorem q770 : (Jvm.Cond.declares ({ cls := "java/lang/Exception", name := "<init>", desc := "()V" } : Jvm.MethodName)) ∈ lw_tbl := lw_at lw_m3 205 rfl
theorem q771 : (Jvm.Cond.declares ({ cls := "java/lang/Exception", name := "<init>", desc := "(Ljava/lang/String;)V" } : Jvm.MethodName)) ∈ lw_tbl := lw_at lw_m3 206 rfl
theorem q812 : (Jvm.Cond.instanceMethod ({ cls := "java/lang/Exception", name := "<init>", desc := "(Ljava/lang/String;Ljava/lang/Throwable;ZZ)V" } : Jvm.MethodName)) ∈ lw_all := lw_g (lw_at lw_m4 7 rfl) rfl
theorem q813 : (Jvm.Cond.code ({ cls := "java/lang/Exception", name := "<init>", desc := "(Ljava/lang/String;Ljava/lang/Throwable;ZZ)V" } : Jvm.MethodName) prog_23_method_5_code (5 : Nat) (Option.none : Option Jvm.ClassFile.FieldType)) ∈ lw_all := lw_g (lw_at lw_m4 8 rfl) rfl
theorem q814 : (Jvm.Cond.methodLink "java/lang/Exception" (16 : Nat) ({ cls := "java/lang/Throwable", name := "<init>", desc := "(Ljava/lang/String;Ljava/lang/Throwable;ZZ)V" } : Jvm.MethodName)) ∈ lw_all := lw_g (lw_at lw_m4 9 rfl) rfl
theorem q1196 : (Jvm.Cond.instanceMethod ({ cls := "java/lang/Exception", name := "<init>", desc := "()V" } : Jvm.MethodName)) ∈ lw_all := lw_g (lw_at lw_m5 151 rfl) rfl
theorem q1197 : (Jvm.Cond.code ({ cls := "java/lang/Exception", name := "<init>", desc := "()V" } : Jvm.MethodName) prog_23_method_1_code (1 : Nat) (Option.none : Option Jvm.ClassFile.FieldType)) ∈ lw_all := lw_g (lw_at lw_m5 152 rfl) rfl
theorem q1198 : (Jvm.Cond.methodLink "java/lang/Exception" (1 : Nat) ({ cls := "java/lang/Throwable", name := "<init>", desc := "()V" } : Jvm.MethodName)) ∈ lw_all := lw_g (lw_at lw_m5 153 rfl) rfl
/-! java/lang/RuntimeException -/
set_option maxRecDepth 100000
def RJ12 : String := "java/lang/RuntimeException"
abbrev cJ12_init : ByteArray := prog_27_method_5_code
def yJ12_init : MethodName := ⟨RJ12, "<init>", "(Ljava/lang/String;Ljava/lang/Throwable;ZZ)V"⟩
theorem dJ12_init_0 : decode cJ12_init 0 = .ok (.aload_n 0, 1) := by decide +kernel
theorem dJ12_init_1 : decode cJ12_init 1 = .ok (.aload_n 1, 1) := by decide +kernel
theorem dJ12_init_2 : decode cJ12_init 2 = .ok (.aload_n 2, 1) := by decide +kernel
theorem dJ12_init_3 : decode cJ12_init 3 = .ok (.iload_n 3, 1) := by decide +kernel
theorem dJ12_init_4 : decode cJ12_init 4 = .ok (.iload 4, 2) := by decide +kernel
theorem dJ12_init_6 : decode cJ12_init 6 = .ok (.invokespecial 16, 3) := by decide +kernel
theorem dJ12_init_9 : decode cJ12_init 9 = .ok (.return_, 1) := by decide +kernel
abbrev cJ12_init_2 : ByteArray := prog_27_method_1_code
def yJ12_init_2 : MethodName := ⟨RJ12, "<init>", "()V"⟩
theorem dJ12_init_2_0 : decode cJ12_init_2 0 = .ok (.aload_n 0, 1) := by decide +kernel
theorem dJ12_init_2_1 : decode cJ12_init_2 1 = .ok (.invokespecial 1, 3) := by decide +kernel
theorem dJ12_init_2_4 : decode cJ12_init_2 4 = .ok (.return_, 1) := by decide +kernel
theorem q105 : (Jvm.Cond.initialized "java/lang/RuntimeException") ∈ lw_all := lw_g (lw_at lw_m1 20 rfl) rfl
theorem q768 : (Jvm.Cond.declares ({ cls := "java/lang/RuntimeException", name := "<init>", desc := "()V" } : Jvm.MethodName)) ∈ lw_tbl := lw_at lw_m3 203 rfl
theorem q769 : (Jvm.Cond.declares ({ cls := "java/lang/RuntimeException", name := "<init>", desc := "(Ljava/lang/String;)V" } : Jvm.MethodName)) ∈ lw_tbl := lw_at lw_m3 204 rfl
theorem q809 : (Jvm.Cond.instanceMethod ({ cls := "java/lang/RuntimeException", name := "<init>", desc := "(Ljava/lang/String;Ljava/lang/Throwable;ZZ)V" } : Jvm.MethodName)) ∈ lw_all := lw_g (lw_at lw_m4 4 rfl) rfl
theorem q810 : (Jvm.Cond.code ({ cls := "java/lang/RuntimeException", name := "<init>", desc := "(Ljava/lang/String;Ljava/lang/Throwable;ZZ)V" } : Jvm.MethodName) prog_27_method_5_code (5 : Nat) (Option.none : Option Jvm.ClassFile.FieldType)) ∈ lw_all := lw_g (lw_at lw_m4 5 rfl) rfl
theorem q811 : (Jvm.Cond.methodLink "java/lang/RuntimeException" (16 : Nat) ({ cls := "java/lang/Exception", name := "<init>", desc := "(Ljava/lang/String;Ljava/lang/Throwable;ZZ)V" } : Jvm.MethodName)) ∈ lw_all := lw_g (lw_at lw_m4 6 rfl) rfl
theorem q1193 : (Jvm.Cond.instanceMethod ({ cls := "java/lang/RuntimeException", name := "<init>", desc := "()V" } : Jvm.MethodName)) ∈ lw_all := lw_g (lw_at lw_m5 148 rfl) rfl
theorem q1194 : (Jvm.Cond.code ({ cls := "java/lang/RuntimeException", name := "<init>", desc := "()V" } : Jvm.MethodName) prog_27_method_1_code (1 : Nat) (Option.none : Option Jvm.ClassFile.FieldType)) ∈ lw_all := lw_g (lw_at lw_m5 149 rfl) rfl
theorem q1195 : (Jvm.Cond.methodLink "java/lang/RuntimeException" (1 : Nat) ({ cls := "java/lang/Exception", name := "<init>", desc := "()V" } : Jvm.MethodName)) ∈ lw_all := lw_g (lw_at lw_m5 150 rfl) rfl
/-! jdk/internal/util/ArraysSupport -/
set_option maxRecDepth 100000
def RJ13 : String := "jdk/internal/util/ArraysSupport"
abbrev cJ13_newLength : ByteArray := prog_45_method_27_code
def yJ13_newLength : MethodName := ⟨RJ13, "newLength", "(III)I"⟩
theorem dJ13_newLength_0 : decode cJ13_newLength 0 = .ok (.iload_n 0, 1) := by decide +kernel
theorem dJ13_newLength_1 : decode cJ13_newLength 1 = .ok (.iload_n 1, 1) := by decide +kernel
theorem dJ13_newLength_2 : decode cJ13_newLength 2 = .ok (.iload_n 2, 1) := by decide +kernel
theorem dJ13_newLength_3 : decode cJ13_newLength 3 = .ok (.invokestatic 194, 3) := by decide +kernel
theorem dJ13_newLength_6 : decode cJ13_newLength 6 = .ok (.iadd, 1) := by decide +kernel
theorem dJ13_newLength_7 : decode cJ13_newLength 7 = .ok (.istore_n 3, 1) := by decide +kernel
theorem dJ13_newLength_8 : decode cJ13_newLength 8 = .ok (.iconst 0, 1) := by decide +kernel
theorem dJ13_newLength_9 : decode cJ13_newLength 9 = .ok (.iload_n 3, 1) := by decide +kernel
theorem dJ13_newLength_10 : decode cJ13_newLength 10 = .ok (.if_icmp .ge 11, 3) := by decide +kernel
theorem dJ13_newLength_13 : decode cJ13_newLength 13 = .ok (.iload_n 3, 1) := by decide +kernel
theorem dJ13_newLength_14 : decode cJ13_newLength 14 = .ok (.ldc 200, 2) := by decide +kernel
theorem dJ13_newLength_16 : decode cJ13_newLength 16 = .ok (.if_icmp .gt 5, 3) := by decide +kernel
theorem dJ13_newLength_19 : decode cJ13_newLength 19 = .ok (.iload_n 3, 1) := by decide +kernel
theorem dJ13_newLength_20 : decode cJ13_newLength 20 = .ok (.ireturn, 1) := by decide +kernel
theorem dJ13_newLength_21 : decode cJ13_newLength 21 = .ok (.iload_n 0, 1) := by decide +kernel
theorem dJ13_newLength_22 : decode cJ13_newLength 22 = .ok (.iload_n 1, 1) := by decide +kernel
theorem dJ13_newLength_23 : decode cJ13_newLength 23 = .ok (.invokestatic 201, 3) := by decide +kernel
theorem dJ13_newLength_26 : decode cJ13_newLength 26 = .ok (.ireturn, 1) := by decide +kernel
abbrev cJ13_hugeLength : ByteArray := prog_45_method_28_code
def yJ13_hugeLength : MethodName := ⟨RJ13, "hugeLength", "(II)I"⟩
theorem dJ13_hugeLength_0 : decode cJ13_hugeLength 0 = .ok (.iload_n 0, 1) := by decide +kernel
theorem dJ13_hugeLength_1 : decode cJ13_hugeLength 1 = .ok (.iload_n 1, 1) := by decide +kernel
theorem dJ13_hugeLength_2 : decode cJ13_hugeLength 2 = .ok (.iadd, 1) := by decide +kernel
theorem dJ13_hugeLength_3 : decode cJ13_hugeLength 3 = .ok (.istore_n 2, 1) := by decide +kernel
theorem dJ13_hugeLength_4 : decode cJ13_hugeLength 4 = .ok (.iload_n 2, 1) := by decide +kernel
theorem dJ13_hugeLength_5 : decode cJ13_hugeLength 5 = .ok (.ifCond .ge 44, 3) := by decide +kernel
theorem dJ13_hugeLength_8 : decode cJ13_hugeLength 8 = .ok (.new 204, 3) := by decide +kernel
theorem dJ13_hugeLength_11 : decode cJ13_hugeLength 11 = .ok (.dup, 1) := by decide +kernel
theorem dJ13_hugeLength_12 : decode cJ13_hugeLength 12 = .ok (.new 89, 3) := by decide +kernel
theorem dJ13_hugeLength_15 : decode cJ13_hugeLength 15 = .ok (.dup, 1) := by decide +kernel
theorem dJ13_hugeLength_16 : decode cJ13_hugeLength 16 = .ok (.invokespecial 91, 3) := by decide +kernel
theorem dJ13_hugeLength_19 : decode cJ13_hugeLength 19 = .ok (.ldc 206, 2) := by decide +kernel
theorem dJ13_hugeLength_21 : decode cJ13_hugeLength 21 = .ok (.invokevirtual 94, 3) := by decide +kernel
theorem dJ13_hugeLength_24 : decode cJ13_hugeLength 24 = .ok (.iload_n 0, 1) := by decide +kernel
theorem dJ13_hugeLength_25 : decode cJ13_hugeLength 25 = .ok (.invokevirtual 98, 3) := by decide +kernel
theorem dJ13_hugeLength_28 : decode cJ13_hugeLength 28 = .ok (.ldc 208, 2) := by decide +kernel
theorem dJ13_hugeLength_30 : decode cJ13_hugeLength 30 = .ok (.invokevirtual 94, 3) := by decide +kernel
theorem dJ13_hugeLength_33 : decode cJ13_hugeLength 33 = .ok (.iload_n 1, 1) := by decide +kernel
theorem dJ13_hugeLength_34 : decode cJ13_hugeLength 34 = .ok (.invokevirtual 98, 3) := by decide +kernel
theorem dJ13_hugeLength_37 : decode cJ13_hugeLength 37 = .ok (.ldc 210, 2) := by decide +kernel
theorem dJ13_hugeLength_39 : decode cJ13_hugeLength 39 = .ok (.invokevirtual 94, 3) := by decide +kernel
theorem dJ13_hugeLength_42 : decode cJ13_hugeLength 42 = .ok (.invokevirtual 101, 3) := by decide +kernel
theorem dJ13_hugeLength_45 : decode cJ13_hugeLength 45 = .ok (.invokespecial 212, 3) := by decide +kernel
theorem dJ13_hugeLength_48 : decode cJ13_hugeLength 48 = .ok (.athrow, 1) := by decide +kernel
theorem dJ13_hugeLength_49 : decode cJ13_hugeLength 49 = .ok (.iload_n 2, 1) := by decide +kernel
theorem dJ13_hugeLength_50 : decode cJ13_hugeLength 50 = .ok (.ldc 200, 2) := by decide +kernel
theorem dJ13_hugeLength_52 : decode cJ13_hugeLength 52 = .ok (.if_icmp .gt 6, 3) := by decide +kernel
theorem dJ13_hugeLength_55 : decode cJ13_hugeLength 55 = .ok (.ldc 200, 2) := by decide +kernel
theorem dJ13_hugeLength_57 : decode cJ13_hugeLength 57 = .ok (.ireturn, 1) := by decide +kernel
theorem dJ13_hugeLength_58 : decode cJ13_hugeLength 58 = .ok (.iload_n 2, 1) := by decide +kernel
theorem dJ13_hugeLength_59 : decode cJ13_hugeLength 59 = .ok (.ireturn, 1) := by decide +kernel
theorem q115 : (Jvm.Cond.initialized "jdk/internal/util/ArraysSupport") ∈ lw_all := lw_g (lw_at lw_m1 30 rfl) rfl
theorem q964 : (Jvm.Cond.static ({ cls := "jdk/internal/util/ArraysSupport", name := "newLength", desc := "(III)I" } : Jvm.MethodName)) ∈ lw_all := lw_g (lw_at lw_m4 159 rfl) rfl
theorem q965 : (Jvm.Cond.code ({ cls := "jdk/internal/util/ArraysSupport", name := "newLength", desc := "(III)I" } : Jvm.MethodName) prog_45_method_27_code (4 : Nat) (Option.some Jvm.ClassFile.FieldType.int)) ∈ lw_all := lw_g (lw_at lw_m4 160 rfl) rfl
theorem q966 : (Jvm.Cond.methodLink "jdk/internal/util/ArraysSupport" (194 : Nat) ({ cls := "java/lang/Math", name := "max", desc := "(II)I" } : Jvm.MethodName)) ∈ lw_all := lw_g (lw_at lw_m4 161 rfl) rfl
theorem q967 : (Jvm.Cond.constant "jdk/internal/util/ArraysSupport" (200 : Nat) (2147483639 : Int32)) ∈ lw_all := lw_g (lw_at lw_m4 162 rfl) rfl
theorem q968 : (Jvm.Cond.methodLink "jdk/internal/util/ArraysSupport" (201 : Nat) ({ cls := "jdk/internal/util/ArraysSupport", name := "hugeLength", desc := "(II)I" } : Jvm.MethodName)) ∈ lw_all := lw_g (lw_at lw_m4 163 rfl) rfl
theorem q969 : (Jvm.Cond.static ({ cls := "jdk/internal/util/ArraysSupport", name := "hugeLength", desc := "(II)I" } : Jvm.MethodName)) ∈ lw_all := lw_g (lw_at lw_m4 164 rfl) rfl
theorem q970 : (Jvm.Cond.code ({ cls := "jdk/internal/util/ArraysSupport", name := "hugeLength", desc := "(II)I" } : Jvm.MethodName) prog_45_method_28_code (3 : Nat) (Option.some Jvm.ClassFile.FieldType.int)) ∈ lw_all := lw_g (lw_at lw_m4 165 rfl) rfl
/-! java/util/Arrays -/
set_option maxRecDepth 100000
def RJ14 : String := "java/util/Arrays"
abbrev cJ14_copyOf : ByteArray := prog_38_method_119_code
def yJ14_copyOf : MethodName := ⟨RJ14, "copyOf", "([Ljava/lang/Object;I)[Ljava/lang/Object;"⟩
theorem dJ14_copyOf_0 : decode cJ14_copyOf 0 = .ok (.aload_n 0, 1) := by decide +kernel
theorem dJ14_copyOf_1 : decode cJ14_copyOf 1 = .ok (.iload_n 1, 1) := by decide +kernel
theorem dJ14_copyOf_2 : decode cJ14_copyOf 2 = .ok (.aload_n 0, 1) := by decide +kernel
theorem dJ14_copyOf_3 : decode cJ14_copyOf 3 = .ok (.invokevirtual 86, 3) := by decide +kernel
theorem dJ14_copyOf_6 : decode cJ14_copyOf 6 = .ok (.invokestatic 300, 3) := by decide +kernel
theorem dJ14_copyOf_9 : decode cJ14_copyOf 9 = .ok (.areturn, 1) := by decide +kernel
abbrev cJ14_copyOf_2 : ByteArray := prog_38_method_120_code
def yJ14_copyOf_2 : MethodName := ⟨RJ14, "copyOf", "([Ljava/lang/Object;ILjava/lang/Class;)[Ljava/lang/Object;"⟩
theorem dJ14_copyOf_2_0 : decode cJ14_copyOf_2 0 = .ok (.aload_n 2, 1) := by decide +kernel
theorem dJ14_copyOf_2_1 : decode cJ14_copyOf_2 1 = .ok (.ldc 110, 2) := by decide +kernel
theorem dJ14_copyOf_2_3 : decode cJ14_copyOf_2 3 = .ok (.if_acmp .ne 10, 3) := by decide +kernel
theorem dJ14_copyOf_2_6 : decode cJ14_copyOf_2 6 = .ok (.iload_n 1, 1) := by decide +kernel
theorem dJ14_copyOf_2_7 : decode cJ14_copyOf_2 7 = .ok (.anewarray 2, 3) := by decide +kernel
theorem dJ14_copyOf_2_10 : decode cJ14_copyOf_2 10 = .ok (.goto 14, 3) := by decide +kernel
theorem dJ14_copyOf_2_13 : decode cJ14_copyOf_2 13 = .ok (.aload_n 2, 1) := by decide +kernel
theorem dJ14_copyOf_2_14 : decode cJ14_copyOf_2 14 = .ok (.invokevirtual 90, 3) := by decide +kernel
theorem dJ14_copyOf_2_17 : decode cJ14_copyOf_2 17 = .ok (.iload_n 1, 1) := by decide +kernel
theorem dJ14_copyOf_2_18 : decode cJ14_copyOf_2 18 = .ok (.invokestatic 95, 3) := by decide +kernel
theorem dJ14_copyOf_2_21 : decode cJ14_copyOf_2 21 = .ok (.checkcast 110, 3) := by decide +kernel
theorem dJ14_copyOf_2_24 : decode cJ14_copyOf_2 24 = .ok (.astore_n 3, 1) := by decide +kernel
theorem dJ14_copyOf_2_25 : decode cJ14_copyOf_2 25 = .ok (.aload_n 0, 1) := by decide +kernel
theorem dJ14_copyOf_2_26 : decode cJ14_copyOf_2 26 = .ok (.iconst 0, 1) := by decide +kernel
theorem dJ14_copyOf_2_27 : decode cJ14_copyOf_2 27 = .ok (.aload_n 3, 1) := by decide +kernel
theorem dJ14_copyOf_2_28 : decode cJ14_copyOf_2 28 = .ok (.iconst 0, 1) := by decide +kernel
theorem dJ14_copyOf_2_29 : decode cJ14_copyOf_2 29 = .ok (.aload_n 0, 1) := by decide +kernel
theorem dJ14_copyOf_2_30 : decode cJ14_copyOf_2 30 = .ok (.arraylength, 1) := by decide +kernel
theorem dJ14_copyOf_2_31 : decode cJ14_copyOf_2 31 = .ok (.iload_n 1, 1) := by decide +kernel
theorem dJ14_copyOf_2_32 : decode cJ14_copyOf_2 32 = .ok (.invokestatic 304, 3) := by decide +kernel
theorem dJ14_copyOf_2_35 : decode cJ14_copyOf_2 35 = .ok (.invokestatic 150, 3) := by decide +kernel
theorem dJ14_copyOf_2_38 : decode cJ14_copyOf_2 38 = .ok (.aload_n 3, 1) := by decide +kernel
theorem dJ14_copyOf_2_39 : decode cJ14_copyOf_2 39 = .ok (.areturn, 1) := by decide +kernel
theorem q116 : (Jvm.Cond.initialized "java/util/Arrays") ∈ lw_all := lw_g (lw_at lw_m1 31 rfl) rfl
theorem q972 : (Jvm.Cond.static ({ cls := "java/util/Arrays", name := "copyOf", desc := "([Ljava/lang/Object;I)[Ljava/lang/Object;" } : Jvm.MethodName)) ∈ lw_all := lw_g (lw_at lw_m4 167 rfl) rfl
theorem q973 : (Jvm.Cond.code ({ cls := "java/util/Arrays", name := "copyOf", desc := "([Ljava/lang/Object;I)[Ljava/lang/Object;" } : Jvm.MethodName) prog_38_method_119_code (2 : Nat) (Option.some (Jvm.ClassFile.FieldType.array (Jvm.ClassFile.FieldType.object "java/lang/Object")))) ∈ lw_all := lw_g (lw_at lw_m4 168 rfl) rfl
theorem q974 : (Jvm.Cond.methodLink "java/util/Arrays" (86 : Nat) ({ cls := "java/lang/Object", name := "getClass", desc := "()Ljava/lang/Class;" } : Jvm.MethodName)) ∈ lw_all := lw_g (lw_at lw_m4 169 rfl) rfl
theorem q994 : (Jvm.Cond.methodLink "java/util/Arrays" (300 : Nat) ({ cls := "java/util/Arrays", name := "copyOf", desc := "([Ljava/lang/Object;ILjava/lang/Class;)[Ljava/lang/Object;" } : Jvm.MethodName)) ∈ lw_all := lw_g (lw_at lw_m4 189 rfl) rfl
theorem q995 : (Jvm.Cond.static ({ cls := "java/util/Arrays", name := "copyOf", desc := "([Ljava/lang/Object;ILjava/lang/Class;)[Ljava/lang/Object;" } : Jvm.MethodName)) ∈ lw_all := lw_g (lw_at lw_m4 190 rfl) rfl
theorem q996 : (Jvm.Cond.code ({ cls := "java/util/Arrays", name := "copyOf", desc := "([Ljava/lang/Object;ILjava/lang/Class;)[Ljava/lang/Object;" } : Jvm.MethodName) prog_38_method_120_code (4 : Nat) (Option.some (Jvm.ClassFile.FieldType.array (Jvm.ClassFile.FieldType.object "java/lang/Object")))) ∈ lw_all := lw_g (lw_at lw_m4 191 rfl) rfl
theorem q997 : (Jvm.Cond.classLink "java/util/Arrays" (110 : Nat) "[Ljava/lang/Object;") ∈ lw_all := lw_g (lw_at lw_m4 192 rfl) rfl
theorem q998 : (Jvm.Cond.classLink "java/util/Arrays" (2 : Nat) "java/lang/Object") ∈ lw_all := lw_g (lw_at lw_m4 193 rfl) rfl
theorem q999 : (Jvm.Cond.methodLink "java/util/Arrays" (304 : Nat) ({ cls := "java/lang/Math", name := "min", desc := "(II)I" } : Jvm.MethodName)) ∈ lw_all := lw_g (lw_at lw_m4 194 rfl) rfl
theorem q1000 : (Jvm.Cond.methodLink "java/util/Arrays" (150 : Nat) ({ cls := "java/lang/System", name := "arraycopy", desc := "(Ljava/lang/Object;ILjava/lang/Object;II)V" } : Jvm.MethodName)) ∈ lw_all := lw_g (lw_at lw_m4 195 rfl) rfl
/-! java/util/Objects -/
set_option maxRecDepth 100000
def RJ15 : String := "java/util/Objects"
abbrev cJ15_checkIndex : ByteArray := prog_42_method_17_code
def yJ15_checkIndex : MethodName := ⟨RJ15, "checkIndex", "(II)I"⟩
theorem dJ15_checkIndex_0 : decode cJ15_checkIndex 0 = .ok (.iload_n 0, 1) := by decide +kernel
theorem dJ15_checkIndex_1 : decode cJ15_checkIndex 1 = .ok (.iload_n 1, 1) := by decide +kernel
theorem dJ15_checkIndex_2 : decode cJ15_checkIndex 2 = .ok (.aconst_null, 1) := by decide +kernel
theorem dJ15_checkIndex_3 : decode cJ15_checkIndex 3 = .ok (.invokestatic 105, 3) := by decide +kernel
theorem dJ15_checkIndex_6 : decode cJ15_checkIndex 6 = .ok (.ireturn, 1) := by decide +kernel
theorem q118 : (Jvm.Cond.initialized "java/util/Objects") ∈ lw_all := lw_g (lw_at lw_m1 33 rfl) rfl
theorem q1034 : (Jvm.Cond.static ({ cls := "java/util/Objects", name := "checkIndex", desc := "(II)I" } : Jvm.MethodName)) ∈ lw_all := lw_g (lw_at lw_m4 229 rfl) rfl
theorem q1035 : (Jvm.Cond.code ({ cls := "java/util/Objects", name := "checkIndex", desc := "(II)I" } : Jvm.MethodName) prog_42_method_17_code (2 : Nat) (Option.some Jvm.ClassFile.FieldType.int)) ∈ lw_all := lw_g (lw_at lw_m4 230 rfl) rfl
theorem q1036 : (Jvm.Cond.methodLink "java/util/Objects" (105 : Nat) ({ cls := "jdk/internal/util/Preconditions", name := "checkIndex", desc := "(IILjava/util/function/BiFunction;)I" } : Jvm.MethodName)) ∈ lw_all := lw_g (lw_at lw_m4 231 rfl) rfl
/-! java/util/NoSuchElementException -/
set_option maxRecDepth 100000
def RJ16 : String := "java/util/NoSuchElementException"
def TJ16 : u_T := fun k => match k with
  | 0 => ("java/lang/Throwable", "cause", "Ljava/lang/Throwable;", false)
  | 1 => ("java/lang/Throwable", "stackTrace", "[Ljava/lang/StackTraceElement;", false)
  | 2 => ("java/lang/Throwable", "suppressedExceptions", "Ljava/util/List;", false)
  | 3 => ("java/lang/Throwable", "detailMessage", "Ljava/lang/String;", false)
  | 4 => ("java/lang/Throwable", "backtrace", "Ljava/lang/Object;", false)
  | _ => ("java/lang/Throwable", "depth", "I", false)
def tyJ16 : Nat → FieldType := fun k => match k with
  | 0 => .object "java/lang/Throwable"
  | 1 => .array (.object "java/lang/StackTraceElement")
  | 2 => .object "java/util/List"
  | 3 => .object "java/lang/String"
  | 4 => .object "java/lang/Object"
  | _ => .int
abbrev wsJ160 : List Cond := u_ws RJ16 TJ16 6
theorem nmJ16 : ∀ a, a < 6 → ∀ b, b < 6 → a ≠ b → (TJ16 a).2.1 ≠ (TJ16 b).2.1 := by decide +kernel
theorem tyJ16_ok : ∀ k, k < 6 → parseFieldDescriptor (TJ16 k).2.2.1 = some (tyJ16 k) := by decide +kernel
abbrev cJ16_init : ByteArray := prog_41_method_1_code
def yJ16_init : MethodName := ⟨RJ16, "<init>", "()V"⟩
theorem dJ16_init_0 : decode cJ16_init 0 = .ok (.aload_n 0, 1) := by decide +kernel
theorem dJ16_init_1 : decode cJ16_init 1 = .ok (.invokespecial 1, 3) := by decide +kernel
theorem dJ16_init_4 : decode cJ16_init 4 = .ok (.return_, 1) := by decide +kernel
theorem q119 : (Jvm.Cond.initialized "java/util/NoSuchElementException") ∈ lw_all := lw_g (lw_at lw_m1 34 rfl) rfl
theorem q798 : (Jvm.Cond.selects "java/util/NoSuchElementException" ({ cls := "java/lang/Throwable", name := "fillInStackTrace", desc := "()Ljava/lang/Throwable;" } : Jvm.MethodName) ({ cls := "java/lang/Throwable", name := "fillInStackTrace", desc := "()Ljava/lang/Throwable;" } : Jvm.MethodName)) ∈ lw_all := lw_g (lw_at lw_m3 233 rfl) rfl
theorem q992 : (Jvm.Cond.selects "java/util/NoSuchElementException" ({ cls := "java/lang/Object", name := "getClass", desc := "()Ljava/lang/Class;" } : Jvm.MethodName) ({ cls := "java/lang/Object", name := "getClass", desc := "()Ljava/lang/Class;" } : Jvm.MethodName)) ∈ lw_all := lw_g (lw_at lw_m4 187 rfl) rfl
theorem q1181 : (Jvm.Cond.instantiable "java/util/NoSuchElementException" (6 : Nat)) ∈ lw_all := lw_g (lw_at lw_m5 136 rfl) rfl
theorem q1182 : (Jvm.Cond.castable "java/util/NoSuchElementException" "java/util/NoSuchElementException") ∈ lw_tbl := lw_at lw_m5 137 rfl
theorem q1183 : (Jvm.Cond.selects "java/util/NoSuchElementException" ({ cls := "java/lang/Throwable", name := "fillInStackTrace", desc := "(I)Ljava/lang/Throwable;" } : Jvm.MethodName) ({ cls := "java/lang/Throwable", name := "fillInStackTrace", desc := "(I)Ljava/lang/Throwable;" } : Jvm.MethodName)) ∈ lw_all := lw_g (lw_at lw_m5 138 rfl) rfl
theorem q1184 : (Jvm.Cond.lays "java/util/NoSuchElementException" "java/lang/Throwable" "cause" "Ljava/lang/Throwable;") ∈ lw_all := lw_g (lw_at lw_m5 139 rfl) rfl
theorem q1185 : (Jvm.Cond.lays "java/util/NoSuchElementException" "java/lang/Throwable" "stackTrace" "[Ljava/lang/StackTraceElement;") ∈ lw_all := lw_g (lw_at lw_m5 140 rfl) rfl
theorem q1186 : (Jvm.Cond.lays "java/util/NoSuchElementException" "java/lang/Throwable" "suppressedExceptions" "Ljava/util/List;") ∈ lw_all := lw_g (lw_at lw_m5 141 rfl) rfl
theorem q1187 : (Jvm.Cond.lays "java/util/NoSuchElementException" "java/lang/Throwable" "detailMessage" "Ljava/lang/String;") ∈ lw_all := lw_g (lw_at lw_m5 142 rfl) rfl
theorem q1188 : (Jvm.Cond.lays "java/util/NoSuchElementException" "java/lang/Throwable" "backtrace" "Ljava/lang/Object;") ∈ lw_all := lw_g (lw_at lw_m5 143 rfl) rfl
theorem q1190 : (Jvm.Cond.instanceMethod ({ cls := "java/util/NoSuchElementException", name := "<init>", desc := "()V" } : Jvm.MethodName)) ∈ lw_all := lw_g (lw_at lw_m5 145 rfl) rfl
theorem q1191 : (Jvm.Cond.code ({ cls := "java/util/NoSuchElementException", name := "<init>", desc := "()V" } : Jvm.MethodName) prog_41_method_1_code (1 : Nat) (Option.none : Option Jvm.ClassFile.FieldType)) ∈ lw_all := lw_g (lw_at lw_m5 146 rfl) rfl
theorem q1192 : (Jvm.Cond.methodLink "java/util/NoSuchElementException" (1 : Nat) ({ cls := "java/lang/RuntimeException", name := "<init>", desc := "()V" } : Jvm.MethodName)) ∈ lw_all := lw_g (lw_at lw_m5 147 rfl) rfl
theorem q1199 : (Jvm.Cond.lays "java/util/NoSuchElementException" "java/lang/Throwable" "depth" "I") ∈ lw_all := lw_g (lw_at lw_m5 154 rfl) rfl
theorem q1200 : (Jvm.Cond.superclass "java/util/NoSuchElementException" "java/lang/RuntimeException") ∈ lw_all := lw_g (lw_at lw_m5 155 rfl) rfl
theorem q1825 : (Jvm.Cond.castable "java/util/NoSuchElementException" "java/lang/Object") ∈ lw_tbl := lw_at lw_m8 60 rfl
theorem in_J16 : ∀ w ∈ wsJ160, w ∈ lw_all := lw_in wsJ160 [1184, 1185, 1186, 1187, 1188, 1199] (by decide +kernel) (by decide +kernel)
/-! java/lang/Object -/
set_option maxRecDepth 100000
def RJ17 : String := "java/lang/Object"
abbrev cJ17_init : ByteArray := object_method_1_code
def yJ17_init : MethodName := ⟨RJ17, "<init>", "()V"⟩
theorem dJ17_init_0 : decode cJ17_init 0 = .ok (.return_, 1) := by decide +kernel
theorem q126 : (Jvm.Cond.instanceMethod ({ cls := "java/lang/Object", name := "<init>", desc := "()V" } : Jvm.MethodName)) ∈ lw_all := lw_g (lw_at lw_m1 41 rfl) rfl
theorem q127 : (Jvm.Cond.code ({ cls := "java/lang/Object", name := "<init>", desc := "()V" } : Jvm.MethodName) object_method_1_code (1 : Nat) (Option.none : Option Jvm.ClassFile.FieldType)) ∈ lw_all := lw_g (lw_at lw_m1 42 rfl) rfl
theorem q975 : (Jvm.Cond.instanceMethod ({ cls := "java/lang/Object", name := "getClass", desc := "()Ljava/lang/Class;" } : Jvm.MethodName)) ∈ lw_all := lw_g (lw_at lw_m4 170 rfl) rfl
theorem q976 : (Jvm.Cond.sameMethod "java/lang/Object" "java/lang/Object" "getClass" "()Ljava/lang/Class;") ∈ lw_all := lw_g (lw_at lw_m4 171 rfl) rfl
theorem q993 : (Jvm.Cond.native ({ cls := "java/lang/Object", name := "getClass", desc := "()Ljava/lang/Class;" } : Jvm.MethodName)) ∈ lw_all := lw_g (lw_at lw_m4 188 rfl) rfl
theorem q1830 : (Jvm.Cond.declares ({ cls := "java/lang/Object", name := "getClass", desc := "()Ljava/lang/Class;" } : Jvm.MethodName)) ∈ lw_tbl := lw_at lw_m8 65 rfl
/-! java/util/ArrayList -/
set_option maxRecDepth 100000
def RJ2 : String := "java/util/ArrayList"
def TJ2 : u_T := fun k => match k with
  | 0 => ("java/util/AbstractList", "modCount", "I", false)
  | 1 => ("java/util/ArrayList", "elementData", "[Ljava/lang/Object;", false)
  | _ => ("java/util/ArrayList", "size", "I", false)
def tyJ2 : Nat → FieldType := fun k => match k with
  | 0 => .int
  | 1 => .array (.object "java/lang/Object")
  | _ => .int
abbrev wsJ20 : List Cond := u_ws RJ2 TJ2 3
theorem nmJ2 : ∀ a, a < 3 → ∀ b, b < 3 → a ≠ b → (TJ2 a).2.1 ≠ (TJ2 b).2.1 := by decide +kernel
theorem tyJ2_ok : ∀ k, k < 3 → parseFieldDescriptor (TJ2 k).2.2.1 = some (tyJ2 k) := by decide +kernel
abbrev cJ2_init : ByteArray := prog_37_method_1_code
def yJ2_init : MethodName := ⟨RJ2, "<init>", "(I)V"⟩
theorem dJ2_init_0 : decode cJ2_init 0 = .ok (.aload_n 0, 1) := by decide +kernel
theorem dJ2_init_1 : decode cJ2_init 1 = .ok (.invokespecial 1, 3) := by decide +kernel
theorem dJ2_init_4 : decode cJ2_init 4 = .ok (.iload_n 1, 1) := by decide +kernel
theorem dJ2_init_5 : decode cJ2_init 5 = .ok (.ifCond .le 14, 3) := by decide +kernel
theorem dJ2_init_8 : decode cJ2_init 8 = .ok (.aload_n 0, 1) := by decide +kernel
theorem dJ2_init_9 : decode cJ2_init 9 = .ok (.iload_n 1, 1) := by decide +kernel
theorem dJ2_init_10 : decode cJ2_init 10 = .ok (.anewarray 7, 3) := by decide +kernel
theorem dJ2_init_13 : decode cJ2_init 13 = .ok (.putfield 9, 3) := by decide +kernel
theorem dJ2_init_16 : decode cJ2_init 16 = .ok (.goto 44, 3) := by decide +kernel
theorem dJ2_init_19 : decode cJ2_init 19 = .ok (.iload_n 1, 1) := by decide +kernel
theorem dJ2_init_20 : decode cJ2_init 20 = .ok (.ifCond .ne 13, 3) := by decide +kernel
theorem dJ2_init_23 : decode cJ2_init 23 = .ok (.aload_n 0, 1) := by decide +kernel
theorem dJ2_init_24 : decode cJ2_init 24 = .ok (.getstatic 15, 3) := by decide +kernel
theorem dJ2_init_27 : decode cJ2_init 27 = .ok (.putfield 9, 3) := by decide +kernel
theorem dJ2_init_30 : decode cJ2_init 30 = .ok (.goto 30, 3) := by decide +kernel
theorem dJ2_init_33 : decode cJ2_init 33 = .ok (.new 18, 3) := by decide +kernel
theorem dJ2_init_36 : decode cJ2_init 36 = .ok (.dup, 1) := by decide +kernel
theorem dJ2_init_37 : decode cJ2_init 37 = .ok (.new 20, 3) := by decide +kernel
theorem dJ2_init_40 : decode cJ2_init 40 = .ok (.dup, 1) := by decide +kernel
theorem dJ2_init_41 : decode cJ2_init 41 = .ok (.invokespecial 22, 3) := by decide +kernel
theorem dJ2_init_44 : decode cJ2_init 44 = .ok (.ldc 23, 2) := by decide +kernel
theorem dJ2_init_46 : decode cJ2_init 46 = .ok (.invokevirtual 25, 3) := by decide +kernel
theorem dJ2_init_49 : decode cJ2_init 49 = .ok (.iload_n 1, 1) := by decide +kernel
theorem dJ2_init_50 : decode cJ2_init 50 = .ok (.invokevirtual 29, 3) := by decide +kernel
theorem dJ2_init_53 : decode cJ2_init 53 = .ok (.invokevirtual 32, 3) := by decide +kernel
theorem dJ2_init_56 : decode cJ2_init 56 = .ok (.invokespecial 36, 3) := by decide +kernel
theorem dJ2_init_59 : decode cJ2_init 59 = .ok (.athrow, 1) := by decide +kernel
theorem dJ2_init_60 : decode cJ2_init 60 = .ok (.return_, 1) := by decide +kernel
abbrev cJ2_init_2 : ByteArray := prog_37_method_2_code
def yJ2_init_2 : MethodName := ⟨RJ2, "<init>", "()V"⟩
theorem dJ2_init_2_0 : decode cJ2_init_2 0 = .ok (.aload_n 0, 1) := by decide +kernel
theorem dJ2_init_2_1 : decode cJ2_init_2 1 = .ok (.invokespecial 1, 3) := by decide +kernel
theorem dJ2_init_2_4 : decode cJ2_init_2 4 = .ok (.aload_n 0, 1) := by decide +kernel
theorem dJ2_init_2_5 : decode cJ2_init_2 5 = .ok (.getstatic 39, 3) := by decide +kernel
theorem dJ2_init_2_8 : decode cJ2_init_2 8 = .ok (.putfield 9, 3) := by decide +kernel
theorem dJ2_init_2_11 : decode cJ2_init_2 11 = .ok (.return_, 1) := by decide +kernel
abbrev cJ2_size : ByteArray := prog_37_method_8_code
def yJ2_size : MethodName := ⟨RJ2, "size", "()I"⟩
theorem dJ2_size_0 : decode cJ2_size 0 = .ok (.aload_n 0, 1) := by decide +kernel
theorem dJ2_size_1 : decode cJ2_size 1 = .ok (.getfield 48, 3) := by decide +kernel
theorem dJ2_size_4 : decode cJ2_size 4 = .ok (.ireturn, 1) := by decide +kernel
abbrev cJ2_add : ByteArray := prog_37_method_25_code
def yJ2_add : MethodName := ⟨RJ2, "add", "(Ljava/lang/Object;)Z"⟩
theorem dJ2_add_0 : decode cJ2_add 0 = .ok (.aload_n 0, 1) := by decide +kernel
theorem dJ2_add_1 : decode cJ2_add 1 = .ok (.dup, 1) := by decide +kernel
theorem dJ2_add_2 : decode cJ2_add 2 = .ok (.getfield 63, 3) := by decide +kernel
theorem dJ2_add_5 : decode cJ2_add 5 = .ok (.iconst 1, 1) := by decide +kernel
theorem dJ2_add_6 : decode cJ2_add 6 = .ok (.iadd, 1) := by decide +kernel
theorem dJ2_add_7 : decode cJ2_add 7 = .ok (.putfield 63, 3) := by decide +kernel
theorem dJ2_add_10 : decode cJ2_add 10 = .ok (.aload_n 0, 1) := by decide +kernel
theorem dJ2_add_11 : decode cJ2_add 11 = .ok (.aload_n 1, 1) := by decide +kernel
theorem dJ2_add_12 : decode cJ2_add 12 = .ok (.aload_n 0, 1) := by decide +kernel
theorem dJ2_add_13 : decode cJ2_add 13 = .ok (.getfield 9, 3) := by decide +kernel
theorem dJ2_add_16 : decode cJ2_add 16 = .ok (.aload_n 0, 1) := by decide +kernel
theorem dJ2_add_17 : decode cJ2_add 17 = .ok (.getfield 48, 3) := by decide +kernel
theorem dJ2_add_20 : decode cJ2_add 20 = .ok (.invokevirtual 131, 3) := by decide +kernel
theorem dJ2_add_23 : decode cJ2_add 23 = .ok (.iconst 1, 1) := by decide +kernel
theorem dJ2_add_24 : decode cJ2_add 24 = .ok (.ireturn, 1) := by decide +kernel
abbrev cJ2_add_2 : ByteArray := prog_37_method_24_code
def yJ2_add_2 : MethodName := ⟨RJ2, "add", "(Ljava/lang/Object;[Ljava/lang/Object;I)V"⟩
theorem dJ2_add_2_0 : decode cJ2_add_2 0 = .ok (.iload_n 3, 1) := by decide +kernel
theorem dJ2_add_2_1 : decode cJ2_add_2 1 = .ok (.aload_n 2, 1) := by decide +kernel
theorem dJ2_add_2_2 : decode cJ2_add_2 2 = .ok (.arraylength, 1) := by decide +kernel
theorem dJ2_add_2_3 : decode cJ2_add_2 3 = .ok (.if_icmp .ne 8, 3) := by decide +kernel
theorem dJ2_add_2_6 : decode cJ2_add_2 6 = .ok (.aload_n 0, 1) := by decide +kernel
theorem dJ2_add_2_7 : decode cJ2_add_2 7 = .ok (.invokevirtual 129, 3) := by decide +kernel
theorem dJ2_add_2_10 : decode cJ2_add_2 10 = .ok (.astore_n 2, 1) := by decide +kernel
theorem dJ2_add_2_11 : decode cJ2_add_2 11 = .ok (.aload_n 2, 1) := by decide +kernel
theorem dJ2_add_2_12 : decode cJ2_add_2 12 = .ok (.iload_n 3, 1) := by decide +kernel
theorem dJ2_add_2_13 : decode cJ2_add_2 13 = .ok (.aload_n 1, 1) := by decide +kernel
theorem dJ2_add_2_14 : decode cJ2_add_2 14 = .ok (.aastore, 1) := by decide +kernel
theorem dJ2_add_2_15 : decode cJ2_add_2 15 = .ok (.aload_n 0, 1) := by decide +kernel
theorem dJ2_add_2_16 : decode cJ2_add_2 16 = .ok (.iload_n 3, 1) := by decide +kernel
theorem dJ2_add_2_17 : decode cJ2_add_2 17 = .ok (.iconst 1, 1) := by decide +kernel
theorem dJ2_add_2_18 : decode cJ2_add_2 18 = .ok (.iadd, 1) := by decide +kernel
theorem dJ2_add_2_19 : decode cJ2_add_2 19 = .ok (.putfield 48, 3) := by decide +kernel
theorem dJ2_add_2_22 : decode cJ2_add_2 22 = .ok (.return_, 1) := by decide +kernel
abbrev cJ2_grow : ByteArray := prog_37_method_7_code
def yJ2_grow : MethodName := ⟨RJ2, "grow", "()[Ljava/lang/Object;"⟩
theorem dJ2_grow_0 : decode cJ2_grow 0 = .ok (.aload_n 0, 1) := by decide +kernel
theorem dJ2_grow_1 : decode cJ2_grow 1 = .ok (.aload_n 0, 1) := by decide +kernel
theorem dJ2_grow_2 : decode cJ2_grow 2 = .ok (.getfield 48, 3) := by decide +kernel
theorem dJ2_grow_5 : decode cJ2_grow 5 = .ok (.iconst 1, 1) := by decide +kernel
theorem dJ2_grow_6 : decode cJ2_grow 6 = .ok (.iadd, 1) := by decide +kernel
theorem dJ2_grow_7 : decode cJ2_grow 7 = .ok (.invokevirtual 69, 3) := by decide +kernel
theorem dJ2_grow_10 : decode cJ2_grow 10 = .ok (.areturn, 1) := by decide +kernel
abbrev cJ2_grow_2 : ByteArray := prog_37_method_6_code
def yJ2_grow_2 : MethodName := ⟨RJ2, "grow", "(I)[Ljava/lang/Object;"⟩
theorem dJ2_grow_2_0 : decode cJ2_grow_2 0 = .ok (.aload_n 0, 1) := by decide +kernel
theorem dJ2_grow_2_1 : decode cJ2_grow_2 1 = .ok (.getfield 9, 3) := by decide +kernel
theorem dJ2_grow_2_4 : decode cJ2_grow_2 4 = .ok (.arraylength, 1) := by decide +kernel
theorem dJ2_grow_2_5 : decode cJ2_grow_2 5 = .ok (.istore_n 2, 1) := by decide +kernel
theorem dJ2_grow_2_6 : decode cJ2_grow_2 6 = .ok (.iload_n 2, 1) := by decide +kernel
theorem dJ2_grow_2_7 : decode cJ2_grow_2 7 = .ok (.ifCond .gt 13, 3) := by decide +kernel
theorem dJ2_grow_2_10 : decode cJ2_grow_2 10 = .ok (.aload_n 0, 1) := by decide +kernel
theorem dJ2_grow_2_11 : decode cJ2_grow_2 11 = .ok (.getfield 9, 3) := by decide +kernel
theorem dJ2_grow_2_14 : decode cJ2_grow_2 14 = .ok (.getstatic 39, 3) := by decide +kernel
theorem dJ2_grow_2_17 : decode cJ2_grow_2 17 = .ok (.if_acmp .eq 28, 3) := by decide +kernel
theorem dJ2_grow_2_20 : decode cJ2_grow_2 20 = .ok (.iload_n 2, 1) := by decide +kernel
theorem dJ2_grow_2_21 : decode cJ2_grow_2 21 = .ok (.iload_n 1, 1) := by decide +kernel
theorem dJ2_grow_2_22 : decode cJ2_grow_2 22 = .ok (.iload_n 2, 1) := by decide +kernel
theorem dJ2_grow_2_23 : decode cJ2_grow_2 23 = .ok (.isub, 1) := by decide +kernel
theorem dJ2_grow_2_24 : decode cJ2_grow_2 24 = .ok (.iload_n 2, 1) := by decide +kernel
theorem dJ2_grow_2_25 : decode cJ2_grow_2 25 = .ok (.iconst 1, 1) := by decide +kernel
theorem dJ2_grow_2_26 : decode cJ2_grow_2 26 = .ok (.ishr, 1) := by decide +kernel
theorem dJ2_grow_2_27 : decode cJ2_grow_2 27 = .ok (.invokestatic 73, 3) := by decide +kernel
theorem dJ2_grow_2_30 : decode cJ2_grow_2 30 = .ok (.istore_n 3, 1) := by decide +kernel
theorem dJ2_grow_2_31 : decode cJ2_grow_2 31 = .ok (.aload_n 0, 1) := by decide +kernel
theorem dJ2_grow_2_32 : decode cJ2_grow_2 32 = .ok (.aload_n 0, 1) := by decide +kernel
theorem dJ2_grow_2_33 : decode cJ2_grow_2 33 = .ok (.getfield 9, 3) := by decide +kernel
theorem dJ2_grow_2_36 : decode cJ2_grow_2 36 = .ok (.iload_n 3, 1) := by decide +kernel
theorem dJ2_grow_2_37 : decode cJ2_grow_2 37 = .ok (.invokestatic 66, 3) := by decide +kernel
theorem dJ2_grow_2_40 : decode cJ2_grow_2 40 = .ok (.dup_x1, 1) := by decide +kernel
theorem dJ2_grow_2_41 : decode cJ2_grow_2 41 = .ok (.putfield 9, 3) := by decide +kernel
theorem dJ2_grow_2_44 : decode cJ2_grow_2 44 = .ok (.areturn, 1) := by decide +kernel
theorem dJ2_grow_2_45 : decode cJ2_grow_2 45 = .ok (.aload_n 0, 1) := by decide +kernel
theorem dJ2_grow_2_46 : decode cJ2_grow_2 46 = .ok (.bipush 10, 2) := by decide +kernel
theorem dJ2_grow_2_48 : decode cJ2_grow_2 48 = .ok (.iload_n 1, 1) := by decide +kernel
theorem dJ2_grow_2_49 : decode cJ2_grow_2 49 = .ok (.invokestatic 79, 3) := by decide +kernel
theorem dJ2_grow_2_52 : decode cJ2_grow_2 52 = .ok (.anewarray 7, 3) := by decide +kernel
theorem dJ2_grow_2_55 : decode cJ2_grow_2 55 = .ok (.dup_x1, 1) := by decide +kernel
theorem dJ2_grow_2_56 : decode cJ2_grow_2 56 = .ok (.putfield 9, 3) := by decide +kernel
theorem dJ2_grow_2_59 : decode cJ2_grow_2 59 = .ok (.areturn, 1) := by decide +kernel
abbrev cJ2_get : ByteArray := prog_37_method_20_code
def yJ2_get : MethodName := ⟨RJ2, "get", "(I)Ljava/lang/Object;"⟩
theorem dJ2_get_0 : decode cJ2_get 0 = .ok (.iload_n 1, 1) := by decide +kernel
theorem dJ2_get_1 : decode cJ2_get 1 = .ok (.aload_n 0, 1) := by decide +kernel
theorem dJ2_get_2 : decode cJ2_get 2 = .ok (.getfield 48, 3) := by decide +kernel
theorem dJ2_get_5 : decode cJ2_get 5 = .ok (.invokestatic 118, 3) := by decide +kernel
theorem dJ2_get_8 : decode cJ2_get 8 = .ok (.pop, 1) := by decide +kernel
theorem dJ2_get_9 : decode cJ2_get 9 = .ok (.aload_n 0, 1) := by decide +kernel
theorem dJ2_get_10 : decode cJ2_get 10 = .ok (.iload_n 1, 1) := by decide +kernel
theorem dJ2_get_11 : decode cJ2_get 11 = .ok (.invokevirtual 123, 3) := by decide +kernel
theorem dJ2_get_14 : decode cJ2_get 14 = .ok (.areturn, 1) := by decide +kernel
abbrev cJ2_elementData : ByteArray := prog_37_method_18_code
def yJ2_elementData : MethodName := ⟨RJ2, "elementData", "(I)Ljava/lang/Object;"⟩
theorem dJ2_elementData_0 : decode cJ2_elementData 0 = .ok (.aload_n 0, 1) := by decide +kernel
theorem dJ2_elementData_1 : decode cJ2_elementData 1 = .ok (.getfield 9, 3) := by decide +kernel
theorem dJ2_elementData_4 : decode cJ2_elementData 4 = .ok (.iload_n 1, 1) := by decide +kernel
theorem dJ2_elementData_5 : decode cJ2_elementData 5 = .ok (.aaload, 1) := by decide +kernel
theorem dJ2_elementData_6 : decode cJ2_elementData 6 = .ok (.areturn, 1) := by decide +kernel
theorem q93 : (Jvm.Cond.initialized "java/util/ArrayList") ∈ lw_all := lw_g (lw_at lw_m1 8 rfl) rfl
theorem q399 : (Jvm.Cond.instantiable "java/util/ArrayList" (3 : Nat)) ∈ lw_all := lw_g (lw_at lw_m2 74 rfl) rfl
theorem q401 : (Jvm.Cond.instanceMethod ({ cls := "java/util/ArrayList", name := "<init>", desc := "(I)V" } : Jvm.MethodName)) ∈ lw_all := lw_g (lw_at lw_m2 76 rfl) rfl
theorem q402 : (Jvm.Cond.code ({ cls := "java/util/ArrayList", name := "<init>", desc := "(I)V" } : Jvm.MethodName) prog_37_method_1_code (2 : Nat) (Option.none : Option Jvm.ClassFile.FieldType)) ∈ lw_all := lw_g (lw_at lw_m2 77 rfl) rfl
theorem q403 : (Jvm.Cond.methodLink "java/util/ArrayList" (1 : Nat) ({ cls := "java/util/AbstractList", name := "<init>", desc := "()V" } : Jvm.MethodName)) ∈ lw_all := lw_g (lw_at lw_m2 78 rfl) rfl
theorem q410 : (Jvm.Cond.classLink "java/util/ArrayList" (7 : Nat) "java/lang/Object") ∈ lw_all := lw_g (lw_at lw_m2 85 rfl) rfl
theorem q412 : (Jvm.Cond.fieldLink "java/util/ArrayList" (15 : Nat) "java/util/ArrayList" "EMPTY_ELEMENTDATA" "[Ljava/lang/Object;") ∈ lw_all := lw_g (lw_at lw_m2 87 rfl) rfl
theorem q413 : (Jvm.Cond.laysStatic "java/util/ArrayList" "EMPTY_ELEMENTDATA" "[Ljava/lang/Object;") ∈ lw_tbl := lw_at lw_m2 88 rfl
theorem q414 : (Jvm.Cond.fieldLink "java/util/ArrayList" (9 : Nat) "java/util/ArrayList" "elementData" "[Ljava/lang/Object;") ∈ lw_all := lw_g (lw_at lw_m2 89 rfl) rfl
theorem q415 : (Jvm.Cond.fieldLink "java/util/ArrayList" (48 : Nat) "java/util/ArrayList" "size" "I") ∈ lw_all := lw_g (lw_at lw_m2 90 rfl) rfl
theorem q417 : (Jvm.Cond.fieldLink "java/util/ArrayList" (63 : Nat) "java/util/ArrayList" "modCount" "I") ∈ lw_all := lw_g (lw_at lw_m2 92 rfl) rfl
theorem q418 : (Jvm.Cond.sameField "java/util/ArrayList" "java/util/AbstractList" "modCount" "I") ∈ lw_all := lw_g (lw_at lw_m2 93 rfl) rfl
theorem q419 : (Jvm.Cond.lays "java/util/ArrayList" "java/util/ArrayList" "elementData" "[Ljava/lang/Object;") ∈ lw_all := lw_g (lw_at lw_m2 94 rfl) rfl
theorem q420 : (Jvm.Cond.soleField "java/util/ArrayList" "elementData") ∈ lw_all := lw_g (lw_at lw_m2 95 rfl) rfl
theorem q421 : (Jvm.Cond.lays "java/util/ArrayList" "java/util/ArrayList" "size" "I") ∈ lw_all := lw_g (lw_at lw_m2 96 rfl) rfl
theorem q422 : (Jvm.Cond.soleField "java/util/ArrayList" "size") ∈ lw_all := lw_g (lw_at lw_m2 97 rfl) rfl
theorem q423 : (Jvm.Cond.lays "java/util/ArrayList" "java/util/AbstractList" "modCount" "I") ∈ lw_all := lw_g (lw_at lw_m2 98 rfl) rfl
theorem q425 : (Jvm.Cond.superclass "java/util/ArrayList" "java/util/AbstractList") ∈ lw_all := lw_g (lw_at lw_m2 100 rfl) rfl
theorem q633 : (Jvm.Cond.instanceMethod ({ cls := "java/util/ArrayList", name := "<init>", desc := "()V" } : Jvm.MethodName)) ∈ lw_all := lw_g (lw_at lw_m3 68 rfl) rfl
theorem q634 : (Jvm.Cond.code ({ cls := "java/util/ArrayList", name := "<init>", desc := "()V" } : Jvm.MethodName) prog_37_method_2_code (1 : Nat) (Option.none : Option Jvm.ClassFile.FieldType)) ∈ lw_all := lw_g (lw_at lw_m3 69 rfl) rfl
theorem q635 : (Jvm.Cond.fieldLink "java/util/ArrayList" (39 : Nat) "java/util/ArrayList" "DEFAULTCAPACITY_EMPTY_ELEMENTDATA" "[Ljava/lang/Object;") ∈ lw_all := lw_g (lw_at lw_m3 70 rfl) rfl
theorem q636 : (Jvm.Cond.laysStatic "java/util/ArrayList" "DEFAULTCAPACITY_EMPTY_ELEMENTDATA" "[Ljava/lang/Object;") ∈ lw_tbl := lw_at lw_m3 71 rfl
theorem q835 : (Jvm.Cond.instanceMethod ({ cls := "java/util/ArrayList", name := "size", desc := "()I" } : Jvm.MethodName)) ∈ lw_all := lw_g (lw_at lw_m4 30 rfl) rfl
theorem q836 : (Jvm.Cond.selects "java/util/ArrayList" ({ cls := "java/util/ArrayList", name := "size", desc := "()I" } : Jvm.MethodName) ({ cls := "java/util/ArrayList", name := "size", desc := "()I" } : Jvm.MethodName)) ∈ lw_all := lw_g (lw_at lw_m4 31 rfl) rfl
theorem q837 : (Jvm.Cond.code ({ cls := "java/util/ArrayList", name := "size", desc := "()I" } : Jvm.MethodName) prog_37_method_8_code (1 : Nat) (Option.some Jvm.ClassFile.FieldType.int)) ∈ lw_all := lw_g (lw_at lw_m4 32 rfl) rfl
theorem q948 : (Jvm.Cond.instanceMethod ({ cls := "java/util/ArrayList", name := "add", desc := "(Ljava/lang/Object;)Z" } : Jvm.MethodName)) ∈ lw_all := lw_g (lw_at lw_m4 143 rfl) rfl
theorem q949 : (Jvm.Cond.selects "java/util/ArrayList" ({ cls := "java/util/ArrayList", name := "add", desc := "(Ljava/lang/Object;)Z" } : Jvm.MethodName) ({ cls := "java/util/ArrayList", name := "add", desc := "(Ljava/lang/Object;)Z" } : Jvm.MethodName)) ∈ lw_all := lw_g (lw_at lw_m4 144 rfl) rfl
theorem q950 : (Jvm.Cond.code ({ cls := "java/util/ArrayList", name := "add", desc := "(Ljava/lang/Object;)Z" } : Jvm.MethodName) prog_37_method_25_code (2 : Nat) (Option.some Jvm.ClassFile.FieldType.boolean)) ∈ lw_all := lw_g (lw_at lw_m4 145 rfl) rfl
theorem q951 : (Jvm.Cond.methodLink "java/util/ArrayList" (131 : Nat) ({ cls := "java/util/ArrayList", name := "add", desc := "(Ljava/lang/Object;[Ljava/lang/Object;I)V" } : Jvm.MethodName)) ∈ lw_all := lw_g (lw_at lw_m4 146 rfl) rfl
theorem q952 : (Jvm.Cond.privateMethod ({ cls := "java/util/ArrayList", name := "add", desc := "(Ljava/lang/Object;[Ljava/lang/Object;I)V" } : Jvm.MethodName)) ∈ lw_tbl := lw_at lw_m4 147 rfl
theorem q953 : (Jvm.Cond.instanceMethod ({ cls := "java/util/ArrayList", name := "add", desc := "(Ljava/lang/Object;[Ljava/lang/Object;I)V" } : Jvm.MethodName)) ∈ lw_all := lw_g (lw_at lw_m4 148 rfl) rfl
theorem q954 : (Jvm.Cond.code ({ cls := "java/util/ArrayList", name := "add", desc := "(Ljava/lang/Object;[Ljava/lang/Object;I)V" } : Jvm.MethodName) prog_37_method_24_code (4 : Nat) (Option.none : Option Jvm.ClassFile.FieldType)) ∈ lw_all := lw_g (lw_at lw_m4 149 rfl) rfl
theorem q955 : (Jvm.Cond.methodLink "java/util/ArrayList" (129 : Nat) ({ cls := "java/util/ArrayList", name := "grow", desc := "()[Ljava/lang/Object;" } : Jvm.MethodName)) ∈ lw_all := lw_g (lw_at lw_m4 150 rfl) rfl
theorem q956 : (Jvm.Cond.privateMethod ({ cls := "java/util/ArrayList", name := "grow", desc := "()[Ljava/lang/Object;" } : Jvm.MethodName)) ∈ lw_tbl := lw_at lw_m4 151 rfl
theorem q957 : (Jvm.Cond.instanceMethod ({ cls := "java/util/ArrayList", name := "grow", desc := "()[Ljava/lang/Object;" } : Jvm.MethodName)) ∈ lw_all := lw_g (lw_at lw_m4 152 rfl) rfl
theorem q958 : (Jvm.Cond.code ({ cls := "java/util/ArrayList", name := "grow", desc := "()[Ljava/lang/Object;" } : Jvm.MethodName) prog_37_method_7_code (1 : Nat) (Option.some (Jvm.ClassFile.FieldType.array (Jvm.ClassFile.FieldType.object "java/lang/Object")))) ∈ lw_all := lw_g (lw_at lw_m4 153 rfl) rfl
theorem q959 : (Jvm.Cond.methodLink "java/util/ArrayList" (69 : Nat) ({ cls := "java/util/ArrayList", name := "grow", desc := "(I)[Ljava/lang/Object;" } : Jvm.MethodName)) ∈ lw_all := lw_g (lw_at lw_m4 154 rfl) rfl
theorem q960 : (Jvm.Cond.privateMethod ({ cls := "java/util/ArrayList", name := "grow", desc := "(I)[Ljava/lang/Object;" } : Jvm.MethodName)) ∈ lw_tbl := lw_at lw_m4 155 rfl
theorem q961 : (Jvm.Cond.instanceMethod ({ cls := "java/util/ArrayList", name := "grow", desc := "(I)[Ljava/lang/Object;" } : Jvm.MethodName)) ∈ lw_all := lw_g (lw_at lw_m4 156 rfl) rfl
theorem q962 : (Jvm.Cond.code ({ cls := "java/util/ArrayList", name := "grow", desc := "(I)[Ljava/lang/Object;" } : Jvm.MethodName) prog_37_method_6_code (4 : Nat) (Option.some (Jvm.ClassFile.FieldType.array (Jvm.ClassFile.FieldType.object "java/lang/Object")))) ∈ lw_all := lw_g (lw_at lw_m4 157 rfl) rfl
theorem q963 : (Jvm.Cond.methodLink "java/util/ArrayList" (73 : Nat) ({ cls := "jdk/internal/util/ArraysSupport", name := "newLength", desc := "(III)I" } : Jvm.MethodName)) ∈ lw_all := lw_g (lw_at lw_m4 158 rfl) rfl
theorem q971 : (Jvm.Cond.methodLink "java/util/ArrayList" (66 : Nat) ({ cls := "java/util/Arrays", name := "copyOf", desc := "([Ljava/lang/Object;I)[Ljava/lang/Object;" } : Jvm.MethodName)) ∈ lw_all := lw_g (lw_at lw_m4 166 rfl) rfl
theorem q991 : (Jvm.Cond.selects "java/util/ArrayList" ({ cls := "java/lang/Object", name := "getClass", desc := "()Ljava/lang/Class;" } : Jvm.MethodName) ({ cls := "java/lang/Object", name := "getClass", desc := "()Ljava/lang/Class;" } : Jvm.MethodName)) ∈ lw_all := lw_g (lw_at lw_m4 186 rfl) rfl
theorem q1003 : (Jvm.Cond.methodLink "java/util/ArrayList" (79 : Nat) ({ cls := "java/lang/Math", name := "max", desc := "(II)I" } : Jvm.MethodName)) ∈ lw_all := lw_g (lw_at lw_m4 198 rfl) rfl
theorem q1030 : (Jvm.Cond.instanceMethod ({ cls := "java/util/ArrayList", name := "get", desc := "(I)Ljava/lang/Object;" } : Jvm.MethodName)) ∈ lw_all := lw_g (lw_at lw_m4 225 rfl) rfl
theorem q1031 : (Jvm.Cond.selects "java/util/ArrayList" ({ cls := "java/util/ArrayList", name := "get", desc := "(I)Ljava/lang/Object;" } : Jvm.MethodName) ({ cls := "java/util/ArrayList", name := "get", desc := "(I)Ljava/lang/Object;" } : Jvm.MethodName)) ∈ lw_all := lw_g (lw_at lw_m4 226 rfl) rfl
theorem q1032 : (Jvm.Cond.code ({ cls := "java/util/ArrayList", name := "get", desc := "(I)Ljava/lang/Object;" } : Jvm.MethodName) prog_37_method_20_code (2 : Nat) (Option.some (Jvm.ClassFile.FieldType.object "java/lang/Object"))) ∈ lw_all := lw_g (lw_at lw_m4 227 rfl) rfl
theorem q1033 : (Jvm.Cond.methodLink "java/util/ArrayList" (118 : Nat) ({ cls := "java/util/Objects", name := "checkIndex", desc := "(II)I" } : Jvm.MethodName)) ∈ lw_all := lw_g (lw_at lw_m4 228 rfl) rfl
theorem q1037 : (Jvm.Cond.methodLink "java/util/ArrayList" (123 : Nat) ({ cls := "java/util/ArrayList", name := "elementData", desc := "(I)Ljava/lang/Object;" } : Jvm.MethodName)) ∈ lw_all := lw_g (lw_at lw_m4 232 rfl) rfl
theorem q1038 : (Jvm.Cond.instanceMethod ({ cls := "java/util/ArrayList", name := "elementData", desc := "(I)Ljava/lang/Object;" } : Jvm.MethodName)) ∈ lw_all := lw_g (lw_at lw_m4 233 rfl) rfl
theorem q1039 : (Jvm.Cond.selects "java/util/ArrayList" ({ cls := "java/util/ArrayList", name := "elementData", desc := "(I)Ljava/lang/Object;" } : Jvm.MethodName) ({ cls := "java/util/ArrayList", name := "elementData", desc := "(I)Ljava/lang/Object;" } : Jvm.MethodName)) ∈ lw_all := lw_g (lw_at lw_m4 234 rfl) rfl
theorem q1040 : (Jvm.Cond.code ({ cls := "java/util/ArrayList", name := "elementData", desc := "(I)Ljava/lang/Object;" } : Jvm.MethodName) prog_37_method_18_code (2 : Nat) (Option.some (Jvm.ClassFile.FieldType.object "java/lang/Object"))) ∈ lw_all := lw_g (lw_at lw_m4 235 rfl) rfl
theorem q1816 : (Jvm.Cond.castable "java/util/ArrayList" "java/lang/Object") ∈ lw_tbl := lw_at lw_m8 51 rfl
theorem in_J2 : ∀ w ∈ wsJ20, w ∈ lw_all := lw_in wsJ20 [423, 419, 421] (by decide +kernel) (by decide +kernel)
/-! java/lang/Integer -/
set_option maxRecDepth 100000
def RJ3 : String := "java/lang/Integer"
abbrev cJ3_bitCount : ByteArray := prog_24_method_49_code
def yJ3_bitCount : MethodName := ⟨RJ3, "bitCount", "(I)I"⟩
theorem dJ3_bitCount_0 : decode cJ3_bitCount 0 = .ok (.iload_n 0, 1) := by decide +kernel
theorem dJ3_bitCount_1 : decode cJ3_bitCount 1 = .ok (.iload_n 0, 1) := by decide +kernel
theorem dJ3_bitCount_2 : decode cJ3_bitCount 2 = .ok (.iconst 1, 1) := by decide +kernel
theorem dJ3_bitCount_3 : decode cJ3_bitCount 3 = .ok (.iushr, 1) := by decide +kernel
theorem dJ3_bitCount_4 : decode cJ3_bitCount 4 = .ok (.ldc_w 265, 3) := by decide +kernel
theorem dJ3_bitCount_7 : decode cJ3_bitCount 7 = .ok (.iand, 1) := by decide +kernel
theorem dJ3_bitCount_8 : decode cJ3_bitCount 8 = .ok (.isub, 1) := by decide +kernel
theorem dJ3_bitCount_9 : decode cJ3_bitCount 9 = .ok (.istore_n 0, 1) := by decide +kernel
theorem dJ3_bitCount_10 : decode cJ3_bitCount 10 = .ok (.iload_n 0, 1) := by decide +kernel
theorem dJ3_bitCount_11 : decode cJ3_bitCount 11 = .ok (.ldc_w 266, 3) := by decide +kernel
theorem dJ3_bitCount_14 : decode cJ3_bitCount 14 = .ok (.iand, 1) := by decide +kernel
theorem dJ3_bitCount_15 : decode cJ3_bitCount 15 = .ok (.iload_n 0, 1) := by decide +kernel
theorem dJ3_bitCount_16 : decode cJ3_bitCount 16 = .ok (.iconst 2, 1) := by decide +kernel
theorem dJ3_bitCount_17 : decode cJ3_bitCount 17 = .ok (.iushr, 1) := by decide +kernel
theorem dJ3_bitCount_18 : decode cJ3_bitCount 18 = .ok (.ldc_w 266, 3) := by decide +kernel
theorem dJ3_bitCount_21 : decode cJ3_bitCount 21 = .ok (.iand, 1) := by decide +kernel
theorem dJ3_bitCount_22 : decode cJ3_bitCount 22 = .ok (.iadd, 1) := by decide +kernel
theorem dJ3_bitCount_23 : decode cJ3_bitCount 23 = .ok (.istore_n 0, 1) := by decide +kernel
theorem dJ3_bitCount_24 : decode cJ3_bitCount 24 = .ok (.iload_n 0, 1) := by decide +kernel
theorem dJ3_bitCount_25 : decode cJ3_bitCount 25 = .ok (.iload_n 0, 1) := by decide +kernel
theorem dJ3_bitCount_26 : decode cJ3_bitCount 26 = .ok (.iconst 4, 1) := by decide +kernel
theorem dJ3_bitCount_27 : decode cJ3_bitCount 27 = .ok (.iushr, 1) := by decide +kernel
theorem dJ3_bitCount_28 : decode cJ3_bitCount 28 = .ok (.iadd, 1) := by decide +kernel
theorem dJ3_bitCount_29 : decode cJ3_bitCount 29 = .ok (.ldc_w 267, 3) := by decide +kernel
theorem dJ3_bitCount_32 : decode cJ3_bitCount 32 = .ok (.iand, 1) := by decide +kernel
theorem dJ3_bitCount_33 : decode cJ3_bitCount 33 = .ok (.istore_n 0, 1) := by decide +kernel
theorem dJ3_bitCount_34 : decode cJ3_bitCount 34 = .ok (.iload_n 0, 1) := by decide +kernel
theorem dJ3_bitCount_35 : decode cJ3_bitCount 35 = .ok (.iload_n 0, 1) := by decide +kernel
theorem dJ3_bitCount_36 : decode cJ3_bitCount 36 = .ok (.bipush 8, 2) := by decide +kernel
theorem dJ3_bitCount_38 : decode cJ3_bitCount 38 = .ok (.iushr, 1) := by decide +kernel
theorem dJ3_bitCount_39 : decode cJ3_bitCount 39 = .ok (.iadd, 1) := by decide +kernel
theorem dJ3_bitCount_40 : decode cJ3_bitCount 40 = .ok (.istore_n 0, 1) := by decide +kernel
theorem dJ3_bitCount_41 : decode cJ3_bitCount 41 = .ok (.iload_n 0, 1) := by decide +kernel
theorem dJ3_bitCount_42 : decode cJ3_bitCount 42 = .ok (.iload_n 0, 1) := by decide +kernel
theorem dJ3_bitCount_43 : decode cJ3_bitCount 43 = .ok (.bipush 16, 2) := by decide +kernel
theorem dJ3_bitCount_45 : decode cJ3_bitCount 45 = .ok (.iushr, 1) := by decide +kernel
theorem dJ3_bitCount_46 : decode cJ3_bitCount 46 = .ok (.iadd, 1) := by decide +kernel
theorem dJ3_bitCount_47 : decode cJ3_bitCount 47 = .ok (.istore_n 0, 1) := by decide +kernel
theorem dJ3_bitCount_48 : decode cJ3_bitCount 48 = .ok (.iload_n 0, 1) := by decide +kernel
theorem dJ3_bitCount_49 : decode cJ3_bitCount 49 = .ok (.bipush 63, 2) := by decide +kernel
theorem dJ3_bitCount_51 : decode cJ3_bitCount 51 = .ok (.iand, 1) := by decide +kernel
theorem dJ3_bitCount_52 : decode cJ3_bitCount 52 = .ok (.ireturn, 1) := by decide +kernel
abbrev cJ3_numberOfTrailingZeros : ByteArray := prog_24_method_48_code
def yJ3_numberOfTrailingZeros : MethodName := ⟨RJ3, "numberOfTrailingZeros", "(I)I"⟩
theorem dJ3_numberOfTrailingZeros_0 : decode cJ3_numberOfTrailingZeros 0 = .ok (.iload_n 0, 1) := by decide +kernel
theorem dJ3_numberOfTrailingZeros_1 : decode cJ3_numberOfTrailingZeros 1 = .ok (.iconst (-1), 1) := by decide +kernel
theorem dJ3_numberOfTrailingZeros_2 : decode cJ3_numberOfTrailingZeros 2 = .ok (.ixor, 1) := by decide +kernel
theorem dJ3_numberOfTrailingZeros_3 : decode cJ3_numberOfTrailingZeros 3 = .ok (.iload_n 0, 1) := by decide +kernel
theorem dJ3_numberOfTrailingZeros_4 : decode cJ3_numberOfTrailingZeros 4 = .ok (.iconst 1, 1) := by decide +kernel
theorem dJ3_numberOfTrailingZeros_5 : decode cJ3_numberOfTrailingZeros 5 = .ok (.isub, 1) := by decide +kernel
theorem dJ3_numberOfTrailingZeros_6 : decode cJ3_numberOfTrailingZeros 6 = .ok (.iand, 1) := by decide +kernel
theorem dJ3_numberOfTrailingZeros_7 : decode cJ3_numberOfTrailingZeros 7 = .ok (.istore_n 0, 1) := by decide +kernel
theorem dJ3_numberOfTrailingZeros_8 : decode cJ3_numberOfTrailingZeros 8 = .ok (.iload_n 0, 1) := by decide +kernel
theorem dJ3_numberOfTrailingZeros_9 : decode cJ3_numberOfTrailingZeros 9 = .ok (.ifCond .gt 8, 3) := by decide +kernel
theorem dJ3_numberOfTrailingZeros_12 : decode cJ3_numberOfTrailingZeros 12 = .ok (.iload_n 0, 1) := by decide +kernel
theorem dJ3_numberOfTrailingZeros_13 : decode cJ3_numberOfTrailingZeros 13 = .ok (.bipush 32, 2) := by decide +kernel
theorem dJ3_numberOfTrailingZeros_15 : decode cJ3_numberOfTrailingZeros 15 = .ok (.iand, 1) := by decide +kernel
theorem dJ3_numberOfTrailingZeros_16 : decode cJ3_numberOfTrailingZeros 16 = .ok (.ireturn, 1) := by decide +kernel
theorem dJ3_numberOfTrailingZeros_17 : decode cJ3_numberOfTrailingZeros 17 = .ok (.iconst 1, 1) := by decide +kernel
theorem dJ3_numberOfTrailingZeros_18 : decode cJ3_numberOfTrailingZeros 18 = .ok (.istore_n 1, 1) := by decide +kernel
theorem dJ3_numberOfTrailingZeros_19 : decode cJ3_numberOfTrailingZeros 19 = .ok (.iload_n 0, 1) := by decide +kernel
theorem dJ3_numberOfTrailingZeros_20 : decode cJ3_numberOfTrailingZeros 20 = .ok (.ldc_w 264, 3) := by decide +kernel
theorem dJ3_numberOfTrailingZeros_23 : decode cJ3_numberOfTrailingZeros 23 = .ok (.if_icmp .le 11, 3) := by decide +kernel
theorem dJ3_numberOfTrailingZeros_26 : decode cJ3_numberOfTrailingZeros 26 = .ok (.iinc 1 16, 3) := by decide +kernel
theorem dJ3_numberOfTrailingZeros_29 : decode cJ3_numberOfTrailingZeros 29 = .ok (.iload_n 0, 1) := by decide +kernel
theorem dJ3_numberOfTrailingZeros_30 : decode cJ3_numberOfTrailingZeros 30 = .ok (.bipush 16, 2) := by decide +kernel
theorem dJ3_numberOfTrailingZeros_32 : decode cJ3_numberOfTrailingZeros 32 = .ok (.iushr, 1) := by decide +kernel
theorem dJ3_numberOfTrailingZeros_33 : decode cJ3_numberOfTrailingZeros 33 = .ok (.istore_n 0, 1) := by decide +kernel
theorem dJ3_numberOfTrailingZeros_34 : decode cJ3_numberOfTrailingZeros 34 = .ok (.iload_n 0, 1) := by decide +kernel
theorem dJ3_numberOfTrailingZeros_35 : decode cJ3_numberOfTrailingZeros 35 = .ok (.sipush 256, 3) := by decide +kernel
theorem dJ3_numberOfTrailingZeros_38 : decode cJ3_numberOfTrailingZeros 38 = .ok (.if_icmp .le 11, 3) := by decide +kernel
theorem dJ3_numberOfTrailingZeros_41 : decode cJ3_numberOfTrailingZeros 41 = .ok (.iinc 1 8, 3) := by decide +kernel
theorem dJ3_numberOfTrailingZeros_44 : decode cJ3_numberOfTrailingZeros 44 = .ok (.iload_n 0, 1) := by decide +kernel
theorem dJ3_numberOfTrailingZeros_45 : decode cJ3_numberOfTrailingZeros 45 = .ok (.bipush 8, 2) := by decide +kernel
theorem dJ3_numberOfTrailingZeros_47 : decode cJ3_numberOfTrailingZeros 47 = .ok (.iushr, 1) := by decide +kernel
theorem dJ3_numberOfTrailingZeros_48 : decode cJ3_numberOfTrailingZeros 48 = .ok (.istore_n 0, 1) := by decide +kernel
theorem dJ3_numberOfTrailingZeros_49 : decode cJ3_numberOfTrailingZeros 49 = .ok (.iload_n 0, 1) := by decide +kernel
theorem dJ3_numberOfTrailingZeros_50 : decode cJ3_numberOfTrailingZeros 50 = .ok (.bipush 16, 2) := by decide +kernel
theorem dJ3_numberOfTrailingZeros_52 : decode cJ3_numberOfTrailingZeros 52 = .ok (.if_icmp .le 10, 3) := by decide +kernel
theorem dJ3_numberOfTrailingZeros_55 : decode cJ3_numberOfTrailingZeros 55 = .ok (.iinc 1 4, 3) := by decide +kernel
theorem dJ3_numberOfTrailingZeros_58 : decode cJ3_numberOfTrailingZeros 58 = .ok (.iload_n 0, 1) := by decide +kernel
theorem dJ3_numberOfTrailingZeros_59 : decode cJ3_numberOfTrailingZeros 59 = .ok (.iconst 4, 1) := by decide +kernel
theorem dJ3_numberOfTrailingZeros_60 : decode cJ3_numberOfTrailingZeros 60 = .ok (.iushr, 1) := by decide +kernel
theorem dJ3_numberOfTrailingZeros_61 : decode cJ3_numberOfTrailingZeros 61 = .ok (.istore_n 0, 1) := by decide +kernel
theorem dJ3_numberOfTrailingZeros_62 : decode cJ3_numberOfTrailingZeros 62 = .ok (.iload_n 0, 1) := by decide +kernel
theorem dJ3_numberOfTrailingZeros_63 : decode cJ3_numberOfTrailingZeros 63 = .ok (.iconst 4, 1) := by decide +kernel
theorem dJ3_numberOfTrailingZeros_64 : decode cJ3_numberOfTrailingZeros 64 = .ok (.if_icmp .le 10, 3) := by decide +kernel
theorem dJ3_numberOfTrailingZeros_67 : decode cJ3_numberOfTrailingZeros 67 = .ok (.iinc 1 2, 3) := by decide +kernel
theorem dJ3_numberOfTrailingZeros_70 : decode cJ3_numberOfTrailingZeros 70 = .ok (.iload_n 0, 1) := by decide +kernel
theorem dJ3_numberOfTrailingZeros_71 : decode cJ3_numberOfTrailingZeros 71 = .ok (.iconst 2, 1) := by decide +kernel
theorem dJ3_numberOfTrailingZeros_72 : decode cJ3_numberOfTrailingZeros 72 = .ok (.iushr, 1) := by decide +kernel
theorem dJ3_numberOfTrailingZeros_73 : decode cJ3_numberOfTrailingZeros 73 = .ok (.istore_n 0, 1) := by decide +kernel
theorem dJ3_numberOfTrailingZeros_74 : decode cJ3_numberOfTrailingZeros 74 = .ok (.iload_n 1, 1) := by decide +kernel
theorem dJ3_numberOfTrailingZeros_75 : decode cJ3_numberOfTrailingZeros 75 = .ok (.iload_n 0, 1) := by decide +kernel
theorem dJ3_numberOfTrailingZeros_76 : decode cJ3_numberOfTrailingZeros 76 = .ok (.iconst 1, 1) := by decide +kernel
theorem dJ3_numberOfTrailingZeros_77 : decode cJ3_numberOfTrailingZeros 77 = .ok (.iushr, 1) := by decide +kernel
theorem dJ3_numberOfTrailingZeros_78 : decode cJ3_numberOfTrailingZeros 78 = .ok (.iadd, 1) := by decide +kernel
theorem dJ3_numberOfTrailingZeros_79 : decode cJ3_numberOfTrailingZeros 79 = .ok (.ireturn, 1) := by decide +kernel
theorem q95 : (Jvm.Cond.initialized "java/lang/Integer") ∈ lw_all := lw_g (lw_at lw_m1 10 rfl) rfl
theorem q518 : (Jvm.Cond.static ({ cls := "java/lang/Integer", name := "bitCount", desc := "(I)I" } : Jvm.MethodName)) ∈ lw_all := lw_g (lw_at lw_m2 193 rfl) rfl
theorem q519 : (Jvm.Cond.code ({ cls := "java/lang/Integer", name := "bitCount", desc := "(I)I" } : Jvm.MethodName) prog_24_method_49_code (1 : Nat) (Option.some Jvm.ClassFile.FieldType.int)) ∈ lw_all := lw_g (lw_at lw_m2 194 rfl) rfl
theorem q520 : (Jvm.Cond.constant "java/lang/Integer" (265 : Nat) (1431655765 : Int32)) ∈ lw_all := lw_g (lw_at lw_m2 195 rfl) rfl
theorem q521 : (Jvm.Cond.constant "java/lang/Integer" (266 : Nat) (858993459 : Int32)) ∈ lw_all := lw_g (lw_at lw_m2 196 rfl) rfl
theorem q522 : (Jvm.Cond.constant "java/lang/Integer" (267 : Nat) (252645135 : Int32)) ∈ lw_all := lw_g (lw_at lw_m2 197 rfl) rfl
theorem q524 : (Jvm.Cond.static ({ cls := "java/lang/Integer", name := "numberOfTrailingZeros", desc := "(I)I" } : Jvm.MethodName)) ∈ lw_all := lw_g (lw_at lw_m2 199 rfl) rfl
theorem q525 : (Jvm.Cond.code ({ cls := "java/lang/Integer", name := "numberOfTrailingZeros", desc := "(I)I" } : Jvm.MethodName) prog_24_method_48_code (2 : Nat) (Option.some Jvm.ClassFile.FieldType.int)) ∈ lw_all := lw_g (lw_at lw_m2 200 rfl) rfl
theorem q526 : (Jvm.Cond.constant "java/lang/Integer" (264 : Nat) (65536 : Int32)) ∈ lw_all := lw_g (lw_at lw_m2 201 rfl) rfl
/-! java/lang/Math -/
set_option maxRecDepth 100000
def RJ4 : String := "java/lang/Math"
abbrev cJ4_min : ByteArray := prog_26_method_70_code
def yJ4_min : MethodName := ⟨RJ4, "min", "(JJ)J"⟩
theorem dJ4_min_0 : decode cJ4_min 0 = .ok (.lload_n 0, 1) := by decide +kernel
theorem dJ4_min_1 : decode cJ4_min 1 = .ok (.lload_n 2, 1) := by decide +kernel
theorem dJ4_min_2 : decode cJ4_min 2 = .ok (.lcmp, 1) := by decide +kernel
theorem dJ4_min_3 : decode cJ4_min 3 = .ok (.ifCond .gt 7, 3) := by decide +kernel
theorem dJ4_min_6 : decode cJ4_min 6 = .ok (.lload_n 0, 1) := by decide +kernel
theorem dJ4_min_7 : decode cJ4_min 7 = .ok (.goto 4, 3) := by decide +kernel
theorem dJ4_min_10 : decode cJ4_min 10 = .ok (.lload_n 2, 1) := by decide +kernel
theorem dJ4_min_11 : decode cJ4_min 11 = .ok (.lreturn, 1) := by decide +kernel
abbrev cJ4_max : ByteArray := prog_26_method_66_code
def yJ4_max : MethodName := ⟨RJ4, "max", "(JJ)J"⟩
theorem dJ4_max_0 : decode cJ4_max 0 = .ok (.lload_n 0, 1) := by decide +kernel
theorem dJ4_max_1 : decode cJ4_max 1 = .ok (.lload_n 2, 1) := by decide +kernel
theorem dJ4_max_2 : decode cJ4_max 2 = .ok (.lcmp, 1) := by decide +kernel
theorem dJ4_max_3 : decode cJ4_max 3 = .ok (.ifCond .lt 7, 3) := by decide +kernel
theorem dJ4_max_6 : decode cJ4_max 6 = .ok (.lload_n 0, 1) := by decide +kernel
theorem dJ4_max_7 : decode cJ4_max 7 = .ok (.goto 4, 3) := by decide +kernel
theorem dJ4_max_10 : decode cJ4_max 10 = .ok (.lload_n 2, 1) := by decide +kernel
theorem dJ4_max_11 : decode cJ4_max 11 = .ok (.lreturn, 1) := by decide +kernel
abbrev cJ4_max_2 : ByteArray := prog_26_method_65_code
def yJ4_max_2 : MethodName := ⟨RJ4, "max", "(II)I"⟩
theorem dJ4_max_2_0 : decode cJ4_max_2 0 = .ok (.iload_n 0, 1) := by decide +kernel
theorem dJ4_max_2_1 : decode cJ4_max_2 1 = .ok (.iload_n 1, 1) := by decide +kernel
theorem dJ4_max_2_2 : decode cJ4_max_2 2 = .ok (.if_icmp .lt 7, 3) := by decide +kernel
theorem dJ4_max_2_5 : decode cJ4_max_2 5 = .ok (.iload_n 0, 1) := by decide +kernel
theorem dJ4_max_2_6 : decode cJ4_max_2 6 = .ok (.goto 4, 3) := by decide +kernel
theorem dJ4_max_2_9 : decode cJ4_max_2 9 = .ok (.iload_n 1, 1) := by decide +kernel
theorem dJ4_max_2_10 : decode cJ4_max_2 10 = .ok (.ireturn, 1) := by decide +kernel
abbrev cJ4_min_2 : ByteArray := prog_26_method_69_code
def yJ4_min_2 : MethodName := ⟨RJ4, "min", "(II)I"⟩
theorem dJ4_min_2_0 : decode cJ4_min_2 0 = .ok (.iload_n 0, 1) := by decide +kernel
theorem dJ4_min_2_1 : decode cJ4_min_2 1 = .ok (.iload_n 1, 1) := by decide +kernel
theorem dJ4_min_2_2 : decode cJ4_min_2 2 = .ok (.if_icmp .gt 7, 3) := by decide +kernel
theorem dJ4_min_2_5 : decode cJ4_min_2 5 = .ok (.iload_n 0, 1) := by decide +kernel
theorem dJ4_min_2_6 : decode cJ4_min_2 6 = .ok (.goto 4, 3) := by decide +kernel
theorem dJ4_min_2_9 : decode cJ4_min_2 9 = .ok (.iload_n 1, 1) := by decide +kernel
theorem dJ4_min_2_10 : decode cJ4_min_2 10 = .ok (.ireturn, 1) := by decide +kernel
theorem q96 : (Jvm.Cond.initialized "java/lang/Math") ∈ lw_all := lw_g (lw_at lw_m1 11 rfl) rfl
theorem q555 : (Jvm.Cond.static ({ cls := "java/lang/Math", name := "min", desc := "(JJ)J" } : Jvm.MethodName)) ∈ lw_all := lw_g (lw_at lw_m2 230 rfl) rfl
theorem q556 : (Jvm.Cond.code ({ cls := "java/lang/Math", name := "min", desc := "(JJ)J" } : Jvm.MethodName) prog_26_method_70_code (4 : Nat) (Option.some Jvm.ClassFile.FieldType.long)) ∈ lw_all := lw_g (lw_at lw_m2 231 rfl) rfl
theorem q579 : (Jvm.Cond.static ({ cls := "java/lang/Math", name := "max", desc := "(JJ)J" } : Jvm.MethodName)) ∈ lw_all := lw_g (lw_at lw_m3 14 rfl) rfl
theorem q580 : (Jvm.Cond.code ({ cls := "java/lang/Math", name := "max", desc := "(JJ)J" } : Jvm.MethodName) prog_26_method_66_code (4 : Nat) (Option.some Jvm.ClassFile.FieldType.long)) ∈ lw_all := lw_g (lw_at lw_m3 15 rfl) rfl
theorem q684 : (Jvm.Cond.static ({ cls := "java/lang/Math", name := "max", desc := "(II)I" } : Jvm.MethodName)) ∈ lw_all := lw_g (lw_at lw_m3 119 rfl) rfl
theorem q685 : (Jvm.Cond.code ({ cls := "java/lang/Math", name := "max", desc := "(II)I" } : Jvm.MethodName) prog_26_method_65_code (2 : Nat) (Option.some Jvm.ClassFile.FieldType.int)) ∈ lw_all := lw_g (lw_at lw_m3 120 rfl) rfl
theorem q687 : (Jvm.Cond.static ({ cls := "java/lang/Math", name := "min", desc := "(II)I" } : Jvm.MethodName)) ∈ lw_all := lw_g (lw_at lw_m3 122 rfl) rfl
theorem q688 : (Jvm.Cond.code ({ cls := "java/lang/Math", name := "min", desc := "(II)I" } : Jvm.MethodName) prog_26_method_69_code (2 : Nat) (Option.some Jvm.ClassFile.FieldType.int)) ∈ lw_all := lw_g (lw_at lw_m3 123 rfl) rfl
/-! java/lang/String -/
set_option maxRecDepth 100000
def RJ5 : String := "java/lang/String"
abbrev cJ5_length : ByteArray := prog_28_method_54_code
def yJ5_length : MethodName := ⟨RJ5, "length", "()I"⟩
theorem dJ5_length_0 : decode cJ5_length 0 = .ok (.aload_n 0, 1) := by decide +kernel
theorem dJ5_length_1 : decode cJ5_length 1 = .ok (.getfield 9, 3) := by decide +kernel
theorem dJ5_length_4 : decode cJ5_length 4 = .ok (.arraylength, 1) := by decide +kernel
theorem dJ5_length_5 : decode cJ5_length 5 = .ok (.aload_n 0, 1) := by decide +kernel
theorem dJ5_length_6 : decode cJ5_length 6 = .ok (.invokevirtual 335, 3) := by decide +kernel
theorem dJ5_length_9 : decode cJ5_length 9 = .ok (.ishr, 1) := by decide +kernel
theorem dJ5_length_10 : decode cJ5_length 10 = .ok (.ireturn, 1) := by decide +kernel
abbrev cJ5_coder : ByteArray := prog_28_method_152_code
def yJ5_coder : MethodName := ⟨RJ5, "coder", "()B"⟩
theorem dJ5_coder_0 : decode cJ5_coder 0 = .ok (.getstatic 38, 3) := by decide +kernel
theorem dJ5_coder_3 : decode cJ5_coder 3 = .ok (.ifCond .eq 10, 3) := by decide +kernel
theorem dJ5_coder_6 : decode cJ5_coder 6 = .ok (.aload_n 0, 1) := by decide +kernel
theorem dJ5_coder_7 : decode cJ5_coder 7 = .ok (.getfield 15, 3) := by decide +kernel
theorem dJ5_coder_10 : decode cJ5_coder 10 = .ok (.goto 4, 3) := by decide +kernel
theorem dJ5_coder_13 : decode cJ5_coder 13 = .ok (.iconst 1, 1) := by decide +kernel
theorem dJ5_coder_14 : decode cJ5_coder 14 = .ok (.ireturn, 1) := by decide +kernel
abbrev cJ5_indexOf : ByteArray := prog_28_method_80_code
def yJ5_indexOf : MethodName := ⟨RJ5, "indexOf", "(II)I"⟩
theorem dJ5_indexOf_0 : decode cJ5_indexOf 0 = .ok (.aload_n 0, 1) := by decide +kernel
theorem dJ5_indexOf_1 : decode cJ5_indexOf 1 = .ok (.invokevirtual 492, 3) := by decide +kernel
theorem dJ5_indexOf_4 : decode cJ5_indexOf 4 = .ok (.ifCond .eq 19, 3) := by decide +kernel
theorem dJ5_indexOf_7 : decode cJ5_indexOf 7 = .ok (.aload_n 0, 1) := by decide +kernel
theorem dJ5_indexOf_8 : decode cJ5_indexOf 8 = .ok (.getfield 9, 3) := by decide +kernel
theorem dJ5_indexOf_11 : decode cJ5_indexOf 11 = .ok (.iload_n 1, 1) := by decide +kernel
theorem dJ5_indexOf_12 : decode cJ5_indexOf 12 = .ok (.iload_n 2, 1) := by decide +kernel
theorem dJ5_indexOf_13 : decode cJ5_indexOf 13 = .ok (.aload_n 0, 1) := by decide +kernel
theorem dJ5_indexOf_14 : decode cJ5_indexOf 14 = .ok (.invokevirtual 505, 3) := by decide +kernel
theorem dJ5_indexOf_17 : decode cJ5_indexOf 17 = .ok (.invokestatic 637, 3) := by decide +kernel
theorem dJ5_indexOf_20 : decode cJ5_indexOf 20 = .ok (.goto 16, 3) := by decide +kernel
theorem dJ5_indexOf_23 : decode cJ5_indexOf 23 = .ok (.aload_n 0, 1) := by decide +kernel
theorem dJ5_indexOf_24 : decode cJ5_indexOf 24 = .ok (.getfield 9, 3) := by decide +kernel
theorem dJ5_indexOf_27 : decode cJ5_indexOf 27 = .ok (.iload_n 1, 1) := by decide +kernel
theorem dJ5_indexOf_28 : decode cJ5_indexOf 28 = .ok (.iload_n 2, 1) := by decide +kernel
theorem dJ5_indexOf_29 : decode cJ5_indexOf 29 = .ok (.aload_n 0, 1) := by decide +kernel
theorem dJ5_indexOf_30 : decode cJ5_indexOf 30 = .ok (.invokevirtual 505, 3) := by decide +kernel
theorem dJ5_indexOf_33 : decode cJ5_indexOf 33 = .ok (.invokestatic 640, 3) := by decide +kernel
theorem dJ5_indexOf_36 : decode cJ5_indexOf 36 = .ok (.ireturn, 1) := by decide +kernel
abbrev cJ5_isLatin1 : ByteArray := prog_28_method_154_code
def yJ5_isLatin1 : MethodName := ⟨RJ5, "isLatin1", "()Z"⟩
theorem dJ5_isLatin1_0 : decode cJ5_isLatin1 0 = .ok (.getstatic 38, 3) := by decide +kernel
theorem dJ5_isLatin1_3 : decode cJ5_isLatin1 3 = .ok (.ifCond .eq 14, 3) := by decide +kernel
theorem dJ5_isLatin1_6 : decode cJ5_isLatin1 6 = .ok (.aload_n 0, 1) := by decide +kernel
theorem dJ5_isLatin1_7 : decode cJ5_isLatin1 7 = .ok (.getfield 15, 3) := by decide +kernel
theorem dJ5_isLatin1_10 : decode cJ5_isLatin1 10 = .ok (.ifCond .ne 7, 3) := by decide +kernel
theorem dJ5_isLatin1_13 : decode cJ5_isLatin1 13 = .ok (.iconst 1, 1) := by decide +kernel
theorem dJ5_isLatin1_14 : decode cJ5_isLatin1 14 = .ok (.goto 4, 3) := by decide +kernel
theorem dJ5_isLatin1_17 : decode cJ5_isLatin1 17 = .ok (.iconst 0, 1) := by decide +kernel
theorem dJ5_isLatin1_18 : decode cJ5_isLatin1 18 = .ok (.ireturn, 1) := by decide +kernel
abbrev cJ5_checkBoundsBeginEnd : ByteArray := prog_28_method_158_code
def yJ5_checkBoundsBeginEnd : MethodName := ⟨RJ5, "checkBoundsBeginEnd", "(III)V"⟩
theorem dJ5_checkBoundsBeginEnd_0 : decode cJ5_checkBoundsBeginEnd 0 = .ok (.iload_n 0, 1) := by decide +kernel
theorem dJ5_checkBoundsBeginEnd_1 : decode cJ5_checkBoundsBeginEnd 1 = .ok (.iload_n 1, 1) := by decide +kernel
theorem dJ5_checkBoundsBeginEnd_2 : decode cJ5_checkBoundsBeginEnd 2 = .ok (.iload_n 2, 1) := by decide +kernel
theorem dJ5_checkBoundsBeginEnd_3 : decode cJ5_checkBoundsBeginEnd 3 = .ok (.getstatic 1053, 3) := by decide +kernel
theorem dJ5_checkBoundsBeginEnd_6 : decode cJ5_checkBoundsBeginEnd 6 = .ok (.invokestatic 1062, 3) := by decide +kernel
theorem dJ5_checkBoundsBeginEnd_9 : decode cJ5_checkBoundsBeginEnd 9 = .ok (.pop, 1) := by decide +kernel
theorem dJ5_checkBoundsBeginEnd_10 : decode cJ5_checkBoundsBeginEnd 10 = .ok (.return_, 1) := by decide +kernel
abbrev cJ5_charAt : ByteArray := prog_28_method_56_code
def yJ5_charAt : MethodName := ⟨RJ5, "charAt", "(I)C"⟩
theorem dJ5_charAt_0 : decode cJ5_charAt 0 = .ok (.aload_n 0, 1) := by decide +kernel
theorem dJ5_charAt_1 : decode cJ5_charAt 1 = .ok (.invokevirtual 492, 3) := by decide +kernel
theorem dJ5_charAt_4 : decode cJ5_charAt 4 = .ok (.ifCond .eq 12, 3) := by decide +kernel
theorem dJ5_charAt_7 : decode cJ5_charAt 7 = .ok (.aload_n 0, 1) := by decide +kernel
theorem dJ5_charAt_8 : decode cJ5_charAt 8 = .ok (.getfield 9, 3) := by decide +kernel
theorem dJ5_charAt_11 : decode cJ5_charAt 11 = .ok (.iload_n 1, 1) := by decide +kernel
theorem dJ5_charAt_12 : decode cJ5_charAt 12 = .ok (.invokestatic 495, 3) := by decide +kernel
theorem dJ5_charAt_15 : decode cJ5_charAt 15 = .ok (.ireturn, 1) := by decide +kernel
theorem dJ5_charAt_16 : decode cJ5_charAt 16 = .ok (.aload_n 0, 1) := by decide +kernel
theorem dJ5_charAt_17 : decode cJ5_charAt 17 = .ok (.getfield 9, 3) := by decide +kernel
theorem dJ5_charAt_20 : decode cJ5_charAt 20 = .ok (.iload_n 1, 1) := by decide +kernel
theorem dJ5_charAt_21 : decode cJ5_charAt 21 = .ok (.invokestatic 498, 3) := by decide +kernel
theorem dJ5_charAt_24 : decode cJ5_charAt 24 = .ok (.ireturn, 1) := by decide +kernel
abbrev cJ5_checkIndex : ByteArray := prog_28_method_155_code
def yJ5_checkIndex : MethodName := ⟨RJ5, "checkIndex", "(II)V"⟩
theorem dJ5_checkIndex_0 : decode cJ5_checkIndex 0 = .ok (.iload_n 0, 1) := by decide +kernel
theorem dJ5_checkIndex_1 : decode cJ5_checkIndex 1 = .ok (.iload_n 1, 1) := by decide +kernel
theorem dJ5_checkIndex_2 : decode cJ5_checkIndex 2 = .ok (.getstatic 1053, 3) := by decide +kernel
theorem dJ5_checkIndex_5 : decode cJ5_checkIndex 5 = .ok (.invokestatic 1059, 3) := by decide +kernel
theorem dJ5_checkIndex_8 : decode cJ5_checkIndex 8 = .ok (.pop, 1) := by decide +kernel
theorem dJ5_checkIndex_9 : decode cJ5_checkIndex 9 = .ok (.return_, 1) := by decide +kernel
theorem q98 : (Jvm.Cond.initialized "java/lang/String") ∈ lw_all := lw_g (lw_at lw_m1 13 rfl) rfl
theorem q659 : (Jvm.Cond.instanceMethod ({ cls := "java/lang/String", name := "length", desc := "()I" } : Jvm.MethodName)) ∈ lw_all := lw_g (lw_at lw_m3 94 rfl) rfl
theorem q660 : (Jvm.Cond.selects "java/lang/String" ({ cls := "java/lang/String", name := "length", desc := "()I" } : Jvm.MethodName) ({ cls := "java/lang/String", name := "length", desc := "()I" } : Jvm.MethodName)) ∈ lw_all := lw_g (lw_at lw_m3 95 rfl) rfl
theorem q661 : (Jvm.Cond.code ({ cls := "java/lang/String", name := "length", desc := "()I" } : Jvm.MethodName) prog_28_method_54_code (1 : Nat) (Option.some Jvm.ClassFile.FieldType.int)) ∈ lw_all := lw_g (lw_at lw_m3 96 rfl) rfl
theorem q662 : (Jvm.Cond.methodLink "java/lang/String" (335 : Nat) ({ cls := "java/lang/String", name := "coder", desc := "()B" } : Jvm.MethodName)) ∈ lw_all := lw_g (lw_at lw_m3 97 rfl) rfl
theorem q663 : (Jvm.Cond.instanceMethod ({ cls := "java/lang/String", name := "coder", desc := "()B" } : Jvm.MethodName)) ∈ lw_all := lw_g (lw_at lw_m3 98 rfl) rfl
theorem q664 : (Jvm.Cond.selects "java/lang/String" ({ cls := "java/lang/String", name := "coder", desc := "()B" } : Jvm.MethodName) ({ cls := "java/lang/String", name := "coder", desc := "()B" } : Jvm.MethodName)) ∈ lw_all := lw_g (lw_at lw_m3 99 rfl) rfl
theorem q665 : (Jvm.Cond.code ({ cls := "java/lang/String", name := "coder", desc := "()B" } : Jvm.MethodName) prog_28_method_152_code (1 : Nat) (Option.some Jvm.ClassFile.FieldType.byte)) ∈ lw_all := lw_g (lw_at lw_m3 100 rfl) rfl
theorem q666 : (Jvm.Cond.fieldLink "java/lang/String" (38 : Nat) "java/lang/String" "COMPACT_STRINGS" "Z") ∈ lw_all := lw_g (lw_at lw_m3 101 rfl) rfl
theorem q667 : (Jvm.Cond.laysStatic "java/lang/String" "COMPACT_STRINGS" "Z") ∈ lw_tbl := lw_at lw_m3 102 rfl
theorem q669 : (Jvm.Cond.instanceMethod ({ cls := "java/lang/String", name := "indexOf", desc := "(II)I" } : Jvm.MethodName)) ∈ lw_all := lw_g (lw_at lw_m3 104 rfl) rfl
theorem q670 : (Jvm.Cond.selects "java/lang/String" ({ cls := "java/lang/String", name := "indexOf", desc := "(II)I" } : Jvm.MethodName) ({ cls := "java/lang/String", name := "indexOf", desc := "(II)I" } : Jvm.MethodName)) ∈ lw_all := lw_g (lw_at lw_m3 105 rfl) rfl
theorem q671 : (Jvm.Cond.code ({ cls := "java/lang/String", name := "indexOf", desc := "(II)I" } : Jvm.MethodName) prog_28_method_80_code (3 : Nat) (Option.some Jvm.ClassFile.FieldType.int)) ∈ lw_all := lw_g (lw_at lw_m3 106 rfl) rfl
theorem q672 : (Jvm.Cond.methodLink "java/lang/String" (492 : Nat) ({ cls := "java/lang/String", name := "isLatin1", desc := "()Z" } : Jvm.MethodName)) ∈ lw_all := lw_g (lw_at lw_m3 107 rfl) rfl
theorem q673 : (Jvm.Cond.instanceMethod ({ cls := "java/lang/String", name := "isLatin1", desc := "()Z" } : Jvm.MethodName)) ∈ lw_all := lw_g (lw_at lw_m3 108 rfl) rfl
theorem q674 : (Jvm.Cond.selects "java/lang/String" ({ cls := "java/lang/String", name := "isLatin1", desc := "()Z" } : Jvm.MethodName) ({ cls := "java/lang/String", name := "isLatin1", desc := "()Z" } : Jvm.MethodName)) ∈ lw_all := lw_g (lw_at lw_m3 109 rfl) rfl
theorem q675 : (Jvm.Cond.code ({ cls := "java/lang/String", name := "isLatin1", desc := "()Z" } : Jvm.MethodName) prog_28_method_154_code (1 : Nat) (Option.some Jvm.ClassFile.FieldType.boolean)) ∈ lw_all := lw_g (lw_at lw_m3 110 rfl) rfl
theorem q676 : (Jvm.Cond.methodLink "java/lang/String" (505 : Nat) ({ cls := "java/lang/String", name := "length", desc := "()I" } : Jvm.MethodName)) ∈ lw_all := lw_g (lw_at lw_m3 111 rfl) rfl
theorem q677 : (Jvm.Cond.methodLink "java/lang/String" (637 : Nat) ({ cls := "java/lang/StringLatin1", name := "indexOf", desc := "([BIII)I" } : Jvm.MethodName)) ∈ lw_all := lw_g (lw_at lw_m3 112 rfl) rfl
theorem q692 : (Jvm.Cond.methodLink "java/lang/String" (640 : Nat) ({ cls := "java/lang/StringUTF16", name := "indexOf", desc := "([BIII)I" } : Jvm.MethodName)) ∈ lw_all := lw_g (lw_at lw_m3 127 rfl) rfl
theorem q708 : (Jvm.Cond.static ({ cls := "java/lang/String", name := "checkBoundsBeginEnd", desc := "(III)V" } : Jvm.MethodName)) ∈ lw_all := lw_g (lw_at lw_m3 143 rfl) rfl
theorem q709 : (Jvm.Cond.code ({ cls := "java/lang/String", name := "checkBoundsBeginEnd", desc := "(III)V" } : Jvm.MethodName) prog_28_method_158_code (3 : Nat) (Option.none : Option Jvm.ClassFile.FieldType)) ∈ lw_all := lw_g (lw_at lw_m3 144 rfl) rfl
theorem q710 : (Jvm.Cond.fieldLink "java/lang/String" (1053 : Nat) "jdk/internal/util/Preconditions" "SIOOBE_FORMATTER" "Ljava/util/function/BiFunction;") ∈ lw_all := lw_g (lw_at lw_m3 145 rfl) rfl
theorem q712 : (Jvm.Cond.methodLink "java/lang/String" (1062 : Nat) ({ cls := "jdk/internal/util/Preconditions", name := "checkFromToIndex", desc := "(IIILjava/util/function/BiFunction;)I" } : Jvm.MethodName)) ∈ lw_all := lw_g (lw_at lw_m3 147 rfl) rfl
theorem q742 : (Jvm.Cond.instanceMethod ({ cls := "java/lang/String", name := "charAt", desc := "(I)C" } : Jvm.MethodName)) ∈ lw_all := lw_g (lw_at lw_m3 177 rfl) rfl
theorem q743 : (Jvm.Cond.selects "java/lang/String" ({ cls := "java/lang/String", name := "charAt", desc := "(I)C" } : Jvm.MethodName) ({ cls := "java/lang/String", name := "charAt", desc := "(I)C" } : Jvm.MethodName)) ∈ lw_all := lw_g (lw_at lw_m3 178 rfl) rfl
theorem q744 : (Jvm.Cond.code ({ cls := "java/lang/String", name := "charAt", desc := "(I)C" } : Jvm.MethodName) prog_28_method_56_code (2 : Nat) (Option.some Jvm.ClassFile.FieldType.char)) ∈ lw_all := lw_g (lw_at lw_m3 179 rfl) rfl
theorem q745 : (Jvm.Cond.methodLink "java/lang/String" (495 : Nat) ({ cls := "java/lang/StringLatin1", name := "charAt", desc := "([BI)C" } : Jvm.MethodName)) ∈ lw_all := lw_g (lw_at lw_m3 180 rfl) rfl
theorem q749 : (Jvm.Cond.static ({ cls := "java/lang/String", name := "checkIndex", desc := "(II)V" } : Jvm.MethodName)) ∈ lw_all := lw_g (lw_at lw_m3 184 rfl) rfl
theorem q750 : (Jvm.Cond.code ({ cls := "java/lang/String", name := "checkIndex", desc := "(II)V" } : Jvm.MethodName) prog_28_method_155_code (2 : Nat) (Option.none : Option Jvm.ClassFile.FieldType)) ∈ lw_all := lw_g (lw_at lw_m3 185 rfl) rfl
theorem q751 : (Jvm.Cond.methodLink "java/lang/String" (1059 : Nat) ({ cls := "jdk/internal/util/Preconditions", name := "checkIndex", desc := "(IILjava/util/function/BiFunction;)I" } : Jvm.MethodName)) ∈ lw_all := lw_g (lw_at lw_m3 186 rfl) rfl
theorem q754 : (Jvm.Cond.methodLink "java/lang/String" (498 : Nat) ({ cls := "java/lang/StringUTF16", name := "charAt", desc := "([BI)C" } : Jvm.MethodName)) ∈ lw_all := lw_g (lw_at lw_m3 189 rfl) rfl
theorem q1827 : (Jvm.Cond.castable "java/lang/String" "java/lang/Object") ∈ lw_tbl := lw_at lw_m8 62 rfl
theorem q1843 : (Jvm.Cond.fieldLink "java/lang/String" (9 : Nat) "java/lang/String" "value" "[B") ∈ lw_all := lw_g (lw_at lw_m8 78 rfl) rfl
theorem q1844 : (Jvm.Cond.fieldLink "java/lang/String" (15 : Nat) "java/lang/String" "coder" "B") ∈ lw_all := lw_g (lw_at lw_m8 79 rfl) rfl
/-! java/lang/StringLatin1 -/
set_option maxRecDepth 100000
def RJ6 : String := "java/lang/StringLatin1"
abbrev cJ6_indexOf : ByteArray := prog_29_method_22_code
def yJ6_indexOf : MethodName := ⟨RJ6, "indexOf", "([BIII)I"⟩
theorem dJ6_indexOf_0 : decode cJ6_indexOf 0 = .ok (.iload_n 1, 1) := by decide +kernel
theorem dJ6_indexOf_1 : decode cJ6_indexOf 1 = .ok (.invokestatic 88, 3) := by decide +kernel
theorem dJ6_indexOf_4 : decode cJ6_indexOf 4 = .ok (.ifCond .ne 5, 3) := by decide +kernel
theorem dJ6_indexOf_7 : decode cJ6_indexOf 7 = .ok (.iconst (-1), 1) := by decide +kernel
theorem dJ6_indexOf_8 : decode cJ6_indexOf 8 = .ok (.ireturn, 1) := by decide +kernel
theorem dJ6_indexOf_9 : decode cJ6_indexOf 9 = .ok (.iload_n 2, 1) := by decide +kernel
theorem dJ6_indexOf_10 : decode cJ6_indexOf 10 = .ok (.iconst 0, 1) := by decide +kernel
theorem dJ6_indexOf_11 : decode cJ6_indexOf 11 = .ok (.invokestatic 92, 3) := by decide +kernel
theorem dJ6_indexOf_14 : decode cJ6_indexOf 14 = .ok (.istore_n 2, 1) := by decide +kernel
theorem dJ6_indexOf_15 : decode cJ6_indexOf 15 = .ok (.iload_n 3, 1) := by decide +kernel
theorem dJ6_indexOf_16 : decode cJ6_indexOf 16 = .ok (.aload_n 0, 1) := by decide +kernel
theorem dJ6_indexOf_17 : decode cJ6_indexOf 17 = .ok (.arraylength, 1) := by decide +kernel
theorem dJ6_indexOf_18 : decode cJ6_indexOf 18 = .ok (.invokestatic 38, 3) := by decide +kernel
theorem dJ6_indexOf_21 : decode cJ6_indexOf 21 = .ok (.istore_n 3, 1) := by decide +kernel
theorem dJ6_indexOf_22 : decode cJ6_indexOf 22 = .ok (.iload_n 2, 1) := by decide +kernel
theorem dJ6_indexOf_23 : decode cJ6_indexOf 23 = .ok (.iload_n 3, 1) := by decide +kernel
theorem dJ6_indexOf_24 : decode cJ6_indexOf 24 = .ok (.if_icmp .lt 5, 3) := by decide +kernel
theorem dJ6_indexOf_27 : decode cJ6_indexOf 27 = .ok (.iconst (-1), 1) := by decide +kernel
theorem dJ6_indexOf_28 : decode cJ6_indexOf 28 = .ok (.ireturn, 1) := by decide +kernel
theorem dJ6_indexOf_29 : decode cJ6_indexOf 29 = .ok (.aload_n 0, 1) := by decide +kernel
theorem dJ6_indexOf_30 : decode cJ6_indexOf 30 = .ok (.iload_n 1, 1) := by decide +kernel
theorem dJ6_indexOf_31 : decode cJ6_indexOf 31 = .ok (.iload_n 2, 1) := by decide +kernel
theorem dJ6_indexOf_32 : decode cJ6_indexOf 32 = .ok (.iload_n 3, 1) := by decide +kernel
theorem dJ6_indexOf_33 : decode cJ6_indexOf 33 = .ok (.invokestatic 95, 3) := by decide +kernel
theorem dJ6_indexOf_36 : decode cJ6_indexOf 36 = .ok (.ireturn, 1) := by decide +kernel
abbrev cJ6_canEncode : ByteArray := prog_29_method_4_code
def yJ6_canEncode : MethodName := ⟨RJ6, "canEncode", "(I)Z"⟩
theorem dJ6_canEncode_0 : decode cJ6_canEncode 0 = .ok (.iload_n 0, 1) := by decide +kernel
theorem dJ6_canEncode_1 : decode cJ6_canEncode 1 = .ok (.ifCond .lt 14, 3) := by decide +kernel
theorem dJ6_canEncode_4 : decode cJ6_canEncode 4 = .ok (.iload_n 0, 1) := by decide +kernel
theorem dJ6_canEncode_5 : decode cJ6_canEncode 5 = .ok (.sipush 255, 3) := by decide +kernel
theorem dJ6_canEncode_8 : decode cJ6_canEncode 8 = .ok (.if_icmp .gt 7, 3) := by decide +kernel
theorem dJ6_canEncode_11 : decode cJ6_canEncode 11 = .ok (.iconst 1, 1) := by decide +kernel
theorem dJ6_canEncode_12 : decode cJ6_canEncode 12 = .ok (.goto 4, 3) := by decide +kernel
theorem dJ6_canEncode_15 : decode cJ6_canEncode 15 = .ok (.iconst 0, 1) := by decide +kernel
theorem dJ6_canEncode_16 : decode cJ6_canEncode 16 = .ok (.ireturn, 1) := by decide +kernel
abbrev cJ6_indexOfChar : ByteArray := prog_29_method_23_code
def yJ6_indexOfChar : MethodName := ⟨RJ6, "indexOfChar", "([BIII)I"⟩
theorem dJ6_indexOfChar_0 : decode cJ6_indexOfChar 0 = .ok (.iload_n 1, 1) := by decide +kernel
theorem dJ6_indexOfChar_1 : decode cJ6_indexOfChar 1 = .ok (.i2b, 1) := by decide +kernel
theorem dJ6_indexOfChar_2 : decode cJ6_indexOfChar 2 = .ok (.istore 4, 2) := by decide +kernel
theorem dJ6_indexOfChar_4 : decode cJ6_indexOfChar 4 = .ok (.iload_n 2, 1) := by decide +kernel
theorem dJ6_indexOfChar_5 : decode cJ6_indexOfChar 5 = .ok (.istore 5, 2) := by decide +kernel
theorem dJ6_indexOfChar_7 : decode cJ6_indexOfChar 7 = .ok (.iload 5, 2) := by decide +kernel
theorem dJ6_indexOfChar_9 : decode cJ6_indexOfChar 9 = .ok (.iload_n 3, 1) := by decide +kernel
theorem dJ6_indexOfChar_10 : decode cJ6_indexOfChar 10 = .ok (.if_icmp .ge 21, 3) := by decide +kernel
theorem dJ6_indexOfChar_13 : decode cJ6_indexOfChar 13 = .ok (.aload_n 0, 1) := by decide +kernel
theorem dJ6_indexOfChar_14 : decode cJ6_indexOfChar 14 = .ok (.iload 5, 2) := by decide +kernel
theorem dJ6_indexOfChar_16 : decode cJ6_indexOfChar 16 = .ok (.baload, 1) := by decide +kernel
theorem dJ6_indexOfChar_17 : decode cJ6_indexOfChar 17 = .ok (.iload 4, 2) := by decide +kernel
theorem dJ6_indexOfChar_19 : decode cJ6_indexOfChar 19 = .ok (.if_icmp .ne 6, 3) := by decide +kernel
theorem dJ6_indexOfChar_22 : decode cJ6_indexOfChar 22 = .ok (.iload 5, 2) := by decide +kernel
theorem dJ6_indexOfChar_24 : decode cJ6_indexOfChar 24 = .ok (.ireturn, 1) := by decide +kernel
theorem dJ6_indexOfChar_25 : decode cJ6_indexOfChar 25 = .ok (.iinc 5 1, 3) := by decide +kernel
theorem dJ6_indexOfChar_28 : decode cJ6_indexOfChar 28 = .ok (.goto (-21), 3) := by decide +kernel
theorem dJ6_indexOfChar_31 : decode cJ6_indexOfChar 31 = .ok (.iconst (-1), 1) := by decide +kernel
theorem dJ6_indexOfChar_32 : decode cJ6_indexOfChar 32 = .ok (.ireturn, 1) := by decide +kernel
abbrev cJ6_charAt : ByteArray := prog_29_method_2_code
def yJ6_charAt : MethodName := ⟨RJ6, "charAt", "([BI)C"⟩
theorem dJ6_charAt_0 : decode cJ6_charAt 0 = .ok (.iload_n 1, 1) := by decide +kernel
theorem dJ6_charAt_1 : decode cJ6_charAt 1 = .ok (.aload_n 0, 1) := by decide +kernel
theorem dJ6_charAt_2 : decode cJ6_charAt 2 = .ok (.arraylength, 1) := by decide +kernel
theorem dJ6_charAt_3 : decode cJ6_charAt 3 = .ok (.invokestatic 9, 3) := by decide +kernel
theorem dJ6_charAt_6 : decode cJ6_charAt 6 = .ok (.aload_n 0, 1) := by decide +kernel
theorem dJ6_charAt_7 : decode cJ6_charAt 7 = .ok (.iload_n 1, 1) := by decide +kernel
theorem dJ6_charAt_8 : decode cJ6_charAt 8 = .ok (.baload, 1) := by decide +kernel
theorem dJ6_charAt_9 : decode cJ6_charAt 9 = .ok (.sipush 255, 3) := by decide +kernel
theorem dJ6_charAt_12 : decode cJ6_charAt 12 = .ok (.iand, 1) := by decide +kernel
theorem dJ6_charAt_13 : decode cJ6_charAt 13 = .ok (.i2c, 1) := by decide +kernel
theorem dJ6_charAt_14 : decode cJ6_charAt 14 = .ok (.ireturn, 1) := by decide +kernel
theorem q99 : (Jvm.Cond.initialized "java/lang/StringLatin1") ∈ lw_all := lw_g (lw_at lw_m1 14 rfl) rfl
theorem q678 : (Jvm.Cond.static ({ cls := "java/lang/StringLatin1", name := "indexOf", desc := "([BIII)I" } : Jvm.MethodName)) ∈ lw_all := lw_g (lw_at lw_m3 113 rfl) rfl
theorem q679 : (Jvm.Cond.code ({ cls := "java/lang/StringLatin1", name := "indexOf", desc := "([BIII)I" } : Jvm.MethodName) prog_29_method_22_code (4 : Nat) (Option.some Jvm.ClassFile.FieldType.int)) ∈ lw_all := lw_g (lw_at lw_m3 114 rfl) rfl
theorem q680 : (Jvm.Cond.methodLink "java/lang/StringLatin1" (88 : Nat) ({ cls := "java/lang/StringLatin1", name := "canEncode", desc := "(I)Z" } : Jvm.MethodName)) ∈ lw_all := lw_g (lw_at lw_m3 115 rfl) rfl
theorem q681 : (Jvm.Cond.static ({ cls := "java/lang/StringLatin1", name := "canEncode", desc := "(I)Z" } : Jvm.MethodName)) ∈ lw_all := lw_g (lw_at lw_m3 116 rfl) rfl
theorem q682 : (Jvm.Cond.code ({ cls := "java/lang/StringLatin1", name := "canEncode", desc := "(I)Z" } : Jvm.MethodName) prog_29_method_4_code (1 : Nat) (Option.some Jvm.ClassFile.FieldType.boolean)) ∈ lw_all := lw_g (lw_at lw_m3 117 rfl) rfl
theorem q683 : (Jvm.Cond.methodLink "java/lang/StringLatin1" (92 : Nat) ({ cls := "java/lang/Math", name := "max", desc := "(II)I" } : Jvm.MethodName)) ∈ lw_all := lw_g (lw_at lw_m3 118 rfl) rfl
theorem q686 : (Jvm.Cond.methodLink "java/lang/StringLatin1" (38 : Nat) ({ cls := "java/lang/Math", name := "min", desc := "(II)I" } : Jvm.MethodName)) ∈ lw_all := lw_g (lw_at lw_m3 121 rfl) rfl
theorem q689 : (Jvm.Cond.methodLink "java/lang/StringLatin1" (95 : Nat) ({ cls := "java/lang/StringLatin1", name := "indexOfChar", desc := "([BIII)I" } : Jvm.MethodName)) ∈ lw_all := lw_g (lw_at lw_m3 124 rfl) rfl
theorem q690 : (Jvm.Cond.static ({ cls := "java/lang/StringLatin1", name := "indexOfChar", desc := "([BIII)I" } : Jvm.MethodName)) ∈ lw_all := lw_g (lw_at lw_m3 125 rfl) rfl
theorem q691 : (Jvm.Cond.code ({ cls := "java/lang/StringLatin1", name := "indexOfChar", desc := "([BIII)I" } : Jvm.MethodName) prog_29_method_23_code (6 : Nat) (Option.some Jvm.ClassFile.FieldType.int)) ∈ lw_all := lw_g (lw_at lw_m3 126 rfl) rfl
theorem q746 : (Jvm.Cond.static ({ cls := "java/lang/StringLatin1", name := "charAt", desc := "([BI)C" } : Jvm.MethodName)) ∈ lw_all := lw_g (lw_at lw_m3 181 rfl) rfl
theorem q747 : (Jvm.Cond.code ({ cls := "java/lang/StringLatin1", name := "charAt", desc := "([BI)C" } : Jvm.MethodName) prog_29_method_2_code (2 : Nat) (Option.some Jvm.ClassFile.FieldType.char)) ∈ lw_all := lw_g (lw_at lw_m3 182 rfl) rfl
theorem q748 : (Jvm.Cond.methodLink "java/lang/StringLatin1" (9 : Nat) ({ cls := "java/lang/String", name := "checkIndex", desc := "(II)V" } : Jvm.MethodName)) ∈ lw_all := lw_g (lw_at lw_m3 183 rfl) rfl
/-! java/lang/StringUTF16 -/
set_option maxRecDepth 100000
def RJ7 : String := "java/lang/StringUTF16"
abbrev cJ7_indexOf : ByteArray := prog_30_method_40_code
def yJ7_indexOf : MethodName := ⟨RJ7, "indexOf", "([BIII)I"⟩
theorem dJ7_indexOf_0 : decode cJ7_indexOf 0 = .ok (.iload_n 2, 1) := by decide +kernel
theorem dJ7_indexOf_1 : decode cJ7_indexOf 1 = .ok (.iconst 0, 1) := by decide +kernel
theorem dJ7_indexOf_2 : decode cJ7_indexOf 2 = .ok (.invokestatic 224, 3) := by decide +kernel
theorem dJ7_indexOf_5 : decode cJ7_indexOf 5 = .ok (.istore_n 2, 1) := by decide +kernel
theorem dJ7_indexOf_6 : decode cJ7_indexOf 6 = .ok (.iload_n 3, 1) := by decide +kernel
theorem dJ7_indexOf_7 : decode cJ7_indexOf 7 = .ok (.aload_n 0, 1) := by decide +kernel
theorem dJ7_indexOf_8 : decode cJ7_indexOf 8 = .ok (.arraylength, 1) := by decide +kernel
theorem dJ7_indexOf_9 : decode cJ7_indexOf 9 = .ok (.iconst 1, 1) := by decide +kernel
theorem dJ7_indexOf_10 : decode cJ7_indexOf 10 = .ok (.ishr, 1) := by decide +kernel
theorem dJ7_indexOf_11 : decode cJ7_indexOf 11 = .ok (.invokestatic 183, 3) := by decide +kernel
theorem dJ7_indexOf_14 : decode cJ7_indexOf 14 = .ok (.istore_n 3, 1) := by decide +kernel
theorem dJ7_indexOf_15 : decode cJ7_indexOf 15 = .ok (.iload_n 2, 1) := by decide +kernel
theorem dJ7_indexOf_16 : decode cJ7_indexOf 16 = .ok (.iload_n 3, 1) := by decide +kernel
theorem dJ7_indexOf_17 : decode cJ7_indexOf 17 = .ok (.if_icmp .lt 5, 3) := by decide +kernel
theorem dJ7_indexOf_20 : decode cJ7_indexOf 20 = .ok (.iconst (-1), 1) := by decide +kernel
theorem dJ7_indexOf_21 : decode cJ7_indexOf 21 = .ok (.ireturn, 1) := by decide +kernel
theorem dJ7_indexOf_22 : decode cJ7_indexOf 22 = .ok (.iload_n 1, 1) := by decide +kernel
theorem dJ7_indexOf_23 : decode cJ7_indexOf 23 = .ok (.ldc 227, 2) := by decide +kernel
theorem dJ7_indexOf_25 : decode cJ7_indexOf 25 = .ok (.if_icmp .ge 11, 3) := by decide +kernel
theorem dJ7_indexOf_28 : decode cJ7_indexOf 28 = .ok (.aload_n 0, 1) := by decide +kernel
theorem dJ7_indexOf_29 : decode cJ7_indexOf 29 = .ok (.iload_n 1, 1) := by decide +kernel
theorem dJ7_indexOf_30 : decode cJ7_indexOf 30 = .ok (.iload_n 2, 1) := by decide +kernel
theorem dJ7_indexOf_31 : decode cJ7_indexOf 31 = .ok (.iload_n 3, 1) := by decide +kernel
theorem dJ7_indexOf_32 : decode cJ7_indexOf 32 = .ok (.invokestatic 228, 3) := by decide +kernel
theorem dJ7_indexOf_35 : decode cJ7_indexOf 35 = .ok (.ireturn, 1) := by decide +kernel
theorem dJ7_indexOf_36 : decode cJ7_indexOf 36 = .ok (.aload_n 0, 1) := by decide +kernel
theorem dJ7_indexOf_37 : decode cJ7_indexOf 37 = .ok (.iload_n 1, 1) := by decide +kernel
theorem dJ7_indexOf_38 : decode cJ7_indexOf 38 = .ok (.iload_n 2, 1) := by decide +kernel
theorem dJ7_indexOf_39 : decode cJ7_indexOf 39 = .ok (.iload_n 3, 1) := by decide +kernel
theorem dJ7_indexOf_40 : decode cJ7_indexOf 40 = .ok (.invokestatic 232, 3) := by decide +kernel
theorem dJ7_indexOf_43 : decode cJ7_indexOf 43 = .ok (.ireturn, 1) := by decide +kernel
abbrev cJ7_indexOfChar : ByteArray := prog_30_method_47_code
def yJ7_indexOfChar : MethodName := ⟨RJ7, "indexOfChar", "([BIII)I"⟩
theorem dJ7_indexOfChar_0 : decode cJ7_indexOfChar 0 = .ok (.iload_n 2, 1) := by decide +kernel
theorem dJ7_indexOfChar_1 : decode cJ7_indexOfChar 1 = .ok (.iload_n 3, 1) := by decide +kernel
theorem dJ7_indexOfChar_2 : decode cJ7_indexOfChar 2 = .ok (.aload_n 0, 1) := by decide +kernel
theorem dJ7_indexOfChar_3 : decode cJ7_indexOfChar 3 = .ok (.invokestatic 96, 3) := by decide +kernel
theorem dJ7_indexOfChar_6 : decode cJ7_indexOfChar 6 = .ok (.aload_n 0, 1) := by decide +kernel
theorem dJ7_indexOfChar_7 : decode cJ7_indexOfChar 7 = .ok (.iload_n 1, 1) := by decide +kernel
theorem dJ7_indexOfChar_8 : decode cJ7_indexOfChar 8 = .ok (.iload_n 2, 1) := by decide +kernel
theorem dJ7_indexOfChar_9 : decode cJ7_indexOfChar 9 = .ok (.iload_n 3, 1) := by decide +kernel
theorem dJ7_indexOfChar_10 : decode cJ7_indexOfChar 10 = .ok (.invokestatic 244, 3) := by decide +kernel
theorem dJ7_indexOfChar_13 : decode cJ7_indexOfChar 13 = .ok (.ireturn, 1) := by decide +kernel
abbrev cJ7_checkBoundsBeginEnd : ByteArray := prog_30_method_93_code
def yJ7_checkBoundsBeginEnd : MethodName := ⟨RJ7, "checkBoundsBeginEnd", "(II[B)V"⟩
theorem dJ7_checkBoundsBeginEnd_0 : decode cJ7_checkBoundsBeginEnd 0 = .ok (.iload_n 0, 1) := by decide +kernel
theorem dJ7_checkBoundsBeginEnd_1 : decode cJ7_checkBoundsBeginEnd 1 = .ok (.iload_n 1, 1) := by decide +kernel
theorem dJ7_checkBoundsBeginEnd_2 : decode cJ7_checkBoundsBeginEnd 2 = .ok (.aload_n 2, 1) := by decide +kernel
theorem dJ7_checkBoundsBeginEnd_3 : decode cJ7_checkBoundsBeginEnd 3 = .ok (.invokestatic 48, 3) := by decide +kernel
theorem dJ7_checkBoundsBeginEnd_6 : decode cJ7_checkBoundsBeginEnd 6 = .ok (.invokestatic 241, 3) := by decide +kernel
theorem dJ7_checkBoundsBeginEnd_9 : decode cJ7_checkBoundsBeginEnd 9 = .ok (.return_, 1) := by decide +kernel
abbrev cJ7_length : ByteArray := prog_30_method_6_code
def yJ7_length : MethodName := ⟨RJ7, "length", "([B)I"⟩
theorem dJ7_length_0 : decode cJ7_length 0 = .ok (.aload_n 0, 1) := by decide +kernel
theorem dJ7_length_1 : decode cJ7_length 1 = .ok (.arraylength, 1) := by decide +kernel
theorem dJ7_length_2 : decode cJ7_length 2 = .ok (.iconst 1, 1) := by decide +kernel
theorem dJ7_length_3 : decode cJ7_length 3 = .ok (.ishr, 1) := by decide +kernel
theorem dJ7_length_4 : decode cJ7_length 4 = .ok (.ireturn, 1) := by decide +kernel
abbrev cJ7_indexOfCharUnsafe : ByteArray := prog_30_method_48_code
def yJ7_indexOfCharUnsafe : MethodName := ⟨RJ7, "indexOfCharUnsafe", "([BIII)I"⟩
theorem dJ7_indexOfCharUnsafe_0 : decode cJ7_indexOfCharUnsafe 0 = .ok (.iload_n 2, 1) := by decide +kernel
theorem dJ7_indexOfCharUnsafe_1 : decode cJ7_indexOfCharUnsafe 1 = .ok (.istore 4, 2) := by decide +kernel
theorem dJ7_indexOfCharUnsafe_3 : decode cJ7_indexOfCharUnsafe 3 = .ok (.iload 4, 2) := by decide +kernel
theorem dJ7_indexOfCharUnsafe_5 : decode cJ7_indexOfCharUnsafe 5 = .ok (.iload_n 3, 1) := by decide +kernel
theorem dJ7_indexOfCharUnsafe_6 : decode cJ7_indexOfCharUnsafe 6 = .ok (.if_icmp .ge 22, 3) := by decide +kernel
theorem dJ7_indexOfCharUnsafe_9 : decode cJ7_indexOfCharUnsafe 9 = .ok (.aload_n 0, 1) := by decide +kernel
theorem dJ7_indexOfCharUnsafe_10 : decode cJ7_indexOfCharUnsafe 10 = .ok (.iload 4, 2) := by decide +kernel
theorem dJ7_indexOfCharUnsafe_12 : decode cJ7_indexOfCharUnsafe 12 = .ok (.invokestatic 71, 3) := by decide +kernel
theorem dJ7_indexOfCharUnsafe_15 : decode cJ7_indexOfCharUnsafe 15 = .ok (.iload_n 1, 1) := by decide +kernel
theorem dJ7_indexOfCharUnsafe_16 : decode cJ7_indexOfCharUnsafe 16 = .ok (.if_icmp .ne 6, 3) := by decide +kernel
theorem dJ7_indexOfCharUnsafe_19 : decode cJ7_indexOfCharUnsafe 19 = .ok (.iload 4, 2) := by decide +kernel
theorem dJ7_indexOfCharUnsafe_21 : decode cJ7_indexOfCharUnsafe 21 = .ok (.ireturn, 1) := by decide +kernel
theorem dJ7_indexOfCharUnsafe_22 : decode cJ7_indexOfCharUnsafe 22 = .ok (.iinc 4 1, 3) := by decide +kernel
theorem dJ7_indexOfCharUnsafe_25 : decode cJ7_indexOfCharUnsafe 25 = .ok (.goto (-22), 3) := by decide +kernel
theorem dJ7_indexOfCharUnsafe_28 : decode cJ7_indexOfCharUnsafe 28 = .ok (.iconst (-1), 1) := by decide +kernel
theorem dJ7_indexOfCharUnsafe_29 : decode cJ7_indexOfCharUnsafe 29 = .ok (.ireturn, 1) := by decide +kernel
abbrev cJ7_getChar : ByteArray := prog_30_method_5_code
def yJ7_getChar : MethodName := ⟨RJ7, "getChar", "([BI)C"⟩
theorem dJ7_getChar_0 : decode cJ7_getChar 0 = .ok (.getstatic 44, 3) := by decide +kernel
theorem dJ7_getChar_3 : decode cJ7_getChar 3 = .ok (.ifCond .ne 25, 3) := by decide +kernel
theorem dJ7_getChar_6 : decode cJ7_getChar 6 = .ok (.iload_n 1, 1) := by decide +kernel
theorem dJ7_getChar_7 : decode cJ7_getChar 7 = .ok (.ifCond .lt 11, 3) := by decide +kernel
theorem dJ7_getChar_10 : decode cJ7_getChar 10 = .ok (.iload_n 1, 1) := by decide +kernel
theorem dJ7_getChar_11 : decode cJ7_getChar 11 = .ok (.aload_n 0, 1) := by decide +kernel
theorem dJ7_getChar_12 : decode cJ7_getChar 12 = .ok (.invokestatic 48, 3) := by decide +kernel
theorem dJ7_getChar_15 : decode cJ7_getChar 15 = .ok (.if_icmp .lt 13, 3) := by decide +kernel
theorem dJ7_getChar_18 : decode cJ7_getChar 18 = .ok (.new 52, 3) := by decide +kernel
theorem dJ7_getChar_21 : decode cJ7_getChar 21 = .ok (.dup, 1) := by decide +kernel
theorem dJ7_getChar_22 : decode cJ7_getChar 22 = .ok (.ldc 54, 2) := by decide +kernel
theorem dJ7_getChar_24 : decode cJ7_getChar 24 = .ok (.invokespecial 56, 3) := by decide +kernel
theorem dJ7_getChar_27 : decode cJ7_getChar 27 = .ok (.athrow, 1) := by decide +kernel
theorem dJ7_getChar_28 : decode cJ7_getChar 28 = .ok (.iload_n 1, 1) := by decide +kernel
theorem dJ7_getChar_29 : decode cJ7_getChar 29 = .ok (.iconst 1, 1) := by decide +kernel
theorem dJ7_getChar_30 : decode cJ7_getChar 30 = .ok (.ishl, 1) := by decide +kernel
theorem dJ7_getChar_31 : decode cJ7_getChar 31 = .ok (.istore_n 1, 1) := by decide +kernel
theorem dJ7_getChar_32 : decode cJ7_getChar 32 = .ok (.aload_n 0, 1) := by decide +kernel
theorem dJ7_getChar_33 : decode cJ7_getChar 33 = .ok (.iload_n 1, 1) := by decide +kernel
theorem dJ7_getChar_34 : decode cJ7_getChar 34 = .ok (.iinc 1 1, 3) := by decide +kernel
theorem dJ7_getChar_37 : decode cJ7_getChar 37 = .ok (.baload, 1) := by decide +kernel
theorem dJ7_getChar_38 : decode cJ7_getChar 38 = .ok (.sipush 255, 3) := by decide +kernel
theorem dJ7_getChar_41 : decode cJ7_getChar 41 = .ok (.iand, 1) := by decide +kernel
theorem dJ7_getChar_42 : decode cJ7_getChar 42 = .ok (.getstatic 59, 3) := by decide +kernel
theorem dJ7_getChar_45 : decode cJ7_getChar 45 = .ok (.ishl, 1) := by decide +kernel
theorem dJ7_getChar_46 : decode cJ7_getChar 46 = .ok (.aload_n 0, 1) := by decide +kernel
theorem dJ7_getChar_47 : decode cJ7_getChar 47 = .ok (.iload_n 1, 1) := by decide +kernel
theorem dJ7_getChar_48 : decode cJ7_getChar 48 = .ok (.baload, 1) := by decide +kernel
theorem dJ7_getChar_49 : decode cJ7_getChar 49 = .ok (.sipush 255, 3) := by decide +kernel
theorem dJ7_getChar_52 : decode cJ7_getChar 52 = .ok (.iand, 1) := by decide +kernel
theorem dJ7_getChar_53 : decode cJ7_getChar 53 = .ok (.getstatic 63, 3) := by decide +kernel
theorem dJ7_getChar_56 : decode cJ7_getChar 56 = .ok (.ishl, 1) := by decide +kernel
theorem dJ7_getChar_57 : decode cJ7_getChar 57 = .ok (.ior, 1) := by decide +kernel
theorem dJ7_getChar_58 : decode cJ7_getChar 58 = .ok (.i2c, 1) := by decide +kernel
theorem dJ7_getChar_59 : decode cJ7_getChar 59 = .ok (.ireturn, 1) := by decide +kernel
abbrev cJ7_indexOfSupplementary : ByteArray := prog_30_method_49_code
def yJ7_indexOfSupplementary : MethodName := ⟨RJ7, "indexOfSupplementary", "([BIII)I"⟩
theorem dJ7_indexOfSupplementary_0 : decode cJ7_indexOfSupplementary 0 = .ok (.iload_n 1, 1) := by decide +kernel
theorem dJ7_indexOfSupplementary_1 : decode cJ7_indexOfSupplementary 1 = .ok (.invokestatic 164, 3) := by decide +kernel
theorem dJ7_indexOfSupplementary_4 : decode cJ7_indexOfSupplementary 4 = .ok (.ifCond .eq 65, 3) := by decide +kernel
theorem dJ7_indexOfSupplementary_7 : decode cJ7_indexOfSupplementary 7 = .ok (.iload_n 1, 1) := by decide +kernel
theorem dJ7_indexOfSupplementary_8 : decode cJ7_indexOfSupplementary 8 = .ok (.invokestatic 157, 3) := by decide +kernel
theorem dJ7_indexOfSupplementary_11 : decode cJ7_indexOfSupplementary 11 = .ok (.istore 4, 2) := by decide +kernel
theorem dJ7_indexOfSupplementary_13 : decode cJ7_indexOfSupplementary 13 = .ok (.iload_n 1, 1) := by decide +kernel
theorem dJ7_indexOfSupplementary_14 : decode cJ7_indexOfSupplementary 14 = .ok (.invokestatic 161, 3) := by decide +kernel
theorem dJ7_indexOfSupplementary_17 : decode cJ7_indexOfSupplementary 17 = .ok (.istore 5, 2) := by decide +kernel
theorem dJ7_indexOfSupplementary_19 : decode cJ7_indexOfSupplementary 19 = .ok (.iload_n 2, 1) := by decide +kernel
theorem dJ7_indexOfSupplementary_20 : decode cJ7_indexOfSupplementary 20 = .ok (.iload_n 3, 1) := by decide +kernel
theorem dJ7_indexOfSupplementary_21 : decode cJ7_indexOfSupplementary 21 = .ok (.aload_n 0, 1) := by decide +kernel
theorem dJ7_indexOfSupplementary_22 : decode cJ7_indexOfSupplementary 22 = .ok (.invokestatic 96, 3) := by decide +kernel
theorem dJ7_indexOfSupplementary_25 : decode cJ7_indexOfSupplementary 25 = .ok (.iload_n 2, 1) := by decide +kernel
theorem dJ7_indexOfSupplementary_26 : decode cJ7_indexOfSupplementary 26 = .ok (.istore 6, 2) := by decide +kernel
theorem dJ7_indexOfSupplementary_28 : decode cJ7_indexOfSupplementary 28 = .ok (.iload 6, 2) := by decide +kernel
theorem dJ7_indexOfSupplementary_30 : decode cJ7_indexOfSupplementary 30 = .ok (.iload_n 3, 1) := by decide +kernel
theorem dJ7_indexOfSupplementary_31 : decode cJ7_indexOfSupplementary 31 = .ok (.iconst 1, 1) := by decide +kernel
theorem dJ7_indexOfSupplementary_32 : decode cJ7_indexOfSupplementary 32 = .ok (.isub, 1) := by decide +kernel
theorem dJ7_indexOfSupplementary_33 : decode cJ7_indexOfSupplementary 33 = .ok (.if_icmp .ge 36, 3) := by decide +kernel
theorem dJ7_indexOfSupplementary_36 : decode cJ7_indexOfSupplementary 36 = .ok (.aload_n 0, 1) := by decide +kernel
theorem dJ7_indexOfSupplementary_37 : decode cJ7_indexOfSupplementary 37 = .ok (.iload 6, 2) := by decide +kernel
theorem dJ7_indexOfSupplementary_39 : decode cJ7_indexOfSupplementary 39 = .ok (.invokestatic 71, 3) := by decide +kernel
theorem dJ7_indexOfSupplementary_42 : decode cJ7_indexOfSupplementary 42 = .ok (.iload 4, 2) := by decide +kernel
theorem dJ7_indexOfSupplementary_44 : decode cJ7_indexOfSupplementary 44 = .ok (.if_icmp .ne 19, 3) := by decide +kernel
theorem dJ7_indexOfSupplementary_47 : decode cJ7_indexOfSupplementary 47 = .ok (.aload_n 0, 1) := by decide +kernel
theorem dJ7_indexOfSupplementary_48 : decode cJ7_indexOfSupplementary 48 = .ok (.iload 6, 2) := by decide +kernel
theorem dJ7_indexOfSupplementary_50 : decode cJ7_indexOfSupplementary 50 = .ok (.iconst 1, 1) := by decide +kernel
theorem dJ7_indexOfSupplementary_51 : decode cJ7_indexOfSupplementary 51 = .ok (.iadd, 1) := by decide +kernel
theorem dJ7_indexOfSupplementary_52 : decode cJ7_indexOfSupplementary 52 = .ok (.invokestatic 71, 3) := by decide +kernel
theorem dJ7_indexOfSupplementary_55 : decode cJ7_indexOfSupplementary 55 = .ok (.iload 5, 2) := by decide +kernel
theorem dJ7_indexOfSupplementary_57 : decode cJ7_indexOfSupplementary 57 = .ok (.if_icmp .ne 6, 3) := by decide +kernel
theorem dJ7_indexOfSupplementary_60 : decode cJ7_indexOfSupplementary 60 = .ok (.iload 6, 2) := by decide +kernel
theorem dJ7_indexOfSupplementary_62 : decode cJ7_indexOfSupplementary 62 = .ok (.ireturn, 1) := by decide +kernel
theorem dJ7_indexOfSupplementary_63 : decode cJ7_indexOfSupplementary 63 = .ok (.iinc 6 1, 3) := by decide +kernel
theorem dJ7_indexOfSupplementary_66 : decode cJ7_indexOfSupplementary 66 = .ok (.goto (-38), 3) := by decide +kernel
theorem dJ7_indexOfSupplementary_69 : decode cJ7_indexOfSupplementary 69 = .ok (.iconst (-1), 1) := by decide +kernel
theorem dJ7_indexOfSupplementary_70 : decode cJ7_indexOfSupplementary 70 = .ok (.ireturn, 1) := by decide +kernel
abbrev cJ7_charAt : ByteArray := prog_30_method_83_code
def yJ7_charAt : MethodName := ⟨RJ7, "charAt", "([BI)C"⟩
theorem dJ7_charAt_0 : decode cJ7_charAt 0 = .ok (.iload_n 1, 1) := by decide +kernel
theorem dJ7_charAt_1 : decode cJ7_charAt 1 = .ok (.aload_n 0, 1) := by decide +kernel
theorem dJ7_charAt_2 : decode cJ7_charAt 2 = .ok (.invokestatic 67, 3) := by decide +kernel
theorem dJ7_charAt_5 : decode cJ7_charAt 5 = .ok (.aload_n 0, 1) := by decide +kernel
theorem dJ7_charAt_6 : decode cJ7_charAt 6 = .ok (.iload_n 1, 1) := by decide +kernel
theorem dJ7_charAt_7 : decode cJ7_charAt 7 = .ok (.invokestatic 71, 3) := by decide +kernel
theorem dJ7_charAt_10 : decode cJ7_charAt 10 = .ok (.ireturn, 1) := by decide +kernel
abbrev cJ7_checkIndex : ByteArray := prog_30_method_91_code
def yJ7_checkIndex : MethodName := ⟨RJ7, "checkIndex", "(I[B)V"⟩
theorem dJ7_checkIndex_0 : decode cJ7_checkIndex 0 = .ok (.iload_n 0, 1) := by decide +kernel
theorem dJ7_checkIndex_1 : decode cJ7_checkIndex 1 = .ok (.aload_n 1, 1) := by decide +kernel
theorem dJ7_checkIndex_2 : decode cJ7_checkIndex 2 = .ok (.invokestatic 48, 3) := by decide +kernel
theorem dJ7_checkIndex_5 : decode cJ7_checkIndex 5 = .ok (.invokestatic 414, 3) := by decide +kernel
theorem dJ7_checkIndex_8 : decode cJ7_checkIndex 8 = .ok (.return_, 1) := by decide +kernel
theorem q100 : (Jvm.Cond.initialized "java/lang/StringUTF16") ∈ lw_all := lw_g (lw_at lw_m1 15 rfl) rfl
theorem q693 : (Jvm.Cond.static ({ cls := "java/lang/StringUTF16", name := "indexOf", desc := "([BIII)I" } : Jvm.MethodName)) ∈ lw_all := lw_g (lw_at lw_m3 128 rfl) rfl
theorem q694 : (Jvm.Cond.code ({ cls := "java/lang/StringUTF16", name := "indexOf", desc := "([BIII)I" } : Jvm.MethodName) prog_30_method_40_code (4 : Nat) (Option.some Jvm.ClassFile.FieldType.int)) ∈ lw_all := lw_g (lw_at lw_m3 129 rfl) rfl
theorem q695 : (Jvm.Cond.methodLink "java/lang/StringUTF16" (224 : Nat) ({ cls := "java/lang/Math", name := "max", desc := "(II)I" } : Jvm.MethodName)) ∈ lw_all := lw_g (lw_at lw_m3 130 rfl) rfl
theorem q696 : (Jvm.Cond.methodLink "java/lang/StringUTF16" (183 : Nat) ({ cls := "java/lang/Math", name := "min", desc := "(II)I" } : Jvm.MethodName)) ∈ lw_all := lw_g (lw_at lw_m3 131 rfl) rfl
theorem q697 : (Jvm.Cond.constant "java/lang/StringUTF16" (227 : Nat) (65536 : Int32)) ∈ lw_all := lw_g (lw_at lw_m3 132 rfl) rfl
theorem q698 : (Jvm.Cond.methodLink "java/lang/StringUTF16" (228 : Nat) ({ cls := "java/lang/StringUTF16", name := "indexOfChar", desc := "([BIII)I" } : Jvm.MethodName)) ∈ lw_all := lw_g (lw_at lw_m3 133 rfl) rfl
theorem q699 : (Jvm.Cond.static ({ cls := "java/lang/StringUTF16", name := "indexOfChar", desc := "([BIII)I" } : Jvm.MethodName)) ∈ lw_all := lw_g (lw_at lw_m3 134 rfl) rfl
theorem q700 : (Jvm.Cond.code ({ cls := "java/lang/StringUTF16", name := "indexOfChar", desc := "([BIII)I" } : Jvm.MethodName) prog_30_method_47_code (4 : Nat) (Option.some Jvm.ClassFile.FieldType.int)) ∈ lw_all := lw_g (lw_at lw_m3 135 rfl) rfl
theorem q701 : (Jvm.Cond.methodLink "java/lang/StringUTF16" (96 : Nat) ({ cls := "java/lang/StringUTF16", name := "checkBoundsBeginEnd", desc := "(II[B)V" } : Jvm.MethodName)) ∈ lw_all := lw_g (lw_at lw_m3 136 rfl) rfl
theorem q702 : (Jvm.Cond.static ({ cls := "java/lang/StringUTF16", name := "checkBoundsBeginEnd", desc := "(II[B)V" } : Jvm.MethodName)) ∈ lw_all := lw_g (lw_at lw_m3 137 rfl) rfl
theorem q703 : (Jvm.Cond.code ({ cls := "java/lang/StringUTF16", name := "checkBoundsBeginEnd", desc := "(II[B)V" } : Jvm.MethodName) prog_30_method_93_code (3 : Nat) (Option.none : Option Jvm.ClassFile.FieldType)) ∈ lw_all := lw_g (lw_at lw_m3 138 rfl) rfl
theorem q704 : (Jvm.Cond.methodLink "java/lang/StringUTF16" (48 : Nat) ({ cls := "java/lang/StringUTF16", name := "length", desc := "([B)I" } : Jvm.MethodName)) ∈ lw_all := lw_g (lw_at lw_m3 139 rfl) rfl
theorem q705 : (Jvm.Cond.static ({ cls := "java/lang/StringUTF16", name := "length", desc := "([B)I" } : Jvm.MethodName)) ∈ lw_all := lw_g (lw_at lw_m3 140 rfl) rfl
theorem q706 : (Jvm.Cond.code ({ cls := "java/lang/StringUTF16", name := "length", desc := "([B)I" } : Jvm.MethodName) prog_30_method_6_code (1 : Nat) (Option.some Jvm.ClassFile.FieldType.int)) ∈ lw_all := lw_g (lw_at lw_m3 141 rfl) rfl
theorem q707 : (Jvm.Cond.methodLink "java/lang/StringUTF16" (241 : Nat) ({ cls := "java/lang/String", name := "checkBoundsBeginEnd", desc := "(III)V" } : Jvm.MethodName)) ∈ lw_all := lw_g (lw_at lw_m3 142 rfl) rfl
theorem q715 : (Jvm.Cond.methodLink "java/lang/StringUTF16" (244 : Nat) ({ cls := "java/lang/StringUTF16", name := "indexOfCharUnsafe", desc := "([BIII)I" } : Jvm.MethodName)) ∈ lw_all := lw_g (lw_at lw_m3 150 rfl) rfl
theorem q716 : (Jvm.Cond.static ({ cls := "java/lang/StringUTF16", name := "indexOfCharUnsafe", desc := "([BIII)I" } : Jvm.MethodName)) ∈ lw_all := lw_g (lw_at lw_m3 151 rfl) rfl
theorem q717 : (Jvm.Cond.code ({ cls := "java/lang/StringUTF16", name := "indexOfCharUnsafe", desc := "([BIII)I" } : Jvm.MethodName) prog_30_method_48_code (5 : Nat) (Option.some Jvm.ClassFile.FieldType.int)) ∈ lw_all := lw_g (lw_at lw_m3 152 rfl) rfl
theorem q718 : (Jvm.Cond.methodLink "java/lang/StringUTF16" (71 : Nat) ({ cls := "java/lang/StringUTF16", name := "getChar", desc := "([BI)C" } : Jvm.MethodName)) ∈ lw_all := lw_g (lw_at lw_m3 153 rfl) rfl
theorem q719 : (Jvm.Cond.static ({ cls := "java/lang/StringUTF16", name := "getChar", desc := "([BI)C" } : Jvm.MethodName)) ∈ lw_all := lw_g (lw_at lw_m3 154 rfl) rfl
theorem q720 : (Jvm.Cond.code ({ cls := "java/lang/StringUTF16", name := "getChar", desc := "([BI)C" } : Jvm.MethodName) prog_30_method_5_code (2 : Nat) (Option.some Jvm.ClassFile.FieldType.char)) ∈ lw_all := lw_g (lw_at lw_m3 155 rfl) rfl
theorem q721 : (Jvm.Cond.fieldLink "java/lang/StringUTF16" (44 : Nat) "java/lang/StringUTF16" "$assertionsDisabled" "Z") ∈ lw_all := lw_g (lw_at lw_m3 156 rfl) rfl
theorem q722 : (Jvm.Cond.laysStatic "java/lang/StringUTF16" "$assertionsDisabled" "Z") ∈ lw_tbl := lw_at lw_m3 157 rfl
theorem q723 : (Jvm.Cond.fieldLink "java/lang/StringUTF16" (59 : Nat) "java/lang/StringUTF16" "HI_BYTE_SHIFT" "I") ∈ lw_all := lw_g (lw_at lw_m3 158 rfl) rfl
theorem q724 : (Jvm.Cond.laysStatic "java/lang/StringUTF16" "HI_BYTE_SHIFT" "I") ∈ lw_tbl := lw_at lw_m3 159 rfl
theorem q725 : (Jvm.Cond.fieldLink "java/lang/StringUTF16" (63 : Nat) "java/lang/StringUTF16" "LO_BYTE_SHIFT" "I") ∈ lw_all := lw_g (lw_at lw_m3 160 rfl) rfl
theorem q726 : (Jvm.Cond.laysStatic "java/lang/StringUTF16" "LO_BYTE_SHIFT" "I") ∈ lw_tbl := lw_at lw_m3 161 rfl
theorem q727 : (Jvm.Cond.methodLink "java/lang/StringUTF16" (232 : Nat) ({ cls := "java/lang/StringUTF16", name := "indexOfSupplementary", desc := "([BIII)I" } : Jvm.MethodName)) ∈ lw_all := lw_g (lw_at lw_m3 162 rfl) rfl
theorem q728 : (Jvm.Cond.static ({ cls := "java/lang/StringUTF16", name := "indexOfSupplementary", desc := "([BIII)I" } : Jvm.MethodName)) ∈ lw_all := lw_g (lw_at lw_m3 163 rfl) rfl
theorem q729 : (Jvm.Cond.code ({ cls := "java/lang/StringUTF16", name := "indexOfSupplementary", desc := "([BIII)I" } : Jvm.MethodName) prog_30_method_49_code (7 : Nat) (Option.some Jvm.ClassFile.FieldType.int)) ∈ lw_all := lw_g (lw_at lw_m3 164 rfl) rfl
theorem q730 : (Jvm.Cond.methodLink "java/lang/StringUTF16" (164 : Nat) ({ cls := "java/lang/Character", name := "isValidCodePoint", desc := "(I)Z" } : Jvm.MethodName)) ∈ lw_all := lw_g (lw_at lw_m3 165 rfl) rfl
theorem q733 : (Jvm.Cond.methodLink "java/lang/StringUTF16" (157 : Nat) ({ cls := "java/lang/Character", name := "highSurrogate", desc := "(I)C" } : Jvm.MethodName)) ∈ lw_all := lw_g (lw_at lw_m3 168 rfl) rfl
theorem q737 : (Jvm.Cond.methodLink "java/lang/StringUTF16" (161 : Nat) ({ cls := "java/lang/Character", name := "lowSurrogate", desc := "(I)C" } : Jvm.MethodName)) ∈ lw_all := lw_g (lw_at lw_m3 172 rfl) rfl
theorem q755 : (Jvm.Cond.static ({ cls := "java/lang/StringUTF16", name := "charAt", desc := "([BI)C" } : Jvm.MethodName)) ∈ lw_all := lw_g (lw_at lw_m3 190 rfl) rfl
theorem q756 : (Jvm.Cond.code ({ cls := "java/lang/StringUTF16", name := "charAt", desc := "([BI)C" } : Jvm.MethodName) prog_30_method_83_code (2 : Nat) (Option.some Jvm.ClassFile.FieldType.char)) ∈ lw_all := lw_g (lw_at lw_m3 191 rfl) rfl
theorem q757 : (Jvm.Cond.methodLink "java/lang/StringUTF16" (67 : Nat) ({ cls := "java/lang/StringUTF16", name := "checkIndex", desc := "(I[B)V" } : Jvm.MethodName)) ∈ lw_all := lw_g (lw_at lw_m3 192 rfl) rfl
theorem q758 : (Jvm.Cond.static ({ cls := "java/lang/StringUTF16", name := "checkIndex", desc := "(I[B)V" } : Jvm.MethodName)) ∈ lw_all := lw_g (lw_at lw_m3 193 rfl) rfl
theorem q759 : (Jvm.Cond.code ({ cls := "java/lang/StringUTF16", name := "checkIndex", desc := "(I[B)V" } : Jvm.MethodName) prog_30_method_91_code (2 : Nat) (Option.none : Option Jvm.ClassFile.FieldType)) ∈ lw_all := lw_g (lw_at lw_m3 194 rfl) rfl
theorem q760 : (Jvm.Cond.methodLink "java/lang/StringUTF16" (414 : Nat) ({ cls := "java/lang/String", name := "checkIndex", desc := "(II)V" } : Jvm.MethodName)) ∈ lw_all := lw_g (lw_at lw_m3 195 rfl) rfl
/-! jdk/internal/util/Preconditions -/
set_option maxRecDepth 100000
def RJ8 : String := "jdk/internal/util/Preconditions"
abbrev cJ8_checkFromToIndex : ByteArray := prog_46_method_12_code
def yJ8_checkFromToIndex : MethodName := ⟨RJ8, "checkFromToIndex", "(IIILjava/util/function/BiFunction;)I"⟩
theorem dJ8_checkFromToIndex_0 : decode cJ8_checkFromToIndex 0 = .ok (.iload_n 0, 1) := by decide +kernel
theorem dJ8_checkFromToIndex_1 : decode cJ8_checkFromToIndex 1 = .ok (.ifCond .lt 13, 3) := by decide +kernel
theorem dJ8_checkFromToIndex_4 : decode cJ8_checkFromToIndex 4 = .ok (.iload_n 0, 1) := by decide +kernel
theorem dJ8_checkFromToIndex_5 : decode cJ8_checkFromToIndex 5 = .ok (.iload_n 1, 1) := by decide +kernel
theorem dJ8_checkFromToIndex_6 : decode cJ8_checkFromToIndex 6 = .ok (.if_icmp .gt 8, 3) := by decide +kernel
theorem dJ8_checkFromToIndex_9 : decode cJ8_checkFromToIndex 9 = .ok (.iload_n 1, 1) := by decide +kernel
theorem dJ8_checkFromToIndex_10 : decode cJ8_checkFromToIndex 10 = .ok (.iload_n 2, 1) := by decide +kernel
theorem dJ8_checkFromToIndex_11 : decode cJ8_checkFromToIndex 11 = .ok (.if_icmp .le 11, 3) := by decide +kernel
theorem dJ8_checkFromToIndex_14 : decode cJ8_checkFromToIndex 14 = .ok (.aload_n 3, 1) := by decide +kernel
theorem dJ8_checkFromToIndex_15 : decode cJ8_checkFromToIndex 15 = .ok (.iload_n 0, 1) := by decide +kernel
theorem dJ8_checkFromToIndex_16 : decode cJ8_checkFromToIndex 16 = .ok (.iload_n 1, 1) := by decide +kernel
theorem dJ8_checkFromToIndex_17 : decode cJ8_checkFromToIndex 17 = .ok (.iload_n 2, 1) := by decide +kernel
theorem dJ8_checkFromToIndex_18 : decode cJ8_checkFromToIndex 18 = .ok (.invokestatic 99, 3) := by decide +kernel
theorem dJ8_checkFromToIndex_21 : decode cJ8_checkFromToIndex 21 = .ok (.athrow, 1) := by decide +kernel
theorem dJ8_checkFromToIndex_22 : decode cJ8_checkFromToIndex 22 = .ok (.iload_n 0, 1) := by decide +kernel
theorem dJ8_checkFromToIndex_23 : decode cJ8_checkFromToIndex 23 = .ok (.ireturn, 1) := by decide +kernel
abbrev cJ8_checkIndex : ByteArray := prog_46_method_11_code
def yJ8_checkIndex : MethodName := ⟨RJ8, "checkIndex", "(IILjava/util/function/BiFunction;)I"⟩
theorem dJ8_checkIndex_0 : decode cJ8_checkIndex 0 = .ok (.iload_n 0, 1) := by decide +kernel
theorem dJ8_checkIndex_1 : decode cJ8_checkIndex 1 = .ok (.ifCond .lt 8, 3) := by decide +kernel
theorem dJ8_checkIndex_4 : decode cJ8_checkIndex 4 = .ok (.iload_n 0, 1) := by decide +kernel
theorem dJ8_checkIndex_5 : decode cJ8_checkIndex 5 = .ok (.iload_n 1, 1) := by decide +kernel
theorem dJ8_checkIndex_6 : decode cJ8_checkIndex 6 = .ok (.if_icmp .lt 10, 3) := by decide +kernel
theorem dJ8_checkIndex_9 : decode cJ8_checkIndex 9 = .ok (.aload_n 2, 1) := by decide +kernel
theorem dJ8_checkIndex_10 : decode cJ8_checkIndex 10 = .ok (.iload_n 0, 1) := by decide +kernel
theorem dJ8_checkIndex_11 : decode cJ8_checkIndex 11 = .ok (.iload_n 1, 1) := by decide +kernel
theorem dJ8_checkIndex_12 : decode cJ8_checkIndex 12 = .ok (.invokestatic 95, 3) := by decide +kernel
theorem dJ8_checkIndex_15 : decode cJ8_checkIndex 15 = .ok (.athrow, 1) := by decide +kernel
theorem dJ8_checkIndex_16 : decode cJ8_checkIndex 16 = .ok (.iload_n 0, 1) := by decide +kernel
theorem dJ8_checkIndex_17 : decode cJ8_checkIndex 17 = .ok (.ireturn, 1) := by decide +kernel
theorem q101 : (Jvm.Cond.initialized "jdk/internal/util/Preconditions") ∈ lw_all := lw_g (lw_at lw_m1 16 rfl) rfl
theorem q711 : (Jvm.Cond.laysStatic "jdk/internal/util/Preconditions" "SIOOBE_FORMATTER" "Ljava/util/function/BiFunction;") ∈ lw_tbl := lw_at lw_m3 146 rfl
theorem q713 : (Jvm.Cond.static ({ cls := "jdk/internal/util/Preconditions", name := "checkFromToIndex", desc := "(IIILjava/util/function/BiFunction;)I" } : Jvm.MethodName)) ∈ lw_all := lw_g (lw_at lw_m3 148 rfl) rfl
theorem q714 : (Jvm.Cond.code ({ cls := "jdk/internal/util/Preconditions", name := "checkFromToIndex", desc := "(IIILjava/util/function/BiFunction;)I" } : Jvm.MethodName) prog_46_method_12_code (4 : Nat) (Option.some Jvm.ClassFile.FieldType.int)) ∈ lw_all := lw_g (lw_at lw_m3 149 rfl) rfl
theorem q752 : (Jvm.Cond.static ({ cls := "jdk/internal/util/Preconditions", name := "checkIndex", desc := "(IILjava/util/function/BiFunction;)I" } : Jvm.MethodName)) ∈ lw_all := lw_g (lw_at lw_m3 187 rfl) rfl
theorem q753 : (Jvm.Cond.code ({ cls := "jdk/internal/util/Preconditions", name := "checkIndex", desc := "(IILjava/util/function/BiFunction;)I" } : Jvm.MethodName) prog_46_method_11_code (3 : Nat) (Option.some Jvm.ClassFile.FieldType.int)) ∈ lw_all := lw_g (lw_at lw_m3 188 rfl) rfl
/-! java/lang/Character -/
set_option maxRecDepth 100000
def RJ9 : String := "java/lang/Character"
abbrev cJ9_isValidCodePoint : ByteArray := prog_20_method_11_code
def yJ9_isValidCodePoint : MethodName := ⟨RJ9, "isValidCodePoint", "(I)Z"⟩
theorem dJ9_isValidCodePoint_0 : decode cJ9_isValidCodePoint 0 = .ok (.iload_n 0, 1) := by decide +kernel
theorem dJ9_isValidCodePoint_1 : decode cJ9_isValidCodePoint 1 = .ok (.bipush 16, 2) := by decide +kernel
theorem dJ9_isValidCodePoint_3 : decode cJ9_isValidCodePoint 3 = .ok (.iushr, 1) := by decide +kernel
theorem dJ9_isValidCodePoint_4 : decode cJ9_isValidCodePoint 4 = .ok (.istore_n 1, 1) := by decide +kernel
theorem dJ9_isValidCodePoint_5 : decode cJ9_isValidCodePoint 5 = .ok (.iload_n 1, 1) := by decide +kernel
theorem dJ9_isValidCodePoint_6 : decode cJ9_isValidCodePoint 6 = .ok (.bipush 17, 2) := by decide +kernel
theorem dJ9_isValidCodePoint_8 : decode cJ9_isValidCodePoint 8 = .ok (.if_icmp .ge 7, 3) := by decide +kernel
theorem dJ9_isValidCodePoint_11 : decode cJ9_isValidCodePoint 11 = .ok (.iconst 1, 1) := by decide +kernel
theorem dJ9_isValidCodePoint_12 : decode cJ9_isValidCodePoint 12 = .ok (.goto 4, 3) := by decide +kernel
theorem dJ9_isValidCodePoint_15 : decode cJ9_isValidCodePoint 15 = .ok (.iconst 0, 1) := by decide +kernel
theorem dJ9_isValidCodePoint_16 : decode cJ9_isValidCodePoint 16 = .ok (.ireturn, 1) := by decide +kernel
abbrev cJ9_highSurrogate : ByteArray := prog_20_method_28_code
def yJ9_highSurrogate : MethodName := ⟨RJ9, "highSurrogate", "(I)C"⟩
theorem dJ9_highSurrogate_0 : decode cJ9_highSurrogate 0 = .ok (.iload_n 0, 1) := by decide +kernel
theorem dJ9_highSurrogate_1 : decode cJ9_highSurrogate 1 = .ok (.bipush 10, 2) := by decide +kernel
theorem dJ9_highSurrogate_3 : decode cJ9_highSurrogate 3 = .ok (.iushr, 1) := by decide +kernel
theorem dJ9_highSurrogate_4 : decode cJ9_highSurrogate 4 = .ok (.ldc 110, 2) := by decide +kernel
theorem dJ9_highSurrogate_6 : decode cJ9_highSurrogate 6 = .ok (.iadd, 1) := by decide +kernel
theorem dJ9_highSurrogate_7 : decode cJ9_highSurrogate 7 = .ok (.i2c, 1) := by decide +kernel
theorem dJ9_highSurrogate_8 : decode cJ9_highSurrogate 8 = .ok (.ireturn, 1) := by decide +kernel
abbrev cJ9_lowSurrogate : ByteArray := prog_20_method_29_code
def yJ9_lowSurrogate : MethodName := ⟨RJ9, "lowSurrogate", "(I)C"⟩
theorem dJ9_lowSurrogate_0 : decode cJ9_lowSurrogate 0 = .ok (.iload_n 0, 1) := by decide +kernel
theorem dJ9_lowSurrogate_1 : decode cJ9_lowSurrogate 1 = .ok (.sipush 1023, 3) := by decide +kernel
theorem dJ9_lowSurrogate_4 : decode cJ9_lowSurrogate 4 = .ok (.iand, 1) := by decide +kernel
theorem dJ9_lowSurrogate_5 : decode cJ9_lowSurrogate 5 = .ok (.ldc 76, 2) := by decide +kernel
theorem dJ9_lowSurrogate_7 : decode cJ9_lowSurrogate 7 = .ok (.iadd, 1) := by decide +kernel
theorem dJ9_lowSurrogate_8 : decode cJ9_lowSurrogate 8 = .ok (.i2c, 1) := by decide +kernel
theorem dJ9_lowSurrogate_9 : decode cJ9_lowSurrogate 9 = .ok (.ireturn, 1) := by decide +kernel
theorem q102 : (Jvm.Cond.initialized "java/lang/Character") ∈ lw_all := lw_g (lw_at lw_m1 17 rfl) rfl
theorem q731 : (Jvm.Cond.static ({ cls := "java/lang/Character", name := "isValidCodePoint", desc := "(I)Z" } : Jvm.MethodName)) ∈ lw_all := lw_g (lw_at lw_m3 166 rfl) rfl
theorem q732 : (Jvm.Cond.code ({ cls := "java/lang/Character", name := "isValidCodePoint", desc := "(I)Z" } : Jvm.MethodName) prog_20_method_11_code (2 : Nat) (Option.some Jvm.ClassFile.FieldType.boolean)) ∈ lw_all := lw_g (lw_at lw_m3 167 rfl) rfl
theorem q734 : (Jvm.Cond.static ({ cls := "java/lang/Character", name := "highSurrogate", desc := "(I)C" } : Jvm.MethodName)) ∈ lw_all := lw_g (lw_at lw_m3 169 rfl) rfl
theorem q735 : (Jvm.Cond.code ({ cls := "java/lang/Character", name := "highSurrogate", desc := "(I)C" } : Jvm.MethodName) prog_20_method_28_code (1 : Nat) (Option.some Jvm.ClassFile.FieldType.char)) ∈ lw_all := lw_g (lw_at lw_m3 170 rfl) rfl
theorem q736 : (Jvm.Cond.constant "java/lang/Character" (110 : Nat) (55232 : Int32)) ∈ lw_all := lw_g (lw_at lw_m3 171 rfl) rfl
theorem q738 : (Jvm.Cond.static ({ cls := "java/lang/Character", name := "lowSurrogate", desc := "(I)C" } : Jvm.MethodName)) ∈ lw_all := lw_g (lw_at lw_m3 173 rfl) rfl
theorem q739 : (Jvm.Cond.code ({ cls := "java/lang/Character", name := "lowSurrogate", desc := "(I)C" } : Jvm.MethodName) prog_20_method_29_code (1 : Nat) (Option.some Jvm.ClassFile.FieldType.char)) ∈ lw_all := lw_g (lw_at lw_m3 174 rfl) rfl
theorem q740 : (Jvm.Cond.constant "java/lang/Character" (76 : Nat) (56320 : Int32)) ∈ lw_all := lw_g (lw_at lw_m3 175 rfl) rfl
/-! TourRoomsLaw -/
set_option maxRecDepth 100000
def RX0 : String := "TourRoomsLaw"
abbrev cX0_bill : ByteArray := method_3_code
def yX0_bill : MethodName := ⟨RX0, "bill", "(LTourRooms;I[J)I"⟩
theorem dX0_bill_0 : decode cX0_bill 0 = .ok (.aload_n 2, 1) := by decide +kernel
theorem dX0_bill_1 : decode cX0_bill 1 = .ok (.iconst 0, 1) := by decide +kernel
theorem dX0_bill_2 : decode cX0_bill 2 = .ok (.aload_n 0, 1) := by decide +kernel
theorem dX0_bill_3 : decode cX0_bill 3 = .ok (.iload_n 1, 1) := by decide +kernel
theorem dX0_bill_4 : decode cX0_bill 4 = .ok (.invokevirtual 7, 3) := by decide +kernel
theorem dX0_bill_7 : decode cX0_bill 7 = .ok (.i2l, 1) := by decide +kernel
theorem dX0_bill_8 : decode cX0_bill 8 = .ok (.lastore, 1) := by decide +kernel
theorem dX0_bill_9 : decode cX0_bill 9 = .ok (.goto 6, 3) := by decide +kernel
theorem dX0_bill_12 : decode cX0_bill 12 = .ok (.astore_n 3, 1) := by decide +kernel
theorem dX0_bill_13 : decode cX0_bill 13 = .ok (.iconst 1, 1) := by decide +kernel
theorem dX0_bill_14 : decode cX0_bill 14 = .ok (.ireturn, 1) := by decide +kernel
theorem dX0_bill_15 : decode cX0_bill 15 = .ok (.iconst 0, 1) := by decide +kernel
theorem dX0_bill_16 : decode cX0_bill 16 = .ok (.ireturn, 1) := by decide +kernel
abbrev cX0_owes : ByteArray := method_4_code
def yX0_owes : MethodName := ⟨RX0, "owes", "(LTourRooms;I[J)I"⟩
theorem dX0_owes_0 : decode cX0_owes 0 = .ok (.aload_n 2, 1) := by decide +kernel
theorem dX0_owes_1 : decode cX0_owes 1 = .ok (.iconst 0, 1) := by decide +kernel
theorem dX0_owes_2 : decode cX0_owes 2 = .ok (.aload_n 0, 1) := by decide +kernel
theorem dX0_owes_3 : decode cX0_owes 3 = .ok (.iload_n 1, 1) := by decide +kernel
theorem dX0_owes_4 : decode cX0_owes 4 = .ok (.invokevirtual 15, 3) := by decide +kernel
theorem dX0_owes_7 : decode cX0_owes 7 = .ok (.i2l, 1) := by decide +kernel
theorem dX0_owes_8 : decode cX0_owes 8 = .ok (.lastore, 1) := by decide +kernel
theorem dX0_owes_9 : decode cX0_owes 9 = .ok (.goto 6, 3) := by decide +kernel
theorem dX0_owes_12 : decode cX0_owes 12 = .ok (.astore_n 3, 1) := by decide +kernel
theorem dX0_owes_13 : decode cX0_owes 13 = .ok (.iconst 1, 1) := by decide +kernel
theorem dX0_owes_14 : decode cX0_owes 14 = .ok (.ireturn, 1) := by decide +kernel
theorem dX0_owes_15 : decode cX0_owes 15 = .ok (.iconst 0, 1) := by decide +kernel
theorem dX0_owes_16 : decode cX0_owes 16 = .ok (.ireturn, 1) := by decide +kernel
theorem q85 : (Jvm.Cond.initialized "TourRoomsLaw") ∈ lw_all := lw_g (lw_at lw_m1 0 rfl) rfl
theorem q120 : (Jvm.Cond.classLink "TourRoomsLaw" (8 : Nat) "TourRooms") ∈ lw_all := lw_g (lw_at lw_m1 35 rfl) rfl
theorem q122 : (Jvm.Cond.methodLink "TourRoomsLaw" (18 : Nat) ({ cls := "TourRooms", name := "<init>", desc := "()V" } : Jvm.MethodName)) ∈ lw_all := lw_g (lw_at lw_m1 37 rfl) rfl
theorem q291 : (Jvm.Cond.methodLink "TourRoomsLaw" (22 : Nat) ({ cls := "TourRooms", name := "person", desc := "(ZIZIII)I" } : Jvm.MethodName)) ∈ lw_all := lw_g (lw_at lw_m1 206 rfl) rfl
theorem q347 : (Jvm.Cond.methodLink "TourRoomsLaw" (27 : Nat) ({ cls := "TourRooms", name := "friends", desc := "(IIZ)Z" } : Jvm.MethodName)) ∈ lw_all := lw_g (lw_at lw_m2 22 rfl) rfl
theorem q355 : (Jvm.Cond.methodLink "TourRoomsLaw" (32 : Nat) ({ cls := "TourRooms", name := "bar", desc := "(IIZ)Z" } : Jvm.MethodName)) ∈ lw_all := lw_g (lw_at lw_m2 30 rfl) rfl
theorem q359 : (Jvm.Cond.methodLink "TourRoomsLaw" (36 : Nat) ({ cls := "TourRooms", name := "stays", desc := "(III)Z" } : Jvm.MethodName)) ∈ lw_all := lw_g (lw_at lw_m2 34 rfl) rfl
theorem q379 : (Jvm.Cond.methodLink "TourRoomsLaw" (41 : Nat) ({ cls := "TourRooms", name := "gone", desc := "(I)Z" } : Jvm.MethodName)) ∈ lw_all := lw_g (lw_at lw_m2 54 rfl) rfl
theorem q383 : (Jvm.Cond.methodLink "TourRoomsLaw" (46 : Nat) ({ cls := "TourRooms", name := "absent", desc := "(IIZ)Z" } : Jvm.MethodName)) ∈ lw_all := lw_g (lw_at lw_m2 58 rfl) rfl
theorem q387 : (Jvm.Cond.methodLink "TourRoomsLaw" (50 : Nat) ({ cls := "TourRooms", name := "town", desc := "(I)I" } : Jvm.MethodName)) ∈ lw_all := lw_g (lw_at lw_m2 62 rfl) rfl
theorem q451 : (Jvm.Cond.methodLink "TourRoomsLaw" (54 : Nat) ({ cls := "TourRooms", name := "start", desc := "(I)Z" } : Jvm.MethodName)) ∈ lw_all := lw_g (lw_at lw_m2 126 rfl) rfl
theorem q455 : (Jvm.Cond.methodLink "TourRoomsLaw" (58 : Nat) ({ cls := "TourRooms", name := "season", desc := "(I)Z" } : Jvm.MethodName)) ∈ lw_all := lw_g (lw_at lw_m2 130 rfl) rfl
theorem q459 : (Jvm.Cond.methodLink "TourRoomsLaw" (62 : Nat) ({ cls := "TourRooms", name := "day", desc := "(I)I" } : Jvm.MethodName)) ∈ lw_all := lw_g (lw_at lw_m2 134 rfl) rfl
theorem q463 : (Jvm.Cond.methodLink "TourRoomsLaw" (66 : Nat) ({ cls := "TourRooms", name := "room", desc := "(IIZI)I" } : Jvm.MethodName)) ∈ lw_all := lw_g (lw_at lw_m2 138 rfl) rfl
theorem q496 : (Jvm.Cond.methodLink "TourRoomsLaw" (71 : Nat) ({ cls := "TourRooms", name := "put", desc := "(III)Z" } : Jvm.MethodName)) ∈ lw_all := lw_g (lw_at lw_m2 171 rfl) rfl
theorem q531 : (Jvm.Cond.methodLink "TourRoomsLaw" (75 : Nat) ({ cls := "TourRooms", name := "settle", desc := "(II)I" } : Jvm.MethodName)) ∈ lw_all := lw_g (lw_at lw_m2 206 rfl) rfl
theorem q566 : (Jvm.Cond.methodLink "TourRoomsLaw" (80 : Nat) ({ cls := "TourRooms", name := "moved", desc := "()I" } : Jvm.MethodName)) ∈ lw_all := lw_g (lw_at lw_m3 1 rfl) rfl
theorem q570 : (Jvm.Cond.methodLink "TourRoomsLaw" (85 : Nat) ({ cls := "TourRooms", name := "most", desc := "(I)I" } : Jvm.MethodName)) ∈ lw_all := lw_g (lw_at lw_m3 5 rfl) rfl
theorem q581 : (Jvm.Cond.methodLink "TourRoomsLaw" (89 : Nat) ({ cls := "TourRooms", name := "right", desc := "(I)Z" } : Jvm.MethodName)) ∈ lw_all := lw_g (lw_at lw_m3 16 rfl) rfl
theorem q589 : (Jvm.Cond.methodLink "TourRoomsLaw" (93 : Nat) ({ cls := "TourRooms", name := "listed", desc := "(III)I" } : Jvm.MethodName)) ∈ lw_all := lw_g (lw_at lw_m3 24 rfl) rfl
theorem q593 : (Jvm.Cond.methodLink "TourRoomsLaw" (100 : Nat) ({ cls := "TourRooms", name := "feed", desc := "(JJJ)I" } : Jvm.MethodName)) ∈ lw_all := lw_g (lw_at lw_m3 28 rfl) rfl
theorem q597 : (Jvm.Cond.methodLink "TourRoomsLaw" (105 : Nat) ({ cls := "TourRooms", name := "read", desc := "(I)I" } : Jvm.MethodName)) ∈ lw_all := lw_g (lw_at lw_m3 32 rfl) rfl
theorem q1004 : (Jvm.Cond.methodLink "TourRoomsLaw" (109 : Nat) ({ cls := "TourRooms", name := "worth", desc := "(II)I" } : Jvm.MethodName)) ∈ lw_all := lw_g (lw_at lw_m4 199 rfl) rfl
theorem q1071 : (Jvm.Cond.methodLink "TourRoomsLaw" (113 : Nat) ({ cls := "TourRooms", name := "give", desc := "(II)I" } : Jvm.MethodName)) ∈ lw_all := lw_g (lw_at lw_m5 26 rfl) rfl
theorem q1079 : (Jvm.Cond.methodLink "TourRoomsLaw" (117 : Nat) ({ cls := "TourRooms", name := "buy", desc := "(II)I" } : Jvm.MethodName)) ∈ lw_all := lw_g (lw_at lw_m5 34 rfl) rfl
theorem q1083 : (Jvm.Cond.methodLink "TourRoomsLaw" (121 : Nat) ({ cls := "TourRooms", name := "loss", desc := "(IIIII)I" } : Jvm.MethodName)) ∈ lw_all := lw_g (lw_at lw_m5 38 rfl) rfl
theorem q1099 : (Jvm.Cond.methodLink "TourRoomsLaw" (126 : Nat) ({ cls := "TourRooms", name := "gives", desc := "(IIIII)I" } : Jvm.MethodName)) ∈ lw_all := lw_g (lw_at lw_m5 54 rfl) rfl
theorem q1104 : (Jvm.Cond.methodLink "TourRoomsLaw" (130 : Nat) ({ cls := "TourRooms", name := "sight", desc := "(III)I" } : Jvm.MethodName)) ∈ lw_all := lw_g (lw_at lw_m5 59 rfl) rfl
theorem q1108 : (Jvm.Cond.methodLink "TourRoomsLaw" (134 : Nat) ({ cls := "TourRooms", name := "way", desc := "(III)Z" } : Jvm.MethodName)) ∈ lw_all := lw_g (lw_at lw_m5 63 rfl) rfl
theorem q1112 : (Jvm.Cond.methodLink "TourRoomsLaw" (138 : Nat) ({ cls := "TourRooms", name := "clear", desc := "()I" } : Jvm.MethodName)) ∈ lw_all := lw_g (lw_at lw_m5 67 rfl) rfl
theorem q1116 : (Jvm.Cond.methodLink "TourRoomsLaw" (142 : Nat) ({ cls := "TourRooms", name := "trip", desc := "(I)I" } : Jvm.MethodName)) ∈ lw_all := lw_g (lw_at lw_m5 71 rfl) rfl
theorem q1132 : (Jvm.Cond.methodLink "TourRoomsLaw" (146 : Nat) ({ cls := "TourRooms", name := "tripOf", desc := "(I)I" } : Jvm.MethodName)) ∈ lw_all := lw_g (lw_at lw_m5 87 rfl) rfl
theorem q1136 : (Jvm.Cond.methodLink "TourRoomsLaw" (150 : Nat) ({ cls := "TourRooms", name := "night", desc := "()I" } : Jvm.MethodName)) ∈ lw_all := lw_g (lw_at lw_m5 91 rfl) rfl
theorem q1148 : (Jvm.Cond.methodLink "TourRoomsLaw" (154 : Nat) ({ cls := "TourRooms", name := "lay", desc := "(II)I" } : Jvm.MethodName)) ∈ lw_all := lw_g (lw_at lw_m5 103 rfl) rfl
theorem q1152 : (Jvm.Cond.methodLink "TourRoomsLaw" (170 : Nat) ({ cls := "TourRooms", name := "meals", desc := "(II)I" } : Jvm.MethodName)) ∈ lw_all := lw_g (lw_at lw_m5 107 rfl) rfl
theorem q1156 : (Jvm.Cond.methodLink "TourRoomsLaw" (174 : Nat) ({ cls := "TourRooms", name := "townOf", desc := "(II)I" } : Jvm.MethodName)) ∈ lw_all := lw_g (lw_at lw_m5 111 rfl) rfl
theorem q1160 : (Jvm.Cond.methodLink "TourRoomsLaw" (178 : Nat) ({ cls := "TourRooms", name := "roomOf", desc := "(III)I" } : Jvm.MethodName)) ∈ lw_all := lw_g (lw_at lw_m5 115 rfl) rfl
theorem q1164 : (Jvm.Cond.methodLink "TourRoomsLaw" (182 : Nat) ({ cls := "TourRooms", name := "personOf", desc := "(II)I" } : Jvm.MethodName)) ∈ lw_all := lw_g (lw_at lw_m5 119 rfl) rfl
theorem q1168 : (Jvm.Cond.methodLink "TourRoomsLaw" (186 : Nat) ({ cls := "TourRooms", name := "count", desc := "(I)I" } : Jvm.MethodName)) ∈ lw_all := lw_g (lw_at lw_m5 123 rfl) rfl
theorem q1172 : (Jvm.Cond.methodLink "TourRoomsLaw" (158 : Nat) ({ cls := "TourRoomsLaw", name := "bill", desc := "(LTourRooms;I[J)I" } : Jvm.MethodName)) ∈ lw_all := lw_g (lw_at lw_m5 127 rfl) rfl
theorem q1173 : (Jvm.Cond.static ({ cls := "TourRoomsLaw", name := "bill", desc := "(LTourRooms;I[J)I" } : Jvm.MethodName)) ∈ lw_all := lw_g (lw_at lw_m5 128 rfl) rfl
theorem q1174 : (Jvm.Cond.codeWith ({ cls := "TourRoomsLaw", name := "bill", desc := "(LTourRooms;I[J)I" } : Jvm.MethodName) method_3_code (4 : Nat) (Option.some Jvm.ClassFile.FieldType.int) [((0 : Nat), (9 : Nat), (12 : Nat), (13 : Nat))]) ∈ lw_all := lw_g (lw_at lw_m5 129 rfl) rfl
theorem q1175 : (Jvm.Cond.classLink "TourRoomsLaw" (13 : Nat) "java/util/NoSuchElementException") ∈ lw_all := lw_g (lw_at lw_m5 130 rfl) rfl
theorem q1176 : (Jvm.Cond.methodLink "TourRoomsLaw" (7 : Nat) ({ cls := "TourRooms", name := "bill", desc := "(I)I" } : Jvm.MethodName)) ∈ lw_all := lw_g (lw_at lw_m5 131 rfl) rfl
theorem q1201 : (Jvm.Cond.methodLink "TourRoomsLaw" (167 : Nat) ({ cls := "TourRoomsLaw", name := "owes", desc := "(LTourRooms;I[J)I" } : Jvm.MethodName)) ∈ lw_all := lw_g (lw_at lw_m5 156 rfl) rfl
theorem q1202 : (Jvm.Cond.static ({ cls := "TourRoomsLaw", name := "owes", desc := "(LTourRooms;I[J)I" } : Jvm.MethodName)) ∈ lw_all := lw_g (lw_at lw_m5 157 rfl) rfl
theorem q1203 : (Jvm.Cond.codeWith ({ cls := "TourRoomsLaw", name := "owes", desc := "(LTourRooms;I[J)I" } : Jvm.MethodName) method_4_code (4 : Nat) (Option.some Jvm.ClassFile.FieldType.int) [((0 : Nat), (9 : Nat), (12 : Nat), (13 : Nat))]) ∈ lw_all := lw_g (lw_at lw_m5 158 rfl) rfl
theorem q1204 : (Jvm.Cond.methodLink "TourRoomsLaw" (15 : Nat) ({ cls := "TourRooms", name := "owes", desc := "(I)I" } : Jvm.MethodName)) ∈ lw_all := lw_g (lw_at lw_m5 159 rfl) rfl
theorem q1208 : (Jvm.Cond.methodLink "TourRoomsLaw" (164 : Nat) ({ cls := "TourRoomsModel", name := "thrown", desc := "()I" } : Jvm.MethodName)) ∈ lw_all := lw_g (lw_at lw_m5 163 rfl) rfl
theorem q1212 : (Jvm.Cond.classLink "TourRoomsLaw" (19 : Nat) "TourRoomsModel") ∈ lw_all := lw_g (lw_at lw_m5 167 rfl) rfl
theorem q1214 : (Jvm.Cond.methodLink "TourRoomsLaw" (21 : Nat) ({ cls := "TourRoomsModel", name := "<init>", desc := "()V" } : Jvm.MethodName)) ∈ lw_all := lw_g (lw_at lw_m5 169 rfl) rfl
theorem q1453 : (Jvm.Cond.methodLink "TourRoomsLaw" (26 : Nat) ({ cls := "TourRoomsModel", name := "person", desc := "(ZIZIII)I" } : Jvm.MethodName)) ∈ lw_all := lw_g (lw_at lw_m6 168 rfl) rfl
theorem q1460 : (Jvm.Cond.methodLink "TourRoomsLaw" (31 : Nat) ({ cls := "TourRoomsModel", name := "friends", desc := "(IIZ)Z" } : Jvm.MethodName)) ∈ lw_all := lw_g (lw_at lw_m6 175 rfl) rfl
theorem q1468 : (Jvm.Cond.methodLink "TourRoomsLaw" (35 : Nat) ({ cls := "TourRoomsModel", name := "bar", desc := "(IIZ)Z" } : Jvm.MethodName)) ∈ lw_all := lw_g (lw_at lw_m6 183 rfl) rfl
theorem q1472 : (Jvm.Cond.methodLink "TourRoomsLaw" (40 : Nat) ({ cls := "TourRoomsModel", name := "stays", desc := "(III)Z" } : Jvm.MethodName)) ∈ lw_all := lw_g (lw_at lw_m6 187 rfl) rfl
theorem q1488 : (Jvm.Cond.methodLink "TourRoomsLaw" (45 : Nat) ({ cls := "TourRoomsModel", name := "gone", desc := "(I)Z" } : Jvm.MethodName)) ∈ lw_all := lw_g (lw_at lw_m6 203 rfl) rfl
theorem q1492 : (Jvm.Cond.methodLink "TourRoomsLaw" (49 : Nat) ({ cls := "TourRoomsModel", name := "absent", desc := "(IIZ)Z" } : Jvm.MethodName)) ∈ lw_all := lw_g (lw_at lw_m6 207 rfl) rfl
theorem q1496 : (Jvm.Cond.methodLink "TourRoomsLaw" (53 : Nat) ({ cls := "TourRoomsModel", name := "town", desc := "(I)I" } : Jvm.MethodName)) ∈ lw_all := lw_g (lw_at lw_m6 211 rfl) rfl
theorem q1500 : (Jvm.Cond.methodLink "TourRoomsLaw" (57 : Nat) ({ cls := "TourRoomsModel", name := "start", desc := "(I)Z" } : Jvm.MethodName)) ∈ lw_all := lw_g (lw_at lw_m6 215 rfl) rfl
theorem q1504 : (Jvm.Cond.methodLink "TourRoomsLaw" (61 : Nat) ({ cls := "TourRoomsModel", name := "season", desc := "(I)Z" } : Jvm.MethodName)) ∈ lw_all := lw_g (lw_at lw_m6 219 rfl) rfl
theorem q1508 : (Jvm.Cond.methodLink "TourRoomsLaw" (65 : Nat) ({ cls := "TourRoomsModel", name := "day", desc := "(I)I" } : Jvm.MethodName)) ∈ lw_all := lw_g (lw_at lw_m6 223 rfl) rfl
theorem q1512 : (Jvm.Cond.methodLink "TourRoomsLaw" (70 : Nat) ({ cls := "TourRoomsModel", name := "room", desc := "(IIZI)I" } : Jvm.MethodName)) ∈ lw_all := lw_g (lw_at lw_m6 227 rfl) rfl
theorem q1524 : (Jvm.Cond.methodLink "TourRoomsLaw" (74 : Nat) ({ cls := "TourRoomsModel", name := "put", desc := "(III)Z" } : Jvm.MethodName)) ∈ lw_all := lw_g (lw_at lw_m6 239 rfl) rfl
theorem q1544 : (Jvm.Cond.methodLink "TourRoomsLaw" (79 : Nat) ({ cls := "TourRoomsModel", name := "settle", desc := "(II)I" } : Jvm.MethodName)) ∈ lw_all := lw_g (lw_at lw_m7 19 rfl) rfl
theorem q1578 : (Jvm.Cond.methodLink "TourRoomsLaw" (84 : Nat) ({ cls := "TourRoomsModel", name := "moved", desc := "()I" } : Jvm.MethodName)) ∈ lw_all := lw_g (lw_at lw_m7 53 rfl) rfl
theorem q1582 : (Jvm.Cond.methodLink "TourRoomsLaw" (88 : Nat) ({ cls := "TourRoomsModel", name := "most", desc := "(I)I" } : Jvm.MethodName)) ∈ lw_all := lw_g (lw_at lw_m7 57 rfl) rfl
theorem q1589 : (Jvm.Cond.methodLink "TourRoomsLaw" (92 : Nat) ({ cls := "TourRoomsModel", name := "right", desc := "(I)Z" } : Jvm.MethodName)) ∈ lw_all := lw_g (lw_at lw_m7 64 rfl) rfl
theorem q1593 : (Jvm.Cond.methodLink "TourRoomsLaw" (97 : Nat) ({ cls := "TourRoomsModel", name := "listed", desc := "(III)I" } : Jvm.MethodName)) ∈ lw_all := lw_g (lw_at lw_m7 68 rfl) rfl
theorem q1597 : (Jvm.Cond.methodLink "TourRoomsLaw" (104 : Nat) ({ cls := "TourRoomsModel", name := "feed", desc := "(JJJ)I" } : Jvm.MethodName)) ∈ lw_all := lw_g (lw_at lw_m7 72 rfl) rfl
theorem q1601 : (Jvm.Cond.methodLink "TourRoomsLaw" (108 : Nat) ({ cls := "TourRoomsModel", name := "read", desc := "(I)I" } : Jvm.MethodName)) ∈ lw_all := lw_g (lw_at lw_m7 76 rfl) rfl
theorem q1675 : (Jvm.Cond.methodLink "TourRoomsLaw" (112 : Nat) ({ cls := "TourRoomsModel", name := "worth", desc := "(II)I" } : Jvm.MethodName)) ∈ lw_all := lw_g (lw_at lw_m7 150 rfl) rfl
theorem q1699 : (Jvm.Cond.methodLink "TourRoomsLaw" (116 : Nat) ({ cls := "TourRoomsModel", name := "give", desc := "(II)I" } : Jvm.MethodName)) ∈ lw_all := lw_g (lw_at lw_m7 174 rfl) rfl
theorem q1707 : (Jvm.Cond.methodLink "TourRoomsLaw" (120 : Nat) ({ cls := "TourRoomsModel", name := "buy", desc := "(II)I" } : Jvm.MethodName)) ∈ lw_all := lw_g (lw_at lw_m7 182 rfl) rfl
theorem q1711 : (Jvm.Cond.methodLink "TourRoomsLaw" (125 : Nat) ({ cls := "TourRoomsModel", name := "loss", desc := "(IIIII)I" } : Jvm.MethodName)) ∈ lw_all := lw_g (lw_at lw_m7 186 rfl) rfl
theorem q1723 : (Jvm.Cond.methodLink "TourRoomsLaw" (129 : Nat) ({ cls := "TourRoomsModel", name := "gives", desc := "(IIIII)I" } : Jvm.MethodName)) ∈ lw_all := lw_g (lw_at lw_m7 198 rfl) rfl
theorem q1727 : (Jvm.Cond.methodLink "TourRoomsLaw" (133 : Nat) ({ cls := "TourRoomsModel", name := "sight", desc := "(III)I" } : Jvm.MethodName)) ∈ lw_all := lw_g (lw_at lw_m7 202 rfl) rfl
theorem q1731 : (Jvm.Cond.methodLink "TourRoomsLaw" (137 : Nat) ({ cls := "TourRoomsModel", name := "way", desc := "(III)Z" } : Jvm.MethodName)) ∈ lw_all := lw_g (lw_at lw_m7 206 rfl) rfl
theorem q1735 : (Jvm.Cond.methodLink "TourRoomsLaw" (141 : Nat) ({ cls := "TourRoomsModel", name := "clear", desc := "()I" } : Jvm.MethodName)) ∈ lw_all := lw_g (lw_at lw_m7 210 rfl) rfl
theorem q1739 : (Jvm.Cond.methodLink "TourRoomsLaw" (145 : Nat) ({ cls := "TourRoomsModel", name := "trip", desc := "(I)I" } : Jvm.MethodName)) ∈ lw_all := lw_g (lw_at lw_m7 214 rfl) rfl
theorem q1751 : (Jvm.Cond.methodLink "TourRoomsLaw" (149 : Nat) ({ cls := "TourRoomsModel", name := "tripOf", desc := "(I)I" } : Jvm.MethodName)) ∈ lw_all := lw_g (lw_at lw_m7 226 rfl) rfl
theorem q1755 : (Jvm.Cond.methodLink "TourRoomsLaw" (153 : Nat) ({ cls := "TourRoomsModel", name := "night", desc := "()I" } : Jvm.MethodName)) ∈ lw_all := lw_g (lw_at lw_m7 230 rfl) rfl
theorem q1772 : (Jvm.Cond.methodLink "TourRoomsLaw" (157 : Nat) ({ cls := "TourRoomsModel", name := "lay", desc := "(II)I" } : Jvm.MethodName)) ∈ lw_all := lw_g (lw_at lw_m8 7 rfl) rfl
theorem q1776 : (Jvm.Cond.methodLink "TourRoomsLaw" (163 : Nat) ({ cls := "TourRoomsModel", name := "bill", desc := "(I)I" } : Jvm.MethodName)) ∈ lw_all := lw_g (lw_at lw_m8 11 rfl) rfl
theorem q1780 : (Jvm.Cond.methodLink "TourRoomsLaw" (169 : Nat) ({ cls := "TourRoomsModel", name := "owes", desc := "(I)I" } : Jvm.MethodName)) ∈ lw_all := lw_g (lw_at lw_m8 15 rfl) rfl
theorem q1784 : (Jvm.Cond.methodLink "TourRoomsLaw" (173 : Nat) ({ cls := "TourRoomsModel", name := "meals", desc := "(II)I" } : Jvm.MethodName)) ∈ lw_all := lw_g (lw_at lw_m8 19 rfl) rfl
theorem q1788 : (Jvm.Cond.methodLink "TourRoomsLaw" (177 : Nat) ({ cls := "TourRoomsModel", name := "townOf", desc := "(II)I" } : Jvm.MethodName)) ∈ lw_all := lw_g (lw_at lw_m8 23 rfl) rfl
theorem q1796 : (Jvm.Cond.methodLink "TourRoomsLaw" (181 : Nat) ({ cls := "TourRoomsModel", name := "roomOf", desc := "(III)I" } : Jvm.MethodName)) ∈ lw_all := lw_g (lw_at lw_m8 31 rfl) rfl
theorem q1800 : (Jvm.Cond.methodLink "TourRoomsLaw" (185 : Nat) ({ cls := "TourRoomsModel", name := "personOf", desc := "(II)I" } : Jvm.MethodName)) ∈ lw_all := lw_g (lw_at lw_m8 35 rfl) rfl
theorem q1804 : (Jvm.Cond.methodLink "TourRoomsLaw" (189 : Nat) ({ cls := "TourRoomsModel", name := "count", desc := "(I)I" } : Jvm.MethodName)) ∈ lw_all := lw_g (lw_at lw_m8 39 rfl) rfl
theorem q1808 : (Jvm.Cond.constantLong "TourRoomsLaw" (98 : Nat) (4294967295 : Int64)) ∈ lw_all := lw_g (lw_at lw_m8 43 rfl) rfl
/-! TourRooms$State -/
set_option maxRecDepth 100000
def RX2 : String := "TourRooms$State"
def TX2 : u_T := fun k => match k with
  | 0 => ("TourRooms$State", "left", "I", false)
  | 1 => ("TourRooms$State", "held", "I", false)
  | 2 => ("TourRooms$State", "used", "I", false)
  | 3 => ("TourRooms$State", "people", "I", false)
  | _ => ("TourRooms$State", "season", "I", false)
def tyX2 : Nat → FieldType := fun k => match k with
  | 0 => .int
  | 1 => .int
  | 2 => .int
  | 3 => .int
  | _ => .int
abbrev wsX20 : List Cond := u_ws RX2 TX2 5
theorem nmX2 : ∀ a, a < 5 → ∀ b, b < 5 → a ≠ b → (TX2 a).2.1 ≠ (TX2 b).2.1 := by decide +kernel
theorem tyX2_ok : ∀ k, k < 5 → parseFieldDescriptor (TX2 k).2.2.1 = some (tyX2 k) := by decide +kernel
abbrev cX2_init : ByteArray := prog_10_method_1_code
def yX2_init : MethodName := ⟨RX2, "<init>", "()V"⟩
theorem dX2_init_0 : decode cX2_init 0 = .ok (.aload_n 0, 1) := by decide +kernel
theorem dX2_init_1 : decode cX2_init 1 = .ok (.invokespecial 1, 3) := by decide +kernel
theorem dX2_init_4 : decode cX2_init 4 = .ok (.return_, 1) := by decide +kernel
theorem q87 : (Jvm.Cond.initialized "TourRooms$State") ∈ lw_all := lw_g (lw_at lw_m1 2 rfl) rfl
theorem q133 : (Jvm.Cond.instantiable "TourRooms$State" (5 : Nat)) ∈ lw_all := lw_g (lw_at lw_m1 48 rfl) rfl
theorem q135 : (Jvm.Cond.instanceMethod ({ cls := "TourRooms$State", name := "<init>", desc := "()V" } : Jvm.MethodName)) ∈ lw_all := lw_g (lw_at lw_m1 50 rfl) rfl
theorem q136 : (Jvm.Cond.code ({ cls := "TourRooms$State", name := "<init>", desc := "()V" } : Jvm.MethodName) prog_10_method_1_code (1 : Nat) (Option.none : Option Jvm.ClassFile.FieldType)) ∈ lw_all := lw_g (lw_at lw_m1 51 rfl) rfl
theorem q137 : (Jvm.Cond.methodLink "TourRooms$State" (1 : Nat) ({ cls := "java/lang/Object", name := "<init>", desc := "()V" } : Jvm.MethodName)) ∈ lw_all := lw_g (lw_at lw_m1 52 rfl) rfl
theorem q148 : (Jvm.Cond.lays "TourRooms$State" "TourRooms$State" "left" "I") ∈ lw_all := lw_g (lw_at lw_m1 63 rfl) rfl
theorem q149 : (Jvm.Cond.soleField "TourRooms$State" "left") ∈ lw_all := lw_g (lw_at lw_m1 64 rfl) rfl
theorem q150 : (Jvm.Cond.lays "TourRooms$State" "TourRooms$State" "held" "I") ∈ lw_all := lw_g (lw_at lw_m1 65 rfl) rfl
theorem q151 : (Jvm.Cond.soleField "TourRooms$State" "held") ∈ lw_all := lw_g (lw_at lw_m1 66 rfl) rfl
theorem q152 : (Jvm.Cond.lays "TourRooms$State" "TourRooms$State" "used" "I") ∈ lw_all := lw_g (lw_at lw_m1 67 rfl) rfl
theorem q153 : (Jvm.Cond.soleField "TourRooms$State" "used") ∈ lw_all := lw_g (lw_at lw_m1 68 rfl) rfl
theorem q154 : (Jvm.Cond.lays "TourRooms$State" "TourRooms$State" "people" "I") ∈ lw_all := lw_g (lw_at lw_m1 69 rfl) rfl
theorem q155 : (Jvm.Cond.soleField "TourRooms$State" "people") ∈ lw_all := lw_g (lw_at lw_m1 70 rfl) rfl
theorem q156 : (Jvm.Cond.lays "TourRooms$State" "TourRooms$State" "season" "I") ∈ lw_all := lw_g (lw_at lw_m1 71 rfl) rfl
theorem q157 : (Jvm.Cond.soleField "TourRooms$State" "season") ∈ lw_all := lw_g (lw_at lw_m1 72 rfl) rfl
theorem q158 : (Jvm.Cond.superclass "TourRooms$State" "java/lang/Object") ∈ lw_all := lw_g (lw_at lw_m1 73 rfl) rfl
theorem q985 : (Jvm.Cond.selects "TourRooms$State" ({ cls := "java/lang/Object", name := "getClass", desc := "()Ljava/lang/Class;" } : Jvm.MethodName) ({ cls := "java/lang/Object", name := "getClass", desc := "()Ljava/lang/Class;" } : Jvm.MethodName)) ∈ lw_all := lw_g (lw_at lw_m4 180 rfl) rfl
theorem q1814 : (Jvm.Cond.castable "TourRooms$State" "java/lang/Object") ∈ lw_tbl := lw_at lw_m8 49 rfl
theorem in_X2 : ∀ w ∈ wsX20, w ∈ lw_all := lw_in wsX20 [148, 150, 152, 154, 156] (by decide +kernel) (by decide +kernel)
/-! TourRooms$Person -/
set_option maxRecDepth 100000
def RX4 : String := "TourRooms$Person"
def TX4 : u_T := fun k => match k with
  | 0 => ("TourRooms$Person", "number", "I", true)
  | 1 => ("TourRooms$Person", "sort", "I", true)
  | 2 => ("TourRooms$Person", "diet", "I", true)
  | 3 => ("TourRooms$Person", "shares", "Z", true)
  | 4 => ("TourRooms$Person", "low", "Z", true)
  | 5 => ("TourRooms$Person", "from", "I", false)
  | 6 => ("TourRooms$Person", "to", "I", false)
  | 7 => ("TourRooms$Person", "bars", "I", false)
  | 8 => ("TourRooms$Person", "owes", "I", false)
  | 9 => ("TourRooms$Person", "isGone", "Z", false)
  | _ => ("TourRooms$Person", "friend", "LTourRooms$Person;", false)
def tyX4 : Nat → FieldType := fun k => match k with
  | 0 => .int
  | 1 => .int
  | 2 => .int
  | 3 => .boolean
  | 4 => .boolean
  | 5 => .int
  | 6 => .int
  | 7 => .int
  | 8 => .int
  | 9 => .boolean
  | _ => .object "TourRooms$Person"
abbrev wsX40 : List Cond := u_ws RX4 TX4 11
theorem nmX4 : ∀ a, a < 11 → ∀ b, b < 11 → a ≠ b → (TX4 a).2.1 ≠ (TX4 b).2.1 := by decide +kernel
theorem tyX4_ok : ∀ k, k < 11 → parseFieldDescriptor (TX4 k).2.2.1 = some (tyX4 k) := by decide +kernel
abbrev cX4_init : ByteArray := prog_6_method_1_code
def yX4_init : MethodName := ⟨RX4, "<init>", "(IZIZIII)V"⟩
theorem dX4_init_0 : decode cX4_init 0 = .ok (.aload_n 0, 1) := by decide +kernel
theorem dX4_init_1 : decode cX4_init 1 = .ok (.invokespecial 1, 3) := by decide +kernel
theorem dX4_init_4 : decode cX4_init 4 = .ok (.aload_n 0, 1) := by decide +kernel
theorem dX4_init_5 : decode cX4_init 5 = .ok (.iload_n 1, 1) := by decide +kernel
theorem dX4_init_6 : decode cX4_init 6 = .ok (.putfield 7, 3) := by decide +kernel
theorem dX4_init_9 : decode cX4_init 9 = .ok (.aload_n 0, 1) := by decide +kernel
theorem dX4_init_10 : decode cX4_init 10 = .ok (.iload_n 2, 1) := by decide +kernel
theorem dX4_init_11 : decode cX4_init 11 = .ok (.putfield 13, 3) := by decide +kernel
theorem dX4_init_14 : decode cX4_init 14 = .ok (.aload_n 0, 1) := by decide +kernel
theorem dX4_init_15 : decode cX4_init 15 = .ok (.iload_n 3, 1) := by decide +kernel
theorem dX4_init_16 : decode cX4_init 16 = .ok (.putfield 17, 3) := by decide +kernel
theorem dX4_init_19 : decode cX4_init 19 = .ok (.aload_n 0, 1) := by decide +kernel
theorem dX4_init_20 : decode cX4_init 20 = .ok (.iload 4, 2) := by decide +kernel
theorem dX4_init_22 : decode cX4_init 22 = .ok (.putfield 20, 3) := by decide +kernel
theorem dX4_init_25 : decode cX4_init 25 = .ok (.aload_n 0, 1) := by decide +kernel
theorem dX4_init_26 : decode cX4_init 26 = .ok (.iload 5, 2) := by decide +kernel
theorem dX4_init_28 : decode cX4_init 28 = .ok (.putfield 23, 3) := by decide +kernel
theorem dX4_init_31 : decode cX4_init 31 = .ok (.aload_n 0, 1) := by decide +kernel
theorem dX4_init_32 : decode cX4_init 32 = .ok (.iload 6, 2) := by decide +kernel
theorem dX4_init_34 : decode cX4_init 34 = .ok (.putfield 26, 3) := by decide +kernel
theorem dX4_init_37 : decode cX4_init 37 = .ok (.aload_n 0, 1) := by decide +kernel
theorem dX4_init_38 : decode cX4_init 38 = .ok (.iload 7, 2) := by decide +kernel
theorem dX4_init_40 : decode cX4_init 40 = .ok (.putfield 29, 3) := by decide +kernel
theorem dX4_init_43 : decode cX4_init 43 = .ok (.return_, 1) := by decide +kernel
abbrev cX4_isThere : ByteArray := prog_6_method_2_code
def yX4_isThere : MethodName := ⟨RX4, "isThere", "(I)Z"⟩
theorem dX4_isThere_0 : decode cX4_isThere 0 = .ok (.aload_n 0, 1) := by decide +kernel
theorem dX4_isThere_1 : decode cX4_isThere 1 = .ok (.getfield 32, 3) := by decide +kernel
theorem dX4_isThere_4 : decode cX4_isThere 4 = .ok (.ifCond .ne 22, 3) := by decide +kernel
theorem dX4_isThere_7 : decode cX4_isThere 7 = .ok (.iload_n 1, 1) := by decide +kernel
theorem dX4_isThere_8 : decode cX4_isThere 8 = .ok (.aload_n 0, 1) := by decide +kernel
theorem dX4_isThere_9 : decode cX4_isThere 9 = .ok (.getfield 26, 3) := by decide +kernel
theorem dX4_isThere_12 : decode cX4_isThere 12 = .ok (.aload_n 0, 1) := by decide +kernel
theorem dX4_isThere_13 : decode cX4_isThere 13 = .ok (.getfield 29, 3) := by decide +kernel
theorem dX4_isThere_16 : decode cX4_isThere 16 = .ok (.invokestatic 35, 3) := by decide +kernel
theorem dX4_isThere_19 : decode cX4_isThere 19 = .ok (.ifCond .eq 7, 3) := by decide +kernel
theorem dX4_isThere_22 : decode cX4_isThere 22 = .ok (.iconst 1, 1) := by decide +kernel
theorem dX4_isThere_23 : decode cX4_isThere 23 = .ok (.goto 4, 3) := by decide +kernel
theorem dX4_isThere_26 : decode cX4_isThere 26 = .ok (.iconst 0, 1) := by decide +kernel
theorem dX4_isThere_27 : decode cX4_isThere 27 = .ok (.ireturn, 1) := by decide +kernel
abbrev cX4_mayShare : ByteArray := prog_6_method_3_code
def yX4_mayShare : MethodName := ⟨RX4, "mayShare", "(LTourRooms$Person;)Z"⟩
theorem dX4_mayShare_0 : decode cX4_mayShare 0 = .ok (.aload_n 0, 1) := by decide +kernel
theorem dX4_mayShare_1 : decode cX4_mayShare 1 = .ok (.getfield 41, 3) := by decide +kernel
theorem dX4_mayShare_4 : decode cX4_mayShare 4 = .ok (.aload_n 1, 1) := by decide +kernel
theorem dX4_mayShare_5 : decode cX4_mayShare 5 = .ok (.if_acmp .ne 5, 3) := by decide +kernel
theorem dX4_mayShare_8 : decode cX4_mayShare 8 = .ok (.iconst 1, 1) := by decide +kernel
theorem dX4_mayShare_9 : decode cX4_mayShare 9 = .ok (.ireturn, 1) := by decide +kernel
theorem dX4_mayShare_10 : decode cX4_mayShare 10 = .ok (.aload_n 0, 1) := by decide +kernel
theorem dX4_mayShare_11 : decode cX4_mayShare 11 = .ok (.getfield 13, 3) := by decide +kernel
theorem dX4_mayShare_14 : decode cX4_mayShare 14 = .ok (.ifCond .eq 53, 3) := by decide +kernel
theorem dX4_mayShare_17 : decode cX4_mayShare 17 = .ok (.aload_n 1, 1) := by decide +kernel
theorem dX4_mayShare_18 : decode cX4_mayShare 18 = .ok (.getfield 13, 3) := by decide +kernel
theorem dX4_mayShare_21 : decode cX4_mayShare 21 = .ok (.ifCond .eq 46, 3) := by decide +kernel
theorem dX4_mayShare_24 : decode cX4_mayShare 24 = .ok (.aload_n 0, 1) := by decide +kernel
theorem dX4_mayShare_25 : decode cX4_mayShare 25 = .ok (.getfield 17, 3) := by decide +kernel
theorem dX4_mayShare_28 : decode cX4_mayShare 28 = .ok (.aload_n 1, 1) := by decide +kernel
theorem dX4_mayShare_29 : decode cX4_mayShare 29 = .ok (.getfield 17, 3) := by decide +kernel
theorem dX4_mayShare_32 : decode cX4_mayShare 32 = .ok (.if_icmp .ne 35, 3) := by decide +kernel
theorem dX4_mayShare_35 : decode cX4_mayShare 35 = .ok (.aload_n 0, 1) := by decide +kernel
theorem dX4_mayShare_36 : decode cX4_mayShare 36 = .ok (.getfield 41, 3) := by decide +kernel
theorem dX4_mayShare_39 : decode cX4_mayShare 39 = .ok (.ifnonnull 28, 3) := by decide +kernel
theorem dX4_mayShare_42 : decode cX4_mayShare 42 = .ok (.aload_n 1, 1) := by decide +kernel
theorem dX4_mayShare_43 : decode cX4_mayShare 43 = .ok (.getfield 41, 3) := by decide +kernel
theorem dX4_mayShare_46 : decode cX4_mayShare 46 = .ok (.ifnonnull 21, 3) := by decide +kernel
theorem dX4_mayShare_49 : decode cX4_mayShare 49 = .ok (.aload_n 0, 1) := by decide +kernel
theorem dX4_mayShare_50 : decode cX4_mayShare 50 = .ok (.getfield 45, 3) := by decide +kernel
theorem dX4_mayShare_53 : decode cX4_mayShare 53 = .ok (.aload_n 1, 1) := by decide +kernel
theorem dX4_mayShare_54 : decode cX4_mayShare 54 = .ok (.getfield 7, 3) := by decide +kernel
theorem dX4_mayShare_57 : decode cX4_mayShare 57 = .ok (.ishr, 1) := by decide +kernel
theorem dX4_mayShare_58 : decode cX4_mayShare 58 = .ok (.iconst 1, 1) := by decide +kernel
theorem dX4_mayShare_59 : decode cX4_mayShare 59 = .ok (.iand, 1) := by decide +kernel
theorem dX4_mayShare_60 : decode cX4_mayShare 60 = .ok (.ifCond .ne 7, 3) := by decide +kernel
theorem dX4_mayShare_63 : decode cX4_mayShare 63 = .ok (.iconst 1, 1) := by decide +kernel
theorem dX4_mayShare_64 : decode cX4_mayShare 64 = .ok (.goto 4, 3) := by decide +kernel
theorem dX4_mayShare_67 : decode cX4_mayShare 67 = .ok (.iconst 0, 1) := by decide +kernel
theorem dX4_mayShare_68 : decode cX4_mayShare 68 = .ok (.ireturn, 1) := by decide +kernel
theorem q89 : (Jvm.Cond.initialized "TourRooms$Person") ∈ lw_all := lw_g (lw_at lw_m1 4 rfl) rfl
theorem q298 : (Jvm.Cond.instantiable "TourRooms$Person" (11 : Nat)) ∈ lw_all := lw_g (lw_at lw_m1 213 rfl) rfl
theorem q300 : (Jvm.Cond.instanceMethod ({ cls := "TourRooms$Person", name := "<init>", desc := "(IZIZIII)V" } : Jvm.MethodName)) ∈ lw_all := lw_g (lw_at lw_m1 215 rfl) rfl
theorem q301 : (Jvm.Cond.code ({ cls := "TourRooms$Person", name := "<init>", desc := "(IZIZIII)V" } : Jvm.MethodName) prog_6_method_1_code (8 : Nat) (Option.none : Option Jvm.ClassFile.FieldType)) ∈ lw_all := lw_g (lw_at lw_m1 216 rfl) rfl
theorem q302 : (Jvm.Cond.methodLink "TourRooms$Person" (1 : Nat) ({ cls := "java/lang/Object", name := "<init>", desc := "()V" } : Jvm.MethodName)) ∈ lw_all := lw_g (lw_at lw_m1 217 rfl) rfl
theorem q303 : (Jvm.Cond.fieldLink "TourRooms$Person" (7 : Nat) "TourRooms$Person" "number" "I") ∈ lw_all := lw_g (lw_at lw_m1 218 rfl) rfl
theorem q305 : (Jvm.Cond.fieldLink "TourRooms$Person" (17 : Nat) "TourRooms$Person" "sort" "I") ∈ lw_all := lw_g (lw_at lw_m1 220 rfl) rfl
theorem q307 : (Jvm.Cond.fieldLink "TourRooms$Person" (23 : Nat) "TourRooms$Person" "diet" "I") ∈ lw_all := lw_g (lw_at lw_m1 222 rfl) rfl
theorem q309 : (Jvm.Cond.fieldLink "TourRooms$Person" (13 : Nat) "TourRooms$Person" "shares" "Z") ∈ lw_all := lw_g (lw_at lw_m1 224 rfl) rfl
theorem q311 : (Jvm.Cond.fieldLink "TourRooms$Person" (20 : Nat) "TourRooms$Person" "low" "Z") ∈ lw_all := lw_g (lw_at lw_m1 226 rfl) rfl
theorem q313 : (Jvm.Cond.fieldLink "TourRooms$Person" (26 : Nat) "TourRooms$Person" "from" "I") ∈ lw_all := lw_g (lw_at lw_m1 228 rfl) rfl
theorem q315 : (Jvm.Cond.fieldLink "TourRooms$Person" (29 : Nat) "TourRooms$Person" "to" "I") ∈ lw_all := lw_g (lw_at lw_m1 230 rfl) rfl
theorem q317 : (Jvm.Cond.fieldLink "TourRooms$Person" (45 : Nat) "TourRooms$Person" "bars" "I") ∈ lw_all := lw_g (lw_at lw_m1 232 rfl) rfl
theorem q320 : (Jvm.Cond.fieldLink "TourRooms$Person" (32 : Nat) "TourRooms$Person" "isGone" "Z") ∈ lw_all := lw_g (lw_at lw_m1 235 rfl) rfl
theorem q322 : (Jvm.Cond.fieldLink "TourRooms$Person" (41 : Nat) "TourRooms$Person" "friend" "LTourRooms$Person;") ∈ lw_all := lw_g (lw_at lw_m1 237 rfl) rfl
theorem q324 : (Jvm.Cond.laysFinal "TourRooms$Person" "TourRooms$Person" "number" "I") ∈ lw_all := lw_g (lw_at lw_m1 239 rfl) rfl
theorem q325 : (Jvm.Cond.soleField "TourRooms$Person" "number") ∈ lw_all := lw_g (lw_at lw_m2 0 rfl) rfl
theorem q326 : (Jvm.Cond.laysFinal "TourRooms$Person" "TourRooms$Person" "sort" "I") ∈ lw_all := lw_g (lw_at lw_m2 1 rfl) rfl
theorem q327 : (Jvm.Cond.soleField "TourRooms$Person" "sort") ∈ lw_all := lw_g (lw_at lw_m2 2 rfl) rfl
theorem q328 : (Jvm.Cond.laysFinal "TourRooms$Person" "TourRooms$Person" "diet" "I") ∈ lw_all := lw_g (lw_at lw_m2 3 rfl) rfl
theorem q329 : (Jvm.Cond.soleField "TourRooms$Person" "diet") ∈ lw_all := lw_g (lw_at lw_m2 4 rfl) rfl
theorem q330 : (Jvm.Cond.laysFinal "TourRooms$Person" "TourRooms$Person" "shares" "Z") ∈ lw_all := lw_g (lw_at lw_m2 5 rfl) rfl
theorem q331 : (Jvm.Cond.soleField "TourRooms$Person" "shares") ∈ lw_all := lw_g (lw_at lw_m2 6 rfl) rfl
theorem q332 : (Jvm.Cond.laysFinal "TourRooms$Person" "TourRooms$Person" "low" "Z") ∈ lw_all := lw_g (lw_at lw_m2 7 rfl) rfl
theorem q333 : (Jvm.Cond.soleField "TourRooms$Person" "low") ∈ lw_all := lw_g (lw_at lw_m2 8 rfl) rfl
theorem q334 : (Jvm.Cond.lays "TourRooms$Person" "TourRooms$Person" "from" "I") ∈ lw_all := lw_g (lw_at lw_m2 9 rfl) rfl
theorem q335 : (Jvm.Cond.soleField "TourRooms$Person" "from") ∈ lw_all := lw_g (lw_at lw_m2 10 rfl) rfl
theorem q336 : (Jvm.Cond.lays "TourRooms$Person" "TourRooms$Person" "to" "I") ∈ lw_all := lw_g (lw_at lw_m2 11 rfl) rfl
theorem q337 : (Jvm.Cond.soleField "TourRooms$Person" "to") ∈ lw_all := lw_g (lw_at lw_m2 12 rfl) rfl
theorem q338 : (Jvm.Cond.lays "TourRooms$Person" "TourRooms$Person" "bars" "I") ∈ lw_all := lw_g (lw_at lw_m2 13 rfl) rfl
theorem q339 : (Jvm.Cond.soleField "TourRooms$Person" "bars") ∈ lw_all := lw_g (lw_at lw_m2 14 rfl) rfl
theorem q340 : (Jvm.Cond.lays "TourRooms$Person" "TourRooms$Person" "owes" "I") ∈ lw_all := lw_g (lw_at lw_m2 15 rfl) rfl
theorem q341 : (Jvm.Cond.soleField "TourRooms$Person" "owes") ∈ lw_all := lw_g (lw_at lw_m2 16 rfl) rfl
theorem q342 : (Jvm.Cond.lays "TourRooms$Person" "TourRooms$Person" "isGone" "Z") ∈ lw_all := lw_g (lw_at lw_m2 17 rfl) rfl
theorem q343 : (Jvm.Cond.soleField "TourRooms$Person" "isGone") ∈ lw_all := lw_g (lw_at lw_m2 18 rfl) rfl
theorem q344 : (Jvm.Cond.lays "TourRooms$Person" "TourRooms$Person" "friend" "LTourRooms$Person;") ∈ lw_all := lw_g (lw_at lw_m2 19 rfl) rfl
theorem q345 : (Jvm.Cond.soleField "TourRooms$Person" "friend") ∈ lw_all := lw_g (lw_at lw_m2 20 rfl) rfl
theorem q346 : (Jvm.Cond.superclass "TourRooms$Person" "java/lang/Object") ∈ lw_all := lw_g (lw_at lw_m2 21 rfl) rfl
theorem q501 : (Jvm.Cond.instanceMethod ({ cls := "TourRooms$Person", name := "isThere", desc := "(I)Z" } : Jvm.MethodName)) ∈ lw_all := lw_g (lw_at lw_m2 176 rfl) rfl
theorem q502 : (Jvm.Cond.selects "TourRooms$Person" ({ cls := "TourRooms$Person", name := "isThere", desc := "(I)Z" } : Jvm.MethodName) ({ cls := "TourRooms$Person", name := "isThere", desc := "(I)Z" } : Jvm.MethodName)) ∈ lw_all := lw_g (lw_at lw_m2 177 rfl) rfl
theorem q503 : (Jvm.Cond.code ({ cls := "TourRooms$Person", name := "isThere", desc := "(I)Z" } : Jvm.MethodName) prog_6_method_2_code (2 : Nat) (Option.some Jvm.ClassFile.FieldType.boolean)) ∈ lw_all := lw_g (lw_at lw_m2 178 rfl) rfl
theorem q504 : (Jvm.Cond.methodLinkNest "TourRooms$Person" (35 : Nat) ({ cls := "TourRooms", name := "in", desc := "(III)Z" } : Jvm.MethodName) "TourRooms") ∈ lw_tbl := lw_at lw_m2 179 rfl
theorem q528 : (Jvm.Cond.instanceMethod ({ cls := "TourRooms$Person", name := "mayShare", desc := "(LTourRooms$Person;)Z" } : Jvm.MethodName)) ∈ lw_all := lw_g (lw_at lw_m2 203 rfl) rfl
theorem q529 : (Jvm.Cond.selects "TourRooms$Person" ({ cls := "TourRooms$Person", name := "mayShare", desc := "(LTourRooms$Person;)Z" } : Jvm.MethodName) ({ cls := "TourRooms$Person", name := "mayShare", desc := "(LTourRooms$Person;)Z" } : Jvm.MethodName)) ∈ lw_all := lw_g (lw_at lw_m2 204 rfl) rfl
theorem q530 : (Jvm.Cond.code ({ cls := "TourRooms$Person", name := "mayShare", desc := "(LTourRooms$Person;)Z" } : Jvm.MethodName) prog_6_method_3_code (2 : Nat) (Option.some Jvm.ClassFile.FieldType.boolean)) ∈ lw_all := lw_g (lw_at lw_m2 205 rfl) rfl
theorem q981 : (Jvm.Cond.selects "TourRooms$Person" ({ cls := "java/lang/Object", name := "getClass", desc := "()Ljava/lang/Class;" } : Jvm.MethodName) ({ cls := "java/lang/Object", name := "getClass", desc := "()Ljava/lang/Class;" } : Jvm.MethodName)) ∈ lw_all := lw_g (lw_at lw_m4 176 rfl) rfl
theorem q1810 : (Jvm.Cond.castable "TourRooms$Person" "java/lang/Object") ∈ lw_tbl := lw_at lw_m8 45 rfl
theorem in_X4 : ∀ w ∈ wsX40, w ∈ lw_all := lw_in wsX40 [324, 326, 328, 330, 332, 334, 336, 338, 340, 342, 344] (by decide +kernel) (by decide +kernel)
/-! TourRooms$Town -/
set_option maxRecDepth 100000
def RX5 : String := "TourRooms$Town"
def TX5 : u_T := fun k => match k with
  | 0 => ("TourRooms$Town", "nights", "I", true)
  | 1 => ("TourRooms$Town", "first", "I", true)
  | 2 => ("TourRooms$Town", "rooms", "[LTourRooms$Room;", true)
  | 3 => ("TourRooms$Town", "roomMany", "I", false)
  | 4 => ("TourRooms$Town", "list", "[I", true)
  | _ => ("TourRooms$Town", "contract", "Ljava/util/ArrayList;", false)
def tyX5 : Nat → FieldType := fun k => match k with
  | 0 => .int
  | 1 => .int
  | 2 => .array (.object "TourRooms$Room")
  | 3 => .int
  | 4 => .array .int
  | _ => .object "java/util/ArrayList"
abbrev wsX50 : List Cond := u_ws RX5 TX5 6
theorem nmX5 : ∀ a, a < 6 → ∀ b, b < 6 → a ≠ b → (TX5 a).2.1 ≠ (TX5 b).2.1 := by decide +kernel
theorem tyX5_ok : ∀ k, k < 6 → parseFieldDescriptor (TX5 k).2.2.1 = some (tyX5 k) := by decide +kernel
abbrev cX5_init : ByteArray := prog_13_method_1_code
def yX5_init : MethodName := ⟨RX5, "<init>", "(II)V"⟩
theorem dX5_init_0 : decode cX5_init 0 = .ok (.aload_n 0, 1) := by decide +kernel
theorem dX5_init_1 : decode cX5_init 1 = .ok (.invokespecial 3, 3) := by decide +kernel
theorem dX5_init_4 : decode cX5_init 4 = .ok (.aload_n 0, 1) := by decide +kernel
theorem dX5_init_5 : decode cX5_init 5 = .ok (.bipush 10, 2) := by decide +kernel
theorem dX5_init_7 : decode cX5_init 7 = .ok (.anewarray 9, 3) := by decide +kernel
theorem dX5_init_10 : decode cX5_init 10 = .ok (.putfield 11, 3) := by decide +kernel
theorem dX5_init_13 : decode cX5_init 13 = .ok (.aload_n 0, 1) := by decide +kernel
theorem dX5_init_14 : decode cX5_init 14 = .ok (.bipush 10, 2) := by decide +kernel
theorem dX5_init_16 : decode cX5_init 16 = .ok (.newarray .int, 2) := by decide +kernel
theorem dX5_init_18 : decode cX5_init 18 = .ok (.putfield 17, 3) := by decide +kernel
theorem dX5_init_21 : decode cX5_init 21 = .ok (.aload_n 0, 1) := by decide +kernel
theorem dX5_init_22 : decode cX5_init 22 = .ok (.new 21, 3) := by decide +kernel
theorem dX5_init_25 : decode cX5_init 25 = .ok (.dup, 1) := by decide +kernel
theorem dX5_init_26 : decode cX5_init 26 = .ok (.iconst 1, 1) := by decide +kernel
theorem dX5_init_27 : decode cX5_init 27 = .ok (.invokespecial 23, 3) := by decide +kernel
theorem dX5_init_30 : decode cX5_init 30 = .ok (.putfield 26, 3) := by decide +kernel
theorem dX5_init_33 : decode cX5_init 33 = .ok (.aload_n 0, 1) := by decide +kernel
theorem dX5_init_34 : decode cX5_init 34 = .ok (.iload_n 1, 1) := by decide +kernel
theorem dX5_init_35 : decode cX5_init 35 = .ok (.putfield 30, 3) := by decide +kernel
theorem dX5_init_38 : decode cX5_init 38 = .ok (.aload_n 0, 1) := by decide +kernel
theorem dX5_init_39 : decode cX5_init 39 = .ok (.iload_n 2, 1) := by decide +kernel
theorem dX5_init_40 : decode cX5_init 40 = .ok (.putfield 34, 3) := by decide +kernel
theorem dX5_init_43 : decode cX5_init 43 = .ok (.iconst 0, 1) := by decide +kernel
theorem dX5_init_44 : decode cX5_init 44 = .ok (.istore_n 3, 1) := by decide +kernel
theorem dX5_init_45 : decode cX5_init 45 = .ok (.iload_n 3, 1) := by decide +kernel
theorem dX5_init_46 : decode cX5_init 46 = .ok (.bipush 10, 2) := by decide +kernel
theorem dX5_init_48 : decode cX5_init 48 = .ok (.if_icmp .ge 16, 3) := by decide +kernel
theorem dX5_init_51 : decode cX5_init 51 = .ok (.aload_n 0, 1) := by decide +kernel
theorem dX5_init_52 : decode cX5_init 52 = .ok (.getfield 17, 3) := by decide +kernel
theorem dX5_init_55 : decode cX5_init 55 = .ok (.iload_n 3, 1) := by decide +kernel
theorem dX5_init_56 : decode cX5_init 56 = .ok (.iconst (-1), 1) := by decide +kernel
theorem dX5_init_57 : decode cX5_init 57 = .ok (.iastore, 1) := by decide +kernel
theorem dX5_init_58 : decode cX5_init 58 = .ok (.iinc 3 1, 3) := by decide +kernel
theorem dX5_init_61 : decode cX5_init 61 = .ok (.goto (-16), 3) := by decide +kernel
theorem dX5_init_64 : decode cX5_init 64 = .ok (.return_, 1) := by decide +kernel
abbrev cX5_inside : ByteArray := prog_13_method_3_code
def yX5_inside : MethodName := ⟨RX5, "inside", "(I)I"⟩
theorem dX5_inside_0 : decode cX5_inside 0 = .ok (.iconst 0, 1) := by decide +kernel
theorem dX5_inside_1 : decode cX5_inside 1 = .ok (.istore_n 2, 1) := by decide +kernel
theorem dX5_inside_2 : decode cX5_inside 2 = .ok (.iconst 0, 1) := by decide +kernel
theorem dX5_inside_3 : decode cX5_inside 3 = .ok (.istore_n 3, 1) := by decide +kernel
theorem dX5_inside_4 : decode cX5_inside 4 = .ok (.iload_n 3, 1) := by decide +kernel
theorem dX5_inside_5 : decode cX5_inside 5 = .ok (.bipush 10, 2) := by decide +kernel
theorem dX5_inside_7 : decode cX5_inside 7 = .ok (.if_icmp .ge 29, 3) := by decide +kernel
theorem dX5_inside_10 : decode cX5_inside 10 = .ok (.iload_n 2, 1) := by decide +kernel
theorem dX5_inside_11 : decode cX5_inside 11 = .ok (.aload_n 0, 1) := by decide +kernel
theorem dX5_inside_12 : decode cX5_inside 12 = .ok (.getfield 17, 3) := by decide +kernel
theorem dX5_inside_15 : decode cX5_inside 15 = .ok (.iload_n 3, 1) := by decide +kernel
theorem dX5_inside_16 : decode cX5_inside 16 = .ok (.iaload, 1) := by decide +kernel
theorem dX5_inside_17 : decode cX5_inside 17 = .ok (.iload_n 1, 1) := by decide +kernel
theorem dX5_inside_18 : decode cX5_inside 18 = .ok (.if_icmp .ne 9, 3) := by decide +kernel
theorem dX5_inside_21 : decode cX5_inside 21 = .ok (.iconst 1, 1) := by decide +kernel
theorem dX5_inside_22 : decode cX5_inside 22 = .ok (.iload_n 3, 1) := by decide +kernel
theorem dX5_inside_23 : decode cX5_inside 23 = .ok (.ishl, 1) := by decide +kernel
theorem dX5_inside_24 : decode cX5_inside 24 = .ok (.goto 4, 3) := by decide +kernel
theorem dX5_inside_27 : decode cX5_inside 27 = .ok (.iconst 0, 1) := by decide +kernel
theorem dX5_inside_28 : decode cX5_inside 28 = .ok (.ior, 1) := by decide +kernel
theorem dX5_inside_29 : decode cX5_inside 29 = .ok (.istore_n 2, 1) := by decide +kernel
theorem dX5_inside_30 : decode cX5_inside 30 = .ok (.iinc 3 1, 3) := by decide +kernel
theorem dX5_inside_33 : decode cX5_inside 33 = .ok (.goto (-29), 3) := by decide +kernel
theorem dX5_inside_36 : decode cX5_inside 36 = .ok (.iload_n 2, 1) := by decide +kernel
theorem dX5_inside_37 : decode cX5_inside 37 = .ok (.ireturn, 1) := by decide +kernel
abbrev cX5_cost : ByteArray := prog_13_method_6_code
def yX5_cost : MethodName := ⟨RX5, "cost", "()I"⟩
theorem dX5_cost_0 : decode cX5_cost 0 = .ok (.iconst 0, 1) := by decide +kernel
theorem dX5_cost_1 : decode cX5_cost 1 = .ok (.istore_n 1, 1) := by decide +kernel
theorem dX5_cost_2 : decode cX5_cost 2 = .ok (.iconst 0, 1) := by decide +kernel
theorem dX5_cost_3 : decode cX5_cost 3 = .ok (.istore_n 2, 1) := by decide +kernel
theorem dX5_cost_4 : decode cX5_cost 4 = .ok (.iload_n 2, 1) := by decide +kernel
theorem dX5_cost_5 : decode cX5_cost 5 = .ok (.aload_n 0, 1) := by decide +kernel
theorem dX5_cost_6 : decode cX5_cost 6 = .ok (.getfield 37, 3) := by decide +kernel
theorem dX5_cost_9 : decode cX5_cost 9 = .ok (.if_icmp .ge 33, 3) := by decide +kernel
theorem dX5_cost_12 : decode cX5_cost 12 = .ok (.iload_n 1, 1) := by decide +kernel
theorem dX5_cost_13 : decode cX5_cost 13 = .ok (.aload_n 0, 1) := by decide +kernel
theorem dX5_cost_14 : decode cX5_cost 14 = .ok (.iload_n 2, 1) := by decide +kernel
theorem dX5_cost_15 : decode cX5_cost 15 = .ok (.invokevirtual 44, 3) := by decide +kernel
theorem dX5_cost_18 : decode cX5_cost 18 = .ok (.ifCond .eq 15, 3) := by decide +kernel
theorem dX5_cost_21 : decode cX5_cost 21 = .ok (.aload_n 0, 1) := by decide +kernel
theorem dX5_cost_22 : decode cX5_cost 22 = .ok (.getfield 11, 3) := by decide +kernel
theorem dX5_cost_25 : decode cX5_cost 25 = .ok (.iload_n 2, 1) := by decide +kernel
theorem dX5_cost_26 : decode cX5_cost 26 = .ok (.aaload, 1) := by decide +kernel
theorem dX5_cost_27 : decode cX5_cost 27 = .ok (.getfield 48, 3) := by decide +kernel
theorem dX5_cost_30 : decode cX5_cost 30 = .ok (.goto 4, 3) := by decide +kernel
theorem dX5_cost_33 : decode cX5_cost 33 = .ok (.iconst 0, 1) := by decide +kernel
theorem dX5_cost_34 : decode cX5_cost 34 = .ok (.iadd, 1) := by decide +kernel
theorem dX5_cost_35 : decode cX5_cost 35 = .ok (.istore_n 1, 1) := by decide +kernel
theorem dX5_cost_36 : decode cX5_cost 36 = .ok (.iinc 2 1, 3) := by decide +kernel
theorem dX5_cost_39 : decode cX5_cost 39 = .ok (.goto (-35), 3) := by decide +kernel
theorem dX5_cost_42 : decode cX5_cost 42 = .ok (.iload_n 1, 1) := by decide +kernel
theorem dX5_cost_43 : decode cX5_cost 43 = .ok (.ireturn, 1) := by decide +kernel
abbrev cX5_held : ByteArray := prog_13_method_2_code
def yX5_held : MethodName := ⟨RX5, "held", "()I"⟩
theorem dX5_held_0 : decode cX5_held 0 = .ok (.iconst 0, 1) := by decide +kernel
theorem dX5_held_1 : decode cX5_held 1 = .ok (.istore_n 1, 1) := by decide +kernel
theorem dX5_held_2 : decode cX5_held 2 = .ok (.iconst 0, 1) := by decide +kernel
theorem dX5_held_3 : decode cX5_held 3 = .ok (.istore_n 2, 1) := by decide +kernel
theorem dX5_held_4 : decode cX5_held 4 = .ok (.iload_n 2, 1) := by decide +kernel
theorem dX5_held_5 : decode cX5_held 5 = .ok (.aload_n 0, 1) := by decide +kernel
theorem dX5_held_6 : decode cX5_held 6 = .ok (.getfield 37, 3) := by decide +kernel
theorem dX5_held_9 : decode cX5_held 9 = .ok (.if_icmp .ge 29, 3) := by decide +kernel
theorem dX5_held_12 : decode cX5_held 12 = .ok (.iload_n 1, 1) := by decide +kernel
theorem dX5_held_13 : decode cX5_held 13 = .ok (.aload_n 0, 1) := by decide +kernel
theorem dX5_held_14 : decode cX5_held 14 = .ok (.getfield 11, 3) := by decide +kernel
theorem dX5_held_17 : decode cX5_held 17 = .ok (.iload_n 2, 1) := by decide +kernel
theorem dX5_held_18 : decode cX5_held 18 = .ok (.aaload, 1) := by decide +kernel
theorem dX5_held_19 : decode cX5_held 19 = .ok (.getfield 40, 3) := by decide +kernel
theorem dX5_held_22 : decode cX5_held 22 = .ok (.ifCond .eq 7, 3) := by decide +kernel
theorem dX5_held_25 : decode cX5_held 25 = .ok (.iconst 1, 1) := by decide +kernel
theorem dX5_held_26 : decode cX5_held 26 = .ok (.goto 4, 3) := by decide +kernel
theorem dX5_held_29 : decode cX5_held 29 = .ok (.iconst 0, 1) := by decide +kernel
theorem dX5_held_30 : decode cX5_held 30 = .ok (.iadd, 1) := by decide +kernel
theorem dX5_held_31 : decode cX5_held 31 = .ok (.istore_n 1, 1) := by decide +kernel
theorem dX5_held_32 : decode cX5_held 32 = .ok (.iinc 2 1, 3) := by decide +kernel
theorem dX5_held_35 : decode cX5_held 35 = .ok (.goto (-31), 3) := by decide +kernel
theorem dX5_held_38 : decode cX5_held 38 = .ok (.iload_n 1, 1) := by decide +kernel
theorem dX5_held_39 : decode cX5_held 39 = .ok (.ireturn, 1) := by decide +kernel
abbrev cX5_used : ByteArray := prog_13_method_4_code
def yX5_used : MethodName := ⟨RX5, "used", "()I"⟩
theorem dX5_used_0 : decode cX5_used 0 = .ok (.iconst 0, 1) := by decide +kernel
theorem dX5_used_1 : decode cX5_used 1 = .ok (.istore_n 1, 1) := by decide +kernel
theorem dX5_used_2 : decode cX5_used 2 = .ok (.iconst 0, 1) := by decide +kernel
theorem dX5_used_3 : decode cX5_used 3 = .ok (.istore_n 2, 1) := by decide +kernel
theorem dX5_used_4 : decode cX5_used 4 = .ok (.iload_n 2, 1) := by decide +kernel
theorem dX5_used_5 : decode cX5_used 5 = .ok (.aload_n 0, 1) := by decide +kernel
theorem dX5_used_6 : decode cX5_used 6 = .ok (.getfield 37, 3) := by decide +kernel
theorem dX5_used_9 : decode cX5_used 9 = .ok (.if_icmp .ge 25, 3) := by decide +kernel
theorem dX5_used_12 : decode cX5_used 12 = .ok (.iload_n 1, 1) := by decide +kernel
theorem dX5_used_13 : decode cX5_used 13 = .ok (.aload_n 0, 1) := by decide +kernel
theorem dX5_used_14 : decode cX5_used 14 = .ok (.iload_n 2, 1) := by decide +kernel
theorem dX5_used_15 : decode cX5_used 15 = .ok (.invokevirtual 44, 3) := by decide +kernel
theorem dX5_used_18 : decode cX5_used 18 = .ok (.ifCond .eq 7, 3) := by decide +kernel
theorem dX5_used_21 : decode cX5_used 21 = .ok (.iconst 1, 1) := by decide +kernel
theorem dX5_used_22 : decode cX5_used 22 = .ok (.goto 4, 3) := by decide +kernel
theorem dX5_used_25 : decode cX5_used 25 = .ok (.iconst 0, 1) := by decide +kernel
theorem dX5_used_26 : decode cX5_used 26 = .ok (.iadd, 1) := by decide +kernel
theorem dX5_used_27 : decode cX5_used 27 = .ok (.istore_n 1, 1) := by decide +kernel
theorem dX5_used_28 : decode cX5_used 28 = .ok (.iinc 2 1, 3) := by decide +kernel
theorem dX5_used_31 : decode cX5_used 31 = .ok (.goto (-27), 3) := by decide +kernel
theorem dX5_used_34 : decode cX5_used 34 = .ok (.iload_n 1, 1) := by decide +kernel
theorem dX5_used_35 : decode cX5_used 35 = .ok (.ireturn, 1) := by decide +kernel
abbrev cX5_people : ByteArray := prog_13_method_5_code
def yX5_people : MethodName := ⟨RX5, "people", "()I"⟩
theorem dX5_people_0 : decode cX5_people 0 = .ok (.iconst 0, 1) := by decide +kernel
theorem dX5_people_1 : decode cX5_people 1 = .ok (.istore_n 1, 1) := by decide +kernel
theorem dX5_people_2 : decode cX5_people 2 = .ok (.iconst 0, 1) := by decide +kernel
theorem dX5_people_3 : decode cX5_people 3 = .ok (.istore_n 2, 1) := by decide +kernel
theorem dX5_people_4 : decode cX5_people 4 = .ok (.iload_n 2, 1) := by decide +kernel
theorem dX5_people_5 : decode cX5_people 5 = .ok (.bipush 10, 2) := by decide +kernel
theorem dX5_people_7 : decode cX5_people 7 = .ok (.if_icmp .ge 27, 3) := by decide +kernel
theorem dX5_people_10 : decode cX5_people 10 = .ok (.iload_n 1, 1) := by decide +kernel
theorem dX5_people_11 : decode cX5_people 11 = .ok (.aload_n 0, 1) := by decide +kernel
theorem dX5_people_12 : decode cX5_people 12 = .ok (.getfield 17, 3) := by decide +kernel
theorem dX5_people_15 : decode cX5_people 15 = .ok (.iload_n 2, 1) := by decide +kernel
theorem dX5_people_16 : decode cX5_people 16 = .ok (.iaload, 1) := by decide +kernel
theorem dX5_people_17 : decode cX5_people 17 = .ok (.iconst (-1), 1) := by decide +kernel
theorem dX5_people_18 : decode cX5_people 18 = .ok (.if_icmp .eq 7, 3) := by decide +kernel
theorem dX5_people_21 : decode cX5_people 21 = .ok (.iconst 1, 1) := by decide +kernel
theorem dX5_people_22 : decode cX5_people 22 = .ok (.goto 4, 3) := by decide +kernel
theorem dX5_people_25 : decode cX5_people 25 = .ok (.iconst 0, 1) := by decide +kernel
theorem dX5_people_26 : decode cX5_people 26 = .ok (.iadd, 1) := by decide +kernel
theorem dX5_people_27 : decode cX5_people 27 = .ok (.istore_n 1, 1) := by decide +kernel
theorem dX5_people_28 : decode cX5_people 28 = .ok (.iinc 2 1, 3) := by decide +kernel
theorem dX5_people_31 : decode cX5_people 31 = .ok (.goto (-27), 3) := by decide +kernel
theorem dX5_people_34 : decode cX5_people 34 = .ok (.iload_n 1, 1) := by decide +kernel
theorem dX5_people_35 : decode cX5_people 35 = .ok (.ireturn, 1) := by decide +kernel
theorem q90 : (Jvm.Cond.initialized "TourRooms$Town") ∈ lw_all := lw_g (lw_at lw_m1 5 rfl) rfl
theorem q391 : (Jvm.Cond.instantiable "TourRooms$Town" (6 : Nat)) ∈ lw_all := lw_g (lw_at lw_m2 66 rfl) rfl
theorem q393 : (Jvm.Cond.instanceMethod ({ cls := "TourRooms$Town", name := "<init>", desc := "(II)V" } : Jvm.MethodName)) ∈ lw_all := lw_g (lw_at lw_m2 68 rfl) rfl
theorem q394 : (Jvm.Cond.code ({ cls := "TourRooms$Town", name := "<init>", desc := "(II)V" } : Jvm.MethodName) prog_13_method_1_code (4 : Nat) (Option.none : Option Jvm.ClassFile.FieldType)) ∈ lw_all := lw_g (lw_at lw_m2 69 rfl) rfl
theorem q395 : (Jvm.Cond.methodLink "TourRooms$Town" (3 : Nat) ({ cls := "java/lang/Object", name := "<init>", desc := "()V" } : Jvm.MethodName)) ∈ lw_all := lw_g (lw_at lw_m2 70 rfl) rfl
theorem q396 : (Jvm.Cond.classLink "TourRooms$Town" (9 : Nat) "TourRooms$Room") ∈ lw_all := lw_g (lw_at lw_m2 71 rfl) rfl
theorem q398 : (Jvm.Cond.classLink "TourRooms$Town" (21 : Nat) "java/util/ArrayList") ∈ lw_all := lw_g (lw_at lw_m2 73 rfl) rfl
theorem q400 : (Jvm.Cond.methodLink "TourRooms$Town" (23 : Nat) ({ cls := "java/util/ArrayList", name := "<init>", desc := "(I)V" } : Jvm.MethodName)) ∈ lw_all := lw_g (lw_at lw_m2 75 rfl) rfl
theorem q426 : (Jvm.Cond.fieldLink "TourRooms$Town" (30 : Nat) "TourRooms$Town" "nights" "I") ∈ lw_all := lw_g (lw_at lw_m2 101 rfl) rfl
theorem q428 : (Jvm.Cond.fieldLink "TourRooms$Town" (34 : Nat) "TourRooms$Town" "first" "I") ∈ lw_all := lw_g (lw_at lw_m2 103 rfl) rfl
theorem q430 : (Jvm.Cond.fieldLink "TourRooms$Town" (11 : Nat) "TourRooms$Town" "rooms" "[LTourRooms$Room;") ∈ lw_all := lw_g (lw_at lw_m2 105 rfl) rfl
theorem q432 : (Jvm.Cond.fieldLink "TourRooms$Town" (37 : Nat) "TourRooms$Town" "roomMany" "I") ∈ lw_all := lw_g (lw_at lw_m2 107 rfl) rfl
theorem q434 : (Jvm.Cond.fieldLink "TourRooms$Town" (17 : Nat) "TourRooms$Town" "list" "[I") ∈ lw_all := lw_g (lw_at lw_m2 109 rfl) rfl
theorem q436 : (Jvm.Cond.fieldLink "TourRooms$Town" (26 : Nat) "TourRooms$Town" "contract" "Ljava/util/ArrayList;") ∈ lw_all := lw_g (lw_at lw_m2 111 rfl) rfl
theorem q438 : (Jvm.Cond.laysFinal "TourRooms$Town" "TourRooms$Town" "nights" "I") ∈ lw_all := lw_g (lw_at lw_m2 113 rfl) rfl
theorem q439 : (Jvm.Cond.soleField "TourRooms$Town" "nights") ∈ lw_all := lw_g (lw_at lw_m2 114 rfl) rfl
theorem q440 : (Jvm.Cond.laysFinal "TourRooms$Town" "TourRooms$Town" "first" "I") ∈ lw_all := lw_g (lw_at lw_m2 115 rfl) rfl
theorem q441 : (Jvm.Cond.soleField "TourRooms$Town" "first") ∈ lw_all := lw_g (lw_at lw_m2 116 rfl) rfl
theorem q442 : (Jvm.Cond.laysFinal "TourRooms$Town" "TourRooms$Town" "rooms" "[LTourRooms$Room;") ∈ lw_all := lw_g (lw_at lw_m2 117 rfl) rfl
theorem q443 : (Jvm.Cond.soleField "TourRooms$Town" "rooms") ∈ lw_all := lw_g (lw_at lw_m2 118 rfl) rfl
theorem q444 : (Jvm.Cond.lays "TourRooms$Town" "TourRooms$Town" "roomMany" "I") ∈ lw_all := lw_g (lw_at lw_m2 119 rfl) rfl
theorem q445 : (Jvm.Cond.soleField "TourRooms$Town" "roomMany") ∈ lw_all := lw_g (lw_at lw_m2 120 rfl) rfl
theorem q446 : (Jvm.Cond.laysFinal "TourRooms$Town" "TourRooms$Town" "list" "[I") ∈ lw_all := lw_g (lw_at lw_m2 121 rfl) rfl
theorem q447 : (Jvm.Cond.soleField "TourRooms$Town" "list") ∈ lw_all := lw_g (lw_at lw_m2 122 rfl) rfl
theorem q448 : (Jvm.Cond.lays "TourRooms$Town" "TourRooms$Town" "contract" "Ljava/util/ArrayList;") ∈ lw_all := lw_g (lw_at lw_m2 123 rfl) rfl
theorem q449 : (Jvm.Cond.soleField "TourRooms$Town" "contract") ∈ lw_all := lw_g (lw_at lw_m2 124 rfl) rfl
theorem q450 : (Jvm.Cond.superclass "TourRooms$Town" "java/lang/Object") ∈ lw_all := lw_g (lw_at lw_m2 125 rfl) rfl
theorem q480 : (Jvm.Cond.fieldLinkNest "TourRooms$Town" (48 : Nat) "TourRooms$Room" "price" "I" "TourRooms") ∈ lw_tbl := lw_at lw_m2 155 rfl
theorem q485 : (Jvm.Cond.fieldLinkNest "TourRooms$Town" (40 : Nat) "TourRooms$Room" "held" "Z" "TourRooms") ∈ lw_tbl := lw_at lw_m2 160 rfl
theorem q510 : (Jvm.Cond.instanceMethod ({ cls := "TourRooms$Town", name := "inside", desc := "(I)I" } : Jvm.MethodName)) ∈ lw_all := lw_g (lw_at lw_m2 185 rfl) rfl
theorem q511 : (Jvm.Cond.selects "TourRooms$Town" ({ cls := "TourRooms$Town", name := "inside", desc := "(I)I" } : Jvm.MethodName) ({ cls := "TourRooms$Town", name := "inside", desc := "(I)I" } : Jvm.MethodName)) ∈ lw_all := lw_g (lw_at lw_m2 186 rfl) rfl
theorem q512 : (Jvm.Cond.code ({ cls := "TourRooms$Town", name := "inside", desc := "(I)I" } : Jvm.MethodName) prog_13_method_3_code (4 : Nat) (Option.some Jvm.ClassFile.FieldType.int)) ∈ lw_all := lw_g (lw_at lw_m2 187 rfl) rfl
theorem q562 : (Jvm.Cond.instanceMethod ({ cls := "TourRooms$Town", name := "cost", desc := "()I" } : Jvm.MethodName)) ∈ lw_all := lw_g (lw_at lw_m2 237 rfl) rfl
theorem q563 : (Jvm.Cond.selects "TourRooms$Town" ({ cls := "TourRooms$Town", name := "cost", desc := "()I" } : Jvm.MethodName) ({ cls := "TourRooms$Town", name := "cost", desc := "()I" } : Jvm.MethodName)) ∈ lw_all := lw_g (lw_at lw_m2 238 rfl) rfl
theorem q564 : (Jvm.Cond.code ({ cls := "TourRooms$Town", name := "cost", desc := "()I" } : Jvm.MethodName) prog_13_method_6_code (3 : Nat) (Option.some Jvm.ClassFile.FieldType.int)) ∈ lw_all := lw_g (lw_at lw_m2 239 rfl) rfl
theorem q565 : (Jvm.Cond.methodLink "TourRooms$Town" (44 : Nat) ({ cls := "TourRooms$Town", name := "inside", desc := "(I)I" } : Jvm.MethodName)) ∈ lw_all := lw_g (lw_at lw_m3 0 rfl) rfl
theorem q988 : (Jvm.Cond.selects "TourRooms$Town" ({ cls := "java/lang/Object", name := "getClass", desc := "()Ljava/lang/Class;" } : Jvm.MethodName) ({ cls := "java/lang/Object", name := "getClass", desc := "()Ljava/lang/Class;" } : Jvm.MethodName)) ∈ lw_all := lw_g (lw_at lw_m4 183 rfl) rfl
theorem q1013 : (Jvm.Cond.instanceMethod ({ cls := "TourRooms$Town", name := "held", desc := "()I" } : Jvm.MethodName)) ∈ lw_all := lw_g (lw_at lw_m4 208 rfl) rfl
theorem q1014 : (Jvm.Cond.selects "TourRooms$Town" ({ cls := "TourRooms$Town", name := "held", desc := "()I" } : Jvm.MethodName) ({ cls := "TourRooms$Town", name := "held", desc := "()I" } : Jvm.MethodName)) ∈ lw_all := lw_g (lw_at lw_m4 209 rfl) rfl
theorem q1015 : (Jvm.Cond.code ({ cls := "TourRooms$Town", name := "held", desc := "()I" } : Jvm.MethodName) prog_13_method_2_code (3 : Nat) (Option.some Jvm.ClassFile.FieldType.int)) ∈ lw_all := lw_g (lw_at lw_m4 210 rfl) rfl
theorem q1017 : (Jvm.Cond.instanceMethod ({ cls := "TourRooms$Town", name := "used", desc := "()I" } : Jvm.MethodName)) ∈ lw_all := lw_g (lw_at lw_m4 212 rfl) rfl
theorem q1018 : (Jvm.Cond.selects "TourRooms$Town" ({ cls := "TourRooms$Town", name := "used", desc := "()I" } : Jvm.MethodName) ({ cls := "TourRooms$Town", name := "used", desc := "()I" } : Jvm.MethodName)) ∈ lw_all := lw_g (lw_at lw_m4 213 rfl) rfl
theorem q1019 : (Jvm.Cond.code ({ cls := "TourRooms$Town", name := "used", desc := "()I" } : Jvm.MethodName) prog_13_method_4_code (3 : Nat) (Option.some Jvm.ClassFile.FieldType.int)) ∈ lw_all := lw_g (lw_at lw_m4 214 rfl) rfl
theorem q1021 : (Jvm.Cond.instanceMethod ({ cls := "TourRooms$Town", name := "people", desc := "()I" } : Jvm.MethodName)) ∈ lw_all := lw_g (lw_at lw_m4 216 rfl) rfl
theorem q1022 : (Jvm.Cond.selects "TourRooms$Town" ({ cls := "TourRooms$Town", name := "people", desc := "()I" } : Jvm.MethodName) ({ cls := "TourRooms$Town", name := "people", desc := "()I" } : Jvm.MethodName)) ∈ lw_all := lw_g (lw_at lw_m4 217 rfl) rfl
theorem q1023 : (Jvm.Cond.code ({ cls := "TourRooms$Town", name := "people", desc := "()I" } : Jvm.MethodName) prog_13_method_5_code (3 : Nat) (Option.some Jvm.ClassFile.FieldType.int)) ∈ lw_all := lw_g (lw_at lw_m4 218 rfl) rfl
theorem q1811 : (Jvm.Cond.castable "TourRooms$Town" "java/lang/Object") ∈ lw_tbl := lw_at lw_m8 46 rfl
theorem in_X5 : ∀ w ∈ wsX50, w ∈ lw_all := lw_in wsX50 [438, 440, 442, 444, 446, 448] (by decide +kernel) (by decide +kernel)
/-! TourRooms$Room -/
set_option maxRecDepth 100000
def RX6 : String := "TourRooms$Room"
def TX6 : u_T := fun k => match k with
  | 0 => ("TourRooms$Room", "beds", "I", true)
  | 1 => ("TourRooms$Room", "price", "I", true)
  | 2 => ("TourRooms$Room", "low", "Z", true)
  | _ => ("TourRooms$Room", "held", "Z", false)
def tyX6 : Nat → FieldType := fun k => match k with
  | 0 => .int
  | 1 => .int
  | 2 => .boolean
  | _ => .boolean
abbrev wsX60 : List Cond := u_ws RX6 TX6 4
theorem nmX6 : ∀ a, a < 4 → ∀ b, b < 4 → a ≠ b → (TX6 a).2.1 ≠ (TX6 b).2.1 := by decide +kernel
theorem tyX6_ok : ∀ k, k < 4 → parseFieldDescriptor (TX6 k).2.2.1 = some (tyX6 k) := by decide +kernel
abbrev cX6_init : ByteArray := prog_8_method_1_code
def yX6_init : MethodName := ⟨RX6, "<init>", "(IZI)V"⟩
theorem dX6_init_0 : decode cX6_init 0 = .ok (.aload_n 0, 1) := by decide +kernel
theorem dX6_init_1 : decode cX6_init 1 = .ok (.invokespecial 1, 3) := by decide +kernel
theorem dX6_init_4 : decode cX6_init 4 = .ok (.aload_n 0, 1) := by decide +kernel
theorem dX6_init_5 : decode cX6_init 5 = .ok (.iconst 1, 1) := by decide +kernel
theorem dX6_init_6 : decode cX6_init 6 = .ok (.putfield 7, 3) := by decide +kernel
theorem dX6_init_9 : decode cX6_init 9 = .ok (.aload_n 0, 1) := by decide +kernel
theorem dX6_init_10 : decode cX6_init 10 = .ok (.iload_n 1, 1) := by decide +kernel
theorem dX6_init_11 : decode cX6_init 11 = .ok (.putfield 13, 3) := by decide +kernel
theorem dX6_init_14 : decode cX6_init 14 = .ok (.aload_n 0, 1) := by decide +kernel
theorem dX6_init_15 : decode cX6_init 15 = .ok (.iload_n 2, 1) := by decide +kernel
theorem dX6_init_16 : decode cX6_init 16 = .ok (.putfield 17, 3) := by decide +kernel
theorem dX6_init_19 : decode cX6_init 19 = .ok (.aload_n 0, 1) := by decide +kernel
theorem dX6_init_20 : decode cX6_init 20 = .ok (.iload_n 3, 1) := by decide +kernel
theorem dX6_init_21 : decode cX6_init 21 = .ok (.putfield 20, 3) := by decide +kernel
theorem dX6_init_24 : decode cX6_init 24 = .ok (.return_, 1) := by decide +kernel
theorem q94 : (Jvm.Cond.initialized "TourRooms$Room") ∈ lw_all := lw_g (lw_at lw_m1 9 rfl) rfl
theorem q472 : (Jvm.Cond.instantiable "TourRooms$Room" (4 : Nat)) ∈ lw_all := lw_g (lw_at lw_m2 147 rfl) rfl
theorem q474 : (Jvm.Cond.instanceMethod ({ cls := "TourRooms$Room", name := "<init>", desc := "(IZI)V" } : Jvm.MethodName)) ∈ lw_all := lw_g (lw_at lw_m2 149 rfl) rfl
theorem q475 : (Jvm.Cond.code ({ cls := "TourRooms$Room", name := "<init>", desc := "(IZI)V" } : Jvm.MethodName) prog_8_method_1_code (4 : Nat) (Option.none : Option Jvm.ClassFile.FieldType)) ∈ lw_all := lw_g (lw_at lw_m2 150 rfl) rfl
theorem q476 : (Jvm.Cond.methodLink "TourRooms$Room" (1 : Nat) ({ cls := "java/lang/Object", name := "<init>", desc := "()V" } : Jvm.MethodName)) ∈ lw_all := lw_g (lw_at lw_m2 151 rfl) rfl
theorem q477 : (Jvm.Cond.fieldLink "TourRooms$Room" (13 : Nat) "TourRooms$Room" "beds" "I") ∈ lw_all := lw_g (lw_at lw_m2 152 rfl) rfl
theorem q479 : (Jvm.Cond.fieldLink "TourRooms$Room" (20 : Nat) "TourRooms$Room" "price" "I") ∈ lw_all := lw_g (lw_at lw_m2 154 rfl) rfl
theorem q482 : (Jvm.Cond.fieldLink "TourRooms$Room" (17 : Nat) "TourRooms$Room" "low" "Z") ∈ lw_all := lw_g (lw_at lw_m2 157 rfl) rfl
theorem q484 : (Jvm.Cond.fieldLink "TourRooms$Room" (7 : Nat) "TourRooms$Room" "held" "Z") ∈ lw_all := lw_g (lw_at lw_m2 159 rfl) rfl
theorem q487 : (Jvm.Cond.laysFinal "TourRooms$Room" "TourRooms$Room" "beds" "I") ∈ lw_all := lw_g (lw_at lw_m2 162 rfl) rfl
theorem q488 : (Jvm.Cond.soleField "TourRooms$Room" "beds") ∈ lw_all := lw_g (lw_at lw_m2 163 rfl) rfl
theorem q489 : (Jvm.Cond.laysFinal "TourRooms$Room" "TourRooms$Room" "price" "I") ∈ lw_all := lw_g (lw_at lw_m2 164 rfl) rfl
theorem q490 : (Jvm.Cond.soleField "TourRooms$Room" "price") ∈ lw_all := lw_g (lw_at lw_m2 165 rfl) rfl
theorem q491 : (Jvm.Cond.laysFinal "TourRooms$Room" "TourRooms$Room" "low" "Z") ∈ lw_all := lw_g (lw_at lw_m2 166 rfl) rfl
theorem q492 : (Jvm.Cond.soleField "TourRooms$Room" "low") ∈ lw_all := lw_g (lw_at lw_m2 167 rfl) rfl
theorem q493 : (Jvm.Cond.lays "TourRooms$Room" "TourRooms$Room" "held" "Z") ∈ lw_all := lw_g (lw_at lw_m2 168 rfl) rfl
theorem q494 : (Jvm.Cond.soleField "TourRooms$Room" "held") ∈ lw_all := lw_g (lw_at lw_m2 169 rfl) rfl
theorem q495 : (Jvm.Cond.superclass "TourRooms$Room" "java/lang/Object") ∈ lw_all := lw_g (lw_at lw_m2 170 rfl) rfl
theorem q983 : (Jvm.Cond.selects "TourRooms$Room" ({ cls := "java/lang/Object", name := "getClass", desc := "()Ljava/lang/Class;" } : Jvm.MethodName) ({ cls := "java/lang/Object", name := "getClass", desc := "()Ljava/lang/Class;" } : Jvm.MethodName)) ∈ lw_all := lw_g (lw_at lw_m4 178 rfl) rfl
theorem q1812 : (Jvm.Cond.castable "TourRooms$Room" "java/lang/Object") ∈ lw_tbl := lw_at lw_m8 47 rfl
theorem in_X6 : ∀ w ∈ wsX60, w ∈ lw_all := lw_in wsX60 [487, 489, 491, 493] (by decide +kernel) (by decide +kernel)
/-! TourRooms$Reader -/
set_option maxRecDepth 100000
def RX7 : String := "TourRooms$Reader"
def TX7 : u_T := fun k => match k with
  | 0 => ("TourRooms$Reader", "to", "I", false)
  | 1 => ("TourRooms$Reader", "from", "I", false)
  | 2 => ("TourRooms$Reader", "sort", "I", false)
  | 3 => ("TourRooms$Reader", "value", "I", false)
  | 4 => ("TourRooms$Reader", "open", "I", false)
  | _ => ("TourRooms$Reader", "this$0", "LTourRooms;", true)
def tyX7 : Nat → FieldType := fun k => match k with
  | 0 => .int
  | 1 => .int
  | 2 => .int
  | 3 => .int
  | 4 => .int
  | _ => .object "TourRooms"
abbrev wsX70 : List Cond := u_ws RX7 TX7 6
theorem nmX7 : ∀ a, a < 6 → ∀ b, b < 6 → a ≠ b → (TX7 a).2.1 ≠ (TX7 b).2.1 := by decide +kernel
theorem tyX7_ok : ∀ k, k < 6 → parseFieldDescriptor (TX7 k).2.2.1 = some (tyX7 k) := by decide +kernel
abbrev cX7_init : ByteArray := prog_7_method_1_code
def yX7_init : MethodName := ⟨RX7, "<init>", "(LTourRooms;)V"⟩
theorem dX7_init_0 : decode cX7_init 0 = .ok (.aload_n 0, 1) := by decide +kernel
theorem dX7_init_1 : decode cX7_init 1 = .ok (.aload_n 1, 1) := by decide +kernel
theorem dX7_init_2 : decode cX7_init 2 = .ok (.putfield 3, 3) := by decide +kernel
theorem dX7_init_5 : decode cX7_init 5 = .ok (.aload_n 0, 1) := by decide +kernel
theorem dX7_init_6 : decode cX7_init 6 = .ok (.invokespecial 9, 3) := by decide +kernel
theorem dX7_init_9 : decode cX7_init 9 = .ok (.return_, 1) := by decide +kernel
abbrev cX7_whole : ByteArray := prog_7_method_10_code
def yX7_whole : MethodName := ⟨RX7, "whole", "()Ljava/util/ArrayList;"⟩
theorem dX7_whole_0 : decode cX7_whole 0 = .ok (.new 76, 3) := by decide +kernel
theorem dX7_whole_3 : decode cX7_whole 3 = .ok (.dup, 1) := by decide +kernel
theorem dX7_whole_4 : decode cX7_whole 4 = .ok (.invokespecial 78, 3) := by decide +kernel
theorem dX7_whole_7 : decode cX7_whole 7 = .ok (.astore_n 1, 1) := by decide +kernel
theorem dX7_whole_8 : decode cX7_whole 8 = .ok (.aload_n 0, 1) := by decide +kernel
theorem dX7_whole_9 : decode cX7_whole 9 = .ok (.invokevirtual 73, 3) := by decide +kernel
theorem dX7_whole_12 : decode cX7_whole 12 = .ok (.aload_n 0, 1) := by decide +kernel
theorem dX7_whole_13 : decode cX7_whole 13 = .ok (.getfield 33, 3) := by decide +kernel
theorem dX7_whole_16 : decode cX7_whole 16 = .ok (.ifCond .eq 92, 3) := by decide +kernel
theorem dX7_whole_19 : decode cX7_whole 19 = .ok (.aload_n 0, 1) := by decide +kernel
theorem dX7_whole_20 : decode cX7_whole 20 = .ok (.ldc 79, 2) := by decide +kernel
theorem dX7_whole_22 : decode cX7_whole 22 = .ok (.invokevirtual 81, 3) := by decide +kernel
theorem dX7_whole_25 : decode cX7_whole 25 = .ok (.istore_n 2, 1) := by decide +kernel
theorem dX7_whole_26 : decode cX7_whole 26 = .ok (.iload_n 2, 1) := by decide +kernel
theorem dX7_whole_27 : decode cX7_whole 27 = .ok (.iconst (-1), 1) := by decide +kernel
theorem dX7_whole_28 : decode cX7_whole 28 = .ok (.if_icmp .ne 9, 3) := by decide +kernel
theorem dX7_whole_31 : decode cX7_whole 31 = .ok (.aload_n 0, 1) := by decide +kernel
theorem dX7_whole_32 : decode cX7_whole 32 = .ok (.iconst 1, 1) := by decide +kernel
theorem dX7_whole_33 : decode cX7_whole 33 = .ok (.invokevirtual 69, 3) := by decide +kernel
theorem dX7_whole_36 : decode cX7_whole 36 = .ok (.athrow, 1) := by decide +kernel
theorem dX7_whole_37 : decode cX7_whole 37 = .ok (.aload_n 1, 1) := by decide +kernel
theorem dX7_whole_38 : decode cX7_whole 38 = .ok (.invokevirtual 85, 3) := by decide +kernel
theorem dX7_whole_41 : decode cX7_whole 41 = .ok (.bipush 12, 2) := by decide +kernel
theorem dX7_whole_43 : decode cX7_whole 43 = .ok (.if_icmp .ne 9, 3) := by decide +kernel
theorem dX7_whole_46 : decode cX7_whole 46 = .ok (.aload_n 0, 1) := by decide +kernel
theorem dX7_whole_47 : decode cX7_whole 47 = .ok (.iconst 2, 1) := by decide +kernel
theorem dX7_whole_48 : decode cX7_whole 48 = .ok (.invokevirtual 69, 3) := by decide +kernel
theorem dX7_whole_51 : decode cX7_whole 51 = .ok (.athrow, 1) := by decide +kernel
theorem dX7_whole_52 : decode cX7_whole 52 = .ok (.aload_n 0, 1) := by decide +kernel
theorem dX7_whole_53 : decode cX7_whole 53 = .ok (.invokevirtual 73, 3) := by decide +kernel
theorem dX7_whole_56 : decode cX7_whole 56 = .ok (.aload_n 0, 1) := by decide +kernel
theorem dX7_whole_57 : decode cX7_whole 57 = .ok (.invokevirtual 88, 3) := by decide +kernel
theorem dX7_whole_60 : decode cX7_whole 60 = .ok (.astore_n 3, 1) := by decide +kernel
theorem dX7_whole_61 : decode cX7_whole 61 = .ok (.aconst_null, 1) := by decide +kernel
theorem dX7_whole_62 : decode cX7_whole 62 = .ok (.astore 4, 2) := by decide +kernel
theorem dX7_whole_64 : decode cX7_whole 64 = .ok (.aload_n 0, 1) := by decide +kernel
theorem dX7_whole_65 : decode cX7_whole 65 = .ok (.ldc 92, 2) := by decide +kernel
theorem dX7_whole_67 : decode cX7_whole 67 = .ok (.invokevirtual 81, 3) := by decide +kernel
theorem dX7_whole_70 : decode cX7_whole 70 = .ok (.ifCond .ne 13, 3) := by decide +kernel
theorem dX7_whole_73 : decode cX7_whole 73 = .ok (.aload_n 0, 1) := by decide +kernel
theorem dX7_whole_74 : decode cX7_whole 74 = .ok (.invokevirtual 73, 3) := by decide +kernel
theorem dX7_whole_77 : decode cX7_whole 77 = .ok (.aload_n 0, 1) := by decide +kernel
theorem dX7_whole_78 : decode cX7_whole 78 = .ok (.invokevirtual 88, 3) := by decide +kernel
theorem dX7_whole_81 : decode cX7_whole 81 = .ok (.astore 4, 2) := by decide +kernel
theorem dX7_whole_83 : decode cX7_whole 83 = .ok (.aload_n 0, 1) := by decide +kernel
theorem dX7_whole_84 : decode cX7_whole 84 = .ok (.bipush 59, 2) := by decide +kernel
theorem dX7_whole_86 : decode cX7_whole 86 = .ok (.invokevirtual 94, 3) := by decide +kernel
theorem dX7_whole_89 : decode cX7_whole 89 = .ok (.aload_n 1, 1) := by decide +kernel
theorem dX7_whole_90 : decode cX7_whole 90 = .ok (.new 98, 3) := by decide +kernel
theorem dX7_whole_93 : decode cX7_whole 93 = .ok (.dup, 1) := by decide +kernel
theorem dX7_whole_94 : decode cX7_whole 94 = .ok (.iload_n 2, 1) := by decide +kernel
theorem dX7_whole_95 : decode cX7_whole 95 = .ok (.aload_n 3, 1) := by decide +kernel
theorem dX7_whole_96 : decode cX7_whole 96 = .ok (.aload 4, 2) := by decide +kernel
theorem dX7_whole_98 : decode cX7_whole 98 = .ok (.invokespecial 100, 3) := by decide +kernel
theorem dX7_whole_101 : decode cX7_whole 101 = .ok (.invokevirtual 103, 3) := by decide +kernel
theorem dX7_whole_104 : decode cX7_whole 104 = .ok (.pop, 1) := by decide +kernel
theorem dX7_whole_105 : decode cX7_whole 105 = .ok (.goto (-93), 3) := by decide +kernel
theorem dX7_whole_108 : decode cX7_whole 108 = .ok (.aload_n 1, 1) := by decide +kernel
theorem dX7_whole_109 : decode cX7_whole 109 = .ok (.areturn, 1) := by decide +kernel
abbrev cX7_next : ByteArray := prog_7_method_5_code
def yX7_next : MethodName := ⟨RX7, "next", "()V"⟩
theorem dX7_next_0 : decode cX7_next 0 = .ok (.aload_n 0, 1) := by decide +kernel
theorem dX7_next_1 : decode cX7_next 1 = .ok (.getfield 23, 3) := by decide +kernel
theorem dX7_next_4 : decode cX7_next 4 = .ok (.aload_n 0, 1) := by decide +kernel
theorem dX7_next_5 : decode cX7_next 5 = .ok (.getfield 3, 3) := by decide +kernel
theorem dX7_next_8 : decode cX7_next 8 = .ok (.getfield 15, 3) := by decide +kernel
theorem dX7_next_11 : decode cX7_next 11 = .ok (.if_icmp .ge 42, 3) := by decide +kernel
theorem dX7_next_14 : decode cX7_next 14 = .ok (.aload_n 0, 1) := by decide +kernel
theorem dX7_next_15 : decode cX7_next 15 = .ok (.aload_n 0, 1) := by decide +kernel
theorem dX7_next_16 : decode cX7_next 16 = .ok (.getfield 23, 3) := by decide +kernel
theorem dX7_next_19 : decode cX7_next 19 = .ok (.invokevirtual 26, 3) := by decide +kernel
theorem dX7_next_22 : decode cX7_next 22 = .ok (.bipush 32, 2) := by decide +kernel
theorem dX7_next_24 : decode cX7_next 24 = .ok (.if_icmp .eq 16, 3) := by decide +kernel
theorem dX7_next_27 : decode cX7_next 27 = .ok (.aload_n 0, 1) := by decide +kernel
theorem dX7_next_28 : decode cX7_next 28 = .ok (.aload_n 0, 1) := by decide +kernel
theorem dX7_next_29 : decode cX7_next 29 = .ok (.getfield 23, 3) := by decide +kernel
theorem dX7_next_32 : decode cX7_next 32 = .ok (.invokevirtual 26, 3) := by decide +kernel
theorem dX7_next_35 : decode cX7_next 35 = .ok (.bipush 10, 2) := by decide +kernel
theorem dX7_next_37 : decode cX7_next 37 = .ok (.if_icmp .ne 16, 3) := by decide +kernel
theorem dX7_next_40 : decode cX7_next 40 = .ok (.aload_n 0, 1) := by decide +kernel
theorem dX7_next_41 : decode cX7_next 41 = .ok (.dup, 1) := by decide +kernel
theorem dX7_next_42 : decode cX7_next 42 = .ok (.getfield 23, 3) := by decide +kernel
theorem dX7_next_45 : decode cX7_next 45 = .ok (.iconst 1, 1) := by decide +kernel
theorem dX7_next_46 : decode cX7_next 46 = .ok (.iadd, 1) := by decide +kernel
theorem dX7_next_47 : decode cX7_next 47 = .ok (.putfield 23, 3) := by decide +kernel
theorem dX7_next_50 : decode cX7_next 50 = .ok (.goto (-50), 3) := by decide +kernel
theorem dX7_next_53 : decode cX7_next 53 = .ok (.aload_n 0, 1) := by decide +kernel
theorem dX7_next_54 : decode cX7_next 54 = .ok (.aload_n 0, 1) := by decide +kernel
theorem dX7_next_55 : decode cX7_next 55 = .ok (.getfield 23, 3) := by decide +kernel
theorem dX7_next_58 : decode cX7_next 58 = .ok (.putfield 30, 3) := by decide +kernel
theorem dX7_next_61 : decode cX7_next 61 = .ok (.aload_n 0, 1) := by decide +kernel
theorem dX7_next_62 : decode cX7_next 62 = .ok (.aload_n 0, 1) := by decide +kernel
theorem dX7_next_63 : decode cX7_next 63 = .ok (.getfield 23, 3) := by decide +kernel
theorem dX7_next_66 : decode cX7_next 66 = .ok (.invokevirtual 26, 3) := by decide +kernel
theorem dX7_next_69 : decode cX7_next 69 = .ok (.istore_n 1, 1) := by decide +kernel
theorem dX7_next_70 : decode cX7_next 70 = .ok (.aload_n 0, 1) := by decide +kernel
theorem dX7_next_71 : decode cX7_next 71 = .ok (.getfield 23, 3) := by decide +kernel
theorem dX7_next_74 : decode cX7_next 74 = .ok (.aload_n 0, 1) := by decide +kernel
theorem dX7_next_75 : decode cX7_next 75 = .ok (.getfield 3, 3) := by decide +kernel
theorem dX7_next_78 : decode cX7_next 78 = .ok (.getfield 15, 3) := by decide +kernel
theorem dX7_next_81 : decode cX7_next 81 = .ok (.if_icmp .ne 11, 3) := by decide +kernel
theorem dX7_next_84 : decode cX7_next 84 = .ok (.aload_n 0, 1) := by decide +kernel
theorem dX7_next_85 : decode cX7_next 85 = .ok (.iconst 0, 1) := by decide +kernel
theorem dX7_next_86 : decode cX7_next 86 = .ok (.putfield 33, 3) := by decide +kernel
theorem dX7_next_89 : decode cX7_next 89 = .ok (.goto 210, 3) := by decide +kernel
theorem dX7_next_92 : decode cX7_next 92 = .ok (.aload_n 0, 1) := by decide +kernel
theorem dX7_next_93 : decode cX7_next 93 = .ok (.iload_n 1, 1) := by decide +kernel
theorem dX7_next_94 : decode cX7_next 94 = .ok (.invokevirtual 36, 3) := by decide +kernel
theorem dX7_next_97 : decode cX7_next 97 = .ok (.ifCond .eq 39, 3) := by decide +kernel
theorem dX7_next_100 : decode cX7_next 100 = .ok (.aload_n 0, 1) := by decide +kernel
theorem dX7_next_101 : decode cX7_next 101 = .ok (.aload_n 0, 1) := by decide +kernel
theorem dX7_next_102 : decode cX7_next 102 = .ok (.aload_n 0, 1) := by decide +kernel
theorem dX7_next_103 : decode cX7_next 103 = .ok (.getfield 23, 3) := by decide +kernel
theorem dX7_next_106 : decode cX7_next 106 = .ok (.invokevirtual 26, 3) := by decide +kernel
theorem dX7_next_109 : decode cX7_next 109 = .ok (.invokevirtual 36, 3) := by decide +kernel
theorem dX7_next_112 : decode cX7_next 112 = .ok (.ifCond .eq 16, 3) := by decide +kernel
theorem dX7_next_115 : decode cX7_next 115 = .ok (.aload_n 0, 1) := by decide +kernel
theorem dX7_next_116 : decode cX7_next 116 = .ok (.dup, 1) := by decide +kernel
theorem dX7_next_117 : decode cX7_next 117 = .ok (.getfield 23, 3) := by decide +kernel
theorem dX7_next_120 : decode cX7_next 120 = .ok (.iconst 1, 1) := by decide +kernel
theorem dX7_next_121 : decode cX7_next 121 = .ok (.iadd, 1) := by decide +kernel
theorem dX7_next_122 : decode cX7_next 122 = .ok (.putfield 23, 3) := by decide +kernel
theorem dX7_next_125 : decode cX7_next 125 = .ok (.goto (-25), 3) := by decide +kernel
theorem dX7_next_128 : decode cX7_next 128 = .ok (.aload_n 0, 1) := by decide +kernel
theorem dX7_next_129 : decode cX7_next 129 = .ok (.iconst 1, 1) := by decide +kernel
theorem dX7_next_130 : decode cX7_next 130 = .ok (.putfield 33, 3) := by decide +kernel
theorem dX7_next_133 : decode cX7_next 133 = .ok (.goto 166, 3) := by decide +kernel
theorem dX7_next_136 : decode cX7_next 136 = .ok (.aload_n 0, 1) := by decide +kernel
theorem dX7_next_137 : decode cX7_next 137 = .ok (.iload_n 1, 1) := by decide +kernel
theorem dX7_next_138 : decode cX7_next 138 = .ok (.invokevirtual 40, 3) := by decide +kernel
theorem dX7_next_141 : decode cX7_next 141 = .ok (.ifCond .eq 97, 3) := by decide +kernel
theorem dX7_next_144 : decode cX7_next 144 = .ok (.aload_n 0, 1) := by decide +kernel
theorem dX7_next_145 : decode cX7_next 145 = .ok (.iconst 0, 1) := by decide +kernel
theorem dX7_next_146 : decode cX7_next 146 = .ok (.putfield 43, 3) := by decide +kernel
theorem dX7_next_149 : decode cX7_next 149 = .ok (.aload_n 0, 1) := by decide +kernel
theorem dX7_next_150 : decode cX7_next 150 = .ok (.aload_n 0, 1) := by decide +kernel
theorem dX7_next_151 : decode cX7_next 151 = .ok (.aload_n 0, 1) := by decide +kernel
theorem dX7_next_152 : decode cX7_next 152 = .ok (.getfield 23, 3) := by decide +kernel
theorem dX7_next_155 : decode cX7_next 155 = .ok (.invokevirtual 26, 3) := by decide +kernel
theorem dX7_next_158 : decode cX7_next 158 = .ok (.invokevirtual 40, 3) := by decide +kernel
theorem dX7_next_161 : decode cX7_next 161 = .ok (.ifCond .eq 52, 3) := by decide +kernel
theorem dX7_next_164 : decode cX7_next 164 = .ok (.aload_n 0, 1) := by decide +kernel
theorem dX7_next_165 : decode cX7_next 165 = .ok (.getfield 23, 3) := by decide +kernel
theorem dX7_next_168 : decode cX7_next 168 = .ok (.aload_n 0, 1) := by decide +kernel
theorem dX7_next_169 : decode cX7_next 169 = .ok (.getfield 30, 3) := by decide +kernel
theorem dX7_next_172 : decode cX7_next 172 = .ok (.isub, 1) := by decide +kernel
theorem dX7_next_173 : decode cX7_next 173 = .ok (.iconst 4, 1) := by decide +kernel
theorem dX7_next_174 : decode cX7_next 174 = .ok (.if_icmp .ge 26, 3) := by decide +kernel
theorem dX7_next_177 : decode cX7_next 177 = .ok (.aload_n 0, 1) := by decide +kernel
theorem dX7_next_178 : decode cX7_next 178 = .ok (.bipush 10, 2) := by decide +kernel
theorem dX7_next_180 : decode cX7_next 180 = .ok (.aload_n 0, 1) := by decide +kernel
theorem dX7_next_181 : decode cX7_next 181 = .ok (.getfield 43, 3) := by decide +kernel
theorem dX7_next_184 : decode cX7_next 184 = .ok (.imul, 1) := by decide +kernel
theorem dX7_next_185 : decode cX7_next 185 = .ok (.aload_n 0, 1) := by decide +kernel
theorem dX7_next_186 : decode cX7_next 186 = .ok (.aload_n 0, 1) := by decide +kernel
theorem dX7_next_187 : decode cX7_next 187 = .ok (.getfield 23, 3) := by decide +kernel
theorem dX7_next_190 : decode cX7_next 190 = .ok (.invokevirtual 26, 3) := by decide +kernel
theorem dX7_next_193 : decode cX7_next 193 = .ok (.iadd, 1) := by decide +kernel
theorem dX7_next_194 : decode cX7_next 194 = .ok (.bipush 48, 2) := by decide +kernel
theorem dX7_next_196 : decode cX7_next 196 = .ok (.isub, 1) := by decide +kernel
theorem dX7_next_197 : decode cX7_next 197 = .ok (.putfield 43, 3) := by decide +kernel
theorem dX7_next_200 : decode cX7_next 200 = .ok (.aload_n 0, 1) := by decide +kernel
theorem dX7_next_201 : decode cX7_next 201 = .ok (.dup, 1) := by decide +kernel
theorem dX7_next_202 : decode cX7_next 202 = .ok (.getfield 23, 3) := by decide +kernel
theorem dX7_next_205 : decode cX7_next 205 = .ok (.iconst 1, 1) := by decide +kernel
theorem dX7_next_206 : decode cX7_next 206 = .ok (.iadd, 1) := by decide +kernel
theorem dX7_next_207 : decode cX7_next 207 = .ok (.putfield 23, 3) := by decide +kernel
theorem dX7_next_210 : decode cX7_next 210 = .ok (.goto (-61), 3) := by decide +kernel
theorem dX7_next_213 : decode cX7_next 213 = .ok (.aload_n 0, 1) := by decide +kernel
theorem dX7_next_214 : decode cX7_next 214 = .ok (.aload_n 0, 1) := by decide +kernel
theorem dX7_next_215 : decode cX7_next 215 = .ok (.getfield 23, 3) := by decide +kernel
theorem dX7_next_218 : decode cX7_next 218 = .ok (.aload_n 0, 1) := by decide +kernel
theorem dX7_next_219 : decode cX7_next 219 = .ok (.getfield 30, 3) := by decide +kernel
theorem dX7_next_222 : decode cX7_next 222 = .ok (.isub, 1) := by decide +kernel
theorem dX7_next_223 : decode cX7_next 223 = .ok (.iconst 4, 1) := by decide +kernel
theorem dX7_next_224 : decode cX7_next 224 = .ok (.if_icmp .le 7, 3) := by decide +kernel
theorem dX7_next_227 : decode cX7_next 227 = .ok (.iconst 4, 1) := by decide +kernel
theorem dX7_next_228 : decode cX7_next 228 = .ok (.goto 4, 3) := by decide +kernel
theorem dX7_next_231 : decode cX7_next 231 = .ok (.iconst 2, 1) := by decide +kernel
theorem dX7_next_232 : decode cX7_next 232 = .ok (.putfield 33, 3) := by decide +kernel
theorem dX7_next_235 : decode cX7_next 235 = .ok (.goto 64, 3) := by decide +kernel
theorem dX7_next_238 : decode cX7_next 238 = .ok (.aload_n 0, 1) := by decide +kernel
theorem dX7_next_239 : decode cX7_next 239 = .ok (.iload_n 1, 1) := by decide +kernel
theorem dX7_next_240 : decode cX7_next 240 = .ok (.bipush 59, 2) := by decide +kernel
theorem dX7_next_242 : decode cX7_next 242 = .ok (.if_icmp .eq 39, 3) := by decide +kernel
theorem dX7_next_245 : decode cX7_next 245 = .ok (.iload_n 1, 1) := by decide +kernel
theorem dX7_next_246 : decode cX7_next 246 = .ok (.bipush 40, 2) := by decide +kernel
theorem dX7_next_248 : decode cX7_next 248 = .ok (.if_icmp .eq 33, 3) := by decide +kernel
theorem dX7_next_251 : decode cX7_next 251 = .ok (.iload_n 1, 1) := by decide +kernel
theorem dX7_next_252 : decode cX7_next 252 = .ok (.bipush 41, 2) := by decide +kernel
theorem dX7_next_254 : decode cX7_next 254 = .ok (.if_icmp .eq 27, 3) := by decide +kernel
theorem dX7_next_257 : decode cX7_next 257 = .ok (.iload_n 1, 1) := by decide +kernel
theorem dX7_next_258 : decode cX7_next 258 = .ok (.bipush 60, 2) := by decide +kernel
theorem dX7_next_260 : decode cX7_next 260 = .ok (.if_icmp .eq 21, 3) := by decide +kernel
theorem dX7_next_263 : decode cX7_next 263 = .ok (.iload_n 1, 1) := by decide +kernel
theorem dX7_next_264 : decode cX7_next 264 = .ok (.bipush 61, 2) := by decide +kernel
theorem dX7_next_266 : decode cX7_next 266 = .ok (.if_icmp .eq 15, 3) := by decide +kernel
theorem dX7_next_269 : decode cX7_next 269 = .ok (.iload_n 1, 1) := by decide +kernel
theorem dX7_next_270 : decode cX7_next 270 = .ok (.bipush 43, 2) := by decide +kernel
theorem dX7_next_272 : decode cX7_next 272 = .ok (.if_icmp .eq 9, 3) := by decide +kernel
theorem dX7_next_275 : decode cX7_next 275 = .ok (.iload_n 1, 1) := by decide +kernel
theorem dX7_next_276 : decode cX7_next 276 = .ok (.bipush 45, 2) := by decide +kernel
theorem dX7_next_278 : decode cX7_next 278 = .ok (.if_icmp .ne 7, 3) := by decide +kernel
theorem dX7_next_281 : decode cX7_next 281 = .ok (.iconst 3, 1) := by decide +kernel
theorem dX7_next_282 : decode cX7_next 282 = .ok (.goto 4, 3) := by decide +kernel
theorem dX7_next_285 : decode cX7_next 285 = .ok (.iconst 4, 1) := by decide +kernel
theorem dX7_next_286 : decode cX7_next 286 = .ok (.putfield 33, 3) := by decide +kernel
theorem dX7_next_289 : decode cX7_next 289 = .ok (.aload_n 0, 1) := by decide +kernel
theorem dX7_next_290 : decode cX7_next 290 = .ok (.dup, 1) := by decide +kernel
theorem dX7_next_291 : decode cX7_next 291 = .ok (.getfield 23, 3) := by decide +kernel
theorem dX7_next_294 : decode cX7_next 294 = .ok (.iconst 1, 1) := by decide +kernel
theorem dX7_next_295 : decode cX7_next 295 = .ok (.iadd, 1) := by decide +kernel
theorem dX7_next_296 : decode cX7_next 296 = .ok (.putfield 23, 3) := by decide +kernel
theorem dX7_next_299 : decode cX7_next 299 = .ok (.return_, 1) := by decide +kernel
abbrev cX7_at : ByteArray := prog_7_method_2_code
def yX7_at : MethodName := ⟨RX7, "at", "(I)I"⟩
theorem dX7_at_0 : decode cX7_at 0 = .ok (.iload_n 1, 1) := by decide +kernel
theorem dX7_at_1 : decode cX7_at 1 = .ok (.aload_n 0, 1) := by decide +kernel
theorem dX7_at_2 : decode cX7_at 2 = .ok (.getfield 3, 3) := by decide +kernel
theorem dX7_at_5 : decode cX7_at 5 = .ok (.getfield 15, 3) := by decide +kernel
theorem dX7_at_8 : decode cX7_at 8 = .ok (.if_icmp .ge 15, 3) := by decide +kernel
theorem dX7_at_11 : decode cX7_at 11 = .ok (.aload_n 0, 1) := by decide +kernel
theorem dX7_at_12 : decode cX7_at 12 = .ok (.getfield 3, 3) := by decide +kernel
theorem dX7_at_15 : decode cX7_at 15 = .ok (.getfield 19, 3) := by decide +kernel
theorem dX7_at_18 : decode cX7_at 18 = .ok (.iload_n 1, 1) := by decide +kernel
theorem dX7_at_19 : decode cX7_at 19 = .ok (.baload, 1) := by decide +kernel
theorem dX7_at_20 : decode cX7_at 20 = .ok (.goto 4, 3) := by decide +kernel
theorem dX7_at_23 : decode cX7_at 23 = .ok (.iconst 0, 1) := by decide +kernel
theorem dX7_at_24 : decode cX7_at 24 = .ok (.ireturn, 1) := by decide +kernel
abbrev cX7_isLetter : ByteArray := prog_7_method_3_code
def yX7_isLetter : MethodName := ⟨RX7, "isLetter", "(I)Z"⟩
theorem dX7_isLetter_0 : decode cX7_isLetter 0 = .ok (.iload_n 1, 1) := by decide +kernel
theorem dX7_isLetter_1 : decode cX7_isLetter 1 = .ok (.bipush 97, 2) := by decide +kernel
theorem dX7_isLetter_3 : decode cX7_isLetter 3 = .ok (.if_icmp .lt 13, 3) := by decide +kernel
theorem dX7_isLetter_6 : decode cX7_isLetter 6 = .ok (.iload_n 1, 1) := by decide +kernel
theorem dX7_isLetter_7 : decode cX7_isLetter 7 = .ok (.bipush 122, 2) := by decide +kernel
theorem dX7_isLetter_9 : decode cX7_isLetter 9 = .ok (.if_icmp .gt 7, 3) := by decide +kernel
theorem dX7_isLetter_12 : decode cX7_isLetter 12 = .ok (.iconst 1, 1) := by decide +kernel
theorem dX7_isLetter_13 : decode cX7_isLetter 13 = .ok (.goto 4, 3) := by decide +kernel
theorem dX7_isLetter_16 : decode cX7_isLetter 16 = .ok (.iconst 0, 1) := by decide +kernel
theorem dX7_isLetter_17 : decode cX7_isLetter 17 = .ok (.ireturn, 1) := by decide +kernel
abbrev cX7_isDigit : ByteArray := prog_7_method_4_code
def yX7_isDigit : MethodName := ⟨RX7, "isDigit", "(I)Z"⟩
theorem dX7_isDigit_0 : decode cX7_isDigit 0 = .ok (.iload_n 1, 1) := by decide +kernel
theorem dX7_isDigit_1 : decode cX7_isDigit 1 = .ok (.bipush 48, 2) := by decide +kernel
theorem dX7_isDigit_3 : decode cX7_isDigit 3 = .ok (.if_icmp .lt 13, 3) := by decide +kernel
theorem dX7_isDigit_6 : decode cX7_isDigit 6 = .ok (.iload_n 1, 1) := by decide +kernel
theorem dX7_isDigit_7 : decode cX7_isDigit 7 = .ok (.bipush 57, 2) := by decide +kernel
theorem dX7_isDigit_9 : decode cX7_isDigit 9 = .ok (.if_icmp .gt 7, 3) := by decide +kernel
theorem dX7_isDigit_12 : decode cX7_isDigit 12 = .ok (.iconst 1, 1) := by decide +kernel
theorem dX7_isDigit_13 : decode cX7_isDigit 13 = .ok (.goto 4, 3) := by decide +kernel
theorem dX7_isDigit_16 : decode cX7_isDigit 16 = .ok (.iconst 0, 1) := by decide +kernel
theorem dX7_isDigit_17 : decode cX7_isDigit 17 = .ok (.ireturn, 1) := by decide +kernel
abbrev cX7_which : ByteArray := prog_7_method_6_code
def yX7_which : MethodName := ⟨RX7, "which", "(Ljava/lang/String;)I"⟩
theorem dX7_which_0 : decode cX7_which 0 = .ok (.iconst 0, 1) := by decide +kernel
theorem dX7_which_1 : decode cX7_which 1 = .ok (.istore_n 2, 1) := by decide +kernel
theorem dX7_which_2 : decode cX7_which 2 = .ok (.iconst 0, 1) := by decide +kernel
theorem dX7_which_3 : decode cX7_which 3 = .ok (.istore_n 3, 1) := by decide +kernel
theorem dX7_which_4 : decode cX7_which 4 = .ok (.iload_n 3, 1) := by decide +kernel
theorem dX7_which_5 : decode cX7_which 5 = .ok (.aload_n 1, 1) := by decide +kernel
theorem dX7_which_6 : decode cX7_which 6 = .ok (.invokevirtual 46, 3) := by decide +kernel
theorem dX7_which_9 : decode cX7_which 9 = .ok (.if_icmp .ge 117, 3) := by decide +kernel
theorem dX7_which_12 : decode cX7_which 12 = .ok (.aload_n 0, 1) := by decide +kernel
theorem dX7_which_13 : decode cX7_which 13 = .ok (.getfield 33, 3) := by decide +kernel
theorem dX7_which_16 : decode cX7_which 16 = .ok (.iconst 1, 1) := by decide +kernel
theorem dX7_which_17 : decode cX7_which 17 = .ok (.if_icmp .ne 109, 3) := by decide +kernel
theorem dX7_which_20 : decode cX7_which 20 = .ok (.aload_n 1, 1) := by decide +kernel
theorem dX7_which_21 : decode cX7_which 21 = .ok (.bipush 32, 2) := by decide +kernel
theorem dX7_which_23 : decode cX7_which 23 = .ok (.iload_n 3, 1) := by decide +kernel
theorem dX7_which_24 : decode cX7_which 24 = .ok (.invokevirtual 52, 3) := by decide +kernel
theorem dX7_which_27 : decode cX7_which 27 = .ok (.iload_n 3, 1) := by decide +kernel
theorem dX7_which_28 : decode cX7_which 28 = .ok (.isub, 1) := by decide +kernel
theorem dX7_which_29 : decode cX7_which 29 = .ok (.istore 4, 2) := by decide +kernel
theorem dX7_which_31 : decode cX7_which 31 = .ok (.aload_n 0, 1) := by decide +kernel
theorem dX7_which_32 : decode cX7_which 32 = .ok (.getfield 23, 3) := by decide +kernel
theorem dX7_which_35 : decode cX7_which 35 = .ok (.aload_n 0, 1) := by decide +kernel
theorem dX7_which_36 : decode cX7_which 36 = .ok (.getfield 30, 3) := by decide +kernel
theorem dX7_which_39 : decode cX7_which 39 = .ok (.isub, 1) := by decide +kernel
theorem dX7_which_40 : decode cX7_which 40 = .ok (.iload 4, 2) := by decide +kernel
theorem dX7_which_42 : decode cX7_which 42 = .ok (.if_icmp .ne 7, 3) := by decide +kernel
theorem dX7_which_45 : decode cX7_which 45 = .ok (.iconst 1, 1) := by decide +kernel
theorem dX7_which_46 : decode cX7_which 46 = .ok (.goto 4, 3) := by decide +kernel
theorem dX7_which_49 : decode cX7_which 49 = .ok (.iconst 0, 1) := by decide +kernel
theorem dX7_which_50 : decode cX7_which 50 = .ok (.istore 5, 2) := by decide +kernel
theorem dX7_which_52 : decode cX7_which 52 = .ok (.iconst 0, 1) := by decide +kernel
theorem dX7_which_53 : decode cX7_which 53 = .ok (.istore 6, 2) := by decide +kernel
theorem dX7_which_55 : decode cX7_which 55 = .ok (.iload 5, 2) := by decide +kernel
theorem dX7_which_57 : decode cX7_which 57 = .ok (.ifCond .eq 49, 3) := by decide +kernel
theorem dX7_which_60 : decode cX7_which 60 = .ok (.iload 6, 2) := by decide +kernel
theorem dX7_which_62 : decode cX7_which 62 = .ok (.iload 4, 2) := by decide +kernel
theorem dX7_which_64 : decode cX7_which 64 = .ok (.if_icmp .ge 42, 3) := by decide +kernel
theorem dX7_which_67 : decode cX7_which 67 = .ok (.aload_n 0, 1) := by decide +kernel
theorem dX7_which_68 : decode cX7_which 68 = .ok (.getfield 3, 3) := by decide +kernel
theorem dX7_which_71 : decode cX7_which 71 = .ok (.getfield 19, 3) := by decide +kernel
theorem dX7_which_74 : decode cX7_which 74 = .ok (.aload_n 0, 1) := by decide +kernel
theorem dX7_which_75 : decode cX7_which 75 = .ok (.getfield 30, 3) := by decide +kernel
theorem dX7_which_78 : decode cX7_which 78 = .ok (.iload 6, 2) := by decide +kernel
theorem dX7_which_80 : decode cX7_which 80 = .ok (.iadd, 1) := by decide +kernel
theorem dX7_which_81 : decode cX7_which 81 = .ok (.baload, 1) := by decide +kernel
theorem dX7_which_82 : decode cX7_which 82 = .ok (.aload_n 1, 1) := by decide +kernel
theorem dX7_which_83 : decode cX7_which 83 = .ok (.iload_n 3, 1) := by decide +kernel
theorem dX7_which_84 : decode cX7_which 84 = .ok (.iload 6, 2) := by decide +kernel
theorem dX7_which_86 : decode cX7_which 86 = .ok (.iadd, 1) := by decide +kernel
theorem dX7_which_87 : decode cX7_which 87 = .ok (.invokevirtual 56, 3) := by decide +kernel
theorem dX7_which_90 : decode cX7_which 90 = .ok (.if_icmp .ne 7, 3) := by decide +kernel
theorem dX7_which_93 : decode cX7_which 93 = .ok (.iconst 1, 1) := by decide +kernel
theorem dX7_which_94 : decode cX7_which 94 = .ok (.goto 4, 3) := by decide +kernel
theorem dX7_which_97 : decode cX7_which 97 = .ok (.iconst 0, 1) := by decide +kernel
theorem dX7_which_98 : decode cX7_which 98 = .ok (.istore 5, 2) := by decide +kernel
theorem dX7_which_100 : decode cX7_which 100 = .ok (.iinc 6 1, 3) := by decide +kernel
theorem dX7_which_103 : decode cX7_which 103 = .ok (.goto (-48), 3) := by decide +kernel
theorem dX7_which_106 : decode cX7_which 106 = .ok (.iload 5, 2) := by decide +kernel
theorem dX7_which_108 : decode cX7_which 108 = .ok (.ifCond .eq 5, 3) := by decide +kernel
theorem dX7_which_111 : decode cX7_which 111 = .ok (.iload_n 2, 1) := by decide +kernel
theorem dX7_which_112 : decode cX7_which 112 = .ok (.ireturn, 1) := by decide +kernel
theorem dX7_which_113 : decode cX7_which 113 = .ok (.iload_n 3, 1) := by decide +kernel
theorem dX7_which_114 : decode cX7_which 114 = .ok (.iload 4, 2) := by decide +kernel
theorem dX7_which_116 : decode cX7_which 116 = .ok (.iconst 1, 1) := by decide +kernel
theorem dX7_which_117 : decode cX7_which 117 = .ok (.iadd, 1) := by decide +kernel
theorem dX7_which_118 : decode cX7_which 118 = .ok (.iadd, 1) := by decide +kernel
theorem dX7_which_119 : decode cX7_which 119 = .ok (.istore_n 3, 1) := by decide +kernel
theorem dX7_which_120 : decode cX7_which 120 = .ok (.iinc 2 1, 3) := by decide +kernel
theorem dX7_which_123 : decode cX7_which 123 = .ok (.goto (-119), 3) := by decide +kernel
theorem dX7_which_126 : decode cX7_which 126 = .ok (.iconst (-1), 1) := by decide +kernel
theorem dX7_which_127 : decode cX7_which 127 = .ok (.ireturn, 1) := by decide +kernel
abbrev cX7_wrong : ByteArray := prog_7_method_7_code
def yX7_wrong : MethodName := ⟨RX7, "wrong", "(I)LTourRooms$Wrong;"⟩
theorem dX7_wrong_0 : decode cX7_wrong 0 = .ok (.new 60, 3) := by decide +kernel
theorem dX7_wrong_3 : decode cX7_wrong 3 = .ok (.dup, 1) := by decide +kernel
theorem dX7_wrong_4 : decode cX7_wrong 4 = .ok (.iload_n 1, 1) := by decide +kernel
theorem dX7_wrong_5 : decode cX7_wrong 5 = .ok (.aload_n 0, 1) := by decide +kernel
theorem dX7_wrong_6 : decode cX7_wrong 6 = .ok (.getfield 30, 3) := by decide +kernel
theorem dX7_wrong_9 : decode cX7_wrong 9 = .ok (.invokespecial 62, 3) := by decide +kernel
theorem dX7_wrong_12 : decode cX7_wrong 12 = .ok (.areturn, 1) := by decide +kernel
abbrev cX7_e : ByteArray := prog_7_method_11_code
def yX7_e : MethodName := ⟨RX7, "e", "()LTourRooms$Exp;"⟩
theorem dX7_e_0 : decode cX7_e 0 = .ok (.aload_n 0, 1) := by decide +kernel
theorem dX7_e_1 : decode cX7_e 1 = .ok (.invokevirtual 107, 3) := by decide +kernel
theorem dX7_e_4 : decode cX7_e 4 = .ok (.astore_n 1, 1) := by decide +kernel
theorem dX7_e_5 : decode cX7_e 5 = .ok (.aload_n 0, 1) := by decide +kernel
theorem dX7_e_6 : decode cX7_e 6 = .ok (.ldc 110, 2) := by decide +kernel
theorem dX7_e_8 : decode cX7_e 8 = .ok (.invokevirtual 81, 3) := by decide +kernel
theorem dX7_e_11 : decode cX7_e 11 = .ok (.ifCond .ne 23, 3) := by decide +kernel
theorem dX7_e_14 : decode cX7_e 14 = .ok (.aload_n 0, 1) := by decide +kernel
theorem dX7_e_15 : decode cX7_e 15 = .ok (.invokevirtual 73, 3) := by decide +kernel
theorem dX7_e_18 : decode cX7_e 18 = .ok (.new 112, 3) := by decide +kernel
theorem dX7_e_21 : decode cX7_e 21 = .ok (.dup, 1) := by decide +kernel
theorem dX7_e_22 : decode cX7_e 22 = .ok (.aload_n 1, 1) := by decide +kernel
theorem dX7_e_23 : decode cX7_e 23 = .ok (.aload_n 0, 1) := by decide +kernel
theorem dX7_e_24 : decode cX7_e 24 = .ok (.invokevirtual 107, 3) := by decide +kernel
theorem dX7_e_27 : decode cX7_e 27 = .ok (.invokespecial 114, 3) := by decide +kernel
theorem dX7_e_30 : decode cX7_e 30 = .ok (.astore_n 1, 1) := by decide +kernel
theorem dX7_e_31 : decode cX7_e 31 = .ok (.goto (-26), 3) := by decide +kernel
theorem dX7_e_34 : decode cX7_e 34 = .ok (.aload_n 1, 1) := by decide +kernel
theorem dX7_e_35 : decode cX7_e 35 = .ok (.areturn, 1) := by decide +kernel
abbrev cX7_test : ByteArray := prog_7_method_12_code
def yX7_test : MethodName := ⟨RX7, "test", "()LTourRooms$Exp;"⟩
theorem dX7_test_0 : decode cX7_test 0 = .ok (.aload_n 0, 1) := by decide +kernel
theorem dX7_test_1 : decode cX7_test 1 = .ok (.invokevirtual 117, 3) := by decide +kernel
theorem dX7_test_4 : decode cX7_test 4 = .ok (.astore_n 1, 1) := by decide +kernel
theorem dX7_test_5 : decode cX7_test 5 = .ok (.aload_n 0, 1) := by decide +kernel
theorem dX7_test_6 : decode cX7_test 6 = .ok (.bipush 60, 2) := by decide +kernel
theorem dX7_test_8 : decode cX7_test 8 = .ok (.invokevirtual 65, 3) := by decide +kernel
theorem dX7_test_11 : decode cX7_test 11 = .ok (.istore_n 2, 1) := by decide +kernel
theorem dX7_test_12 : decode cX7_test 12 = .ok (.iload_n 2, 1) := by decide +kernel
theorem dX7_test_13 : decode cX7_test 13 = .ok (.ifCond .ne 14, 3) := by decide +kernel
theorem dX7_test_16 : decode cX7_test 16 = .ok (.aload_n 0, 1) := by decide +kernel
theorem dX7_test_17 : decode cX7_test 17 = .ok (.bipush 61, 2) := by decide +kernel
theorem dX7_test_19 : decode cX7_test 19 = .ok (.invokevirtual 65, 3) := by decide +kernel
theorem dX7_test_22 : decode cX7_test 22 = .ok (.ifCond .ne 5, 3) := by decide +kernel
theorem dX7_test_25 : decode cX7_test 25 = .ok (.aload_n 1, 1) := by decide +kernel
theorem dX7_test_26 : decode cX7_test 26 = .ok (.areturn, 1) := by decide +kernel
theorem dX7_test_27 : decode cX7_test 27 = .ok (.aload_n 0, 1) := by decide +kernel
theorem dX7_test_28 : decode cX7_test 28 = .ok (.invokevirtual 73, 3) := by decide +kernel
theorem dX7_test_31 : decode cX7_test 31 = .ok (.new 120, 3) := by decide +kernel
theorem dX7_test_34 : decode cX7_test 34 = .ok (.dup, 1) := by decide +kernel
theorem dX7_test_35 : decode cX7_test 35 = .ok (.aload_n 1, 1) := by decide +kernel
theorem dX7_test_36 : decode cX7_test 36 = .ok (.iload_n 2, 1) := by decide +kernel
theorem dX7_test_37 : decode cX7_test 37 = .ok (.aload_n 0, 1) := by decide +kernel
theorem dX7_test_38 : decode cX7_test 38 = .ok (.invokevirtual 117, 3) := by decide +kernel
theorem dX7_test_41 : decode cX7_test 41 = .ok (.invokespecial 122, 3) := by decide +kernel
theorem dX7_test_44 : decode cX7_test 44 = .ok (.areturn, 1) := by decide +kernel
abbrev cX7_sum : ByteArray := prog_7_method_13_code
def yX7_sum : MethodName := ⟨RX7, "sum", "()LTourRooms$Exp;"⟩
theorem dX7_sum_0 : decode cX7_sum 0 = .ok (.aload_n 0, 1) := by decide +kernel
theorem dX7_sum_1 : decode cX7_sum 1 = .ok (.invokevirtual 125, 3) := by decide +kernel
theorem dX7_sum_4 : decode cX7_sum 4 = .ok (.astore_n 1, 1) := by decide +kernel
theorem dX7_sum_5 : decode cX7_sum 5 = .ok (.aload_n 0, 1) := by decide +kernel
theorem dX7_sum_6 : decode cX7_sum 6 = .ok (.bipush 43, 2) := by decide +kernel
theorem dX7_sum_8 : decode cX7_sum 8 = .ok (.invokevirtual 65, 3) := by decide +kernel
theorem dX7_sum_11 : decode cX7_sum 11 = .ok (.ifCond .ne 12, 3) := by decide +kernel
theorem dX7_sum_14 : decode cX7_sum 14 = .ok (.aload_n 0, 1) := by decide +kernel
theorem dX7_sum_15 : decode cX7_sum 15 = .ok (.bipush 45, 2) := by decide +kernel
theorem dX7_sum_17 : decode cX7_sum 17 = .ok (.invokevirtual 65, 3) := by decide +kernel
theorem dX7_sum_20 : decode cX7_sum 20 = .ok (.ifCond .eq 31, 3) := by decide +kernel
theorem dX7_sum_23 : decode cX7_sum 23 = .ok (.aload_n 0, 1) := by decide +kernel
theorem dX7_sum_24 : decode cX7_sum 24 = .ok (.bipush 43, 2) := by decide +kernel
theorem dX7_sum_26 : decode cX7_sum 26 = .ok (.invokevirtual 65, 3) := by decide +kernel
theorem dX7_sum_29 : decode cX7_sum 29 = .ok (.istore_n 2, 1) := by decide +kernel
theorem dX7_sum_30 : decode cX7_sum 30 = .ok (.aload_n 0, 1) := by decide +kernel
theorem dX7_sum_31 : decode cX7_sum 31 = .ok (.invokevirtual 73, 3) := by decide +kernel
theorem dX7_sum_34 : decode cX7_sum 34 = .ok (.new 128, 3) := by decide +kernel
theorem dX7_sum_37 : decode cX7_sum 37 = .ok (.dup, 1) := by decide +kernel
theorem dX7_sum_38 : decode cX7_sum 38 = .ok (.aload_n 1, 1) := by decide +kernel
theorem dX7_sum_39 : decode cX7_sum 39 = .ok (.iload_n 2, 1) := by decide +kernel
theorem dX7_sum_40 : decode cX7_sum 40 = .ok (.aload_n 0, 1) := by decide +kernel
theorem dX7_sum_41 : decode cX7_sum 41 = .ok (.invokevirtual 125, 3) := by decide +kernel
theorem dX7_sum_44 : decode cX7_sum 44 = .ok (.invokespecial 130, 3) := by decide +kernel
theorem dX7_sum_47 : decode cX7_sum 47 = .ok (.astore_n 1, 1) := by decide +kernel
theorem dX7_sum_48 : decode cX7_sum 48 = .ok (.goto (-43), 3) := by decide +kernel
theorem dX7_sum_51 : decode cX7_sum 51 = .ok (.aload_n 1, 1) := by decide +kernel
theorem dX7_sum_52 : decode cX7_sum 52 = .ok (.areturn, 1) := by decide +kernel
abbrev cX7_part : ByteArray := prog_7_method_14_code
def yX7_part : MethodName := ⟨RX7, "part", "()LTourRooms$Exp;"⟩
theorem dX7_part_0 : decode cX7_part 0 = .ok (.aload_n 0, 1) := by decide +kernel
theorem dX7_part_1 : decode cX7_part 1 = .ok (.getfield 33, 3) := by decide +kernel
theorem dX7_part_4 : decode cX7_part 4 = .ok (.iconst 2, 1) := by decide +kernel
theorem dX7_part_5 : decode cX7_part 5 = .ok (.if_icmp .ne 21, 3) := by decide +kernel
theorem dX7_part_8 : decode cX7_part 8 = .ok (.aload_n 0, 1) := by decide +kernel
theorem dX7_part_9 : decode cX7_part 9 = .ok (.getfield 43, 3) := by decide +kernel
theorem dX7_part_12 : decode cX7_part 12 = .ok (.istore_n 1, 1) := by decide +kernel
theorem dX7_part_13 : decode cX7_part 13 = .ok (.aload_n 0, 1) := by decide +kernel
theorem dX7_part_14 : decode cX7_part 14 = .ok (.invokevirtual 73, 3) := by decide +kernel
theorem dX7_part_17 : decode cX7_part 17 = .ok (.new 131, 3) := by decide +kernel
theorem dX7_part_20 : decode cX7_part 20 = .ok (.dup, 1) := by decide +kernel
theorem dX7_part_21 : decode cX7_part 21 = .ok (.iload_n 1, 1) := by decide +kernel
theorem dX7_part_22 : decode cX7_part 22 = .ok (.invokespecial 133, 3) := by decide +kernel
theorem dX7_part_25 : decode cX7_part 25 = .ok (.areturn, 1) := by decide +kernel
theorem dX7_part_26 : decode cX7_part 26 = .ok (.aload_n 0, 1) := by decide +kernel
theorem dX7_part_27 : decode cX7_part 27 = .ok (.ldc 136, 2) := by decide +kernel
theorem dX7_part_29 : decode cX7_part 29 = .ok (.invokevirtual 81, 3) := by decide +kernel
theorem dX7_part_32 : decode cX7_part 32 = .ok (.istore_n 1, 1) := by decide +kernel
theorem dX7_part_33 : decode cX7_part 33 = .ok (.iload_n 1, 1) := by decide +kernel
theorem dX7_part_34 : decode cX7_part 34 = .ok (.iconst (-1), 1) := by decide +kernel
theorem dX7_part_35 : decode cX7_part 35 = .ok (.if_icmp .eq 16, 3) := by decide +kernel
theorem dX7_part_38 : decode cX7_part 38 = .ok (.aload_n 0, 1) := by decide +kernel
theorem dX7_part_39 : decode cX7_part 39 = .ok (.invokevirtual 73, 3) := by decide +kernel
theorem dX7_part_42 : decode cX7_part 42 = .ok (.new 138, 3) := by decide +kernel
theorem dX7_part_45 : decode cX7_part 45 = .ok (.dup, 1) := by decide +kernel
theorem dX7_part_46 : decode cX7_part 46 = .ok (.iload_n 1, 1) := by decide +kernel
theorem dX7_part_47 : decode cX7_part 47 = .ok (.invokespecial 140, 3) := by decide +kernel
theorem dX7_part_50 : decode cX7_part 50 = .ok (.areturn, 1) := by decide +kernel
theorem dX7_part_51 : decode cX7_part 51 = .ok (.aload_n 0, 1) := by decide +kernel
theorem dX7_part_52 : decode cX7_part 52 = .ok (.bipush 40, 2) := by decide +kernel
theorem dX7_part_54 : decode cX7_part 54 = .ok (.invokevirtual 65, 3) := by decide +kernel
theorem dX7_part_57 : decode cX7_part 57 = .ok (.ifCond .ne 9, 3) := by decide +kernel
theorem dX7_part_60 : decode cX7_part 60 = .ok (.aload_n 0, 1) := by decide +kernel
theorem dX7_part_61 : decode cX7_part 61 = .ok (.iconst 1, 1) := by decide +kernel
theorem dX7_part_62 : decode cX7_part 62 = .ok (.invokevirtual 69, 3) := by decide +kernel
theorem dX7_part_65 : decode cX7_part 65 = .ok (.athrow, 1) := by decide +kernel
theorem dX7_part_66 : decode cX7_part 66 = .ok (.aload_n 0, 1) := by decide +kernel
theorem dX7_part_67 : decode cX7_part 67 = .ok (.getfield 141, 3) := by decide +kernel
theorem dX7_part_70 : decode cX7_part 70 = .ok (.iconst 5, 1) := by decide +kernel
theorem dX7_part_71 : decode cX7_part 71 = .ok (.if_icmp .ne 9, 3) := by decide +kernel
theorem dX7_part_74 : decode cX7_part 74 = .ok (.aload_n 0, 1) := by decide +kernel
theorem dX7_part_75 : decode cX7_part 75 = .ok (.iconst 3, 1) := by decide +kernel
theorem dX7_part_76 : decode cX7_part 76 = .ok (.invokevirtual 69, 3) := by decide +kernel
theorem dX7_part_79 : decode cX7_part 79 = .ok (.athrow, 1) := by decide +kernel
theorem dX7_part_80 : decode cX7_part 80 = .ok (.aload_n 0, 1) := by decide +kernel
theorem dX7_part_81 : decode cX7_part 81 = .ok (.dup, 1) := by decide +kernel
theorem dX7_part_82 : decode cX7_part 82 = .ok (.getfield 141, 3) := by decide +kernel
theorem dX7_part_85 : decode cX7_part 85 = .ok (.iconst 1, 1) := by decide +kernel
theorem dX7_part_86 : decode cX7_part 86 = .ok (.iadd, 1) := by decide +kernel
theorem dX7_part_87 : decode cX7_part 87 = .ok (.putfield 141, 3) := by decide +kernel
theorem dX7_part_90 : decode cX7_part 90 = .ok (.aload_n 0, 1) := by decide +kernel
theorem dX7_part_91 : decode cX7_part 91 = .ok (.invokevirtual 73, 3) := by decide +kernel
theorem dX7_part_94 : decode cX7_part 94 = .ok (.aload_n 0, 1) := by decide +kernel
theorem dX7_part_95 : decode cX7_part 95 = .ok (.invokevirtual 88, 3) := by decide +kernel
theorem dX7_part_98 : decode cX7_part 98 = .ok (.astore_n 2, 1) := by decide +kernel
theorem dX7_part_99 : decode cX7_part 99 = .ok (.aload_n 0, 1) := by decide +kernel
theorem dX7_part_100 : decode cX7_part 100 = .ok (.bipush 41, 2) := by decide +kernel
theorem dX7_part_102 : decode cX7_part 102 = .ok (.invokevirtual 94, 3) := by decide +kernel
theorem dX7_part_105 : decode cX7_part 105 = .ok (.aload_n 0, 1) := by decide +kernel
theorem dX7_part_106 : decode cX7_part 106 = .ok (.dup, 1) := by decide +kernel
theorem dX7_part_107 : decode cX7_part 107 = .ok (.getfield 141, 3) := by decide +kernel
theorem dX7_part_110 : decode cX7_part 110 = .ok (.iconst 1, 1) := by decide +kernel
theorem dX7_part_111 : decode cX7_part 111 = .ok (.isub, 1) := by decide +kernel
theorem dX7_part_112 : decode cX7_part 112 = .ok (.putfield 141, 3) := by decide +kernel
theorem dX7_part_115 : decode cX7_part 115 = .ok (.aload_n 2, 1) := by decide +kernel
theorem dX7_part_116 : decode cX7_part 116 = .ok (.areturn, 1) := by decide +kernel
abbrev cX7_isSign : ByteArray := prog_7_method_8_code
def yX7_isSign : MethodName := ⟨RX7, "isSign", "(C)Z"⟩
theorem dX7_isSign_0 : decode cX7_isSign 0 = .ok (.aload_n 0, 1) := by decide +kernel
theorem dX7_isSign_1 : decode cX7_isSign 1 = .ok (.getfield 33, 3) := by decide +kernel
theorem dX7_isSign_4 : decode cX7_isSign 4 = .ok (.iconst 3, 1) := by decide +kernel
theorem dX7_isSign_5 : decode cX7_isSign 5 = .ok (.if_icmp .ne 23, 3) := by decide +kernel
theorem dX7_isSign_8 : decode cX7_isSign 8 = .ok (.aload_n 0, 1) := by decide +kernel
theorem dX7_isSign_9 : decode cX7_isSign 9 = .ok (.getfield 3, 3) := by decide +kernel
theorem dX7_isSign_12 : decode cX7_isSign 12 = .ok (.getfield 19, 3) := by decide +kernel
theorem dX7_isSign_15 : decode cX7_isSign 15 = .ok (.aload_n 0, 1) := by decide +kernel
theorem dX7_isSign_16 : decode cX7_isSign 16 = .ok (.getfield 30, 3) := by decide +kernel
theorem dX7_isSign_19 : decode cX7_isSign 19 = .ok (.baload, 1) := by decide +kernel
theorem dX7_isSign_20 : decode cX7_isSign 20 = .ok (.iload_n 1, 1) := by decide +kernel
theorem dX7_isSign_21 : decode cX7_isSign 21 = .ok (.if_icmp .ne 7, 3) := by decide +kernel
theorem dX7_isSign_24 : decode cX7_isSign 24 = .ok (.iconst 1, 1) := by decide +kernel
theorem dX7_isSign_25 : decode cX7_isSign 25 = .ok (.goto 4, 3) := by decide +kernel
theorem dX7_isSign_28 : decode cX7_isSign 28 = .ok (.iconst 0, 1) := by decide +kernel
theorem dX7_isSign_29 : decode cX7_isSign 29 = .ok (.ireturn, 1) := by decide +kernel
abbrev cX7_need : ByteArray := prog_7_method_9_code
def yX7_need : MethodName := ⟨RX7, "need", "(C)V"⟩
theorem dX7_need_0 : decode cX7_need 0 = .ok (.aload_n 0, 1) := by decide +kernel
theorem dX7_need_1 : decode cX7_need 1 = .ok (.iload_n 1, 1) := by decide +kernel
theorem dX7_need_2 : decode cX7_need 2 = .ok (.invokevirtual 65, 3) := by decide +kernel
theorem dX7_need_5 : decode cX7_need 5 = .ok (.ifCond .ne 9, 3) := by decide +kernel
theorem dX7_need_8 : decode cX7_need 8 = .ok (.aload_n 0, 1) := by decide +kernel
theorem dX7_need_9 : decode cX7_need 9 = .ok (.iconst 1, 1) := by decide +kernel
theorem dX7_need_10 : decode cX7_need 10 = .ok (.invokevirtual 69, 3) := by decide +kernel
theorem dX7_need_13 : decode cX7_need 13 = .ok (.athrow, 1) := by decide +kernel
theorem dX7_need_14 : decode cX7_need 14 = .ok (.aload_n 0, 1) := by decide +kernel
theorem dX7_need_15 : decode cX7_need 15 = .ok (.invokevirtual 73, 3) := by decide +kernel
theorem dX7_need_18 : decode cX7_need 18 = .ok (.return_, 1) := by decide +kernel
theorem q97 : (Jvm.Cond.initialized "TourRooms$Reader") ∈ lw_all := lw_g (lw_at lw_m1 12 rfl) rfl
theorem q185 : (Jvm.Cond.fieldLinkNest "TourRooms$Reader" (19 : Nat) "TourRooms" "tape" "[B" "TourRooms") ∈ lw_tbl := lw_at lw_m1 100 rfl
theorem q187 : (Jvm.Cond.fieldLinkNest "TourRooms$Reader" (15 : Nat) "TourRooms" "taped" "I" "TourRooms") ∈ lw_tbl := lw_at lw_m1 102 rfl
theorem q603 : (Jvm.Cond.instantiable "TourRooms$Reader" (6 : Nat)) ∈ lw_all := lw_g (lw_at lw_m3 38 rfl) rfl
theorem q605 : (Jvm.Cond.instanceMethod ({ cls := "TourRooms$Reader", name := "<init>", desc := "(LTourRooms;)V" } : Jvm.MethodName)) ∈ lw_all := lw_g (lw_at lw_m3 40 rfl) rfl
theorem q606 : (Jvm.Cond.code ({ cls := "TourRooms$Reader", name := "<init>", desc := "(LTourRooms;)V" } : Jvm.MethodName) prog_7_method_1_code (2 : Nat) (Option.none : Option Jvm.ClassFile.FieldType)) ∈ lw_all := lw_g (lw_at lw_m3 41 rfl) rfl
theorem q607 : (Jvm.Cond.methodLink "TourRooms$Reader" (9 : Nat) ({ cls := "java/lang/Object", name := "<init>", desc := "()V" } : Jvm.MethodName)) ∈ lw_all := lw_g (lw_at lw_m3 42 rfl) rfl
theorem q608 : (Jvm.Cond.fieldLink "TourRooms$Reader" (23 : Nat) "TourRooms$Reader" "to" "I") ∈ lw_all := lw_g (lw_at lw_m3 43 rfl) rfl
theorem q609 : (Jvm.Cond.fieldLink "TourRooms$Reader" (30 : Nat) "TourRooms$Reader" "from" "I") ∈ lw_all := lw_g (lw_at lw_m3 44 rfl) rfl
theorem q610 : (Jvm.Cond.fieldLink "TourRooms$Reader" (33 : Nat) "TourRooms$Reader" "sort" "I") ∈ lw_all := lw_g (lw_at lw_m3 45 rfl) rfl
theorem q611 : (Jvm.Cond.fieldLink "TourRooms$Reader" (43 : Nat) "TourRooms$Reader" "value" "I") ∈ lw_all := lw_g (lw_at lw_m3 46 rfl) rfl
theorem q612 : (Jvm.Cond.fieldLink "TourRooms$Reader" (141 : Nat) "TourRooms$Reader" "open" "I") ∈ lw_all := lw_g (lw_at lw_m3 47 rfl) rfl
theorem q613 : (Jvm.Cond.fieldLink "TourRooms$Reader" (3 : Nat) "TourRooms$Reader" "this$0" "LTourRooms;") ∈ lw_all := lw_g (lw_at lw_m3 48 rfl) rfl
theorem q614 : (Jvm.Cond.lays "TourRooms$Reader" "TourRooms$Reader" "to" "I") ∈ lw_all := lw_g (lw_at lw_m3 49 rfl) rfl
theorem q615 : (Jvm.Cond.soleField "TourRooms$Reader" "to") ∈ lw_all := lw_g (lw_at lw_m3 50 rfl) rfl
theorem q616 : (Jvm.Cond.lays "TourRooms$Reader" "TourRooms$Reader" "from" "I") ∈ lw_all := lw_g (lw_at lw_m3 51 rfl) rfl
theorem q617 : (Jvm.Cond.soleField "TourRooms$Reader" "from") ∈ lw_all := lw_g (lw_at lw_m3 52 rfl) rfl
theorem q618 : (Jvm.Cond.lays "TourRooms$Reader" "TourRooms$Reader" "sort" "I") ∈ lw_all := lw_g (lw_at lw_m3 53 rfl) rfl
theorem q619 : (Jvm.Cond.soleField "TourRooms$Reader" "sort") ∈ lw_all := lw_g (lw_at lw_m3 54 rfl) rfl
theorem q620 : (Jvm.Cond.lays "TourRooms$Reader" "TourRooms$Reader" "value" "I") ∈ lw_all := lw_g (lw_at lw_m3 55 rfl) rfl
theorem q621 : (Jvm.Cond.soleField "TourRooms$Reader" "value") ∈ lw_all := lw_g (lw_at lw_m3 56 rfl) rfl
theorem q622 : (Jvm.Cond.lays "TourRooms$Reader" "TourRooms$Reader" "open" "I") ∈ lw_all := lw_g (lw_at lw_m3 57 rfl) rfl
theorem q623 : (Jvm.Cond.soleField "TourRooms$Reader" "open") ∈ lw_all := lw_g (lw_at lw_m3 58 rfl) rfl
theorem q624 : (Jvm.Cond.laysFinal "TourRooms$Reader" "TourRooms$Reader" "this$0" "LTourRooms;") ∈ lw_all := lw_g (lw_at lw_m3 59 rfl) rfl
theorem q625 : (Jvm.Cond.soleField "TourRooms$Reader" "this$0") ∈ lw_all := lw_g (lw_at lw_m3 60 rfl) rfl
theorem q626 : (Jvm.Cond.superclass "TourRooms$Reader" "java/lang/Object") ∈ lw_all := lw_g (lw_at lw_m3 61 rfl) rfl
theorem q628 : (Jvm.Cond.instanceMethod ({ cls := "TourRooms$Reader", name := "whole", desc := "()Ljava/util/ArrayList;" } : Jvm.MethodName)) ∈ lw_all := lw_g (lw_at lw_m3 63 rfl) rfl
theorem q629 : (Jvm.Cond.selects "TourRooms$Reader" ({ cls := "TourRooms$Reader", name := "whole", desc := "()Ljava/util/ArrayList;" } : Jvm.MethodName) ({ cls := "TourRooms$Reader", name := "whole", desc := "()Ljava/util/ArrayList;" } : Jvm.MethodName)) ∈ lw_all := lw_g (lw_at lw_m3 64 rfl) rfl
theorem q630 : (Jvm.Cond.code ({ cls := "TourRooms$Reader", name := "whole", desc := "()Ljava/util/ArrayList;" } : Jvm.MethodName) prog_7_method_10_code (5 : Nat) (Option.some (Jvm.ClassFile.FieldType.object "java/util/ArrayList"))) ∈ lw_all := lw_g (lw_at lw_m3 65 rfl) rfl
theorem q631 : (Jvm.Cond.classLink "TourRooms$Reader" (76 : Nat) "java/util/ArrayList") ∈ lw_all := lw_g (lw_at lw_m3 66 rfl) rfl
theorem q632 : (Jvm.Cond.methodLink "TourRooms$Reader" (78 : Nat) ({ cls := "java/util/ArrayList", name := "<init>", desc := "()V" } : Jvm.MethodName)) ∈ lw_all := lw_g (lw_at lw_m3 67 rfl) rfl
theorem q637 : (Jvm.Cond.methodLink "TourRooms$Reader" (73 : Nat) ({ cls := "TourRooms$Reader", name := "next", desc := "()V" } : Jvm.MethodName)) ∈ lw_all := lw_g (lw_at lw_m3 72 rfl) rfl
theorem q638 : (Jvm.Cond.privateMethod ({ cls := "TourRooms$Reader", name := "next", desc := "()V" } : Jvm.MethodName)) ∈ lw_tbl := lw_at lw_m3 73 rfl
theorem q639 : (Jvm.Cond.instanceMethod ({ cls := "TourRooms$Reader", name := "next", desc := "()V" } : Jvm.MethodName)) ∈ lw_all := lw_g (lw_at lw_m3 74 rfl) rfl
theorem q640 : (Jvm.Cond.code ({ cls := "TourRooms$Reader", name := "next", desc := "()V" } : Jvm.MethodName) prog_7_method_5_code (2 : Nat) (Option.none : Option Jvm.ClassFile.FieldType)) ∈ lw_all := lw_g (lw_at lw_m3 75 rfl) rfl
theorem q641 : (Jvm.Cond.methodLink "TourRooms$Reader" (26 : Nat) ({ cls := "TourRooms$Reader", name := "at", desc := "(I)I" } : Jvm.MethodName)) ∈ lw_all := lw_g (lw_at lw_m3 76 rfl) rfl
theorem q642 : (Jvm.Cond.privateMethod ({ cls := "TourRooms$Reader", name := "at", desc := "(I)I" } : Jvm.MethodName)) ∈ lw_tbl := lw_at lw_m3 77 rfl
theorem q643 : (Jvm.Cond.instanceMethod ({ cls := "TourRooms$Reader", name := "at", desc := "(I)I" } : Jvm.MethodName)) ∈ lw_all := lw_g (lw_at lw_m3 78 rfl) rfl
theorem q644 : (Jvm.Cond.code ({ cls := "TourRooms$Reader", name := "at", desc := "(I)I" } : Jvm.MethodName) prog_7_method_2_code (2 : Nat) (Option.some Jvm.ClassFile.FieldType.int)) ∈ lw_all := lw_g (lw_at lw_m3 79 rfl) rfl
theorem q645 : (Jvm.Cond.methodLink "TourRooms$Reader" (36 : Nat) ({ cls := "TourRooms$Reader", name := "isLetter", desc := "(I)Z" } : Jvm.MethodName)) ∈ lw_all := lw_g (lw_at lw_m3 80 rfl) rfl
theorem q646 : (Jvm.Cond.privateMethod ({ cls := "TourRooms$Reader", name := "isLetter", desc := "(I)Z" } : Jvm.MethodName)) ∈ lw_tbl := lw_at lw_m3 81 rfl
theorem q647 : (Jvm.Cond.instanceMethod ({ cls := "TourRooms$Reader", name := "isLetter", desc := "(I)Z" } : Jvm.MethodName)) ∈ lw_all := lw_g (lw_at lw_m3 82 rfl) rfl
theorem q648 : (Jvm.Cond.code ({ cls := "TourRooms$Reader", name := "isLetter", desc := "(I)Z" } : Jvm.MethodName) prog_7_method_3_code (2 : Nat) (Option.some Jvm.ClassFile.FieldType.boolean)) ∈ lw_all := lw_g (lw_at lw_m3 83 rfl) rfl
theorem q649 : (Jvm.Cond.methodLink "TourRooms$Reader" (40 : Nat) ({ cls := "TourRooms$Reader", name := "isDigit", desc := "(I)Z" } : Jvm.MethodName)) ∈ lw_all := lw_g (lw_at lw_m3 84 rfl) rfl
theorem q650 : (Jvm.Cond.privateMethod ({ cls := "TourRooms$Reader", name := "isDigit", desc := "(I)Z" } : Jvm.MethodName)) ∈ lw_tbl := lw_at lw_m3 85 rfl
theorem q651 : (Jvm.Cond.instanceMethod ({ cls := "TourRooms$Reader", name := "isDigit", desc := "(I)Z" } : Jvm.MethodName)) ∈ lw_all := lw_g (lw_at lw_m3 86 rfl) rfl
theorem q652 : (Jvm.Cond.code ({ cls := "TourRooms$Reader", name := "isDigit", desc := "(I)Z" } : Jvm.MethodName) prog_7_method_4_code (2 : Nat) (Option.some Jvm.ClassFile.FieldType.boolean)) ∈ lw_all := lw_g (lw_at lw_m3 87 rfl) rfl
theorem q653 : (Jvm.Cond.stringRef "TourRooms$Reader" (79 : Nat) "fee back refund free ") ∈ lw_tbl := lw_at lw_m3 88 rfl
theorem q654 : (Jvm.Cond.methodLink "TourRooms$Reader" (81 : Nat) ({ cls := "TourRooms$Reader", name := "which", desc := "(Ljava/lang/String;)I" } : Jvm.MethodName)) ∈ lw_all := lw_g (lw_at lw_m3 89 rfl) rfl
theorem q655 : (Jvm.Cond.privateMethod ({ cls := "TourRooms$Reader", name := "which", desc := "(Ljava/lang/String;)I" } : Jvm.MethodName)) ∈ lw_tbl := lw_at lw_m3 90 rfl
theorem q656 : (Jvm.Cond.instanceMethod ({ cls := "TourRooms$Reader", name := "which", desc := "(Ljava/lang/String;)I" } : Jvm.MethodName)) ∈ lw_all := lw_g (lw_at lw_m3 91 rfl) rfl
theorem q657 : (Jvm.Cond.code ({ cls := "TourRooms$Reader", name := "which", desc := "(Ljava/lang/String;)I" } : Jvm.MethodName) prog_7_method_6_code (7 : Nat) (Option.some Jvm.ClassFile.FieldType.int)) ∈ lw_all := lw_g (lw_at lw_m3 92 rfl) rfl
theorem q658 : (Jvm.Cond.methodLink "TourRooms$Reader" (46 : Nat) ({ cls := "java/lang/String", name := "length", desc := "()I" } : Jvm.MethodName)) ∈ lw_all := lw_g (lw_at lw_m3 93 rfl) rfl
theorem q668 : (Jvm.Cond.methodLink "TourRooms$Reader" (52 : Nat) ({ cls := "java/lang/String", name := "indexOf", desc := "(II)I" } : Jvm.MethodName)) ∈ lw_all := lw_g (lw_at lw_m3 103 rfl) rfl
theorem q741 : (Jvm.Cond.methodLink "TourRooms$Reader" (56 : Nat) ({ cls := "java/lang/String", name := "charAt", desc := "(I)C" } : Jvm.MethodName)) ∈ lw_all := lw_g (lw_at lw_m3 176 rfl) rfl
theorem q761 : (Jvm.Cond.methodLink "TourRooms$Reader" (69 : Nat) ({ cls := "TourRooms$Reader", name := "wrong", desc := "(I)LTourRooms$Wrong;" } : Jvm.MethodName)) ∈ lw_all := lw_g (lw_at lw_m3 196 rfl) rfl
theorem q762 : (Jvm.Cond.privateMethod ({ cls := "TourRooms$Reader", name := "wrong", desc := "(I)LTourRooms$Wrong;" } : Jvm.MethodName)) ∈ lw_tbl := lw_at lw_m3 197 rfl
theorem q763 : (Jvm.Cond.instanceMethod ({ cls := "TourRooms$Reader", name := "wrong", desc := "(I)LTourRooms$Wrong;" } : Jvm.MethodName)) ∈ lw_all := lw_g (lw_at lw_m3 198 rfl) rfl
theorem q764 : (Jvm.Cond.code ({ cls := "TourRooms$Reader", name := "wrong", desc := "(I)LTourRooms$Wrong;" } : Jvm.MethodName) prog_7_method_7_code (2 : Nat) (Option.some (Jvm.ClassFile.FieldType.object "TourRooms$Wrong"))) ∈ lw_all := lw_g (lw_at lw_m3 199 rfl) rfl
theorem q765 : (Jvm.Cond.classLink "TourRooms$Reader" (60 : Nat) "TourRooms$Wrong") ∈ lw_all := lw_g (lw_at lw_m3 200 rfl) rfl
theorem q805 : (Jvm.Cond.methodLink "TourRooms$Reader" (62 : Nat) ({ cls := "TourRooms$Wrong", name := "<init>", desc := "(II)V" } : Jvm.MethodName)) ∈ lw_all := lw_g (lw_at lw_m4 0 rfl) rfl
theorem q834 : (Jvm.Cond.methodLink "TourRooms$Reader" (85 : Nat) ({ cls := "java/util/ArrayList", name := "size", desc := "()I" } : Jvm.MethodName)) ∈ lw_all := lw_g (lw_at lw_m4 29 rfl) rfl
theorem q838 : (Jvm.Cond.methodLink "TourRooms$Reader" (88 : Nat) ({ cls := "TourRooms$Reader", name := "e", desc := "()LTourRooms$Exp;" } : Jvm.MethodName)) ∈ lw_all := lw_g (lw_at lw_m4 33 rfl) rfl
theorem q839 : (Jvm.Cond.privateMethod ({ cls := "TourRooms$Reader", name := "e", desc := "()LTourRooms$Exp;" } : Jvm.MethodName)) ∈ lw_tbl := lw_at lw_m4 34 rfl
theorem q840 : (Jvm.Cond.instanceMethod ({ cls := "TourRooms$Reader", name := "e", desc := "()LTourRooms$Exp;" } : Jvm.MethodName)) ∈ lw_all := lw_g (lw_at lw_m4 35 rfl) rfl
theorem q841 : (Jvm.Cond.code ({ cls := "TourRooms$Reader", name := "e", desc := "()LTourRooms$Exp;" } : Jvm.MethodName) prog_7_method_11_code (2 : Nat) (Option.some (Jvm.ClassFile.FieldType.object "TourRooms$Exp"))) ∈ lw_all := lw_g (lw_at lw_m4 36 rfl) rfl
theorem q842 : (Jvm.Cond.methodLink "TourRooms$Reader" (107 : Nat) ({ cls := "TourRooms$Reader", name := "test", desc := "()LTourRooms$Exp;" } : Jvm.MethodName)) ∈ lw_all := lw_g (lw_at lw_m4 37 rfl) rfl
theorem q843 : (Jvm.Cond.privateMethod ({ cls := "TourRooms$Reader", name := "test", desc := "()LTourRooms$Exp;" } : Jvm.MethodName)) ∈ lw_tbl := lw_at lw_m4 38 rfl
theorem q844 : (Jvm.Cond.instanceMethod ({ cls := "TourRooms$Reader", name := "test", desc := "()LTourRooms$Exp;" } : Jvm.MethodName)) ∈ lw_all := lw_g (lw_at lw_m4 39 rfl) rfl
theorem q845 : (Jvm.Cond.code ({ cls := "TourRooms$Reader", name := "test", desc := "()LTourRooms$Exp;" } : Jvm.MethodName) prog_7_method_12_code (3 : Nat) (Option.some (Jvm.ClassFile.FieldType.object "TourRooms$Exp"))) ∈ lw_all := lw_g (lw_at lw_m4 40 rfl) rfl
theorem q846 : (Jvm.Cond.methodLink "TourRooms$Reader" (117 : Nat) ({ cls := "TourRooms$Reader", name := "sum", desc := "()LTourRooms$Exp;" } : Jvm.MethodName)) ∈ lw_all := lw_g (lw_at lw_m4 41 rfl) rfl
theorem q847 : (Jvm.Cond.privateMethod ({ cls := "TourRooms$Reader", name := "sum", desc := "()LTourRooms$Exp;" } : Jvm.MethodName)) ∈ lw_tbl := lw_at lw_m4 42 rfl
theorem q848 : (Jvm.Cond.instanceMethod ({ cls := "TourRooms$Reader", name := "sum", desc := "()LTourRooms$Exp;" } : Jvm.MethodName)) ∈ lw_all := lw_g (lw_at lw_m4 43 rfl) rfl
theorem q849 : (Jvm.Cond.code ({ cls := "TourRooms$Reader", name := "sum", desc := "()LTourRooms$Exp;" } : Jvm.MethodName) prog_7_method_13_code (3 : Nat) (Option.some (Jvm.ClassFile.FieldType.object "TourRooms$Exp"))) ∈ lw_all := lw_g (lw_at lw_m4 44 rfl) rfl
theorem q850 : (Jvm.Cond.methodLink "TourRooms$Reader" (125 : Nat) ({ cls := "TourRooms$Reader", name := "part", desc := "()LTourRooms$Exp;" } : Jvm.MethodName)) ∈ lw_all := lw_g (lw_at lw_m4 45 rfl) rfl
theorem q851 : (Jvm.Cond.privateMethod ({ cls := "TourRooms$Reader", name := "part", desc := "()LTourRooms$Exp;" } : Jvm.MethodName)) ∈ lw_tbl := lw_at lw_m4 46 rfl
theorem q852 : (Jvm.Cond.instanceMethod ({ cls := "TourRooms$Reader", name := "part", desc := "()LTourRooms$Exp;" } : Jvm.MethodName)) ∈ lw_all := lw_g (lw_at lw_m4 47 rfl) rfl
theorem q853 : (Jvm.Cond.code ({ cls := "TourRooms$Reader", name := "part", desc := "()LTourRooms$Exp;" } : Jvm.MethodName) prog_7_method_14_code (3 : Nat) (Option.some (Jvm.ClassFile.FieldType.object "TourRooms$Exp"))) ∈ lw_all := lw_g (lw_at lw_m4 48 rfl) rfl
theorem q854 : (Jvm.Cond.classLink "TourRooms$Reader" (131 : Nat) "TourRooms$Fixed") ∈ lw_all := lw_g (lw_at lw_m4 49 rfl) rfl
theorem q856 : (Jvm.Cond.methodLink "TourRooms$Reader" (133 : Nat) ({ cls := "TourRooms$Fixed", name := "<init>", desc := "(I)V" } : Jvm.MethodName)) ∈ lw_all := lw_g (lw_at lw_m4 51 rfl) rfl
theorem q867 : (Jvm.Cond.stringRef "TourRooms$Reader" (136 : Nat) "left held used people season ") ∈ lw_tbl := lw_at lw_m4 62 rfl
theorem q868 : (Jvm.Cond.classLink "TourRooms$Reader" (138 : Nat) "TourRooms$About") ∈ lw_all := lw_g (lw_at lw_m4 63 rfl) rfl
theorem q870 : (Jvm.Cond.methodLink "TourRooms$Reader" (140 : Nat) ({ cls := "TourRooms$About", name := "<init>", desc := "(I)V" } : Jvm.MethodName)) ∈ lw_all := lw_g (lw_at lw_m4 65 rfl) rfl
theorem q878 : (Jvm.Cond.methodLink "TourRooms$Reader" (65 : Nat) ({ cls := "TourRooms$Reader", name := "isSign", desc := "(C)Z" } : Jvm.MethodName)) ∈ lw_all := lw_g (lw_at lw_m4 73 rfl) rfl
theorem q879 : (Jvm.Cond.privateMethod ({ cls := "TourRooms$Reader", name := "isSign", desc := "(C)Z" } : Jvm.MethodName)) ∈ lw_tbl := lw_at lw_m4 74 rfl
theorem q880 : (Jvm.Cond.instanceMethod ({ cls := "TourRooms$Reader", name := "isSign", desc := "(C)Z" } : Jvm.MethodName)) ∈ lw_all := lw_g (lw_at lw_m4 75 rfl) rfl
theorem q881 : (Jvm.Cond.code ({ cls := "TourRooms$Reader", name := "isSign", desc := "(C)Z" } : Jvm.MethodName) prog_7_method_8_code (2 : Nat) (Option.some Jvm.ClassFile.FieldType.boolean)) ∈ lw_all := lw_g (lw_at lw_m4 76 rfl) rfl
theorem q882 : (Jvm.Cond.methodLink "TourRooms$Reader" (94 : Nat) ({ cls := "TourRooms$Reader", name := "need", desc := "(C)V" } : Jvm.MethodName)) ∈ lw_all := lw_g (lw_at lw_m4 77 rfl) rfl
theorem q883 : (Jvm.Cond.privateMethod ({ cls := "TourRooms$Reader", name := "need", desc := "(C)V" } : Jvm.MethodName)) ∈ lw_tbl := lw_at lw_m4 78 rfl
theorem q884 : (Jvm.Cond.instanceMethod ({ cls := "TourRooms$Reader", name := "need", desc := "(C)V" } : Jvm.MethodName)) ∈ lw_all := lw_g (lw_at lw_m4 79 rfl) rfl
theorem q885 : (Jvm.Cond.code ({ cls := "TourRooms$Reader", name := "need", desc := "(C)V" } : Jvm.MethodName) prog_7_method_9_code (2 : Nat) (Option.none : Option Jvm.ClassFile.FieldType)) ∈ lw_all := lw_g (lw_at lw_m4 80 rfl) rfl
theorem q886 : (Jvm.Cond.classLink "TourRooms$Reader" (128 : Nat) "TourRooms$Sum") ∈ lw_all := lw_g (lw_at lw_m4 81 rfl) rfl
theorem q888 : (Jvm.Cond.methodLink "TourRooms$Reader" (130 : Nat) ({ cls := "TourRooms$Sum", name := "<init>", desc := "(LTourRooms$Exp;ZLTourRooms$Exp;)V" } : Jvm.MethodName)) ∈ lw_all := lw_g (lw_at lw_m4 83 rfl) rfl
theorem q905 : (Jvm.Cond.classLink "TourRooms$Reader" (120 : Nat) "TourRooms$Test") ∈ lw_all := lw_g (lw_at lw_m4 100 rfl) rfl
theorem q907 : (Jvm.Cond.methodLink "TourRooms$Reader" (122 : Nat) ({ cls := "TourRooms$Test", name := "<init>", desc := "(LTourRooms$Exp;ZLTourRooms$Exp;)V" } : Jvm.MethodName)) ∈ lw_all := lw_g (lw_at lw_m4 102 rfl) rfl
theorem q917 : (Jvm.Cond.stringRef "TourRooms$Reader" (110 : Nat) "and ") ∈ lw_tbl := lw_at lw_m4 112 rfl
theorem q918 : (Jvm.Cond.classLink "TourRooms$Reader" (112 : Nat) "TourRooms$Both") ∈ lw_all := lw_g (lw_at lw_m4 113 rfl) rfl
theorem q920 : (Jvm.Cond.methodLink "TourRooms$Reader" (114 : Nat) ({ cls := "TourRooms$Both", name := "<init>", desc := "(LTourRooms$Exp;LTourRooms$Exp;)V" } : Jvm.MethodName)) ∈ lw_all := lw_g (lw_at lw_m4 115 rfl) rfl
theorem q927 : (Jvm.Cond.stringRef "TourRooms$Reader" (92 : Nat) "when ") ∈ lw_tbl := lw_at lw_m4 122 rfl
theorem q928 : (Jvm.Cond.classLink "TourRooms$Reader" (98 : Nat) "TourRooms$Rule") ∈ lw_all := lw_g (lw_at lw_m4 123 rfl) rfl
theorem q930 : (Jvm.Cond.methodLink "TourRooms$Reader" (100 : Nat) ({ cls := "TourRooms$Rule", name := "<init>", desc := "(ILTourRooms$Exp;LTourRooms$Exp;)V" } : Jvm.MethodName)) ∈ lw_all := lw_g (lw_at lw_m4 125 rfl) rfl
theorem q947 : (Jvm.Cond.methodLink "TourRooms$Reader" (103 : Nat) ({ cls := "java/util/ArrayList", name := "add", desc := "(Ljava/lang/Object;)Z" } : Jvm.MethodName)) ∈ lw_all := lw_g (lw_at lw_m4 142 rfl) rfl
theorem q982 : (Jvm.Cond.selects "TourRooms$Reader" ({ cls := "java/lang/Object", name := "getClass", desc := "()Ljava/lang/Class;" } : Jvm.MethodName) ({ cls := "java/lang/Object", name := "getClass", desc := "()Ljava/lang/Class;" } : Jvm.MethodName)) ∈ lw_all := lw_g (lw_at lw_m4 177 rfl) rfl
theorem q1817 : (Jvm.Cond.castable "TourRooms$Reader" "java/lang/Object") ∈ lw_tbl := lw_at lw_m8 52 rfl
theorem in_X7 : ∀ w ∈ wsX70, w ∈ lw_all := lw_in wsX70 [614, 616, 618, 620, 622, 624] (by decide +kernel) (by decide +kernel)
/-! TourRooms$Wrong -/
set_option maxRecDepth 100000
def RX8 : String := "TourRooms$Wrong"
def TX8 : u_T := fun k => match k with
  | 0 => ("java/lang/Throwable", "cause", "Ljava/lang/Throwable;", false)
  | 1 => ("java/lang/Throwable", "stackTrace", "[Ljava/lang/StackTraceElement;", false)
  | 2 => ("java/lang/Throwable", "suppressedExceptions", "Ljava/util/List;", false)
  | 3 => ("java/lang/Throwable", "detailMessage", "Ljava/lang/String;", false)
  | 4 => ("java/lang/Throwable", "backtrace", "Ljava/lang/Object;", false)
  | 5 => ("java/lang/Throwable", "depth", "I", false)
  | _ => ("TourRooms$Wrong", "fault", "I", true)
def tyX8 : Nat → FieldType := fun k => match k with
  | 0 => .object "java/lang/Throwable"
  | 1 => .array (.object "java/lang/StackTraceElement")
  | 2 => .object "java/util/List"
  | 3 => .object "java/lang/String"
  | 4 => .object "java/lang/Object"
  | 5 => .int
  | _ => .int
abbrev wsX80 : List Cond := u_ws RX8 TX8 7
theorem nmX8 : ∀ a, a < 7 → ∀ b, b < 7 → a ≠ b → (TX8 a).2.1 ≠ (TX8 b).2.1 := by decide +kernel
theorem tyX8_ok : ∀ k, k < 7 → parseFieldDescriptor (TX8 k).2.2.1 = some (tyX8 k) := by decide +kernel
abbrev cX8_init : ByteArray := prog_15_method_1_code
def yX8_init : MethodName := ⟨RX8, "<init>", "(II)V"⟩
theorem dX8_init_0 : decode cX8_init 0 = .ok (.aload_n 0, 1) := by decide +kernel
theorem dX8_init_1 : decode cX8_init 1 = .ok (.aconst_null, 1) := by decide +kernel
theorem dX8_init_2 : decode cX8_init 2 = .ok (.aconst_null, 1) := by decide +kernel
theorem dX8_init_3 : decode cX8_init 3 = .ok (.iconst 0, 1) := by decide +kernel
theorem dX8_init_4 : decode cX8_init 4 = .ok (.iconst 0, 1) := by decide +kernel
theorem dX8_init_5 : decode cX8_init 5 = .ok (.invokespecial 1, 3) := by decide +kernel
theorem dX8_init_8 : decode cX8_init 8 = .ok (.aload_n 0, 1) := by decide +kernel
theorem dX8_init_9 : decode cX8_init 9 = .ok (.iload_n 1, 1) := by decide +kernel
theorem dX8_init_10 : decode cX8_init 10 = .ok (.bipush 10, 2) := by decide +kernel
theorem dX8_init_12 : decode cX8_init 12 = .ok (.iload_n 2, 1) := by decide +kernel
theorem dX8_init_13 : decode cX8_init 13 = .ok (.imul, 1) := by decide +kernel
theorem dX8_init_14 : decode cX8_init 14 = .ok (.iadd, 1) := by decide +kernel
theorem dX8_init_15 : decode cX8_init 15 = .ok (.putfield 7, 3) := by decide +kernel
theorem dX8_init_18 : decode cX8_init 18 = .ok (.return_, 1) := by decide +kernel
theorem q106 : (Jvm.Cond.initialized "TourRooms$Wrong") ∈ lw_all := lw_g (lw_at lw_m1 21 rfl) rfl
theorem q766 : (Jvm.Cond.instantiable "TourRooms$Wrong" (7 : Nat)) ∈ lw_all := lw_g (lw_at lw_m3 201 rfl) rfl
theorem q767 : (Jvm.Cond.castable "TourRooms$Wrong" "TourRooms$Wrong") ∈ lw_tbl := lw_at lw_m3 202 rfl
theorem q774 : (Jvm.Cond.selects "TourRooms$Wrong" ({ cls := "java/lang/Throwable", name := "fillInStackTrace", desc := "(I)Ljava/lang/Throwable;" } : Jvm.MethodName) ({ cls := "java/lang/Throwable", name := "fillInStackTrace", desc := "(I)Ljava/lang/Throwable;" } : Jvm.MethodName)) ∈ lw_all := lw_g (lw_at lw_m3 209 rfl) rfl
theorem q775 : (Jvm.Cond.selects "TourRooms$Wrong" ({ cls := "java/lang/Throwable", name := "fillInStackTrace", desc := "()Ljava/lang/Throwable;" } : Jvm.MethodName) ({ cls := "java/lang/Throwable", name := "fillInStackTrace", desc := "()Ljava/lang/Throwable;" } : Jvm.MethodName)) ∈ lw_all := lw_g (lw_at lw_m3 210 rfl) rfl
theorem q776 : (Jvm.Cond.lays "TourRooms$Wrong" "java/lang/Throwable" "cause" "Ljava/lang/Throwable;") ∈ lw_all := lw_g (lw_at lw_m3 211 rfl) rfl
theorem q778 : (Jvm.Cond.lays "TourRooms$Wrong" "java/lang/Throwable" "stackTrace" "[Ljava/lang/StackTraceElement;") ∈ lw_all := lw_g (lw_at lw_m3 213 rfl) rfl
theorem q780 : (Jvm.Cond.lays "TourRooms$Wrong" "java/lang/Throwable" "suppressedExceptions" "Ljava/util/List;") ∈ lw_all := lw_g (lw_at lw_m3 215 rfl) rfl
theorem q782 : (Jvm.Cond.lays "TourRooms$Wrong" "java/lang/Throwable" "detailMessage" "Ljava/lang/String;") ∈ lw_all := lw_g (lw_at lw_m3 217 rfl) rfl
theorem q784 : (Jvm.Cond.lays "TourRooms$Wrong" "java/lang/Throwable" "backtrace" "Ljava/lang/Object;") ∈ lw_all := lw_g (lw_at lw_m3 219 rfl) rfl
theorem q806 : (Jvm.Cond.instanceMethod ({ cls := "TourRooms$Wrong", name := "<init>", desc := "(II)V" } : Jvm.MethodName)) ∈ lw_all := lw_g (lw_at lw_m4 1 rfl) rfl
theorem q807 : (Jvm.Cond.code ({ cls := "TourRooms$Wrong", name := "<init>", desc := "(II)V" } : Jvm.MethodName) prog_15_method_1_code (3 : Nat) (Option.none : Option Jvm.ClassFile.FieldType)) ∈ lw_all := lw_g (lw_at lw_m4 2 rfl) rfl
theorem q808 : (Jvm.Cond.methodLink "TourRooms$Wrong" (1 : Nat) ({ cls := "java/lang/RuntimeException", name := "<init>", desc := "(Ljava/lang/String;Ljava/lang/Throwable;ZZ)V" } : Jvm.MethodName)) ∈ lw_all := lw_g (lw_at lw_m4 3 rfl) rfl
theorem q817 : (Jvm.Cond.fieldLink "TourRooms$Wrong" (7 : Nat) "TourRooms$Wrong" "fault" "I") ∈ lw_all := lw_g (lw_at lw_m4 12 rfl) rfl
theorem q824 : (Jvm.Cond.laysFinal "TourRooms$Wrong" "TourRooms$Wrong" "fault" "I") ∈ lw_all := lw_g (lw_at lw_m4 19 rfl) rfl
theorem q825 : (Jvm.Cond.soleField "TourRooms$Wrong" "fault") ∈ lw_all := lw_g (lw_at lw_m4 20 rfl) rfl
theorem q830 : (Jvm.Cond.lays "TourRooms$Wrong" "java/lang/Throwable" "depth" "I") ∈ lw_all := lw_g (lw_at lw_m4 25 rfl) rfl
theorem q833 : (Jvm.Cond.superclass "TourRooms$Wrong" "java/lang/RuntimeException") ∈ lw_all := lw_g (lw_at lw_m4 28 rfl) rfl
theorem q989 : (Jvm.Cond.selects "TourRooms$Wrong" ({ cls := "java/lang/Object", name := "getClass", desc := "()Ljava/lang/Class;" } : Jvm.MethodName) ({ cls := "java/lang/Object", name := "getClass", desc := "()Ljava/lang/Class;" } : Jvm.MethodName)) ∈ lw_all := lw_g (lw_at lw_m4 184 rfl) rfl
theorem q1818 : (Jvm.Cond.castable "TourRooms$Wrong" "java/lang/Object") ∈ lw_tbl := lw_at lw_m8 53 rfl
theorem in_X8 : ∀ w ∈ wsX80, w ∈ lw_all := lw_in wsX80 [776, 778, 780, 782, 784, 830, 824] (by decide +kernel) (by decide +kernel)
/-! TourRooms$Exp -/
set_option maxRecDepth 100000
def RX9 : String := "TourRooms$Exp"
abbrev cX9_init : ByteArray := prog_4_method_1_code
def yX9_init : MethodName := ⟨RX9, "<init>", "()V"⟩
theorem dX9_init_0 : decode cX9_init 0 = .ok (.aload_n 0, 1) := by decide +kernel
theorem dX9_init_1 : decode cX9_init 1 = .ok (.invokespecial 1, 3) := by decide +kernel
theorem dX9_init_4 : decode cX9_init 4 = .ok (.return_, 1) := by decide +kernel
theorem q107 : (Jvm.Cond.initialized "TourRooms$Exp") ∈ lw_all := lw_g (lw_at lw_m1 22 rfl) rfl
theorem q860 : (Jvm.Cond.instanceMethod ({ cls := "TourRooms$Exp", name := "<init>", desc := "()V" } : Jvm.MethodName)) ∈ lw_all := lw_g (lw_at lw_m4 55 rfl) rfl
theorem q861 : (Jvm.Cond.code ({ cls := "TourRooms$Exp", name := "<init>", desc := "()V" } : Jvm.MethodName) prog_4_method_1_code (1 : Nat) (Option.none : Option Jvm.ClassFile.FieldType)) ∈ lw_all := lw_g (lw_at lw_m4 56 rfl) rfl
theorem q862 : (Jvm.Cond.methodLink "TourRooms$Exp" (1 : Nat) ({ cls := "java/lang/Object", name := "<init>", desc := "()V" } : Jvm.MethodName)) ∈ lw_all := lw_g (lw_at lw_m4 57 rfl) rfl
theorem q1043 : (Jvm.Cond.declares ({ cls := "TourRooms$Exp", name := "of", desc := "(LTourRooms$State;)I" } : Jvm.MethodName)) ∈ lw_tbl := lw_at lw_m4 238 rfl
theorem q1044 : (Jvm.Cond.sameMethod "TourRooms$Exp" "TourRooms$Exp" "of" "(LTourRooms$State;)I") ∈ lw_all := lw_g (lw_at lw_m4 239 rfl) rfl
/-! TourRooms$Fixed -/
set_option maxRecDepth 100000
def RX10 : String := "TourRooms$Fixed"
def TX10 : u_T := fun k => match k with
  | _ => ("TourRooms$Fixed", "v", "I", true)
def tyX10 : Nat → FieldType := fun k => match k with
  | _ => .int
abbrev wsX100 : List Cond := u_ws RX10 TX10 1
theorem nmX10 : ∀ a, a < 1 → ∀ b, b < 1 → a ≠ b → (TX10 a).2.1 ≠ (TX10 b).2.1 := by decide +kernel
theorem tyX10_ok : ∀ k, k < 1 → parseFieldDescriptor (TX10 k).2.2.1 = some (tyX10 k) := by decide +kernel
abbrev cX10_init : ByteArray := prog_5_method_1_code
def yX10_init : MethodName := ⟨RX10, "<init>", "(I)V"⟩
theorem dX10_init_0 : decode cX10_init 0 = .ok (.aload_n 0, 1) := by decide +kernel
theorem dX10_init_1 : decode cX10_init 1 = .ok (.invokespecial 1, 3) := by decide +kernel
theorem dX10_init_4 : decode cX10_init 4 = .ok (.aload_n 0, 1) := by decide +kernel
theorem dX10_init_5 : decode cX10_init 5 = .ok (.iload_n 1, 1) := by decide +kernel
theorem dX10_init_6 : decode cX10_init 6 = .ok (.putfield 7, 3) := by decide +kernel
theorem dX10_init_9 : decode cX10_init 9 = .ok (.return_, 1) := by decide +kernel
abbrev cX10_of : ByteArray := prog_5_method_2_code
def yX10_of : MethodName := ⟨RX10, "of", "(LTourRooms$State;)I"⟩
theorem dX10_of_0 : decode cX10_of 0 = .ok (.aload_n 0, 1) := by decide +kernel
theorem dX10_of_1 : decode cX10_of 1 = .ok (.getfield 7, 3) := by decide +kernel
theorem dX10_of_4 : decode cX10_of 4 = .ok (.ireturn, 1) := by decide +kernel
theorem q108 : (Jvm.Cond.initialized "TourRooms$Fixed") ∈ lw_all := lw_g (lw_at lw_m1 23 rfl) rfl
theorem q855 : (Jvm.Cond.instantiable "TourRooms$Fixed" (1 : Nat)) ∈ lw_all := lw_g (lw_at lw_m4 50 rfl) rfl
theorem q857 : (Jvm.Cond.instanceMethod ({ cls := "TourRooms$Fixed", name := "<init>", desc := "(I)V" } : Jvm.MethodName)) ∈ lw_all := lw_g (lw_at lw_m4 52 rfl) rfl
theorem q858 : (Jvm.Cond.code ({ cls := "TourRooms$Fixed", name := "<init>", desc := "(I)V" } : Jvm.MethodName) prog_5_method_1_code (2 : Nat) (Option.none : Option Jvm.ClassFile.FieldType)) ∈ lw_all := lw_g (lw_at lw_m4 53 rfl) rfl
theorem q859 : (Jvm.Cond.methodLinkNest "TourRooms$Fixed" (1 : Nat) ({ cls := "TourRooms$Exp", name := "<init>", desc := "()V" } : Jvm.MethodName) "TourRooms") ∈ lw_tbl := lw_at lw_m4 54 rfl
theorem q863 : (Jvm.Cond.fieldLink "TourRooms$Fixed" (7 : Nat) "TourRooms$Fixed" "v" "I") ∈ lw_all := lw_g (lw_at lw_m4 58 rfl) rfl
theorem q864 : (Jvm.Cond.laysFinal "TourRooms$Fixed" "TourRooms$Fixed" "v" "I") ∈ lw_all := lw_g (lw_at lw_m4 59 rfl) rfl
theorem q865 : (Jvm.Cond.soleField "TourRooms$Fixed" "v") ∈ lw_all := lw_g (lw_at lw_m4 60 rfl) rfl
theorem q866 : (Jvm.Cond.superclass "TourRooms$Fixed" "TourRooms$Exp") ∈ lw_all := lw_g (lw_at lw_m4 61 rfl) rfl
theorem q980 : (Jvm.Cond.selects "TourRooms$Fixed" ({ cls := "java/lang/Object", name := "getClass", desc := "()Ljava/lang/Class;" } : Jvm.MethodName) ({ cls := "java/lang/Object", name := "getClass", desc := "()Ljava/lang/Class;" } : Jvm.MethodName)) ∈ lw_all := lw_g (lw_at lw_m4 175 rfl) rfl
theorem q1052 : (Jvm.Cond.instanceMethod ({ cls := "TourRooms$Fixed", name := "of", desc := "(LTourRooms$State;)I" } : Jvm.MethodName)) ∈ lw_all := lw_g (lw_at lw_m5 7 rfl) rfl
theorem q1053 : (Jvm.Cond.code ({ cls := "TourRooms$Fixed", name := "of", desc := "(LTourRooms$State;)I" } : Jvm.MethodName) prog_5_method_2_code (2 : Nat) (Option.some Jvm.ClassFile.FieldType.int)) ∈ lw_all := lw_g (lw_at lw_m5 8 rfl) rfl
theorem q1066 : (Jvm.Cond.selects "TourRooms$Fixed" ({ cls := "TourRooms$Exp", name := "of", desc := "(LTourRooms$State;)I" } : Jvm.MethodName) ({ cls := "TourRooms$Fixed", name := "of", desc := "(LTourRooms$State;)I" } : Jvm.MethodName)) ∈ lw_all := lw_g (lw_at lw_m5 21 rfl) rfl
theorem q1819 : (Jvm.Cond.castable "TourRooms$Fixed" "java/lang/Object") ∈ lw_tbl := lw_at lw_m8 54 rfl
theorem in_X10 : ∀ w ∈ wsX100, w ∈ lw_all := lw_in wsX100 [864] (by decide +kernel) (by decide +kernel)
/-! TourRooms$About -/
set_option maxRecDepth 100000
def RX11 : String := "TourRooms$About"
def TX11 : u_T := fun k => match k with
  | _ => ("TourRooms$About", "what", "I", true)
def tyX11 : Nat → FieldType := fun k => match k with
  | _ => .int
abbrev wsX110 : List Cond := u_ws RX11 TX11 1
theorem nmX11 : ∀ a, a < 1 → ∀ b, b < 1 → a ≠ b → (TX11 a).2.1 ≠ (TX11 b).2.1 := by decide +kernel
theorem tyX11_ok : ∀ k, k < 1 → parseFieldDescriptor (TX11 k).2.2.1 = some (tyX11 k) := by decide +kernel
abbrev cX11_init : ByteArray := prog_2_method_1_code
def yX11_init : MethodName := ⟨RX11, "<init>", "(I)V"⟩
theorem dX11_init_0 : decode cX11_init 0 = .ok (.aload_n 0, 1) := by decide +kernel
theorem dX11_init_1 : decode cX11_init 1 = .ok (.invokespecial 1, 3) := by decide +kernel
theorem dX11_init_4 : decode cX11_init 4 = .ok (.aload_n 0, 1) := by decide +kernel
theorem dX11_init_5 : decode cX11_init 5 = .ok (.iload_n 1, 1) := by decide +kernel
theorem dX11_init_6 : decode cX11_init 6 = .ok (.putfield 7, 3) := by decide +kernel
theorem dX11_init_9 : decode cX11_init 9 = .ok (.return_, 1) := by decide +kernel
abbrev cX11_of : ByteArray := prog_2_method_2_code
def yX11_of : MethodName := ⟨RX11, "of", "(LTourRooms$State;)I"⟩
theorem dX11_of_0 : decode cX11_of 0 = .ok (.aload_n 0, 1) := by decide +kernel
theorem dX11_of_1 : decode cX11_of 1 = .ok (.getfield 7, 3) := by decide +kernel
theorem dX11_of_4 : decode cX11_of 4 = .ok (.tableswitch 52 0 3 #[32, 37, 42, 47], 32) := by decide +kernel
theorem dX11_of_36 : decode cX11_of 36 = .ok (.aload_n 1, 1) := by decide +kernel
theorem dX11_of_37 : decode cX11_of 37 = .ok (.getfield 13, 3) := by decide +kernel
theorem dX11_of_40 : decode cX11_of 40 = .ok (.ireturn, 1) := by decide +kernel
theorem dX11_of_41 : decode cX11_of 41 = .ok (.aload_n 1, 1) := by decide +kernel
theorem dX11_of_42 : decode cX11_of 42 = .ok (.getfield 18, 3) := by decide +kernel
theorem dX11_of_45 : decode cX11_of 45 = .ok (.ireturn, 1) := by decide +kernel
theorem dX11_of_46 : decode cX11_of 46 = .ok (.aload_n 1, 1) := by decide +kernel
theorem dX11_of_47 : decode cX11_of 47 = .ok (.getfield 21, 3) := by decide +kernel
theorem dX11_of_50 : decode cX11_of 50 = .ok (.ireturn, 1) := by decide +kernel
theorem dX11_of_51 : decode cX11_of 51 = .ok (.aload_n 1, 1) := by decide +kernel
theorem dX11_of_52 : decode cX11_of 52 = .ok (.getfield 24, 3) := by decide +kernel
theorem dX11_of_55 : decode cX11_of 55 = .ok (.ireturn, 1) := by decide +kernel
theorem dX11_of_56 : decode cX11_of 56 = .ok (.aload_n 1, 1) := by decide +kernel
theorem dX11_of_57 : decode cX11_of 57 = .ok (.getfield 27, 3) := by decide +kernel
theorem dX11_of_60 : decode cX11_of 60 = .ok (.ireturn, 1) := by decide +kernel
theorem q109 : (Jvm.Cond.initialized "TourRooms$About") ∈ lw_all := lw_g (lw_at lw_m1 24 rfl) rfl
theorem q138 : (Jvm.Cond.fieldLinkNest "TourRooms$About" (13 : Nat) "TourRooms$State" "left" "I" "TourRooms") ∈ lw_tbl := lw_at lw_m1 53 rfl
theorem q140 : (Jvm.Cond.fieldLinkNest "TourRooms$About" (18 : Nat) "TourRooms$State" "held" "I" "TourRooms") ∈ lw_tbl := lw_at lw_m1 55 rfl
theorem q142 : (Jvm.Cond.fieldLinkNest "TourRooms$About" (21 : Nat) "TourRooms$State" "used" "I" "TourRooms") ∈ lw_tbl := lw_at lw_m1 57 rfl
theorem q144 : (Jvm.Cond.fieldLinkNest "TourRooms$About" (24 : Nat) "TourRooms$State" "people" "I" "TourRooms") ∈ lw_tbl := lw_at lw_m1 59 rfl
theorem q146 : (Jvm.Cond.fieldLinkNest "TourRooms$About" (27 : Nat) "TourRooms$State" "season" "I" "TourRooms") ∈ lw_tbl := lw_at lw_m1 61 rfl
theorem q869 : (Jvm.Cond.instantiable "TourRooms$About" (1 : Nat)) ∈ lw_all := lw_g (lw_at lw_m4 64 rfl) rfl
theorem q871 : (Jvm.Cond.instanceMethod ({ cls := "TourRooms$About", name := "<init>", desc := "(I)V" } : Jvm.MethodName)) ∈ lw_all := lw_g (lw_at lw_m4 66 rfl) rfl
theorem q872 : (Jvm.Cond.code ({ cls := "TourRooms$About", name := "<init>", desc := "(I)V" } : Jvm.MethodName) prog_2_method_1_code (2 : Nat) (Option.none : Option Jvm.ClassFile.FieldType)) ∈ lw_all := lw_g (lw_at lw_m4 67 rfl) rfl
theorem q873 : (Jvm.Cond.methodLinkNest "TourRooms$About" (1 : Nat) ({ cls := "TourRooms$Exp", name := "<init>", desc := "()V" } : Jvm.MethodName) "TourRooms") ∈ lw_tbl := lw_at lw_m4 68 rfl
theorem q874 : (Jvm.Cond.fieldLink "TourRooms$About" (7 : Nat) "TourRooms$About" "what" "I") ∈ lw_all := lw_g (lw_at lw_m4 69 rfl) rfl
theorem q875 : (Jvm.Cond.laysFinal "TourRooms$About" "TourRooms$About" "what" "I") ∈ lw_all := lw_g (lw_at lw_m4 70 rfl) rfl
theorem q876 : (Jvm.Cond.soleField "TourRooms$About" "what") ∈ lw_all := lw_g (lw_at lw_m4 71 rfl) rfl
theorem q877 : (Jvm.Cond.superclass "TourRooms$About" "TourRooms$Exp") ∈ lw_all := lw_g (lw_at lw_m4 72 rfl) rfl
theorem q978 : (Jvm.Cond.selects "TourRooms$About" ({ cls := "java/lang/Object", name := "getClass", desc := "()Ljava/lang/Class;" } : Jvm.MethodName) ({ cls := "java/lang/Object", name := "getClass", desc := "()Ljava/lang/Class;" } : Jvm.MethodName)) ∈ lw_all := lw_g (lw_at lw_m4 173 rfl) rfl
theorem q1045 : (Jvm.Cond.selects "TourRooms$About" ({ cls := "TourRooms$Exp", name := "of", desc := "(LTourRooms$State;)I" } : Jvm.MethodName) ({ cls := "TourRooms$About", name := "of", desc := "(LTourRooms$State;)I" } : Jvm.MethodName)) ∈ lw_all := lw_g (lw_at lw_m5 0 rfl) rfl
theorem q1046 : (Jvm.Cond.instanceMethod ({ cls := "TourRooms$About", name := "of", desc := "(LTourRooms$State;)I" } : Jvm.MethodName)) ∈ lw_all := lw_g (lw_at lw_m5 1 rfl) rfl
theorem q1047 : (Jvm.Cond.code ({ cls := "TourRooms$About", name := "of", desc := "(LTourRooms$State;)I" } : Jvm.MethodName) prog_2_method_2_code (2 : Nat) (Option.some Jvm.ClassFile.FieldType.int)) ∈ lw_all := lw_g (lw_at lw_m5 2 rfl) rfl
theorem q1820 : (Jvm.Cond.castable "TourRooms$About" "java/lang/Object") ∈ lw_tbl := lw_at lw_m8 55 rfl
theorem in_X11 : ∀ w ∈ wsX110, w ∈ lw_all := lw_in wsX110 [875] (by decide +kernel) (by decide +kernel)
/-! TourRooms$Two -/
set_option maxRecDepth 100000
def RX12 : String := "TourRooms$Two"
abbrev cX12_init : ByteArray := prog_14_method_1_code
def yX12_init : MethodName := ⟨RX12, "<init>", "(LTourRooms$Exp;LTourRooms$Exp;)V"⟩
theorem dX12_init_0 : decode cX12_init 0 = .ok (.aload_n 0, 1) := by decide +kernel
theorem dX12_init_1 : decode cX12_init 1 = .ok (.invokespecial 1, 3) := by decide +kernel
theorem dX12_init_4 : decode cX12_init 4 = .ok (.aload_n 0, 1) := by decide +kernel
theorem dX12_init_5 : decode cX12_init 5 = .ok (.aload_n 1, 1) := by decide +kernel
theorem dX12_init_6 : decode cX12_init 6 = .ok (.putfield 7, 3) := by decide +kernel
theorem dX12_init_9 : decode cX12_init 9 = .ok (.aload_n 0, 1) := by decide +kernel
theorem dX12_init_10 : decode cX12_init 10 = .ok (.aload_n 2, 1) := by decide +kernel
theorem dX12_init_11 : decode cX12_init 11 = .ok (.putfield 13, 3) := by decide +kernel
theorem dX12_init_14 : decode cX12_init 14 = .ok (.return_, 1) := by decide +kernel
abbrev cX12_of : ByteArray := prog_14_method_2_code
def yX12_of : MethodName := ⟨RX12, "of", "(LTourRooms$State;)I"⟩
theorem dX12_of_0 : decode cX12_of 0 = .ok (.aload_n 0, 1) := by decide +kernel
theorem dX12_of_1 : decode cX12_of 1 = .ok (.aload_n 0, 1) := by decide +kernel
theorem dX12_of_2 : decode cX12_of 2 = .ok (.getfield 7, 3) := by decide +kernel
theorem dX12_of_5 : decode cX12_of 5 = .ok (.aload_n 1, 1) := by decide +kernel
theorem dX12_of_6 : decode cX12_of 6 = .ok (.invokevirtual 16, 3) := by decide +kernel
theorem dX12_of_9 : decode cX12_of 9 = .ok (.aload_n 0, 1) := by decide +kernel
theorem dX12_of_10 : decode cX12_of 10 = .ok (.getfield 13, 3) := by decide +kernel
theorem dX12_of_13 : decode cX12_of 13 = .ok (.aload_n 1, 1) := by decide +kernel
theorem dX12_of_14 : decode cX12_of 14 = .ok (.invokevirtual 16, 3) := by decide +kernel
theorem dX12_of_17 : decode cX12_of 17 = .ok (.invokevirtual 20, 3) := by decide +kernel
theorem dX12_of_20 : decode cX12_of 20 = .ok (.ireturn, 1) := by decide +kernel
theorem q110 : (Jvm.Cond.initialized "TourRooms$Two") ∈ lw_all := lw_g (lw_at lw_m1 25 rfl) rfl
theorem q892 : (Jvm.Cond.instanceMethod ({ cls := "TourRooms$Two", name := "<init>", desc := "(LTourRooms$Exp;LTourRooms$Exp;)V" } : Jvm.MethodName)) ∈ lw_all := lw_g (lw_at lw_m4 87 rfl) rfl
theorem q893 : (Jvm.Cond.code ({ cls := "TourRooms$Two", name := "<init>", desc := "(LTourRooms$Exp;LTourRooms$Exp;)V" } : Jvm.MethodName) prog_14_method_1_code (3 : Nat) (Option.none : Option Jvm.ClassFile.FieldType)) ∈ lw_all := lw_g (lw_at lw_m4 88 rfl) rfl
theorem q894 : (Jvm.Cond.methodLinkNest "TourRooms$Two" (1 : Nat) ({ cls := "TourRooms$Exp", name := "<init>", desc := "()V" } : Jvm.MethodName) "TourRooms") ∈ lw_tbl := lw_at lw_m4 89 rfl
theorem q896 : (Jvm.Cond.fieldLink "TourRooms$Two" (7 : Nat) "TourRooms$Two" "a" "LTourRooms$Exp;") ∈ lw_all := lw_g (lw_at lw_m4 91 rfl) rfl
theorem q897 : (Jvm.Cond.fieldLink "TourRooms$Two" (13 : Nat) "TourRooms$Two" "b" "LTourRooms$Exp;") ∈ lw_all := lw_g (lw_at lw_m4 92 rfl) rfl
theorem q901 : (Jvm.Cond.soleField "TourRooms$Two" "a") ∈ lw_all := lw_g (lw_at lw_m4 96 rfl) rfl
theorem q903 : (Jvm.Cond.soleField "TourRooms$Two" "b") ∈ lw_all := lw_g (lw_at lw_m4 98 rfl) rfl
theorem q1049 : (Jvm.Cond.instanceMethod ({ cls := "TourRooms$Two", name := "of", desc := "(LTourRooms$State;)I" } : Jvm.MethodName)) ∈ lw_all := lw_g (lw_at lw_m5 4 rfl) rfl
theorem q1050 : (Jvm.Cond.code ({ cls := "TourRooms$Two", name := "of", desc := "(LTourRooms$State;)I" } : Jvm.MethodName) prog_14_method_2_code (2 : Nat) (Option.some Jvm.ClassFile.FieldType.int)) ∈ lw_all := lw_g (lw_at lw_m5 5 rfl) rfl
theorem q1051 : (Jvm.Cond.methodLink "TourRooms$Two" (16 : Nat) ({ cls := "TourRooms$Exp", name := "of", desc := "(LTourRooms$State;)I" } : Jvm.MethodName)) ∈ lw_all := lw_g (lw_at lw_m5 6 rfl) rfl
theorem q1054 : (Jvm.Cond.methodLink "TourRooms$Two" (20 : Nat) ({ cls := "TourRooms$Two", name := "by", desc := "(II)I" } : Jvm.MethodName)) ∈ lw_all := lw_g (lw_at lw_m5 9 rfl) rfl
theorem q1055 : (Jvm.Cond.declares ({ cls := "TourRooms$Two", name := "by", desc := "(II)I" } : Jvm.MethodName)) ∈ lw_tbl := lw_at lw_m5 10 rfl
theorem q1056 : (Jvm.Cond.sameMethod "TourRooms$Two" "TourRooms$Two" "by" "(II)I") ∈ lw_all := lw_g (lw_at lw_m5 11 rfl) rfl
/-! TourRooms$Sum -/
set_option maxRecDepth 100000
def RX13 : String := "TourRooms$Sum"
def TX13 : u_T := fun k => match k with
  | 0 => ("TourRooms$Two", "a", "LTourRooms$Exp;", true)
  | 1 => ("TourRooms$Two", "b", "LTourRooms$Exp;", true)
  | _ => ("TourRooms$Sum", "isMore", "Z", true)
def tyX13 : Nat → FieldType := fun k => match k with
  | 0 => .object "TourRooms$Exp"
  | 1 => .object "TourRooms$Exp"
  | _ => .boolean
abbrev wsX130 : List Cond := u_ws RX13 TX13 3
theorem nmX13 : ∀ a, a < 3 → ∀ b, b < 3 → a ≠ b → (TX13 a).2.1 ≠ (TX13 b).2.1 := by decide +kernel
theorem tyX13_ok : ∀ k, k < 3 → parseFieldDescriptor (TX13 k).2.2.1 = some (tyX13 k) := by decide +kernel
abbrev cX13_init : ByteArray := prog_11_method_1_code
def yX13_init : MethodName := ⟨RX13, "<init>", "(LTourRooms$Exp;ZLTourRooms$Exp;)V"⟩
theorem dX13_init_0 : decode cX13_init 0 = .ok (.aload_n 0, 1) := by decide +kernel
theorem dX13_init_1 : decode cX13_init 1 = .ok (.aload_n 1, 1) := by decide +kernel
theorem dX13_init_2 : decode cX13_init 2 = .ok (.aload_n 3, 1) := by decide +kernel
theorem dX13_init_3 : decode cX13_init 3 = .ok (.invokespecial 1, 3) := by decide +kernel
theorem dX13_init_6 : decode cX13_init 6 = .ok (.aload_n 0, 1) := by decide +kernel
theorem dX13_init_7 : decode cX13_init 7 = .ok (.iload_n 2, 1) := by decide +kernel
theorem dX13_init_8 : decode cX13_init 8 = .ok (.putfield 7, 3) := by decide +kernel
theorem dX13_init_11 : decode cX13_init 11 = .ok (.return_, 1) := by decide +kernel
abbrev cX13_by : ByteArray := prog_11_method_2_code
def yX13_by : MethodName := ⟨RX13, "by", "(II)I"⟩
theorem dX13_by_0 : decode cX13_by 0 = .ok (.aload_n 0, 1) := by decide +kernel
theorem dX13_by_1 : decode cX13_by 1 = .ok (.getfield 7, 3) := by decide +kernel
theorem dX13_by_4 : decode cX13_by 4 = .ok (.ifCond .eq 9, 3) := by decide +kernel
theorem dX13_by_7 : decode cX13_by 7 = .ok (.iload_n 1, 1) := by decide +kernel
theorem dX13_by_8 : decode cX13_by 8 = .ok (.iload_n 2, 1) := by decide +kernel
theorem dX13_by_9 : decode cX13_by 9 = .ok (.iadd, 1) := by decide +kernel
theorem dX13_by_10 : decode cX13_by 10 = .ok (.goto 6, 3) := by decide +kernel
theorem dX13_by_13 : decode cX13_by 13 = .ok (.iload_n 1, 1) := by decide +kernel
theorem dX13_by_14 : decode cX13_by 14 = .ok (.iload_n 2, 1) := by decide +kernel
theorem dX13_by_15 : decode cX13_by 15 = .ok (.isub, 1) := by decide +kernel
theorem dX13_by_16 : decode cX13_by 16 = .ok (.ireturn, 1) := by decide +kernel
theorem q111 : (Jvm.Cond.initialized "TourRooms$Sum") ∈ lw_all := lw_g (lw_at lw_m1 26 rfl) rfl
theorem q887 : (Jvm.Cond.instantiable "TourRooms$Sum" (3 : Nat)) ∈ lw_all := lw_g (lw_at lw_m4 82 rfl) rfl
theorem q889 : (Jvm.Cond.instanceMethod ({ cls := "TourRooms$Sum", name := "<init>", desc := "(LTourRooms$Exp;ZLTourRooms$Exp;)V" } : Jvm.MethodName)) ∈ lw_all := lw_g (lw_at lw_m4 84 rfl) rfl
theorem q890 : (Jvm.Cond.code ({ cls := "TourRooms$Sum", name := "<init>", desc := "(LTourRooms$Exp;ZLTourRooms$Exp;)V" } : Jvm.MethodName) prog_11_method_1_code (4 : Nat) (Option.none : Option Jvm.ClassFile.FieldType)) ∈ lw_all := lw_g (lw_at lw_m4 85 rfl) rfl
theorem q891 : (Jvm.Cond.methodLink "TourRooms$Sum" (1 : Nat) ({ cls := "TourRooms$Two", name := "<init>", desc := "(LTourRooms$Exp;LTourRooms$Exp;)V" } : Jvm.MethodName)) ∈ lw_all := lw_g (lw_at lw_m4 86 rfl) rfl
theorem q895 : (Jvm.Cond.fieldLink "TourRooms$Sum" (7 : Nat) "TourRooms$Sum" "isMore" "Z") ∈ lw_all := lw_g (lw_at lw_m4 90 rfl) rfl
theorem q898 : (Jvm.Cond.laysFinal "TourRooms$Sum" "TourRooms$Sum" "isMore" "Z") ∈ lw_all := lw_g (lw_at lw_m4 93 rfl) rfl
theorem q899 : (Jvm.Cond.soleField "TourRooms$Sum" "isMore") ∈ lw_all := lw_g (lw_at lw_m4 94 rfl) rfl
theorem q900 : (Jvm.Cond.laysFinal "TourRooms$Sum" "TourRooms$Two" "a" "LTourRooms$Exp;") ∈ lw_all := lw_g (lw_at lw_m4 95 rfl) rfl
theorem q902 : (Jvm.Cond.laysFinal "TourRooms$Sum" "TourRooms$Two" "b" "LTourRooms$Exp;") ∈ lw_all := lw_g (lw_at lw_m4 97 rfl) rfl
theorem q904 : (Jvm.Cond.superclass "TourRooms$Sum" "TourRooms$Two") ∈ lw_all := lw_g (lw_at lw_m4 99 rfl) rfl
theorem q986 : (Jvm.Cond.selects "TourRooms$Sum" ({ cls := "java/lang/Object", name := "getClass", desc := "()Ljava/lang/Class;" } : Jvm.MethodName) ({ cls := "java/lang/Object", name := "getClass", desc := "()Ljava/lang/Class;" } : Jvm.MethodName)) ∈ lw_all := lw_g (lw_at lw_m4 181 rfl) rfl
theorem q1060 : (Jvm.Cond.selects "TourRooms$Sum" ({ cls := "TourRooms$Two", name := "by", desc := "(II)I" } : Jvm.MethodName) ({ cls := "TourRooms$Sum", name := "by", desc := "(II)I" } : Jvm.MethodName)) ∈ lw_all := lw_g (lw_at lw_m5 15 rfl) rfl
theorem q1061 : (Jvm.Cond.instanceMethod ({ cls := "TourRooms$Sum", name := "by", desc := "(II)I" } : Jvm.MethodName)) ∈ lw_all := lw_g (lw_at lw_m5 16 rfl) rfl
theorem q1062 : (Jvm.Cond.code ({ cls := "TourRooms$Sum", name := "by", desc := "(II)I" } : Jvm.MethodName) prog_11_method_2_code (3 : Nat) (Option.some Jvm.ClassFile.FieldType.int)) ∈ lw_all := lw_g (lw_at lw_m5 17 rfl) rfl
theorem q1067 : (Jvm.Cond.selects "TourRooms$Sum" ({ cls := "TourRooms$Exp", name := "of", desc := "(LTourRooms$State;)I" } : Jvm.MethodName) ({ cls := "TourRooms$Two", name := "of", desc := "(LTourRooms$State;)I" } : Jvm.MethodName)) ∈ lw_all := lw_g (lw_at lw_m5 22 rfl) rfl
theorem q1821 : (Jvm.Cond.castable "TourRooms$Sum" "java/lang/Object") ∈ lw_tbl := lw_at lw_m8 56 rfl
theorem in_X13 : ∀ w ∈ wsX130, w ∈ lw_all := lw_in wsX130 [900, 902, 898] (by decide +kernel) (by decide +kernel)
/-! TourRooms$Test -/
set_option maxRecDepth 100000
def RX14 : String := "TourRooms$Test"
def TX14 : u_T := fun k => match k with
  | 0 => ("TourRooms$Two", "a", "LTourRooms$Exp;", true)
  | 1 => ("TourRooms$Two", "b", "LTourRooms$Exp;", true)
  | _ => ("TourRooms$Test", "isLess", "Z", true)
def tyX14 : Nat → FieldType := fun k => match k with
  | 0 => .object "TourRooms$Exp"
  | 1 => .object "TourRooms$Exp"
  | _ => .boolean
abbrev wsX140 : List Cond := u_ws RX14 TX14 3
theorem nmX14 : ∀ a, a < 3 → ∀ b, b < 3 → a ≠ b → (TX14 a).2.1 ≠ (TX14 b).2.1 := by decide +kernel
theorem tyX14_ok : ∀ k, k < 3 → parseFieldDescriptor (TX14 k).2.2.1 = some (tyX14 k) := by decide +kernel
abbrev cX14_init : ByteArray := prog_12_method_1_code
def yX14_init : MethodName := ⟨RX14, "<init>", "(LTourRooms$Exp;ZLTourRooms$Exp;)V"⟩
theorem dX14_init_0 : decode cX14_init 0 = .ok (.aload_n 0, 1) := by decide +kernel
theorem dX14_init_1 : decode cX14_init 1 = .ok (.aload_n 1, 1) := by decide +kernel
theorem dX14_init_2 : decode cX14_init 2 = .ok (.aload_n 3, 1) := by decide +kernel
theorem dX14_init_3 : decode cX14_init 3 = .ok (.invokespecial 1, 3) := by decide +kernel
theorem dX14_init_6 : decode cX14_init 6 = .ok (.aload_n 0, 1) := by decide +kernel
theorem dX14_init_7 : decode cX14_init 7 = .ok (.iload_n 2, 1) := by decide +kernel
theorem dX14_init_8 : decode cX14_init 8 = .ok (.putfield 7, 3) := by decide +kernel
theorem dX14_init_11 : decode cX14_init 11 = .ok (.return_, 1) := by decide +kernel
abbrev cX14_by : ByteArray := prog_12_method_2_code
def yX14_by : MethodName := ⟨RX14, "by", "(II)I"⟩
theorem dX14_by_0 : decode cX14_by 0 = .ok (.aload_n 0, 1) := by decide +kernel
theorem dX14_by_1 : decode cX14_by 1 = .ok (.getfield 7, 3) := by decide +kernel
theorem dX14_by_4 : decode cX14_by 4 = .ok (.ifCond .eq 11, 3) := by decide +kernel
theorem dX14_by_7 : decode cX14_by 7 = .ok (.iload_n 1, 1) := by decide +kernel
theorem dX14_by_8 : decode cX14_by 8 = .ok (.iload_n 2, 1) := by decide +kernel
theorem dX14_by_9 : decode cX14_by 9 = .ok (.if_icmp .ge 15, 3) := by decide +kernel
theorem dX14_by_12 : decode cX14_by 12 = .ok (.goto 8, 3) := by decide +kernel
theorem dX14_by_15 : decode cX14_by 15 = .ok (.iload_n 1, 1) := by decide +kernel
theorem dX14_by_16 : decode cX14_by 16 = .ok (.iload_n 2, 1) := by decide +kernel
theorem dX14_by_17 : decode cX14_by 17 = .ok (.if_icmp .ne 7, 3) := by decide +kernel
theorem dX14_by_20 : decode cX14_by 20 = .ok (.iconst 1, 1) := by decide +kernel
theorem dX14_by_21 : decode cX14_by 21 = .ok (.goto 4, 3) := by decide +kernel
theorem dX14_by_24 : decode cX14_by 24 = .ok (.iconst 0, 1) := by decide +kernel
theorem dX14_by_25 : decode cX14_by 25 = .ok (.ireturn, 1) := by decide +kernel
theorem q112 : (Jvm.Cond.initialized "TourRooms$Test") ∈ lw_all := lw_g (lw_at lw_m1 27 rfl) rfl
theorem q906 : (Jvm.Cond.instantiable "TourRooms$Test" (3 : Nat)) ∈ lw_all := lw_g (lw_at lw_m4 101 rfl) rfl
theorem q908 : (Jvm.Cond.instanceMethod ({ cls := "TourRooms$Test", name := "<init>", desc := "(LTourRooms$Exp;ZLTourRooms$Exp;)V" } : Jvm.MethodName)) ∈ lw_all := lw_g (lw_at lw_m4 103 rfl) rfl
theorem q909 : (Jvm.Cond.code ({ cls := "TourRooms$Test", name := "<init>", desc := "(LTourRooms$Exp;ZLTourRooms$Exp;)V" } : Jvm.MethodName) prog_12_method_1_code (4 : Nat) (Option.none : Option Jvm.ClassFile.FieldType)) ∈ lw_all := lw_g (lw_at lw_m4 104 rfl) rfl
theorem q910 : (Jvm.Cond.methodLink "TourRooms$Test" (1 : Nat) ({ cls := "TourRooms$Two", name := "<init>", desc := "(LTourRooms$Exp;LTourRooms$Exp;)V" } : Jvm.MethodName)) ∈ lw_all := lw_g (lw_at lw_m4 105 rfl) rfl
theorem q911 : (Jvm.Cond.fieldLink "TourRooms$Test" (7 : Nat) "TourRooms$Test" "isLess" "Z") ∈ lw_all := lw_g (lw_at lw_m4 106 rfl) rfl
theorem q912 : (Jvm.Cond.laysFinal "TourRooms$Test" "TourRooms$Test" "isLess" "Z") ∈ lw_all := lw_g (lw_at lw_m4 107 rfl) rfl
theorem q913 : (Jvm.Cond.soleField "TourRooms$Test" "isLess") ∈ lw_all := lw_g (lw_at lw_m4 108 rfl) rfl
theorem q914 : (Jvm.Cond.laysFinal "TourRooms$Test" "TourRooms$Two" "a" "LTourRooms$Exp;") ∈ lw_all := lw_g (lw_at lw_m4 109 rfl) rfl
theorem q915 : (Jvm.Cond.laysFinal "TourRooms$Test" "TourRooms$Two" "b" "LTourRooms$Exp;") ∈ lw_all := lw_g (lw_at lw_m4 110 rfl) rfl
theorem q916 : (Jvm.Cond.superclass "TourRooms$Test" "TourRooms$Two") ∈ lw_all := lw_g (lw_at lw_m4 111 rfl) rfl
theorem q987 : (Jvm.Cond.selects "TourRooms$Test" ({ cls := "java/lang/Object", name := "getClass", desc := "()Ljava/lang/Class;" } : Jvm.MethodName) ({ cls := "java/lang/Object", name := "getClass", desc := "()Ljava/lang/Class;" } : Jvm.MethodName)) ∈ lw_all := lw_g (lw_at lw_m4 182 rfl) rfl
theorem q1063 : (Jvm.Cond.selects "TourRooms$Test" ({ cls := "TourRooms$Two", name := "by", desc := "(II)I" } : Jvm.MethodName) ({ cls := "TourRooms$Test", name := "by", desc := "(II)I" } : Jvm.MethodName)) ∈ lw_all := lw_g (lw_at lw_m5 18 rfl) rfl
theorem q1064 : (Jvm.Cond.instanceMethod ({ cls := "TourRooms$Test", name := "by", desc := "(II)I" } : Jvm.MethodName)) ∈ lw_all := lw_g (lw_at lw_m5 19 rfl) rfl
theorem q1065 : (Jvm.Cond.code ({ cls := "TourRooms$Test", name := "by", desc := "(II)I" } : Jvm.MethodName) prog_12_method_2_code (3 : Nat) (Option.some Jvm.ClassFile.FieldType.int)) ∈ lw_all := lw_g (lw_at lw_m5 20 rfl) rfl
theorem q1068 : (Jvm.Cond.selects "TourRooms$Test" ({ cls := "TourRooms$Exp", name := "of", desc := "(LTourRooms$State;)I" } : Jvm.MethodName) ({ cls := "TourRooms$Two", name := "of", desc := "(LTourRooms$State;)I" } : Jvm.MethodName)) ∈ lw_all := lw_g (lw_at lw_m5 23 rfl) rfl
theorem q1822 : (Jvm.Cond.castable "TourRooms$Test" "java/lang/Object") ∈ lw_tbl := lw_at lw_m8 57 rfl
theorem in_X14 : ∀ w ∈ wsX140, w ∈ lw_all := lw_in wsX140 [914, 915, 912] (by decide +kernel) (by decide +kernel)
/-! TourRooms$Both -/
set_option maxRecDepth 100000
def RX15 : String := "TourRooms$Both"
def TX15 : u_T := fun k => match k with
  | 0 => ("TourRooms$Two", "a", "LTourRooms$Exp;", true)
  | _ => ("TourRooms$Two", "b", "LTourRooms$Exp;", true)
def tyX15 : Nat → FieldType := fun k => match k with
  | 0 => .object "TourRooms$Exp"
  | _ => .object "TourRooms$Exp"
abbrev wsX150 : List Cond := u_ws RX15 TX15 2
theorem nmX15 : ∀ a, a < 2 → ∀ b, b < 2 → a ≠ b → (TX15 a).2.1 ≠ (TX15 b).2.1 := by decide +kernel
theorem tyX15_ok : ∀ k, k < 2 → parseFieldDescriptor (TX15 k).2.2.1 = some (tyX15 k) := by decide +kernel
abbrev cX15_init : ByteArray := prog_3_method_1_code
def yX15_init : MethodName := ⟨RX15, "<init>", "(LTourRooms$Exp;LTourRooms$Exp;)V"⟩
theorem dX15_init_0 : decode cX15_init 0 = .ok (.aload_n 0, 1) := by decide +kernel
theorem dX15_init_1 : decode cX15_init 1 = .ok (.aload_n 1, 1) := by decide +kernel
theorem dX15_init_2 : decode cX15_init 2 = .ok (.aload_n 2, 1) := by decide +kernel
theorem dX15_init_3 : decode cX15_init 3 = .ok (.invokespecial 1, 3) := by decide +kernel
theorem dX15_init_6 : decode cX15_init 6 = .ok (.return_, 1) := by decide +kernel
abbrev cX15_by : ByteArray := prog_3_method_2_code
def yX15_by : MethodName := ⟨RX15, "by", "(II)I"⟩
theorem dX15_by_0 : decode cX15_by 0 = .ok (.iload_n 1, 1) := by decide +kernel
theorem dX15_by_1 : decode cX15_by 1 = .ok (.ifCond .eq 11, 3) := by decide +kernel
theorem dX15_by_4 : decode cX15_by 4 = .ok (.iload_n 2, 1) := by decide +kernel
theorem dX15_by_5 : decode cX15_by 5 = .ok (.ifCond .eq 7, 3) := by decide +kernel
theorem dX15_by_8 : decode cX15_by 8 = .ok (.iconst 1, 1) := by decide +kernel
theorem dX15_by_9 : decode cX15_by 9 = .ok (.goto 4, 3) := by decide +kernel
theorem dX15_by_12 : decode cX15_by 12 = .ok (.iconst 0, 1) := by decide +kernel
theorem dX15_by_13 : decode cX15_by 13 = .ok (.ireturn, 1) := by decide +kernel
theorem q113 : (Jvm.Cond.initialized "TourRooms$Both") ∈ lw_all := lw_g (lw_at lw_m1 28 rfl) rfl
theorem q919 : (Jvm.Cond.instantiable "TourRooms$Both" (2 : Nat)) ∈ lw_all := lw_g (lw_at lw_m4 114 rfl) rfl
theorem q921 : (Jvm.Cond.instanceMethod ({ cls := "TourRooms$Both", name := "<init>", desc := "(LTourRooms$Exp;LTourRooms$Exp;)V" } : Jvm.MethodName)) ∈ lw_all := lw_g (lw_at lw_m4 116 rfl) rfl
theorem q922 : (Jvm.Cond.code ({ cls := "TourRooms$Both", name := "<init>", desc := "(LTourRooms$Exp;LTourRooms$Exp;)V" } : Jvm.MethodName) prog_3_method_1_code (3 : Nat) (Option.none : Option Jvm.ClassFile.FieldType)) ∈ lw_all := lw_g (lw_at lw_m4 117 rfl) rfl
theorem q923 : (Jvm.Cond.methodLink "TourRooms$Both" (1 : Nat) ({ cls := "TourRooms$Two", name := "<init>", desc := "(LTourRooms$Exp;LTourRooms$Exp;)V" } : Jvm.MethodName)) ∈ lw_all := lw_g (lw_at lw_m4 118 rfl) rfl
theorem q924 : (Jvm.Cond.laysFinal "TourRooms$Both" "TourRooms$Two" "a" "LTourRooms$Exp;") ∈ lw_all := lw_g (lw_at lw_m4 119 rfl) rfl
theorem q925 : (Jvm.Cond.laysFinal "TourRooms$Both" "TourRooms$Two" "b" "LTourRooms$Exp;") ∈ lw_all := lw_g (lw_at lw_m4 120 rfl) rfl
theorem q926 : (Jvm.Cond.superclass "TourRooms$Both" "TourRooms$Two") ∈ lw_all := lw_g (lw_at lw_m4 121 rfl) rfl
theorem q979 : (Jvm.Cond.selects "TourRooms$Both" ({ cls := "java/lang/Object", name := "getClass", desc := "()Ljava/lang/Class;" } : Jvm.MethodName) ({ cls := "java/lang/Object", name := "getClass", desc := "()Ljava/lang/Class;" } : Jvm.MethodName)) ∈ lw_all := lw_g (lw_at lw_m4 174 rfl) rfl
theorem q1048 : (Jvm.Cond.selects "TourRooms$Both" ({ cls := "TourRooms$Exp", name := "of", desc := "(LTourRooms$State;)I" } : Jvm.MethodName) ({ cls := "TourRooms$Two", name := "of", desc := "(LTourRooms$State;)I" } : Jvm.MethodName)) ∈ lw_all := lw_g (lw_at lw_m5 3 rfl) rfl
theorem q1057 : (Jvm.Cond.selects "TourRooms$Both" ({ cls := "TourRooms$Two", name := "by", desc := "(II)I" } : Jvm.MethodName) ({ cls := "TourRooms$Both", name := "by", desc := "(II)I" } : Jvm.MethodName)) ∈ lw_all := lw_g (lw_at lw_m5 12 rfl) rfl
theorem q1058 : (Jvm.Cond.instanceMethod ({ cls := "TourRooms$Both", name := "by", desc := "(II)I" } : Jvm.MethodName)) ∈ lw_all := lw_g (lw_at lw_m5 13 rfl) rfl
theorem q1059 : (Jvm.Cond.code ({ cls := "TourRooms$Both", name := "by", desc := "(II)I" } : Jvm.MethodName) prog_3_method_2_code (3 : Nat) (Option.some Jvm.ClassFile.FieldType.int)) ∈ lw_all := lw_g (lw_at lw_m5 14 rfl) rfl
theorem q1823 : (Jvm.Cond.castable "TourRooms$Both" "java/lang/Object") ∈ lw_tbl := lw_at lw_m8 58 rfl
theorem in_X15 : ∀ w ∈ wsX150, w ∈ lw_all := lw_in wsX150 [924, 925] (by decide +kernel) (by decide +kernel)
/-! TourRooms$Rule -/
set_option maxRecDepth 100000
def RX16 : String := "TourRooms$Rule"
def TX16 : u_T := fun k => match k with
  | 0 => ("TourRooms$Rule", "kind", "I", true)
  | 1 => ("TourRooms$Rule", "tells", "LTourRooms$Exp;", true)
  | _ => ("TourRooms$Rule", "when", "LTourRooms$Exp;", true)
def tyX16 : Nat → FieldType := fun k => match k with
  | 0 => .int
  | 1 => .object "TourRooms$Exp"
  | _ => .object "TourRooms$Exp"
abbrev wsX160 : List Cond := u_ws RX16 TX16 3
theorem nmX16 : ∀ a, a < 3 → ∀ b, b < 3 → a ≠ b → (TX16 a).2.1 ≠ (TX16 b).2.1 := by decide +kernel
theorem tyX16_ok : ∀ k, k < 3 → parseFieldDescriptor (TX16 k).2.2.1 = some (tyX16 k) := by decide +kernel
abbrev cX16_init : ByteArray := prog_9_method_1_code
def yX16_init : MethodName := ⟨RX16, "<init>", "(ILTourRooms$Exp;LTourRooms$Exp;)V"⟩
theorem dX16_init_0 : decode cX16_init 0 = .ok (.aload_n 0, 1) := by decide +kernel
theorem dX16_init_1 : decode cX16_init 1 = .ok (.invokespecial 1, 3) := by decide +kernel
theorem dX16_init_4 : decode cX16_init 4 = .ok (.aload_n 0, 1) := by decide +kernel
theorem dX16_init_5 : decode cX16_init 5 = .ok (.iload_n 1, 1) := by decide +kernel
theorem dX16_init_6 : decode cX16_init 6 = .ok (.putfield 7, 3) := by decide +kernel
theorem dX16_init_9 : decode cX16_init 9 = .ok (.aload_n 0, 1) := by decide +kernel
theorem dX16_init_10 : decode cX16_init 10 = .ok (.aload_n 2, 1) := by decide +kernel
theorem dX16_init_11 : decode cX16_init 11 = .ok (.putfield 13, 3) := by decide +kernel
theorem dX16_init_14 : decode cX16_init 14 = .ok (.aload_n 0, 1) := by decide +kernel
theorem dX16_init_15 : decode cX16_init 15 = .ok (.aload_n 3, 1) := by decide +kernel
theorem dX16_init_16 : decode cX16_init 16 = .ok (.putfield 17, 3) := by decide +kernel
theorem dX16_init_19 : decode cX16_init 19 = .ok (.return_, 1) := by decide +kernel
theorem q114 : (Jvm.Cond.initialized "TourRooms$Rule") ∈ lw_all := lw_g (lw_at lw_m1 29 rfl) rfl
theorem q929 : (Jvm.Cond.instantiable "TourRooms$Rule" (3 : Nat)) ∈ lw_all := lw_g (lw_at lw_m4 124 rfl) rfl
theorem q931 : (Jvm.Cond.instanceMethod ({ cls := "TourRooms$Rule", name := "<init>", desc := "(ILTourRooms$Exp;LTourRooms$Exp;)V" } : Jvm.MethodName)) ∈ lw_all := lw_g (lw_at lw_m4 126 rfl) rfl
theorem q932 : (Jvm.Cond.code ({ cls := "TourRooms$Rule", name := "<init>", desc := "(ILTourRooms$Exp;LTourRooms$Exp;)V" } : Jvm.MethodName) prog_9_method_1_code (4 : Nat) (Option.none : Option Jvm.ClassFile.FieldType)) ∈ lw_all := lw_g (lw_at lw_m4 127 rfl) rfl
theorem q933 : (Jvm.Cond.methodLink "TourRooms$Rule" (1 : Nat) ({ cls := "java/lang/Object", name := "<init>", desc := "()V" } : Jvm.MethodName)) ∈ lw_all := lw_g (lw_at lw_m4 128 rfl) rfl
theorem q934 : (Jvm.Cond.fieldLink "TourRooms$Rule" (7 : Nat) "TourRooms$Rule" "kind" "I") ∈ lw_all := lw_g (lw_at lw_m4 129 rfl) rfl
theorem q936 : (Jvm.Cond.fieldLink "TourRooms$Rule" (13 : Nat) "TourRooms$Rule" "tells" "LTourRooms$Exp;") ∈ lw_all := lw_g (lw_at lw_m4 131 rfl) rfl
theorem q938 : (Jvm.Cond.fieldLink "TourRooms$Rule" (17 : Nat) "TourRooms$Rule" "when" "LTourRooms$Exp;") ∈ lw_all := lw_g (lw_at lw_m4 133 rfl) rfl
theorem q940 : (Jvm.Cond.laysFinal "TourRooms$Rule" "TourRooms$Rule" "kind" "I") ∈ lw_all := lw_g (lw_at lw_m4 135 rfl) rfl
theorem q941 : (Jvm.Cond.soleField "TourRooms$Rule" "kind") ∈ lw_all := lw_g (lw_at lw_m4 136 rfl) rfl
theorem q942 : (Jvm.Cond.laysFinal "TourRooms$Rule" "TourRooms$Rule" "tells" "LTourRooms$Exp;") ∈ lw_all := lw_g (lw_at lw_m4 137 rfl) rfl
theorem q943 : (Jvm.Cond.soleField "TourRooms$Rule" "tells") ∈ lw_all := lw_g (lw_at lw_m4 138 rfl) rfl
theorem q944 : (Jvm.Cond.laysFinal "TourRooms$Rule" "TourRooms$Rule" "when" "LTourRooms$Exp;") ∈ lw_all := lw_g (lw_at lw_m4 139 rfl) rfl
theorem q945 : (Jvm.Cond.soleField "TourRooms$Rule" "when") ∈ lw_all := lw_g (lw_at lw_m4 140 rfl) rfl
theorem q946 : (Jvm.Cond.superclass "TourRooms$Rule" "java/lang/Object") ∈ lw_all := lw_g (lw_at lw_m4 141 rfl) rfl
theorem q984 : (Jvm.Cond.selects "TourRooms$Rule" ({ cls := "java/lang/Object", name := "getClass", desc := "()Ljava/lang/Class;" } : Jvm.MethodName) ({ cls := "java/lang/Object", name := "getClass", desc := "()Ljava/lang/Class;" } : Jvm.MethodName)) ∈ lw_all := lw_g (lw_at lw_m4 179 rfl) rfl
theorem q1824 : (Jvm.Cond.castable "TourRooms$Rule" "java/lang/Object") ∈ lw_tbl := lw_at lw_m8 59 rfl
theorem in_X16 : ∀ w ∈ wsX160, w ∈ lw_all := lw_in wsX160 [940, 942, 944] (by decide +kernel) (by decide +kernel)
