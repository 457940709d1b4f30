/-! java/util/AbstractCollection -/
set_option maxRecDepth 100000
def RJ0 : String := "java/util/AbstractCollection"
abbrev cJ0_init : ByteArray := prog_54_method_1_code
def yJ0_init : MethodName := ⟨RJ0, "<init>", "()V"⟩
theorem dJ0_init_0 : decode cJ0_init 0 = .ok (.aload_n 0, 1) := by decide +kernel
theorem dJ0_init_1 : decode cJ0_init 1 = .ok (.invokespecial 1, 3) := by decide +kernel
theorem dJ0_init_4 : decode cJ0_init 4 = .ok (.return_, 1) := by decide +kernel
abbrev cJ0_isEmpty : ByteArray := prog_54_method_4_code
def yJ0_isEmpty : MethodName := ⟨RJ0, "isEmpty", "()Z"⟩
def dkwJ0_isEmpty_0 : List UInt8 := [42, 182, 0, 7, 154, 0, 7, 4, 167, 0, 4, 3, 172]
abbrev dktJ0_isEmpty_0 : List UInt8 := dkwJ0_isEmpty_0 ++ []
theorem dksJ0_isEmpty_0 : cJ0_isEmpty.data.toList.drop 0 = dktJ0_isEmpty_0 := by decide +kernel
theorem dJ0_isEmpty_0 : decode cJ0_isEmpty 0 = .ok (.aload_n 0, 1) := dk_42 (dk_at dksJ0_isEmpty_0 0 rfl rfl)
theorem dJ0_isEmpty_1 : decode cJ0_isEmpty 1 = .ok (.invokevirtual 7, 3) := dk_182 0 7 (dk_at dksJ0_isEmpty_0 1 rfl rfl)
theorem dJ0_isEmpty_4 : decode cJ0_isEmpty 4 = .ok (.ifCond .ne 7, 3) := dk_154 0 7 (dk_at dksJ0_isEmpty_0 4 rfl rfl)
theorem dJ0_isEmpty_7 : decode cJ0_isEmpty 7 = .ok (.iconst 1, 1) := dk_4 (dk_at dksJ0_isEmpty_0 7 rfl rfl)
theorem dJ0_isEmpty_8 : decode cJ0_isEmpty 8 = .ok (.goto 4, 3) := dk_167 0 4 (dk_at dksJ0_isEmpty_0 8 rfl rfl)
theorem dJ0_isEmpty_11 : decode cJ0_isEmpty 11 = .ok (.iconst 0, 1) := dk_3 (dk_at dksJ0_isEmpty_0 11 rfl rfl)
theorem dJ0_isEmpty_12 : decode cJ0_isEmpty 12 = .ok (.ireturn, 1) := dk_172 (dk_at dksJ0_isEmpty_0 12 rfl rfl)
theorem q104 : (Jvm.Cond.initialized "java/util/AbstractCollection") ∈ lw_all := lw_g (lw_at lw_m1 3 rfl) rfl
theorem q198 : (Jvm.Cond.instanceMethod ({ cls := "java/util/AbstractCollection", name := "<init>", desc := "()V" } : Jvm.MethodName)) ∈ lw_all := lw_g (lw_at lw_m1 97 rfl) rfl
theorem q199 : (Jvm.Cond.code ({ cls := "java/util/AbstractCollection", name := "<init>", desc := "()V" } : Jvm.MethodName) prog_54_method_1_code (1 : Nat) (Option.none : Option Jvm.ClassFile.FieldType)) ∈ lw_all := lw_g (lw_at lw_m1 98 rfl) rfl
theorem q200 : (Jvm.Cond.methodLink "java/util/AbstractCollection" (1 : Nat) ({ cls := "java/lang/Object", name := "<init>", desc := "()V" } : Jvm.MethodName)) ∈ lw_all := lw_g (lw_at lw_m1 99 rfl) rfl
theorem q1296 : (Jvm.Cond.declares ({ cls := "java/util/AbstractCollection", name := "size", desc := "()I" } : Jvm.MethodName)) ∈ lw_tbl := lw_at lw_m5 235 rfl
theorem q2302 : (Jvm.Cond.declares ({ cls := "java/util/AbstractCollection", name := "isEmpty", desc := "()Z" } : Jvm.MethodName)) ∈ lw_tbl := lw_at lw_m10 41 rfl
theorem q2304 : (Jvm.Cond.instanceMethod ({ cls := "java/util/AbstractCollection", name := "isEmpty", desc := "()Z" } : Jvm.MethodName)) ∈ lw_all := lw_g (lw_at lw_m10 43 rfl) rfl
theorem q2305 : (Jvm.Cond.code ({ cls := "java/util/AbstractCollection", name := "isEmpty", desc := "()Z" } : Jvm.MethodName) prog_54_method_4_code (1 : Nat) (Option.some Jvm.ClassFile.FieldType.boolean)) ∈ lw_all := lw_g (lw_at lw_m10 44 rfl) rfl
theorem q2306 : (Jvm.Cond.methodLink "java/util/AbstractCollection" (7 : Nat) ({ cls := "java/util/AbstractCollection", name := "size", desc := "()I" } : Jvm.MethodName)) ∈ lw_all := lw_g (lw_at lw_m10 45 rfl) rfl
theorem q3400 : (Jvm.Cond.sameMethod "java/util/AbstractCollection" "java/util/AbstractCollection" "size" "()I") ∈ lw_all := lw_g (lw_at lw_m14 179 rfl) rfl

/-! java/util/AbstractList -/
set_option maxRecDepth 100000
def RJ1 : String := "java/util/AbstractList"
abbrev cJ1_init : ByteArray := prog_55_method_1_code
def yJ1_init : MethodName := ⟨RJ1, "<init>", "()V"⟩
def dkwJ1_init_0 : List UInt8 := [42, 183, 0, 1, 42, 3, 181, 0, 7, 177]
abbrev dktJ1_init_0 : List UInt8 := dkwJ1_init_0 ++ []
theorem dksJ1_init_0 : cJ1_init.data.toList.drop 0 = dktJ1_init_0 := by decide +kernel
theorem dJ1_init_0 : decode cJ1_init 0 = .ok (.aload_n 0, 1) := dk_42 (dk_at dksJ1_init_0 0 rfl rfl)
theorem dJ1_init_1 : decode cJ1_init 1 = .ok (.invokespecial 1, 3) := dk_183 0 1 (dk_at dksJ1_init_0 1 rfl rfl)
theorem dJ1_init_4 : decode cJ1_init 4 = .ok (.aload_n 0, 1) := dk_42 (dk_at dksJ1_init_0 4 rfl rfl)
theorem dJ1_init_5 : decode cJ1_init 5 = .ok (.iconst 0, 1) := dk_3 (dk_at dksJ1_init_0 5 rfl rfl)
theorem dJ1_init_6 : decode cJ1_init 6 = .ok (.putfield 7, 3) := dk_181 0 7 (dk_at dksJ1_init_0 6 rfl rfl)
theorem dJ1_init_9 : decode cJ1_init 9 = .ok (.return_, 1) := dk_177 (dk_at dksJ1_init_0 9 rfl rfl)
abbrev cJ1_listIterator : ByteArray := prog_55_method_12_code
def yJ1_listIterator : MethodName := ⟨RJ1, "listIterator", "()Ljava/util/ListIterator;"⟩
def dkwJ1_listIterator_0 : List UInt8 := [42, 3, 182, 0, 47, 176]
abbrev dktJ1_listIterator_0 : List UInt8 := dkwJ1_listIterator_0 ++ []
theorem dksJ1_listIterator_0 : cJ1_listIterator.data.toList.drop 0 = dktJ1_listIterator_0 := by decide +kernel
theorem dJ1_listIterator_0 : decode cJ1_listIterator 0 = .ok (.aload_n 0, 1) := dk_42 (dk_at dksJ1_listIterator_0 0 rfl rfl)
theorem dJ1_listIterator_1 : decode cJ1_listIterator 1 = .ok (.iconst 0, 1) := dk_3 (dk_at dksJ1_listIterator_0 1 rfl rfl)
theorem dJ1_listIterator_2 : decode cJ1_listIterator 2 = .ok (.invokevirtual 47, 3) := dk_182 0 47 (dk_at dksJ1_listIterator_0 2 rfl rfl)
theorem dJ1_listIterator_5 : decode cJ1_listIterator 5 = .ok (.areturn, 1) := dk_176 (dk_at dksJ1_listIterator_0 5 rfl rfl)
theorem q105 : (Jvm.Cond.initialized "java/util/AbstractList") ∈ lw_all := lw_g (lw_at lw_m1 4 rfl) rfl
theorem q195 : (Jvm.Cond.instanceMethod ({ cls := "java/util/AbstractList", name := "<init>", desc := "()V" } : Jvm.MethodName)) ∈ lw_all := lw_g (lw_at lw_m1 94 rfl) rfl
theorem q196 : (Jvm.Cond.code ({ cls := "java/util/AbstractList", name := "<init>", desc := "()V" } : Jvm.MethodName) prog_55_method_1_code (1 : Nat) (Option.none : Option Jvm.ClassFile.FieldType)) ∈ lw_all := lw_g (lw_at lw_m1 95 rfl) rfl
theorem q197 : (Jvm.Cond.methodLink "java/util/AbstractList" (1 : Nat) ({ cls := "java/util/AbstractCollection", name := "<init>", desc := "()V" } : Jvm.MethodName)) ∈ lw_all := lw_g (lw_at lw_m1 96 rfl) rfl
theorem q205 : (Jvm.Cond.fieldLink "java/util/AbstractList" (7 : Nat) "java/util/AbstractList" "modCount" "I") ∈ lw_all := lw_g (lw_at lw_m1 104 rfl) rfl
theorem q220 : (Jvm.Cond.soleField "java/util/AbstractList" "modCount") ∈ lw_all := lw_g (lw_at lw_m1 119 rfl) rfl
theorem q1295 : (Jvm.Cond.sameMethod "java/util/AbstractList" "java/util/AbstractCollection" "size" "()I") ∈ lw_all := lw_g (lw_at lw_m5 234 rfl) rfl
theorem q1393 : (Jvm.Cond.declares ({ cls := "java/util/AbstractList", name := "get", desc := "(I)Ljava/lang/Object;" } : Jvm.MethodName)) ∈ lw_tbl := lw_at lw_m6 92 rfl
theorem q1394 : (Jvm.Cond.sameMethod "java/util/AbstractList" "java/util/AbstractList" "get" "(I)Ljava/lang/Object;") ∈ lw_all := lw_g (lw_at lw_m6 93 rfl) rfl
theorem q1883 : (Jvm.Cond.declares ({ cls := "java/util/AbstractList", name := "listIterator", desc := "()Ljava/util/ListIterator;" } : Jvm.MethodName)) ∈ lw_tbl := lw_at lw_m8 102 rfl
theorem q1885 : (Jvm.Cond.instanceMethod ({ cls := "java/util/AbstractList", name := "listIterator", desc := "()Ljava/util/ListIterator;" } : Jvm.MethodName)) ∈ lw_all := lw_g (lw_at lw_m8 104 rfl) rfl
theorem q1886 : (Jvm.Cond.code ({ cls := "java/util/AbstractList", name := "listIterator", desc := "()Ljava/util/ListIterator;" } : Jvm.MethodName) prog_55_method_12_code (1 : Nat) (Option.some (Jvm.ClassFile.FieldType.object "java/util/ListIterator"))) ∈ lw_all := lw_g (lw_at lw_m8 105 rfl) rfl
theorem q1887 : (Jvm.Cond.methodLink "java/util/AbstractList" (47 : Nat) ({ cls := "java/util/AbstractList", name := "listIterator", desc := "(I)Ljava/util/ListIterator;" } : Jvm.MethodName)) ∈ lw_all := lw_g (lw_at lw_m8 106 rfl) rfl
theorem q1888 : (Jvm.Cond.instanceMethod ({ cls := "java/util/AbstractList", name := "listIterator", desc := "(I)Ljava/util/ListIterator;" } : Jvm.MethodName)) ∈ lw_all := lw_g (lw_at lw_m8 107 rfl) rfl
theorem q1889 : (Jvm.Cond.sameMethod "java/util/AbstractList" "java/util/AbstractList" "listIterator" "(I)Ljava/util/ListIterator;") ∈ lw_all := lw_g (lw_at lw_m8 108 rfl) rfl
theorem q1959 : (Jvm.Cond.declares ({ cls := "java/util/AbstractList", name := "listIterator", desc := "(I)Ljava/util/ListIterator;" } : Jvm.MethodName)) ∈ lw_tbl := lw_at lw_m8 178 rfl
theorem q2000 : (Jvm.Cond.instanceMethod ({ cls := "java/util/AbstractList", name := "remove", desc := "(I)Ljava/lang/Object;" } : Jvm.MethodName)) ∈ lw_all := lw_g (lw_at lw_m8 219 rfl) rfl
theorem q2001 : (Jvm.Cond.sameMethod "java/util/AbstractList" "java/util/AbstractList" "remove" "(I)Ljava/lang/Object;") ∈ lw_all := lw_g (lw_at lw_m8 220 rfl) rfl
theorem q2017 : (Jvm.Cond.declares ({ cls := "java/util/AbstractList", name := "remove", desc := "(I)Ljava/lang/Object;" } : Jvm.MethodName)) ∈ lw_tbl := lw_at lw_m8 236 rfl

/-! java/util/AbstractSequentialList -/
set_option maxRecDepth 100000
def RJ2 : String := "java/util/AbstractSequentialList"
abbrev cJ2_init : ByteArray := prog_60_method_1_code
def yJ2_init : MethodName := ⟨RJ2, "<init>", "()V"⟩
theorem dJ2_init_0 : decode cJ2_init 0 = .ok (.aload_n 0, 1) := by decide +kernel
theorem dJ2_init_1 : decode cJ2_init 1 = .ok (.invokespecial 1, 3) := by decide +kernel
theorem dJ2_init_4 : decode cJ2_init 4 = .ok (.return_, 1) := by decide +kernel
abbrev cJ2_iterator : ByteArray := prog_60_method_7_code
def yJ2_iterator : MethodName := ⟨RJ2, "iterator", "()Ljava/util/Iterator;"⟩
theorem dJ2_iterator_0 : decode cJ2_iterator 0 = .ok (.aload_n 0, 1) := by decide +kernel
theorem dJ2_iterator_1 : decode cJ2_iterator 1 = .ok (.invokevirtual 65, 3) := by decide +kernel
theorem dJ2_iterator_4 : decode cJ2_iterator 4 = .ok (.areturn, 1) := by decide +kernel
theorem q106 : (Jvm.Cond.initialized "java/util/AbstractSequentialList") ∈ lw_all := lw_g (lw_at lw_m1 5 rfl) rfl
theorem q192 : (Jvm.Cond.instanceMethod ({ cls := "java/util/AbstractSequentialList", name := "<init>", desc := "()V" } : Jvm.MethodName)) ∈ lw_all := lw_g (lw_at lw_m1 91 rfl) rfl
theorem q193 : (Jvm.Cond.code ({ cls := "java/util/AbstractSequentialList", name := "<init>", desc := "()V" } : Jvm.MethodName) prog_60_method_1_code (1 : Nat) (Option.none : Option Jvm.ClassFile.FieldType)) ∈ lw_all := lw_g (lw_at lw_m1 92 rfl) rfl
theorem q194 : (Jvm.Cond.methodLink "java/util/AbstractSequentialList" (1 : Nat) ({ cls := "java/util/AbstractList", name := "<init>", desc := "()V" } : Jvm.MethodName)) ∈ lw_all := lw_g (lw_at lw_m1 93 rfl) rfl
theorem q1877 : (Jvm.Cond.declares ({ cls := "java/util/AbstractSequentialList", name := "iterator", desc := "()Ljava/util/Iterator;" } : Jvm.MethodName)) ∈ lw_tbl := lw_at lw_m8 96 rfl
theorem q1879 : (Jvm.Cond.instanceMethod ({ cls := "java/util/AbstractSequentialList", name := "iterator", desc := "()Ljava/util/Iterator;" } : Jvm.MethodName)) ∈ lw_all := lw_g (lw_at lw_m8 98 rfl) rfl
theorem q1880 : (Jvm.Cond.code ({ cls := "java/util/AbstractSequentialList", name := "iterator", desc := "()Ljava/util/Iterator;" } : Jvm.MethodName) prog_60_method_7_code (1 : Nat) (Option.some (Jvm.ClassFile.FieldType.object "java/util/Iterator"))) ∈ lw_all := lw_g (lw_at lw_m8 99 rfl) rfl
theorem q1881 : (Jvm.Cond.methodLink "java/util/AbstractSequentialList" (65 : Nat) ({ cls := "java/util/AbstractSequentialList", name := "listIterator", desc := "()Ljava/util/ListIterator;" } : Jvm.MethodName)) ∈ lw_all := lw_g (lw_at lw_m8 100 rfl) rfl
theorem q1882 : (Jvm.Cond.sameMethod "java/util/AbstractSequentialList" "java/util/AbstractList" "listIterator" "()Ljava/util/ListIterator;") ∈ lw_all := lw_g (lw_at lw_m8 101 rfl) rfl

/-! java/util/LinkedList -/
set_option maxRecDepth 100000
def RJ3 : String := "java/util/LinkedList"
def TJ3 : u_T := fun k => match k with
  | 0 => ("java/util/AbstractList", "modCount", "I", false)
  | 1 => ("java/util/LinkedList", "size", "I", false)
  | 2 => ("java/util/LinkedList", "first", "Ljava/util/LinkedList$Node;", false)
  | _ => ("java/util/LinkedList", "last", "Ljava/util/LinkedList$Node;", false)
def tyJ3 : Nat → FieldType := fun k => match k with
  | 0 => .int
  | 1 => .int
  | 2 => .object "java/util/LinkedList$Node"
  | _ => .object "java/util/LinkedList$Node"
abbrev wsJ30 : List Cond := u_ws RJ3 TJ3 4
theorem nmJ3 : ∀ a, a < 4 → ∀ b, b < 4 → a ≠ b → (TJ3 a).2.1 ≠ (TJ3 b).2.1 := by decide +kernel
theorem tyJ3_ok : ∀ k, k < 4 → parseFieldDescriptor (TJ3 k).2.2.1 = some (tyJ3 k) := by decide +kernel
abbrev cJ3_init : ByteArray := prog_73_method_1_code
def yJ3_init : MethodName := ⟨RJ3, "<init>", "()V"⟩
def dkwJ3_init_0 : List UInt8 := [42, 183, 0, 1, 42, 3, 181, 0, 7, 177]
abbrev dktJ3_init_0 : List UInt8 := dkwJ3_init_0 ++ []
theorem dksJ3_init_0 : cJ3_init.data.toList.drop 0 = dktJ3_init_0 := by decide +kernel
theorem dJ3_init_0 : decode cJ3_init 0 = .ok (.aload_n 0, 1) := dk_42 (dk_at dksJ3_init_0 0 rfl rfl)
theorem dJ3_init_1 : decode cJ3_init 1 = .ok (.invokespecial 1, 3) := dk_183 0 1 (dk_at dksJ3_init_0 1 rfl rfl)
theorem dJ3_init_4 : decode cJ3_init 4 = .ok (.aload_n 0, 1) := dk_42 (dk_at dksJ3_init_0 4 rfl rfl)
theorem dJ3_init_5 : decode cJ3_init 5 = .ok (.iconst 0, 1) := dk_3 (dk_at dksJ3_init_0 5 rfl rfl)
theorem dJ3_init_6 : decode cJ3_init 6 = .ok (.putfield 7, 3) := dk_181 0 7 (dk_at dksJ3_init_0 6 rfl rfl)
theorem dJ3_init_9 : decode cJ3_init 9 = .ok (.return_, 1) := dk_177 (dk_at dksJ3_init_0 9 rfl rfl)
abbrev cJ3_size : ByteArray := prog_73_method_16_code
def yJ3_size : MethodName := ⟨RJ3, "size", "()I"⟩
theorem dJ3_size_0 : decode cJ3_size 0 = .ok (.aload_n 0, 1) := by decide +kernel
theorem dJ3_size_1 : decode cJ3_size 1 = .ok (.getfield 7, 3) := by decide +kernel
theorem dJ3_size_4 : decode cJ3_size 4 = .ok (.ireturn, 1) := by decide +kernel
abbrev cJ3_get : ByteArray := prog_73_method_22_code
def yJ3_get : MethodName := ⟨RJ3, "get", "(I)Ljava/lang/Object;"⟩
def dkwJ3_get_0 : List UInt8 := [42, 27, 182, 0, 90, 42, 27, 182, 0, 86, 180, 0, 39, 176]
abbrev dktJ3_get_0 : List UInt8 := dkwJ3_get_0 ++ []
theorem dksJ3_get_0 : cJ3_get.data.toList.drop 0 = dktJ3_get_0 := by decide +kernel
theorem dJ3_get_0 : decode cJ3_get 0 = .ok (.aload_n 0, 1) := dk_42 (dk_at dksJ3_get_0 0 rfl rfl)
theorem dJ3_get_1 : decode cJ3_get 1 = .ok (.iload_n 1, 1) := dk_27 (dk_at dksJ3_get_0 1 rfl rfl)
theorem dJ3_get_2 : decode cJ3_get 2 = .ok (.invokevirtual 90, 3) := dk_182 0 90 (dk_at dksJ3_get_0 2 rfl rfl)
theorem dJ3_get_5 : decode cJ3_get 5 = .ok (.aload_n 0, 1) := dk_42 (dk_at dksJ3_get_0 5 rfl rfl)
theorem dJ3_get_6 : decode cJ3_get 6 = .ok (.iload_n 1, 1) := dk_27 (dk_at dksJ3_get_0 6 rfl rfl)
theorem dJ3_get_7 : decode cJ3_get 7 = .ok (.invokevirtual 86, 3) := dk_182 0 86 (dk_at dksJ3_get_0 7 rfl rfl)
theorem dJ3_get_10 : decode cJ3_get 10 = .ok (.getfield 39, 3) := dk_180 0 39 (dk_at dksJ3_get_0 10 rfl rfl)
theorem dJ3_get_13 : decode cJ3_get 13 = .ok (.areturn, 1) := dk_176 (dk_at dksJ3_get_0 13 rfl rfl)
abbrev cJ3_checkElementIndex : ByteArray := prog_73_method_29_code
def yJ3_checkElementIndex : MethodName := ⟨RJ3, "checkElementIndex", "(I)V"⟩
def dkwJ3_checkElementIndex_0 : List UInt8 := [42, 27, 182, 0, 115, 154, 0, 16, 187, 0, 119, 89, 42, 27, 182, 0, 121, 183, 0, 125, 191, 177]
abbrev dktJ3_checkElementIndex_0 : List UInt8 := dkwJ3_checkElementIndex_0 ++ []
theorem dksJ3_checkElementIndex_0 : cJ3_checkElementIndex.data.toList.drop 0 = dktJ3_checkElementIndex_0 := by decide +kernel
theorem dJ3_checkElementIndex_0 : decode cJ3_checkElementIndex 0 = .ok (.aload_n 0, 1) := dk_42 (dk_at dksJ3_checkElementIndex_0 0 rfl rfl)
theorem dJ3_checkElementIndex_1 : decode cJ3_checkElementIndex 1 = .ok (.iload_n 1, 1) := dk_27 (dk_at dksJ3_checkElementIndex_0 1 rfl rfl)
theorem dJ3_checkElementIndex_2 : decode cJ3_checkElementIndex 2 = .ok (.invokevirtual 115, 3) := dk_182 0 115 (dk_at dksJ3_checkElementIndex_0 2 rfl rfl)
theorem dJ3_checkElementIndex_5 : decode cJ3_checkElementIndex 5 = .ok (.ifCond .ne 16, 3) := dk_154 0 16 (dk_at dksJ3_checkElementIndex_0 5 rfl rfl)
theorem dJ3_checkElementIndex_8 : decode cJ3_checkElementIndex 8 = .ok (.new 119, 3) := dk_187 0 119 (dk_at dksJ3_checkElementIndex_0 8 rfl rfl)
theorem dJ3_checkElementIndex_11 : decode cJ3_checkElementIndex 11 = .ok (.dup, 1) := dk_89 (dk_at dksJ3_checkElementIndex_0 11 rfl rfl)
theorem dJ3_checkElementIndex_12 : decode cJ3_checkElementIndex 12 = .ok (.aload_n 0, 1) := dk_42 (dk_at dksJ3_checkElementIndex_0 12 rfl rfl)
theorem dJ3_checkElementIndex_13 : decode cJ3_checkElementIndex 13 = .ok (.iload_n 1, 1) := dk_27 (dk_at dksJ3_checkElementIndex_0 13 rfl rfl)
theorem dJ3_checkElementIndex_14 : decode cJ3_checkElementIndex 14 = .ok (.invokevirtual 121, 3) := dk_182 0 121 (dk_at dksJ3_checkElementIndex_0 14 rfl rfl)
theorem dJ3_checkElementIndex_17 : decode cJ3_checkElementIndex 17 = .ok (.invokespecial 125, 3) := dk_183 0 125 (dk_at dksJ3_checkElementIndex_0 17 rfl rfl)
theorem dJ3_checkElementIndex_20 : decode cJ3_checkElementIndex 20 = .ok (.athrow, 1) := dk_191 (dk_at dksJ3_checkElementIndex_0 20 rfl rfl)
theorem dJ3_checkElementIndex_21 : decode cJ3_checkElementIndex 21 = .ok (.return_, 1) := dk_177 (dk_at dksJ3_checkElementIndex_0 21 rfl rfl)
abbrev cJ3_isElementIndex : ByteArray := prog_73_method_26_code
def yJ3_isElementIndex : MethodName := ⟨RJ3, "isElementIndex", "(I)Z"⟩
def dkwJ3_isElementIndex_0 : List UInt8 := [27, 155, 0, 15, 27, 42, 180, 0, 7, 162, 0, 7, 4, 167, 0, 4, 3, 172]
abbrev dktJ3_isElementIndex_0 : List UInt8 := dkwJ3_isElementIndex_0 ++ []
theorem dksJ3_isElementIndex_0 : cJ3_isElementIndex.data.toList.drop 0 = dktJ3_isElementIndex_0 := by decide +kernel
theorem dJ3_isElementIndex_0 : decode cJ3_isElementIndex 0 = .ok (.iload_n 1, 1) := dk_27 (dk_at dksJ3_isElementIndex_0 0 rfl rfl)
theorem dJ3_isElementIndex_1 : decode cJ3_isElementIndex 1 = .ok (.ifCond .lt 15, 3) := dk_155 0 15 (dk_at dksJ3_isElementIndex_0 1 rfl rfl)
theorem dJ3_isElementIndex_4 : decode cJ3_isElementIndex 4 = .ok (.iload_n 1, 1) := dk_27 (dk_at dksJ3_isElementIndex_0 4 rfl rfl)
theorem dJ3_isElementIndex_5 : decode cJ3_isElementIndex 5 = .ok (.aload_n 0, 1) := dk_42 (dk_at dksJ3_isElementIndex_0 5 rfl rfl)
theorem dJ3_isElementIndex_6 : decode cJ3_isElementIndex 6 = .ok (.getfield 7, 3) := dk_180 0 7 (dk_at dksJ3_isElementIndex_0 6 rfl rfl)
theorem dJ3_isElementIndex_9 : decode cJ3_isElementIndex 9 = .ok (.if_icmp .ge 7, 3) := dk_162 0 7 (dk_at dksJ3_isElementIndex_0 9 rfl rfl)
theorem dJ3_isElementIndex_12 : decode cJ3_isElementIndex 12 = .ok (.iconst 1, 1) := dk_4 (dk_at dksJ3_isElementIndex_0 12 rfl rfl)
theorem dJ3_isElementIndex_13 : decode cJ3_isElementIndex 13 = .ok (.goto 4, 3) := dk_167 0 4 (dk_at dksJ3_isElementIndex_0 13 rfl rfl)
theorem dJ3_isElementIndex_16 : decode cJ3_isElementIndex 16 = .ok (.iconst 0, 1) := dk_3 (dk_at dksJ3_isElementIndex_0 16 rfl rfl)
theorem dJ3_isElementIndex_17 : decode cJ3_isElementIndex 17 = .ok (.ireturn, 1) := dk_172 (dk_at dksJ3_isElementIndex_0 17 rfl rfl)
abbrev cJ3_node : ByteArray := prog_73_method_31_code
def yJ3_node : MethodName := ⟨RJ3, "node", "(I)Ljava/util/LinkedList$Node;"⟩
def dkwJ3_node_2 : List UInt8 := [29, 27, 164, 0, 14, 44, 180, 0, 30, 77, 132, 3, 255, 167, 255, 243, 44, 176]
abbrev dktJ3_node_2 : List UInt8 := dkwJ3_node_2 ++ []
def dkwJ3_node_1 : List UInt8 := [180, 0, 36, 77, 132, 3, 1, 167, 255, 243, 44, 176, 42, 180, 0, 27, 77, 42, 180, 0, 7, 4, 100, 62]
abbrev dktJ3_node_1 : List UInt8 := dkwJ3_node_1 ++ dktJ3_node_2
def dkwJ3_node_0 : List UInt8 := [27, 42, 180, 0, 7, 4, 122, 162, 0, 28, 42, 180, 0, 18, 77, 3, 62, 29, 27, 162, 0, 14, 44]
abbrev dktJ3_node_0 : List UInt8 := dkwJ3_node_0 ++ dktJ3_node_1
theorem dksJ3_node_0 : cJ3_node.data.toList.drop 0 = dktJ3_node_0 := by decide +kernel
theorem dksJ3_node_1 : cJ3_node.data.toList.drop 23 = dktJ3_node_1 := dk_seg dksJ3_node_0 23 rfl rfl
theorem dksJ3_node_2 : cJ3_node.data.toList.drop 47 = dktJ3_node_2 := dk_seg dksJ3_node_1 24 rfl rfl
theorem dJ3_node_0 : decode cJ3_node 0 = .ok (.iload_n 1, 1) := dk_27 (dk_at dksJ3_node_0 0 rfl rfl)
theorem dJ3_node_1 : decode cJ3_node 1 = .ok (.aload_n 0, 1) := dk_42 (dk_at dksJ3_node_0 1 rfl rfl)
theorem dJ3_node_2 : decode cJ3_node 2 = .ok (.getfield 7, 3) := dk_180 0 7 (dk_at dksJ3_node_0 2 rfl rfl)
theorem dJ3_node_5 : decode cJ3_node 5 = .ok (.iconst 1, 1) := dk_4 (dk_at dksJ3_node_0 5 rfl rfl)
theorem dJ3_node_6 : decode cJ3_node 6 = .ok (.ishr, 1) := dk_122 (dk_at dksJ3_node_0 6 rfl rfl)
theorem dJ3_node_7 : decode cJ3_node 7 = .ok (.if_icmp .ge 28, 3) := dk_162 0 28 (dk_at dksJ3_node_0 7 rfl rfl)
theorem dJ3_node_10 : decode cJ3_node 10 = .ok (.aload_n 0, 1) := dk_42 (dk_at dksJ3_node_0 10 rfl rfl)
theorem dJ3_node_11 : decode cJ3_node 11 = .ok (.getfield 18, 3) := dk_180 0 18 (dk_at dksJ3_node_0 11 rfl rfl)
theorem dJ3_node_14 : decode cJ3_node 14 = .ok (.astore_n 2, 1) := dk_77 (dk_at dksJ3_node_0 14 rfl rfl)
theorem dJ3_node_15 : decode cJ3_node 15 = .ok (.iconst 0, 1) := dk_3 (dk_at dksJ3_node_0 15 rfl rfl)
theorem dJ3_node_16 : decode cJ3_node 16 = .ok (.istore_n 3, 1) := dk_62 (dk_at dksJ3_node_0 16 rfl rfl)
theorem dJ3_node_17 : decode cJ3_node 17 = .ok (.iload_n 3, 1) := dk_29 (dk_at dksJ3_node_0 17 rfl rfl)
theorem dJ3_node_18 : decode cJ3_node 18 = .ok (.iload_n 1, 1) := dk_27 (dk_at dksJ3_node_0 18 rfl rfl)
theorem dJ3_node_19 : decode cJ3_node 19 = .ok (.if_icmp .ge 14, 3) := dk_162 0 14 (dk_at dksJ3_node_0 19 rfl rfl)
theorem dJ3_node_22 : decode cJ3_node 22 = .ok (.aload_n 2, 1) := dk_44 (dk_at dksJ3_node_0 22 rfl rfl)
theorem dJ3_node_23 : decode cJ3_node 23 = .ok (.getfield 36, 3) := dk_180 0 36 (dk_at dksJ3_node_1 0 rfl rfl)
theorem dJ3_node_26 : decode cJ3_node 26 = .ok (.astore_n 2, 1) := dk_77 (dk_at dksJ3_node_1 3 rfl rfl)
theorem dJ3_node_27 : decode cJ3_node 27 = .ok (.iinc 3 1, 3) := dk_132 3 1 (dk_at dksJ3_node_1 4 rfl rfl)
theorem dJ3_node_30 : decode cJ3_node 30 = .ok (.goto (-13), 3) := dk_167 255 243 (dk_at dksJ3_node_1 7 rfl rfl)
theorem dJ3_node_33 : decode cJ3_node 33 = .ok (.aload_n 2, 1) := dk_44 (dk_at dksJ3_node_1 10 rfl rfl)
theorem dJ3_node_34 : decode cJ3_node 34 = .ok (.areturn, 1) := dk_176 (dk_at dksJ3_node_1 11 rfl rfl)
theorem dJ3_node_35 : decode cJ3_node 35 = .ok (.aload_n 0, 1) := dk_42 (dk_at dksJ3_node_1 12 rfl rfl)
theorem dJ3_node_36 : decode cJ3_node 36 = .ok (.getfield 27, 3) := dk_180 0 27 (dk_at dksJ3_node_1 13 rfl rfl)
theorem dJ3_node_39 : decode cJ3_node 39 = .ok (.astore_n 2, 1) := dk_77 (dk_at dksJ3_node_1 16 rfl rfl)
theorem dJ3_node_40 : decode cJ3_node 40 = .ok (.aload_n 0, 1) := dk_42 (dk_at dksJ3_node_1 17 rfl rfl)
theorem dJ3_node_41 : decode cJ3_node 41 = .ok (.getfield 7, 3) := dk_180 0 7 (dk_at dksJ3_node_1 18 rfl rfl)
theorem dJ3_node_44 : decode cJ3_node 44 = .ok (.iconst 1, 1) := dk_4 (dk_at dksJ3_node_1 21 rfl rfl)
theorem dJ3_node_45 : decode cJ3_node 45 = .ok (.isub, 1) := dk_100 (dk_at dksJ3_node_1 22 rfl rfl)
theorem dJ3_node_46 : decode cJ3_node 46 = .ok (.istore_n 3, 1) := dk_62 (dk_at dksJ3_node_1 23 rfl rfl)
theorem dJ3_node_47 : decode cJ3_node 47 = .ok (.iload_n 3, 1) := dk_29 (dk_at dksJ3_node_2 0 rfl rfl)
theorem dJ3_node_48 : decode cJ3_node 48 = .ok (.iload_n 1, 1) := dk_27 (dk_at dksJ3_node_2 1 rfl rfl)
theorem dJ3_node_49 : decode cJ3_node 49 = .ok (.if_icmp .le 14, 3) := dk_164 0 14 (dk_at dksJ3_node_2 2 rfl rfl)
theorem dJ3_node_52 : decode cJ3_node 52 = .ok (.aload_n 2, 1) := dk_44 (dk_at dksJ3_node_2 5 rfl rfl)
theorem dJ3_node_53 : decode cJ3_node 53 = .ok (.getfield 30, 3) := dk_180 0 30 (dk_at dksJ3_node_2 6 rfl rfl)
theorem dJ3_node_56 : decode cJ3_node 56 = .ok (.astore_n 2, 1) := dk_77 (dk_at dksJ3_node_2 9 rfl rfl)
theorem dJ3_node_57 : decode cJ3_node 57 = .ok (.iinc 3 (-1), 3) := dk_132 3 255 (dk_at dksJ3_node_2 10 rfl rfl)
theorem dJ3_node_60 : decode cJ3_node 60 = .ok (.goto (-13), 3) := dk_167 255 243 (dk_at dksJ3_node_2 13 rfl rfl)
theorem dJ3_node_63 : decode cJ3_node 63 = .ok (.aload_n 2, 1) := dk_44 (dk_at dksJ3_node_2 16 rfl rfl)
theorem dJ3_node_64 : decode cJ3_node 64 = .ok (.areturn, 1) := dk_176 (dk_at dksJ3_node_2 17 rfl rfl)
abbrev cJ3_addLast : ByteArray := prog_73_method_14_code
def yJ3_addLast : MethodName := ⟨RJ3, "addLast", "(Ljava/lang/Object;)V"⟩
def dkwJ3_addLast_0 : List UInt8 := [42, 43, 182, 0, 57, 177]
abbrev dktJ3_addLast_0 : List UInt8 := dkwJ3_addLast_0 ++ []
theorem dksJ3_addLast_0 : cJ3_addLast.data.toList.drop 0 = dktJ3_addLast_0 := by decide +kernel
theorem dJ3_addLast_0 : decode cJ3_addLast 0 = .ok (.aload_n 0, 1) := dk_42 (dk_at dksJ3_addLast_0 0 rfl rfl)
theorem dJ3_addLast_1 : decode cJ3_addLast 1 = .ok (.aload_n 1, 1) := dk_43 (dk_at dksJ3_addLast_0 1 rfl rfl)
theorem dJ3_addLast_2 : decode cJ3_addLast 2 = .ok (.invokevirtual 57, 3) := dk_182 0 57 (dk_at dksJ3_addLast_0 2 rfl rfl)
theorem dJ3_addLast_5 : decode cJ3_addLast 5 = .ok (.return_, 1) := dk_177 (dk_at dksJ3_addLast_0 5 rfl rfl)
abbrev cJ3_linkLast : ByteArray := prog_73_method_4_code
def yJ3_linkLast : MethodName := ⟨RJ3, "linkLast", "(Ljava/lang/Object;)V"⟩
def dkwJ3_linkLast_2 : List UInt8 := [181, 0, 7, 42, 89, 180, 0, 33, 4, 96, 181, 0, 33, 177]
abbrev dktJ3_linkLast_2 : List UInt8 := dkwJ3_linkLast_2 ++ []
def dkwJ3_linkLast_1 : List UInt8 := [199, 0, 11, 42, 45, 181, 0, 18, 167, 0, 8, 44, 45, 181, 0, 36, 42, 89, 180, 0, 7, 4, 96]
abbrev dktJ3_linkLast_1 : List UInt8 := dkwJ3_linkLast_1 ++ dktJ3_linkLast_2
def dkwJ3_linkLast_0 : List UInt8 := [42, 180, 0, 27, 77, 187, 0, 22, 89, 44, 43, 1, 183, 0, 24, 78, 42, 45, 181, 0, 27, 44]
abbrev dktJ3_linkLast_0 : List UInt8 := dkwJ3_linkLast_0 ++ dktJ3_linkLast_1
theorem dksJ3_linkLast_0 : cJ3_linkLast.data.toList.drop 0 = dktJ3_linkLast_0 := by decide +kernel
theorem dksJ3_linkLast_1 : cJ3_linkLast.data.toList.drop 22 = dktJ3_linkLast_1 := dk_seg dksJ3_linkLast_0 22 rfl rfl
theorem dksJ3_linkLast_2 : cJ3_linkLast.data.toList.drop 45 = dktJ3_linkLast_2 := dk_seg dksJ3_linkLast_1 23 rfl rfl
theorem dJ3_linkLast_0 : decode cJ3_linkLast 0 = .ok (.aload_n 0, 1) := dk_42 (dk_at dksJ3_linkLast_0 0 rfl rfl)
theorem dJ3_linkLast_1 : decode cJ3_linkLast 1 = .ok (.getfield 27, 3) := dk_180 0 27 (dk_at dksJ3_linkLast_0 1 rfl rfl)
theorem dJ3_linkLast_4 : decode cJ3_linkLast 4 = .ok (.astore_n 2, 1) := dk_77 (dk_at dksJ3_linkLast_0 4 rfl rfl)
theorem dJ3_linkLast_5 : decode cJ3_linkLast 5 = .ok (.new 22, 3) := dk_187 0 22 (dk_at dksJ3_linkLast_0 5 rfl rfl)
theorem dJ3_linkLast_8 : decode cJ3_linkLast 8 = .ok (.dup, 1) := dk_89 (dk_at dksJ3_linkLast_0 8 rfl rfl)
theorem dJ3_linkLast_9 : decode cJ3_linkLast 9 = .ok (.aload_n 2, 1) := dk_44 (dk_at dksJ3_linkLast_0 9 rfl rfl)
theorem dJ3_linkLast_10 : decode cJ3_linkLast 10 = .ok (.aload_n 1, 1) := dk_43 (dk_at dksJ3_linkLast_0 10 rfl rfl)
theorem dJ3_linkLast_11 : decode cJ3_linkLast 11 = .ok (.aconst_null, 1) := dk_1 (dk_at dksJ3_linkLast_0 11 rfl rfl)
theorem dJ3_linkLast_12 : decode cJ3_linkLast 12 = .ok (.invokespecial 24, 3) := dk_183 0 24 (dk_at dksJ3_linkLast_0 12 rfl rfl)
theorem dJ3_linkLast_15 : decode cJ3_linkLast 15 = .ok (.astore_n 3, 1) := dk_78 (dk_at dksJ3_linkLast_0 15 rfl rfl)
theorem dJ3_linkLast_16 : decode cJ3_linkLast 16 = .ok (.aload_n 0, 1) := dk_42 (dk_at dksJ3_linkLast_0 16 rfl rfl)
theorem dJ3_linkLast_17 : decode cJ3_linkLast 17 = .ok (.aload_n 3, 1) := dk_45 (dk_at dksJ3_linkLast_0 17 rfl rfl)
theorem dJ3_linkLast_18 : decode cJ3_linkLast 18 = .ok (.putfield 27, 3) := dk_181 0 27 (dk_at dksJ3_linkLast_0 18 rfl rfl)
theorem dJ3_linkLast_21 : decode cJ3_linkLast 21 = .ok (.aload_n 2, 1) := dk_44 (dk_at dksJ3_linkLast_0 21 rfl rfl)
theorem dJ3_linkLast_22 : decode cJ3_linkLast 22 = .ok (.ifnonnull 11, 3) := dk_199 0 11 (dk_at dksJ3_linkLast_1 0 rfl rfl)
theorem dJ3_linkLast_25 : decode cJ3_linkLast 25 = .ok (.aload_n 0, 1) := dk_42 (dk_at dksJ3_linkLast_1 3 rfl rfl)
theorem dJ3_linkLast_26 : decode cJ3_linkLast 26 = .ok (.aload_n 3, 1) := dk_45 (dk_at dksJ3_linkLast_1 4 rfl rfl)
theorem dJ3_linkLast_27 : decode cJ3_linkLast 27 = .ok (.putfield 18, 3) := dk_181 0 18 (dk_at dksJ3_linkLast_1 5 rfl rfl)
theorem dJ3_linkLast_30 : decode cJ3_linkLast 30 = .ok (.goto 8, 3) := dk_167 0 8 (dk_at dksJ3_linkLast_1 8 rfl rfl)
theorem dJ3_linkLast_33 : decode cJ3_linkLast 33 = .ok (.aload_n 2, 1) := dk_44 (dk_at dksJ3_linkLast_1 11 rfl rfl)
theorem dJ3_linkLast_34 : decode cJ3_linkLast 34 = .ok (.aload_n 3, 1) := dk_45 (dk_at dksJ3_linkLast_1 12 rfl rfl)
theorem dJ3_linkLast_35 : decode cJ3_linkLast 35 = .ok (.putfield 36, 3) := dk_181 0 36 (dk_at dksJ3_linkLast_1 13 rfl rfl)
theorem dJ3_linkLast_38 : decode cJ3_linkLast 38 = .ok (.aload_n 0, 1) := dk_42 (dk_at dksJ3_linkLast_1 16 rfl rfl)
theorem dJ3_linkLast_39 : decode cJ3_linkLast 39 = .ok (.dup, 1) := dk_89 (dk_at dksJ3_linkLast_1 17 rfl rfl)
theorem dJ3_linkLast_40 : decode cJ3_linkLast 40 = .ok (.getfield 7, 3) := dk_180 0 7 (dk_at dksJ3_linkLast_1 18 rfl rfl)
theorem dJ3_linkLast_43 : decode cJ3_linkLast 43 = .ok (.iconst 1, 1) := dk_4 (dk_at dksJ3_linkLast_1 21 rfl rfl)
theorem dJ3_linkLast_44 : decode cJ3_linkLast 44 = .ok (.iadd, 1) := dk_96 (dk_at dksJ3_linkLast_1 22 rfl rfl)
theorem dJ3_linkLast_45 : decode cJ3_linkLast 45 = .ok (.putfield 7, 3) := dk_181 0 7 (dk_at dksJ3_linkLast_2 0 rfl rfl)
theorem dJ3_linkLast_48 : decode cJ3_linkLast 48 = .ok (.aload_n 0, 1) := dk_42 (dk_at dksJ3_linkLast_2 3 rfl rfl)
theorem dJ3_linkLast_49 : decode cJ3_linkLast 49 = .ok (.dup, 1) := dk_89 (dk_at dksJ3_linkLast_2 4 rfl rfl)
theorem dJ3_linkLast_50 : decode cJ3_linkLast 50 = .ok (.getfield 33, 3) := dk_180 0 33 (dk_at dksJ3_linkLast_2 5 rfl rfl)
theorem dJ3_linkLast_53 : decode cJ3_linkLast 53 = .ok (.iconst 1, 1) := dk_4 (dk_at dksJ3_linkLast_2 8 rfl rfl)
theorem dJ3_linkLast_54 : decode cJ3_linkLast 54 = .ok (.iadd, 1) := dk_96 (dk_at dksJ3_linkLast_2 9 rfl rfl)
theorem dJ3_linkLast_55 : decode cJ3_linkLast 55 = .ok (.putfield 33, 3) := dk_181 0 33 (dk_at dksJ3_linkLast_2 10 rfl rfl)
theorem dJ3_linkLast_58 : decode cJ3_linkLast 58 = .ok (.return_, 1) := dk_177 (dk_at dksJ3_linkLast_2 13 rfl rfl)
abbrev cJ3_listIterator : ByteArray := prog_73_method_49_code
def yJ3_listIterator : MethodName := ⟨RJ3, "listIterator", "(I)Ljava/util/ListIterator;"⟩
def dkwJ3_listIterator_0 : List UInt8 := [42, 27, 182, 0, 76, 187, 0, 150, 89, 42, 27, 183, 0, 152, 176]
abbrev dktJ3_listIterator_0 : List UInt8 := dkwJ3_listIterator_0 ++ []
theorem dksJ3_listIterator_0 : cJ3_listIterator.data.toList.drop 0 = dktJ3_listIterator_0 := by decide +kernel
theorem dJ3_listIterator_0 : decode cJ3_listIterator 0 = .ok (.aload_n 0, 1) := dk_42 (dk_at dksJ3_listIterator_0 0 rfl rfl)
theorem dJ3_listIterator_1 : decode cJ3_listIterator 1 = .ok (.iload_n 1, 1) := dk_27 (dk_at dksJ3_listIterator_0 1 rfl rfl)
theorem dJ3_listIterator_2 : decode cJ3_listIterator 2 = .ok (.invokevirtual 76, 3) := dk_182 0 76 (dk_at dksJ3_listIterator_0 2 rfl rfl)
theorem dJ3_listIterator_5 : decode cJ3_listIterator 5 = .ok (.new 150, 3) := dk_187 0 150 (dk_at dksJ3_listIterator_0 5 rfl rfl)
theorem dJ3_listIterator_8 : decode cJ3_listIterator 8 = .ok (.dup, 1) := dk_89 (dk_at dksJ3_listIterator_0 8 rfl rfl)
theorem dJ3_listIterator_9 : decode cJ3_listIterator 9 = .ok (.aload_n 0, 1) := dk_42 (dk_at dksJ3_listIterator_0 9 rfl rfl)
theorem dJ3_listIterator_10 : decode cJ3_listIterator 10 = .ok (.iload_n 1, 1) := dk_27 (dk_at dksJ3_listIterator_0 10 rfl rfl)
theorem dJ3_listIterator_11 : decode cJ3_listIterator 11 = .ok (.invokespecial 152, 3) := dk_183 0 152 (dk_at dksJ3_listIterator_0 11 rfl rfl)
theorem dJ3_listIterator_14 : decode cJ3_listIterator 14 = .ok (.areturn, 1) := dk_176 (dk_at dksJ3_listIterator_0 14 rfl rfl)
abbrev cJ3_checkPositionIndex : ByteArray := prog_73_method_30_code
def yJ3_checkPositionIndex : MethodName := ⟨RJ3, "checkPositionIndex", "(I)V"⟩
def dkwJ3_checkPositionIndex_0 : List UInt8 := [42, 27, 182, 0, 128, 154, 0, 16, 187, 0, 119, 89, 42, 27, 182, 0, 121, 183, 0, 125, 191, 177]
abbrev dktJ3_checkPositionIndex_0 : List UInt8 := dkwJ3_checkPositionIndex_0 ++ []
theorem dksJ3_checkPositionIndex_0 : cJ3_checkPositionIndex.data.toList.drop 0 = dktJ3_checkPositionIndex_0 := by decide +kernel
theorem dJ3_checkPositionIndex_0 : decode cJ3_checkPositionIndex 0 = .ok (.aload_n 0, 1) := dk_42 (dk_at dksJ3_checkPositionIndex_0 0 rfl rfl)
theorem dJ3_checkPositionIndex_1 : decode cJ3_checkPositionIndex 1 = .ok (.iload_n 1, 1) := dk_27 (dk_at dksJ3_checkPositionIndex_0 1 rfl rfl)
theorem dJ3_checkPositionIndex_2 : decode cJ3_checkPositionIndex 2 = .ok (.invokevirtual 128, 3) := dk_182 0 128 (dk_at dksJ3_checkPositionIndex_0 2 rfl rfl)
theorem dJ3_checkPositionIndex_5 : decode cJ3_checkPositionIndex 5 = .ok (.ifCond .ne 16, 3) := dk_154 0 16 (dk_at dksJ3_checkPositionIndex_0 5 rfl rfl)
theorem dJ3_checkPositionIndex_8 : decode cJ3_checkPositionIndex 8 = .ok (.new 119, 3) := dk_187 0 119 (dk_at dksJ3_checkPositionIndex_0 8 rfl rfl)
theorem dJ3_checkPositionIndex_11 : decode cJ3_checkPositionIndex 11 = .ok (.dup, 1) := dk_89 (dk_at dksJ3_checkPositionIndex_0 11 rfl rfl)
theorem dJ3_checkPositionIndex_12 : decode cJ3_checkPositionIndex 12 = .ok (.aload_n 0, 1) := dk_42 (dk_at dksJ3_checkPositionIndex_0 12 rfl rfl)
theorem dJ3_checkPositionIndex_13 : decode cJ3_checkPositionIndex 13 = .ok (.iload_n 1, 1) := dk_27 (dk_at dksJ3_checkPositionIndex_0 13 rfl rfl)
theorem dJ3_checkPositionIndex_14 : decode cJ3_checkPositionIndex 14 = .ok (.invokevirtual 121, 3) := dk_182 0 121 (dk_at dksJ3_checkPositionIndex_0 14 rfl rfl)
theorem dJ3_checkPositionIndex_17 : decode cJ3_checkPositionIndex 17 = .ok (.invokespecial 125, 3) := dk_183 0 125 (dk_at dksJ3_checkPositionIndex_0 17 rfl rfl)
theorem dJ3_checkPositionIndex_20 : decode cJ3_checkPositionIndex 20 = .ok (.athrow, 1) := dk_191 (dk_at dksJ3_checkPositionIndex_0 20 rfl rfl)
theorem dJ3_checkPositionIndex_21 : decode cJ3_checkPositionIndex 21 = .ok (.return_, 1) := dk_177 (dk_at dksJ3_checkPositionIndex_0 21 rfl rfl)
abbrev cJ3_isPositionIndex : ByteArray := prog_73_method_27_code
def yJ3_isPositionIndex : MethodName := ⟨RJ3, "isPositionIndex", "(I)Z"⟩
def dkwJ3_isPositionIndex_0 : List UInt8 := [27, 155, 0, 15, 27, 42, 180, 0, 7, 163, 0, 7, 4, 167, 0, 4, 3, 172]
abbrev dktJ3_isPositionIndex_0 : List UInt8 := dkwJ3_isPositionIndex_0 ++ []
theorem dksJ3_isPositionIndex_0 : cJ3_isPositionIndex.data.toList.drop 0 = dktJ3_isPositionIndex_0 := by decide +kernel
theorem dJ3_isPositionIndex_0 : decode cJ3_isPositionIndex 0 = .ok (.iload_n 1, 1) := dk_27 (dk_at dksJ3_isPositionIndex_0 0 rfl rfl)
theorem dJ3_isPositionIndex_1 : decode cJ3_isPositionIndex 1 = .ok (.ifCond .lt 15, 3) := dk_155 0 15 (dk_at dksJ3_isPositionIndex_0 1 rfl rfl)
theorem dJ3_isPositionIndex_4 : decode cJ3_isPositionIndex 4 = .ok (.iload_n 1, 1) := dk_27 (dk_at dksJ3_isPositionIndex_0 4 rfl rfl)
theorem dJ3_isPositionIndex_5 : decode cJ3_isPositionIndex 5 = .ok (.aload_n 0, 1) := dk_42 (dk_at dksJ3_isPositionIndex_0 5 rfl rfl)
theorem dJ3_isPositionIndex_6 : decode cJ3_isPositionIndex 6 = .ok (.getfield 7, 3) := dk_180 0 7 (dk_at dksJ3_isPositionIndex_0 6 rfl rfl)
theorem dJ3_isPositionIndex_9 : decode cJ3_isPositionIndex 9 = .ok (.if_icmp .gt 7, 3) := dk_163 0 7 (dk_at dksJ3_isPositionIndex_0 9 rfl rfl)
theorem dJ3_isPositionIndex_12 : decode cJ3_isPositionIndex 12 = .ok (.iconst 1, 1) := dk_4 (dk_at dksJ3_isPositionIndex_0 12 rfl rfl)
theorem dJ3_isPositionIndex_13 : decode cJ3_isPositionIndex 13 = .ok (.goto 4, 3) := dk_167 0 4 (dk_at dksJ3_isPositionIndex_0 13 rfl rfl)
theorem dJ3_isPositionIndex_16 : decode cJ3_isPositionIndex 16 = .ok (.iconst 0, 1) := dk_3 (dk_at dksJ3_isPositionIndex_0 16 rfl rfl)
theorem dJ3_isPositionIndex_17 : decode cJ3_isPositionIndex 17 = .ok (.ireturn, 1) := dk_172 (dk_at dksJ3_isPositionIndex_0 17 rfl rfl)
abbrev cJ3_remove : ByteArray := prog_73_method_25_code
def yJ3_remove : MethodName := ⟨RJ3, "remove", "(I)Ljava/lang/Object;"⟩
def dkwJ3_remove_0 : List UInt8 := [42, 27, 182, 0, 90, 42, 42, 27, 182, 0, 86, 182, 0, 64, 176]
abbrev dktJ3_remove_0 : List UInt8 := dkwJ3_remove_0 ++ []
theorem dksJ3_remove_0 : cJ3_remove.data.toList.drop 0 = dktJ3_remove_0 := by decide +kernel
theorem dJ3_remove_0 : decode cJ3_remove 0 = .ok (.aload_n 0, 1) := dk_42 (dk_at dksJ3_remove_0 0 rfl rfl)
theorem dJ3_remove_1 : decode cJ3_remove 1 = .ok (.iload_n 1, 1) := dk_27 (dk_at dksJ3_remove_0 1 rfl rfl)
theorem dJ3_remove_2 : decode cJ3_remove 2 = .ok (.invokevirtual 90, 3) := dk_182 0 90 (dk_at dksJ3_remove_0 2 rfl rfl)
theorem dJ3_remove_5 : decode cJ3_remove 5 = .ok (.aload_n 0, 1) := dk_42 (dk_at dksJ3_remove_0 5 rfl rfl)
theorem dJ3_remove_6 : decode cJ3_remove 6 = .ok (.aload_n 0, 1) := dk_42 (dk_at dksJ3_remove_0 6 rfl rfl)
theorem dJ3_remove_7 : decode cJ3_remove 7 = .ok (.iload_n 1, 1) := dk_27 (dk_at dksJ3_remove_0 7 rfl rfl)
theorem dJ3_remove_8 : decode cJ3_remove 8 = .ok (.invokevirtual 86, 3) := dk_182 0 86 (dk_at dksJ3_remove_0 8 rfl rfl)
theorem dJ3_remove_11 : decode cJ3_remove 11 = .ok (.invokevirtual 64, 3) := dk_182 0 64 (dk_at dksJ3_remove_0 11 rfl rfl)
theorem dJ3_remove_14 : decode cJ3_remove 14 = .ok (.areturn, 1) := dk_176 (dk_at dksJ3_remove_0 14 rfl rfl)
abbrev cJ3_unlink : ByteArray := prog_73_method_8_code
def yJ3_unlink : MethodName := ⟨RJ3, "unlink", "(Ljava/util/LinkedList$Node;)Ljava/lang/Object;"⟩
def dkwJ3_unlink_3 : List UInt8 := [180, 0, 7, 4, 100, 181, 0, 7, 42, 89, 180, 0, 33, 4, 96, 181, 0, 33, 44, 176]
abbrev dktJ3_unlink_3 : List UInt8 := dkwJ3_unlink_3 ++ []
def dkwJ3_unlink_2 : List UInt8 := [181, 0, 27, 167, 0, 14, 45, 25, 4, 181, 0, 30, 43, 1, 181, 0, 36, 43, 1, 181, 0, 39, 42, 89]
abbrev dktJ3_unlink_2 : List UInt8 := dkwJ3_unlink_2 ++ dktJ3_unlink_3
def dkwJ3_unlink_1 : List UInt8 := [181, 0, 18, 167, 0, 14, 25, 4, 45, 181, 0, 36, 43, 1, 181, 0, 30, 45, 199, 0, 12, 42, 25, 4]
abbrev dktJ3_unlink_1 : List UInt8 := dkwJ3_unlink_1 ++ dktJ3_unlink_2
def dkwJ3_unlink_0 : List UInt8 := [43, 180, 0, 39, 77, 43, 180, 0, 36, 78, 43, 180, 0, 30, 58, 4, 25, 4, 199, 0, 11, 42, 45]
abbrev dktJ3_unlink_0 : List UInt8 := dkwJ3_unlink_0 ++ dktJ3_unlink_1
theorem dksJ3_unlink_0 : cJ3_unlink.data.toList.drop 0 = dktJ3_unlink_0 := by decide +kernel
theorem dksJ3_unlink_1 : cJ3_unlink.data.toList.drop 23 = dktJ3_unlink_1 := dk_seg dksJ3_unlink_0 23 rfl rfl
theorem dksJ3_unlink_2 : cJ3_unlink.data.toList.drop 47 = dktJ3_unlink_2 := dk_seg dksJ3_unlink_1 24 rfl rfl
theorem dksJ3_unlink_3 : cJ3_unlink.data.toList.drop 71 = dktJ3_unlink_3 := dk_seg dksJ3_unlink_2 24 rfl rfl
theorem dJ3_unlink_0 : decode cJ3_unlink 0 = .ok (.aload_n 1, 1) := dk_43 (dk_at dksJ3_unlink_0 0 rfl rfl)
theorem dJ3_unlink_1 : decode cJ3_unlink 1 = .ok (.getfield 39, 3) := dk_180 0 39 (dk_at dksJ3_unlink_0 1 rfl rfl)
theorem dJ3_unlink_4 : decode cJ3_unlink 4 = .ok (.astore_n 2, 1) := dk_77 (dk_at dksJ3_unlink_0 4 rfl rfl)
theorem dJ3_unlink_5 : decode cJ3_unlink 5 = .ok (.aload_n 1, 1) := dk_43 (dk_at dksJ3_unlink_0 5 rfl rfl)
theorem dJ3_unlink_6 : decode cJ3_unlink 6 = .ok (.getfield 36, 3) := dk_180 0 36 (dk_at dksJ3_unlink_0 6 rfl rfl)
theorem dJ3_unlink_9 : decode cJ3_unlink 9 = .ok (.astore_n 3, 1) := dk_78 (dk_at dksJ3_unlink_0 9 rfl rfl)
theorem dJ3_unlink_10 : decode cJ3_unlink 10 = .ok (.aload_n 1, 1) := dk_43 (dk_at dksJ3_unlink_0 10 rfl rfl)
theorem dJ3_unlink_11 : decode cJ3_unlink 11 = .ok (.getfield 30, 3) := dk_180 0 30 (dk_at dksJ3_unlink_0 11 rfl rfl)
theorem dJ3_unlink_14 : decode cJ3_unlink 14 = .ok (.astore 4, 2) := dk_58 4 (dk_at dksJ3_unlink_0 14 rfl rfl)
theorem dJ3_unlink_16 : decode cJ3_unlink 16 = .ok (.aload 4, 2) := dk_25 4 (dk_at dksJ3_unlink_0 16 rfl rfl)
theorem dJ3_unlink_18 : decode cJ3_unlink 18 = .ok (.ifnonnull 11, 3) := dk_199 0 11 (dk_at dksJ3_unlink_0 18 rfl rfl)
theorem dJ3_unlink_21 : decode cJ3_unlink 21 = .ok (.aload_n 0, 1) := dk_42 (dk_at dksJ3_unlink_0 21 rfl rfl)
theorem dJ3_unlink_22 : decode cJ3_unlink 22 = .ok (.aload_n 3, 1) := dk_45 (dk_at dksJ3_unlink_0 22 rfl rfl)
theorem dJ3_unlink_23 : decode cJ3_unlink 23 = .ok (.putfield 18, 3) := dk_181 0 18 (dk_at dksJ3_unlink_1 0 rfl rfl)
theorem dJ3_unlink_26 : decode cJ3_unlink 26 = .ok (.goto 14, 3) := dk_167 0 14 (dk_at dksJ3_unlink_1 3 rfl rfl)
theorem dJ3_unlink_29 : decode cJ3_unlink 29 = .ok (.aload 4, 2) := dk_25 4 (dk_at dksJ3_unlink_1 6 rfl rfl)
theorem dJ3_unlink_31 : decode cJ3_unlink 31 = .ok (.aload_n 3, 1) := dk_45 (dk_at dksJ3_unlink_1 8 rfl rfl)
theorem dJ3_unlink_32 : decode cJ3_unlink 32 = .ok (.putfield 36, 3) := dk_181 0 36 (dk_at dksJ3_unlink_1 9 rfl rfl)
theorem dJ3_unlink_35 : decode cJ3_unlink 35 = .ok (.aload_n 1, 1) := dk_43 (dk_at dksJ3_unlink_1 12 rfl rfl)
theorem dJ3_unlink_36 : decode cJ3_unlink 36 = .ok (.aconst_null, 1) := dk_1 (dk_at dksJ3_unlink_1 13 rfl rfl)
theorem dJ3_unlink_37 : decode cJ3_unlink 37 = .ok (.putfield 30, 3) := dk_181 0 30 (dk_at dksJ3_unlink_1 14 rfl rfl)
theorem dJ3_unlink_40 : decode cJ3_unlink 40 = .ok (.aload_n 3, 1) := dk_45 (dk_at dksJ3_unlink_1 17 rfl rfl)
theorem dJ3_unlink_41 : decode cJ3_unlink 41 = .ok (.ifnonnull 12, 3) := dk_199 0 12 (dk_at dksJ3_unlink_1 18 rfl rfl)
theorem dJ3_unlink_44 : decode cJ3_unlink 44 = .ok (.aload_n 0, 1) := dk_42 (dk_at dksJ3_unlink_1 21 rfl rfl)
theorem dJ3_unlink_45 : decode cJ3_unlink 45 = .ok (.aload 4, 2) := dk_25 4 (dk_at dksJ3_unlink_1 22 rfl rfl)
theorem dJ3_unlink_47 : decode cJ3_unlink 47 = .ok (.putfield 27, 3) := dk_181 0 27 (dk_at dksJ3_unlink_2 0 rfl rfl)
theorem dJ3_unlink_50 : decode cJ3_unlink 50 = .ok (.goto 14, 3) := dk_167 0 14 (dk_at dksJ3_unlink_2 3 rfl rfl)
theorem dJ3_unlink_53 : decode cJ3_unlink 53 = .ok (.aload_n 3, 1) := dk_45 (dk_at dksJ3_unlink_2 6 rfl rfl)
theorem dJ3_unlink_54 : decode cJ3_unlink 54 = .ok (.aload 4, 2) := dk_25 4 (dk_at dksJ3_unlink_2 7 rfl rfl)
theorem dJ3_unlink_56 : decode cJ3_unlink 56 = .ok (.putfield 30, 3) := dk_181 0 30 (dk_at dksJ3_unlink_2 9 rfl rfl)
theorem dJ3_unlink_59 : decode cJ3_unlink 59 = .ok (.aload_n 1, 1) := dk_43 (dk_at dksJ3_unlink_2 12 rfl rfl)
theorem dJ3_unlink_60 : decode cJ3_unlink 60 = .ok (.aconst_null, 1) := dk_1 (dk_at dksJ3_unlink_2 13 rfl rfl)
theorem dJ3_unlink_61 : decode cJ3_unlink 61 = .ok (.putfield 36, 3) := dk_181 0 36 (dk_at dksJ3_unlink_2 14 rfl rfl)
theorem dJ3_unlink_64 : decode cJ3_unlink 64 = .ok (.aload_n 1, 1) := dk_43 (dk_at dksJ3_unlink_2 17 rfl rfl)
theorem dJ3_unlink_65 : decode cJ3_unlink 65 = .ok (.aconst_null, 1) := dk_1 (dk_at dksJ3_unlink_2 18 rfl rfl)
theorem dJ3_unlink_66 : decode cJ3_unlink 66 = .ok (.putfield 39, 3) := dk_181 0 39 (dk_at dksJ3_unlink_2 19 rfl rfl)
theorem dJ3_unlink_69 : decode cJ3_unlink 69 = .ok (.aload_n 0, 1) := dk_42 (dk_at dksJ3_unlink_2 22 rfl rfl)
theorem dJ3_unlink_70 : decode cJ3_unlink 70 = .ok (.dup, 1) := dk_89 (dk_at dksJ3_unlink_2 23 rfl rfl)
theorem dJ3_unlink_71 : decode cJ3_unlink 71 = .ok (.getfield 7, 3) := dk_180 0 7 (dk_at dksJ3_unlink_3 0 rfl rfl)
theorem dJ3_unlink_74 : decode cJ3_unlink 74 = .ok (.iconst 1, 1) := dk_4 (dk_at dksJ3_unlink_3 3 rfl rfl)
theorem dJ3_unlink_75 : decode cJ3_unlink 75 = .ok (.isub, 1) := dk_100 (dk_at dksJ3_unlink_3 4 rfl rfl)
theorem dJ3_unlink_76 : decode cJ3_unlink 76 = .ok (.putfield 7, 3) := dk_181 0 7 (dk_at dksJ3_unlink_3 5 rfl rfl)
theorem dJ3_unlink_79 : decode cJ3_unlink 79 = .ok (.aload_n 0, 1) := dk_42 (dk_at dksJ3_unlink_3 8 rfl rfl)
theorem dJ3_unlink_80 : decode cJ3_unlink 80 = .ok (.dup, 1) := dk_89 (dk_at dksJ3_unlink_3 9 rfl rfl)
theorem dJ3_unlink_81 : decode cJ3_unlink 81 = .ok (.getfield 33, 3) := dk_180 0 33 (dk_at dksJ3_unlink_3 10 rfl rfl)
theorem dJ3_unlink_84 : decode cJ3_unlink 84 = .ok (.iconst 1, 1) := dk_4 (dk_at dksJ3_unlink_3 13 rfl rfl)
theorem dJ3_unlink_85 : decode cJ3_unlink 85 = .ok (.iadd, 1) := dk_96 (dk_at dksJ3_unlink_3 14 rfl rfl)
theorem dJ3_unlink_86 : decode cJ3_unlink 86 = .ok (.putfield 33, 3) := dk_181 0 33 (dk_at dksJ3_unlink_3 15 rfl rfl)
theorem dJ3_unlink_89 : decode cJ3_unlink 89 = .ok (.aload_n 2, 1) := dk_44 (dk_at dksJ3_unlink_3 18 rfl rfl)
theorem dJ3_unlink_90 : decode cJ3_unlink 90 = .ok (.areturn, 1) := dk_176 (dk_at dksJ3_unlink_3 19 rfl rfl)
theorem q107 : (Jvm.Cond.initialized "java/util/LinkedList") ∈ lw_all := lw_g (lw_at lw_m1 6 rfl) rfl
theorem q187 : (Jvm.Cond.instantiable "java/util/LinkedList" (4 : Nat)) ∈ lw_all := lw_g (lw_at lw_m1 86 rfl) rfl
theorem q189 : (Jvm.Cond.instanceMethod ({ cls := "java/util/LinkedList", name := "<init>", desc := "()V" } : Jvm.MethodName)) ∈ lw_all := lw_g (lw_at lw_m1 88 rfl) rfl
theorem q190 : (Jvm.Cond.code ({ cls := "java/util/LinkedList", name := "<init>", desc := "()V" } : Jvm.MethodName) prog_73_method_1_code (1 : Nat) (Option.none : Option Jvm.ClassFile.FieldType)) ∈ lw_all := lw_g (lw_at lw_m1 89 rfl) rfl
theorem q191 : (Jvm.Cond.methodLink "java/util/LinkedList" (1 : Nat) ({ cls := "java/util/AbstractSequentialList", name := "<init>", desc := "()V" } : Jvm.MethodName)) ∈ lw_all := lw_g (lw_at lw_m1 90 rfl) rfl
theorem q201 : (Jvm.Cond.fieldLink "java/util/LinkedList" (7 : Nat) "java/util/LinkedList" "size" "I") ∈ lw_all := lw_g (lw_at lw_m1 100 rfl) rfl
theorem q203 : (Jvm.Cond.fieldLink "java/util/LinkedList" (18 : Nat) "java/util/LinkedList" "first" "Ljava/util/LinkedList$Node;") ∈ lw_all := lw_g (lw_at lw_m1 102 rfl) rfl
theorem q204 : (Jvm.Cond.fieldLink "java/util/LinkedList" (27 : Nat) "java/util/LinkedList" "last" "Ljava/util/LinkedList$Node;") ∈ lw_all := lw_g (lw_at lw_m1 103 rfl) rfl
theorem q207 : (Jvm.Cond.sameField "java/util/LinkedList" "java/util/AbstractList" "modCount" "I") ∈ lw_all := lw_g (lw_at lw_m1 106 rfl) rfl
theorem q211 : (Jvm.Cond.fieldLink "java/util/LinkedList" (33 : Nat) "java/util/LinkedList" "modCount" "I") ∈ lw_all := lw_g (lw_at lw_m1 110 rfl) rfl
theorem q213 : (Jvm.Cond.lays "java/util/LinkedList" "java/util/LinkedList" "size" "I") ∈ lw_all := lw_g (lw_at lw_m1 112 rfl) rfl
theorem q214 : (Jvm.Cond.soleField "java/util/LinkedList" "size") ∈ lw_all := lw_g (lw_at lw_m1 113 rfl) rfl
theorem q215 : (Jvm.Cond.lays "java/util/LinkedList" "java/util/LinkedList" "first" "Ljava/util/LinkedList$Node;") ∈ lw_all := lw_g (lw_at lw_m1 114 rfl) rfl
theorem q216 : (Jvm.Cond.soleField "java/util/LinkedList" "first") ∈ lw_all := lw_g (lw_at lw_m1 115 rfl) rfl
theorem q217 : (Jvm.Cond.lays "java/util/LinkedList" "java/util/LinkedList" "last" "Ljava/util/LinkedList$Node;") ∈ lw_all := lw_g (lw_at lw_m1 116 rfl) rfl
theorem q218 : (Jvm.Cond.soleField "java/util/LinkedList" "last") ∈ lw_all := lw_g (lw_at lw_m1 117 rfl) rfl
theorem q219 : (Jvm.Cond.lays "java/util/LinkedList" "java/util/AbstractList" "modCount" "I") ∈ lw_all := lw_g (lw_at lw_m1 118 rfl) rfl
theorem q221 : (Jvm.Cond.superclass "java/util/LinkedList" "java/util/AbstractSequentialList") ∈ lw_all := lw_g (lw_at lw_m1 120 rfl) rfl
theorem q710 : (Jvm.Cond.selects "java/util/LinkedList" ({ cls := "java/lang/Object", name := "getClass", desc := "()Ljava/lang/Class;" } : Jvm.MethodName) ({ cls := "java/lang/Object", name := "getClass", desc := "()Ljava/lang/Class;" } : Jvm.MethodName)) ∈ lw_all := lw_g (lw_at lw_m3 129 rfl) rfl
theorem q1300 : (Jvm.Cond.selects "java/util/LinkedList" ({ cls := "java/util/AbstractList", name := "size", desc := "()I" } : Jvm.MethodName) ({ cls := "java/util/LinkedList", name := "size", desc := "()I" } : Jvm.MethodName)) ∈ lw_all := lw_g (lw_at lw_m5 239 rfl) rfl
theorem q1301 : (Jvm.Cond.instanceMethod ({ cls := "java/util/LinkedList", name := "size", desc := "()I" } : Jvm.MethodName)) ∈ lw_all := lw_g (lw_at lw_m6 0 rfl) rfl
theorem q1302 : (Jvm.Cond.code ({ cls := "java/util/LinkedList", name := "size", desc := "()I" } : Jvm.MethodName) prog_73_method_16_code (1 : Nat) (Option.some Jvm.ClassFile.FieldType.int)) ∈ lw_all := lw_g (lw_at lw_m6 1 rfl) rfl
theorem q1408 : (Jvm.Cond.selects "java/util/LinkedList" ({ cls := "java/util/AbstractList", name := "get", desc := "(I)Ljava/lang/Object;" } : Jvm.MethodName) ({ cls := "java/util/LinkedList", name := "get", desc := "(I)Ljava/lang/Object;" } : Jvm.MethodName)) ∈ lw_all := lw_g (lw_at lw_m6 107 rfl) rfl
theorem q1409 : (Jvm.Cond.instanceMethod ({ cls := "java/util/LinkedList", name := "get", desc := "(I)Ljava/lang/Object;" } : Jvm.MethodName)) ∈ lw_all := lw_g (lw_at lw_m6 108 rfl) rfl
theorem q1410 : (Jvm.Cond.code ({ cls := "java/util/LinkedList", name := "get", desc := "(I)Ljava/lang/Object;" } : Jvm.MethodName) prog_73_method_22_code (2 : Nat) (Option.some (Jvm.ClassFile.FieldType.object "java/lang/Object"))) ∈ lw_all := lw_g (lw_at lw_m6 109 rfl) rfl
theorem q1411 : (Jvm.Cond.methodLink "java/util/LinkedList" (90 : Nat) ({ cls := "java/util/LinkedList", name := "checkElementIndex", desc := "(I)V" } : Jvm.MethodName)) ∈ lw_all := lw_g (lw_at lw_m6 110 rfl) rfl
theorem q1412 : (Jvm.Cond.privateMethod ({ cls := "java/util/LinkedList", name := "checkElementIndex", desc := "(I)V" } : Jvm.MethodName)) ∈ lw_tbl := lw_at lw_m6 111 rfl
theorem q1413 : (Jvm.Cond.instanceMethod ({ cls := "java/util/LinkedList", name := "checkElementIndex", desc := "(I)V" } : Jvm.MethodName)) ∈ lw_all := lw_g (lw_at lw_m6 112 rfl) rfl
theorem q1414 : (Jvm.Cond.code ({ cls := "java/util/LinkedList", name := "checkElementIndex", desc := "(I)V" } : Jvm.MethodName) prog_73_method_29_code (2 : Nat) (Option.none : Option Jvm.ClassFile.FieldType)) ∈ lw_all := lw_g (lw_at lw_m6 113 rfl) rfl
theorem q1415 : (Jvm.Cond.methodLink "java/util/LinkedList" (115 : Nat) ({ cls := "java/util/LinkedList", name := "isElementIndex", desc := "(I)Z" } : Jvm.MethodName)) ∈ lw_all := lw_g (lw_at lw_m6 114 rfl) rfl
theorem q1416 : (Jvm.Cond.privateMethod ({ cls := "java/util/LinkedList", name := "isElementIndex", desc := "(I)Z" } : Jvm.MethodName)) ∈ lw_tbl := lw_at lw_m6 115 rfl
theorem q1417 : (Jvm.Cond.instanceMethod ({ cls := "java/util/LinkedList", name := "isElementIndex", desc := "(I)Z" } : Jvm.MethodName)) ∈ lw_all := lw_g (lw_at lw_m6 116 rfl) rfl
theorem q1418 : (Jvm.Cond.code ({ cls := "java/util/LinkedList", name := "isElementIndex", desc := "(I)Z" } : Jvm.MethodName) prog_73_method_26_code (2 : Nat) (Option.some Jvm.ClassFile.FieldType.boolean)) ∈ lw_all := lw_g (lw_at lw_m6 117 rfl) rfl
theorem q1419 : (Jvm.Cond.methodLink "java/util/LinkedList" (86 : Nat) ({ cls := "java/util/LinkedList", name := "node", desc := "(I)Ljava/util/LinkedList$Node;" } : Jvm.MethodName)) ∈ lw_all := lw_g (lw_at lw_m6 118 rfl) rfl
theorem q1420 : (Jvm.Cond.instanceMethod ({ cls := "java/util/LinkedList", name := "node", desc := "(I)Ljava/util/LinkedList$Node;" } : Jvm.MethodName)) ∈ lw_all := lw_g (lw_at lw_m6 119 rfl) rfl
theorem q1421 : (Jvm.Cond.selects "java/util/LinkedList" ({ cls := "java/util/LinkedList", name := "node", desc := "(I)Ljava/util/LinkedList$Node;" } : Jvm.MethodName) ({ cls := "java/util/LinkedList", name := "node", desc := "(I)Ljava/util/LinkedList$Node;" } : Jvm.MethodName)) ∈ lw_all := lw_g (lw_at lw_m6 120 rfl) rfl
theorem q1422 : (Jvm.Cond.code ({ cls := "java/util/LinkedList", name := "node", desc := "(I)Ljava/util/LinkedList$Node;" } : Jvm.MethodName) prog_73_method_31_code (4 : Nat) (Option.some (Jvm.ClassFile.FieldType.object "java/util/LinkedList$Node"))) ∈ lw_all := lw_g (lw_at lw_m6 121 rfl) rfl
theorem q1774 : (Jvm.Cond.instanceMethod ({ cls := "java/util/LinkedList", name := "addLast", desc := "(Ljava/lang/Object;)V" } : Jvm.MethodName)) ∈ lw_all := lw_g (lw_at lw_m7 233 rfl) rfl
theorem q1775 : (Jvm.Cond.selects "java/util/LinkedList" ({ cls := "java/util/LinkedList", name := "addLast", desc := "(Ljava/lang/Object;)V" } : Jvm.MethodName) ({ cls := "java/util/LinkedList", name := "addLast", desc := "(Ljava/lang/Object;)V" } : Jvm.MethodName)) ∈ lw_all := lw_g (lw_at lw_m7 234 rfl) rfl
theorem q1776 : (Jvm.Cond.code ({ cls := "java/util/LinkedList", name := "addLast", desc := "(Ljava/lang/Object;)V" } : Jvm.MethodName) prog_73_method_14_code (2 : Nat) (Option.none : Option Jvm.ClassFile.FieldType)) ∈ lw_all := lw_g (lw_at lw_m7 235 rfl) rfl
theorem q1777 : (Jvm.Cond.methodLink "java/util/LinkedList" (57 : Nat) ({ cls := "java/util/LinkedList", name := "linkLast", desc := "(Ljava/lang/Object;)V" } : Jvm.MethodName)) ∈ lw_all := lw_g (lw_at lw_m7 236 rfl) rfl
theorem q1778 : (Jvm.Cond.instanceMethod ({ cls := "java/util/LinkedList", name := "linkLast", desc := "(Ljava/lang/Object;)V" } : Jvm.MethodName)) ∈ lw_all := lw_g (lw_at lw_m7 237 rfl) rfl
theorem q1779 : (Jvm.Cond.selects "java/util/LinkedList" ({ cls := "java/util/LinkedList", name := "linkLast", desc := "(Ljava/lang/Object;)V" } : Jvm.MethodName) ({ cls := "java/util/LinkedList", name := "linkLast", desc := "(Ljava/lang/Object;)V" } : Jvm.MethodName)) ∈ lw_all := lw_g (lw_at lw_m7 238 rfl) rfl
theorem q1780 : (Jvm.Cond.code ({ cls := "java/util/LinkedList", name := "linkLast", desc := "(Ljava/lang/Object;)V" } : Jvm.MethodName) prog_73_method_4_code (4 : Nat) (Option.none : Option Jvm.ClassFile.FieldType)) ∈ lw_all := lw_g (lw_at lw_m7 239 rfl) rfl
theorem q1781 : (Jvm.Cond.classLink "java/util/LinkedList" (22 : Nat) "java/util/LinkedList$Node") ∈ lw_all := lw_g (lw_at lw_m8 0 rfl) rfl
theorem q1783 : (Jvm.Cond.methodLink "java/util/LinkedList" (24 : Nat) ({ cls := "java/util/LinkedList$Node", name := "<init>", desc := "(Ljava/util/LinkedList$Node;Ljava/lang/Object;Ljava/util/LinkedList$Node;)V" } : Jvm.MethodName)) ∈ lw_all := lw_g (lw_at lw_m8 2 rfl) rfl
theorem q1789 : (Jvm.Cond.fieldLink "java/util/LinkedList" (39 : Nat) "java/util/LinkedList$Node" "item" "Ljava/lang/Object;") ∈ lw_all := lw_g (lw_at lw_m8 8 rfl) rfl
theorem q1792 : (Jvm.Cond.fieldLink "java/util/LinkedList" (36 : Nat) "java/util/LinkedList$Node" "next" "Ljava/util/LinkedList$Node;") ∈ lw_all := lw_g (lw_at lw_m8 11 rfl) rfl
theorem q1794 : (Jvm.Cond.fieldLink "java/util/LinkedList" (30 : Nat) "java/util/LinkedList$Node" "prev" "Ljava/util/LinkedList$Node;") ∈ lw_all := lw_g (lw_at lw_m8 13 rfl) rfl
theorem q1876 : (Jvm.Cond.sameMethod "java/util/LinkedList" "java/util/AbstractSequentialList" "iterator" "()Ljava/util/Iterator;") ∈ lw_all := lw_g (lw_at lw_m8 95 rfl) rfl
theorem q1878 : (Jvm.Cond.selects "java/util/LinkedList" ({ cls := "java/util/LinkedList", name := "iterator", desc := "()Ljava/util/Iterator;" } : Jvm.MethodName) ({ cls := "java/util/AbstractSequentialList", name := "iterator", desc := "()Ljava/util/Iterator;" } : Jvm.MethodName)) ∈ lw_all := lw_g (lw_at lw_m8 97 rfl) rfl
theorem q1884 : (Jvm.Cond.selects "java/util/LinkedList" ({ cls := "java/util/AbstractSequentialList", name := "listIterator", desc := "()Ljava/util/ListIterator;" } : Jvm.MethodName) ({ cls := "java/util/AbstractList", name := "listIterator", desc := "()Ljava/util/ListIterator;" } : Jvm.MethodName)) ∈ lw_all := lw_g (lw_at lw_m8 103 rfl) rfl
theorem q1925 : (Jvm.Cond.selects "java/util/LinkedList" ({ cls := "java/util/AbstractList", name := "listIterator", desc := "(I)Ljava/util/ListIterator;" } : Jvm.MethodName) ({ cls := "java/util/LinkedList", name := "listIterator", desc := "(I)Ljava/util/ListIterator;" } : Jvm.MethodName)) ∈ lw_all := lw_g (lw_at lw_m8 144 rfl) rfl
theorem q1926 : (Jvm.Cond.instanceMethod ({ cls := "java/util/LinkedList", name := "listIterator", desc := "(I)Ljava/util/ListIterator;" } : Jvm.MethodName)) ∈ lw_all := lw_g (lw_at lw_m8 145 rfl) rfl
theorem q1927 : (Jvm.Cond.code ({ cls := "java/util/LinkedList", name := "listIterator", desc := "(I)Ljava/util/ListIterator;" } : Jvm.MethodName) prog_73_method_49_code (2 : Nat) (Option.some (Jvm.ClassFile.FieldType.object "java/util/ListIterator"))) ∈ lw_all := lw_g (lw_at lw_m8 146 rfl) rfl
theorem q1928 : (Jvm.Cond.methodLink "java/util/LinkedList" (76 : Nat) ({ cls := "java/util/LinkedList", name := "checkPositionIndex", desc := "(I)V" } : Jvm.MethodName)) ∈ lw_all := lw_g (lw_at lw_m8 147 rfl) rfl
theorem q1929 : (Jvm.Cond.privateMethod ({ cls := "java/util/LinkedList", name := "checkPositionIndex", desc := "(I)V" } : Jvm.MethodName)) ∈ lw_tbl := lw_at lw_m8 148 rfl
theorem q1930 : (Jvm.Cond.instanceMethod ({ cls := "java/util/LinkedList", name := "checkPositionIndex", desc := "(I)V" } : Jvm.MethodName)) ∈ lw_all := lw_g (lw_at lw_m8 149 rfl) rfl
theorem q1931 : (Jvm.Cond.code ({ cls := "java/util/LinkedList", name := "checkPositionIndex", desc := "(I)V" } : Jvm.MethodName) prog_73_method_30_code (2 : Nat) (Option.none : Option Jvm.ClassFile.FieldType)) ∈ lw_all := lw_g (lw_at lw_m8 150 rfl) rfl
theorem q1932 : (Jvm.Cond.methodLink "java/util/LinkedList" (128 : Nat) ({ cls := "java/util/LinkedList", name := "isPositionIndex", desc := "(I)Z" } : Jvm.MethodName)) ∈ lw_all := lw_g (lw_at lw_m8 151 rfl) rfl
theorem q1933 : (Jvm.Cond.privateMethod ({ cls := "java/util/LinkedList", name := "isPositionIndex", desc := "(I)Z" } : Jvm.MethodName)) ∈ lw_tbl := lw_at lw_m8 152 rfl
theorem q1934 : (Jvm.Cond.instanceMethod ({ cls := "java/util/LinkedList", name := "isPositionIndex", desc := "(I)Z" } : Jvm.MethodName)) ∈ lw_all := lw_g (lw_at lw_m8 153 rfl) rfl
theorem q1935 : (Jvm.Cond.code ({ cls := "java/util/LinkedList", name := "isPositionIndex", desc := "(I)Z" } : Jvm.MethodName) prog_73_method_27_code (2 : Nat) (Option.some Jvm.ClassFile.FieldType.boolean)) ∈ lw_all := lw_g (lw_at lw_m8 154 rfl) rfl
theorem q1936 : (Jvm.Cond.classLink "java/util/LinkedList" (150 : Nat) "java/util/LinkedList$ListItr") ∈ lw_all := lw_g (lw_at lw_m8 155 rfl) rfl
theorem q1938 : (Jvm.Cond.methodLink "java/util/LinkedList" (152 : Nat) ({ cls := "java/util/LinkedList$ListItr", name := "<init>", desc := "(Ljava/util/LinkedList;I)V" } : Jvm.MethodName)) ∈ lw_all := lw_g (lw_at lw_m8 157 rfl) rfl
theorem q2010 : (Jvm.Cond.selects "java/util/LinkedList" ({ cls := "java/util/AbstractList", name := "remove", desc := "(I)Ljava/lang/Object;" } : Jvm.MethodName) ({ cls := "java/util/LinkedList", name := "remove", desc := "(I)Ljava/lang/Object;" } : Jvm.MethodName)) ∈ lw_all := lw_g (lw_at lw_m8 229 rfl) rfl
theorem q2011 : (Jvm.Cond.instanceMethod ({ cls := "java/util/LinkedList", name := "remove", desc := "(I)Ljava/lang/Object;" } : Jvm.MethodName)) ∈ lw_all := lw_g (lw_at lw_m8 230 rfl) rfl
theorem q2012 : (Jvm.Cond.code ({ cls := "java/util/LinkedList", name := "remove", desc := "(I)Ljava/lang/Object;" } : Jvm.MethodName) prog_73_method_25_code (2 : Nat) (Option.some (Jvm.ClassFile.FieldType.object "java/lang/Object"))) ∈ lw_all := lw_g (lw_at lw_m8 231 rfl) rfl
theorem q2013 : (Jvm.Cond.methodLink "java/util/LinkedList" (64 : Nat) ({ cls := "java/util/LinkedList", name := "unlink", desc := "(Ljava/util/LinkedList$Node;)Ljava/lang/Object;" } : Jvm.MethodName)) ∈ lw_all := lw_g (lw_at lw_m8 232 rfl) rfl
theorem q2014 : (Jvm.Cond.instanceMethod ({ cls := "java/util/LinkedList", name := "unlink", desc := "(Ljava/util/LinkedList$Node;)Ljava/lang/Object;" } : Jvm.MethodName)) ∈ lw_all := lw_g (lw_at lw_m8 233 rfl) rfl
theorem q2015 : (Jvm.Cond.selects "java/util/LinkedList" ({ cls := "java/util/LinkedList", name := "unlink", desc := "(Ljava/util/LinkedList$Node;)Ljava/lang/Object;" } : Jvm.MethodName) ({ cls := "java/util/LinkedList", name := "unlink", desc := "(Ljava/util/LinkedList$Node;)Ljava/lang/Object;" } : Jvm.MethodName)) ∈ lw_all := lw_g (lw_at lw_m8 234 rfl) rfl
theorem q2016 : (Jvm.Cond.code ({ cls := "java/util/LinkedList", name := "unlink", desc := "(Ljava/util/LinkedList$Node;)Ljava/lang/Object;" } : Jvm.MethodName) prog_73_method_8_code (5 : Nat) (Option.some (Jvm.ClassFile.FieldType.object "java/lang/Object"))) ∈ lw_all := lw_g (lw_at lw_m8 235 rfl) rfl
theorem q3398 : (Jvm.Cond.selects "java/util/LinkedList" ({ cls := "java/util/LinkedList", name := "size", desc := "()I" } : Jvm.MethodName) ({ cls := "java/util/LinkedList", name := "size", desc := "()I" } : Jvm.MethodName)) ∈ lw_all := lw_g (lw_at lw_m14 177 rfl) rfl
theorem q3403 : (Jvm.Cond.selects "java/util/LinkedList" ({ cls := "java/util/AbstractCollection", name := "size", desc := "()I" } : Jvm.MethodName) ({ cls := "java/util/LinkedList", name := "size", desc := "()I" } : Jvm.MethodName)) ∈ lw_all := lw_g (lw_at lw_m14 182 rfl) rfl
theorem q3419 : (Jvm.Cond.castable "java/util/LinkedList" "java/lang/Object") ∈ lw_tbl := lw_at lw_m14 198 rfl
theorem in_J3 : ∀ w ∈ wsJ30, w ∈ lw_all := lw_in wsJ30 [219, 213, 215, 217] (by decide +kernel) (by decide +kernel)

/-! java/lang/Enum -/
set_option maxRecDepth 100000
def RJ4 : String := "java/lang/Enum"
abbrev cJ4_compareTo : ByteArray := prog_36_method_15_code
def yJ4_compareTo : MethodName := ⟨RJ4, "compareTo", "(Ljava/lang/Object;)I"⟩
def dkwJ4_compareTo_0 : List UInt8 := [42, 43, 192, 0, 2, 182, 0, 101, 172]
abbrev dktJ4_compareTo_0 : List UInt8 := dkwJ4_compareTo_0 ++ []
theorem dksJ4_compareTo_0 : cJ4_compareTo.data.toList.drop 0 = dktJ4_compareTo_0 := by decide +kernel
theorem dJ4_compareTo_0 : decode cJ4_compareTo 0 = .ok (.aload_n 0, 1) := dk_42 (dk_at dksJ4_compareTo_0 0 rfl rfl)
theorem dJ4_compareTo_1 : decode cJ4_compareTo 1 = .ok (.aload_n 1, 1) := dk_43 (dk_at dksJ4_compareTo_0 1 rfl rfl)
theorem dJ4_compareTo_2 : decode cJ4_compareTo 2 = .ok (.checkcast 2, 3) := dk_192 0 2 (dk_at dksJ4_compareTo_0 2 rfl rfl)
theorem dJ4_compareTo_5 : decode cJ4_compareTo 5 = .ok (.invokevirtual 101, 3) := dk_182 0 101 (dk_at dksJ4_compareTo_0 5 rfl rfl)
theorem dJ4_compareTo_8 : decode cJ4_compareTo 8 = .ok (.ireturn, 1) := dk_172 (dk_at dksJ4_compareTo_0 8 rfl rfl)
abbrev cJ4_compareTo_2 : ByteArray := prog_36_method_8_code
def yJ4_compareTo_2 : MethodName := ⟨RJ4, "compareTo", "(Ljava/lang/Enum;)I"⟩
def dkwJ4_compareTo_2_1 : List UInt8 := [165, 0, 11, 187, 0, 36, 89, 183, 0, 38, 191, 45, 180, 0, 7, 44, 180, 0, 7, 100, 172]
abbrev dktJ4_compareTo_2_1 : List UInt8 := dkwJ4_compareTo_2_1 ++ []
def dkwJ4_compareTo_2_0 : List UInt8 := [43, 77, 42, 78, 45, 182, 0, 29, 44, 182, 0, 29, 165, 0, 22, 45, 182, 0, 33, 44, 182, 0, 33]
abbrev dktJ4_compareTo_2_0 : List UInt8 := dkwJ4_compareTo_2_0 ++ dktJ4_compareTo_2_1
theorem dksJ4_compareTo_2_0 : cJ4_compareTo_2.data.toList.drop 0 = dktJ4_compareTo_2_0 := by decide +kernel
theorem dksJ4_compareTo_2_1 : cJ4_compareTo_2.data.toList.drop 23 = dktJ4_compareTo_2_1 := dk_seg dksJ4_compareTo_2_0 23 rfl rfl
theorem dJ4_compareTo_2_0 : decode cJ4_compareTo_2 0 = .ok (.aload_n 1, 1) := dk_43 (dk_at dksJ4_compareTo_2_0 0 rfl rfl)
theorem dJ4_compareTo_2_1 : decode cJ4_compareTo_2 1 = .ok (.astore_n 2, 1) := dk_77 (dk_at dksJ4_compareTo_2_0 1 rfl rfl)
theorem dJ4_compareTo_2_2 : decode cJ4_compareTo_2 2 = .ok (.aload_n 0, 1) := dk_42 (dk_at dksJ4_compareTo_2_0 2 rfl rfl)
theorem dJ4_compareTo_2_3 : decode cJ4_compareTo_2 3 = .ok (.astore_n 3, 1) := dk_78 (dk_at dksJ4_compareTo_2_0 3 rfl rfl)
theorem dJ4_compareTo_2_4 : decode cJ4_compareTo_2 4 = .ok (.aload_n 3, 1) := dk_45 (dk_at dksJ4_compareTo_2_0 4 rfl rfl)
theorem dJ4_compareTo_2_5 : decode cJ4_compareTo_2 5 = .ok (.invokevirtual 29, 3) := dk_182 0 29 (dk_at dksJ4_compareTo_2_0 5 rfl rfl)
theorem dJ4_compareTo_2_8 : decode cJ4_compareTo_2 8 = .ok (.aload_n 2, 1) := dk_44 (dk_at dksJ4_compareTo_2_0 8 rfl rfl)
theorem dJ4_compareTo_2_9 : decode cJ4_compareTo_2 9 = .ok (.invokevirtual 29, 3) := dk_182 0 29 (dk_at dksJ4_compareTo_2_0 9 rfl rfl)
theorem dJ4_compareTo_2_12 : decode cJ4_compareTo_2 12 = .ok (.if_acmp .eq 22, 3) := dk_165 0 22 (dk_at dksJ4_compareTo_2_0 12 rfl rfl)
theorem dJ4_compareTo_2_15 : decode cJ4_compareTo_2 15 = .ok (.aload_n 3, 1) := dk_45 (dk_at dksJ4_compareTo_2_0 15 rfl rfl)
theorem dJ4_compareTo_2_16 : decode cJ4_compareTo_2 16 = .ok (.invokevirtual 33, 3) := dk_182 0 33 (dk_at dksJ4_compareTo_2_0 16 rfl rfl)
theorem dJ4_compareTo_2_19 : decode cJ4_compareTo_2 19 = .ok (.aload_n 2, 1) := dk_44 (dk_at dksJ4_compareTo_2_0 19 rfl rfl)
theorem dJ4_compareTo_2_20 : decode cJ4_compareTo_2 20 = .ok (.invokevirtual 33, 3) := dk_182 0 33 (dk_at dksJ4_compareTo_2_0 20 rfl rfl)
theorem dJ4_compareTo_2_23 : decode cJ4_compareTo_2 23 = .ok (.if_acmp .eq 11, 3) := dk_165 0 11 (dk_at dksJ4_compareTo_2_1 0 rfl rfl)
theorem dJ4_compareTo_2_26 : decode cJ4_compareTo_2 26 = .ok (.new 36, 3) := dk_187 0 36 (dk_at dksJ4_compareTo_2_1 3 rfl rfl)
theorem dJ4_compareTo_2_29 : decode cJ4_compareTo_2 29 = .ok (.dup, 1) := dk_89 (dk_at dksJ4_compareTo_2_1 6 rfl rfl)
theorem dJ4_compareTo_2_30 : decode cJ4_compareTo_2 30 = .ok (.invokespecial 38, 3) := dk_183 0 38 (dk_at dksJ4_compareTo_2_1 7 rfl rfl)
theorem dJ4_compareTo_2_33 : decode cJ4_compareTo_2 33 = .ok (.athrow, 1) := dk_191 (dk_at dksJ4_compareTo_2_1 10 rfl rfl)
theorem dJ4_compareTo_2_34 : decode cJ4_compareTo_2 34 = .ok (.aload_n 3, 1) := dk_45 (dk_at dksJ4_compareTo_2_1 11 rfl rfl)
theorem dJ4_compareTo_2_35 : decode cJ4_compareTo_2 35 = .ok (.getfield 7, 3) := dk_180 0 7 (dk_at dksJ4_compareTo_2_1 12 rfl rfl)
theorem dJ4_compareTo_2_38 : decode cJ4_compareTo_2 38 = .ok (.aload_n 2, 1) := dk_44 (dk_at dksJ4_compareTo_2_1 15 rfl rfl)
theorem dJ4_compareTo_2_39 : decode cJ4_compareTo_2 39 = .ok (.getfield 7, 3) := dk_180 0 7 (dk_at dksJ4_compareTo_2_1 16 rfl rfl)
theorem dJ4_compareTo_2_42 : decode cJ4_compareTo_2 42 = .ok (.isub, 1) := dk_100 (dk_at dksJ4_compareTo_2_1 19 rfl rfl)
theorem dJ4_compareTo_2_43 : decode cJ4_compareTo_2 43 = .ok (.ireturn, 1) := dk_172 (dk_at dksJ4_compareTo_2_1 20 rfl rfl)
abbrev cJ4_getDeclaringClass : ByteArray := prog_36_method_9_code
def yJ4_getDeclaringClass : MethodName := ⟨RJ4, "getDeclaringClass", "()Ljava/lang/Class;"⟩
def dkwJ4_getDeclaringClass_0 : List UInt8 := [42, 182, 0, 29, 76, 43, 182, 0, 39, 77, 44, 18, 2, 166, 0, 7, 43, 167, 0, 4, 44, 176]
abbrev dktJ4_getDeclaringClass_0 : List UInt8 := dkwJ4_getDeclaringClass_0 ++ []
theorem dksJ4_getDeclaringClass_0 : cJ4_getDeclaringClass.data.toList.drop 0 = dktJ4_getDeclaringClass_0 := by decide +kernel
theorem dJ4_getDeclaringClass_0 : decode cJ4_getDeclaringClass 0 = .ok (.aload_n 0, 1) := dk_42 (dk_at dksJ4_getDeclaringClass_0 0 rfl rfl)
theorem dJ4_getDeclaringClass_1 : decode cJ4_getDeclaringClass 1 = .ok (.invokevirtual 29, 3) := dk_182 0 29 (dk_at dksJ4_getDeclaringClass_0 1 rfl rfl)
theorem dJ4_getDeclaringClass_4 : decode cJ4_getDeclaringClass 4 = .ok (.astore_n 1, 1) := dk_76 (dk_at dksJ4_getDeclaringClass_0 4 rfl rfl)
theorem dJ4_getDeclaringClass_5 : decode cJ4_getDeclaringClass 5 = .ok (.aload_n 1, 1) := dk_43 (dk_at dksJ4_getDeclaringClass_0 5 rfl rfl)
theorem dJ4_getDeclaringClass_6 : decode cJ4_getDeclaringClass 6 = .ok (.invokevirtual 39, 3) := dk_182 0 39 (dk_at dksJ4_getDeclaringClass_0 6 rfl rfl)
theorem dJ4_getDeclaringClass_9 : decode cJ4_getDeclaringClass 9 = .ok (.astore_n 2, 1) := dk_77 (dk_at dksJ4_getDeclaringClass_0 9 rfl rfl)
theorem dJ4_getDeclaringClass_10 : decode cJ4_getDeclaringClass 10 = .ok (.aload_n 2, 1) := dk_44 (dk_at dksJ4_getDeclaringClass_0 10 rfl rfl)
theorem dJ4_getDeclaringClass_11 : decode cJ4_getDeclaringClass 11 = .ok (.ldc 2, 2) := dk_18 2 (dk_at dksJ4_getDeclaringClass_0 11 rfl rfl)
theorem dJ4_getDeclaringClass_13 : decode cJ4_getDeclaringClass 13 = .ok (.if_acmp .ne 7, 3) := dk_166 0 7 (dk_at dksJ4_getDeclaringClass_0 13 rfl rfl)
theorem dJ4_getDeclaringClass_16 : decode cJ4_getDeclaringClass 16 = .ok (.aload_n 1, 1) := dk_43 (dk_at dksJ4_getDeclaringClass_0 16 rfl rfl)
theorem dJ4_getDeclaringClass_17 : decode cJ4_getDeclaringClass 17 = .ok (.goto 4, 3) := dk_167 0 4 (dk_at dksJ4_getDeclaringClass_0 17 rfl rfl)
theorem dJ4_getDeclaringClass_20 : decode cJ4_getDeclaringClass 20 = .ok (.aload_n 2, 1) := dk_44 (dk_at dksJ4_getDeclaringClass_0 20 rfl rfl)
theorem dJ4_getDeclaringClass_21 : decode cJ4_getDeclaringClass 21 = .ok (.areturn, 1) := dk_176 (dk_at dksJ4_getDeclaringClass_0 21 rfl rfl)
abbrev cJ4_ordinal : ByteArray := prog_36_method_2_code
def yJ4_ordinal : MethodName := ⟨RJ4, "ordinal", "()I"⟩
theorem dJ4_ordinal_0 : decode cJ4_ordinal 0 = .ok (.aload_n 0, 1) := by decide +kernel
theorem dJ4_ordinal_1 : decode cJ4_ordinal 1 = .ok (.getfield 7, 3) := by decide +kernel
theorem dJ4_ordinal_4 : decode cJ4_ordinal 4 = .ok (.ireturn, 1) := by decide +kernel
theorem q109 : (Jvm.Cond.initialized "java/lang/Enum") ∈ lw_all := lw_g (lw_at lw_m1 8 rfl) rfl
theorem q651 : (Jvm.Cond.instanceMethod ({ cls := "java/lang/Enum", name := "compareTo", desc := "(Ljava/lang/Object;)I" } : Jvm.MethodName)) ∈ lw_all := lw_g (lw_at lw_m3 70 rfl) rfl
theorem q652 : (Jvm.Cond.publicMethod ({ cls := "java/lang/Enum", name := "compareTo", desc := "(Ljava/lang/Object;)I" } : Jvm.MethodName)) ∈ lw_tbl := lw_at lw_m3 71 rfl
theorem q653 : (Jvm.Cond.code ({ cls := "java/lang/Enum", name := "compareTo", desc := "(Ljava/lang/Object;)I" } : Jvm.MethodName) prog_36_method_15_code (2 : Nat) (Option.some Jvm.ClassFile.FieldType.int)) ∈ lw_all := lw_g (lw_at lw_m3 72 rfl) rfl
theorem q654 : (Jvm.Cond.classLink "java/lang/Enum" (2 : Nat) "java/lang/Enum") ∈ lw_all := lw_g (lw_at lw_m3 73 rfl) rfl
theorem q655 : (Jvm.Cond.methodLink "java/lang/Enum" (101 : Nat) ({ cls := "java/lang/Enum", name := "compareTo", desc := "(Ljava/lang/Enum;)I" } : Jvm.MethodName)) ∈ lw_all := lw_g (lw_at lw_m3 74 rfl) rfl
theorem q656 : (Jvm.Cond.instanceMethod ({ cls := "java/lang/Enum", name := "compareTo", desc := "(Ljava/lang/Enum;)I" } : Jvm.MethodName)) ∈ lw_all := lw_g (lw_at lw_m3 75 rfl) rfl
theorem q657 : (Jvm.Cond.sameMethod "java/lang/Enum" "java/lang/Enum" "compareTo" "(Ljava/lang/Enum;)I") ∈ lw_all := lw_g (lw_at lw_m3 76 rfl) rfl
theorem q668 : (Jvm.Cond.code ({ cls := "java/lang/Enum", name := "compareTo", desc := "(Ljava/lang/Enum;)I" } : Jvm.MethodName) prog_36_method_8_code (4 : Nat) (Option.some Jvm.ClassFile.FieldType.int)) ∈ lw_all := lw_g (lw_at lw_m3 87 rfl) rfl
theorem q669 : (Jvm.Cond.methodLink "java/lang/Enum" (29 : Nat) ({ cls := "java/lang/Object", name := "getClass", desc := "()Ljava/lang/Class;" } : Jvm.MethodName)) ∈ lw_all := lw_g (lw_at lw_m3 88 rfl) rfl
theorem q722 : (Jvm.Cond.methodLink "java/lang/Enum" (33 : Nat) ({ cls := "java/lang/Enum", name := "getDeclaringClass", desc := "()Ljava/lang/Class;" } : Jvm.MethodName)) ∈ lw_all := lw_g (lw_at lw_m3 141 rfl) rfl
theorem q723 : (Jvm.Cond.instanceMethod ({ cls := "java/lang/Enum", name := "getDeclaringClass", desc := "()Ljava/lang/Class;" } : Jvm.MethodName)) ∈ lw_all := lw_g (lw_at lw_m3 142 rfl) rfl
theorem q724 : (Jvm.Cond.sameMethod "java/lang/Enum" "java/lang/Enum" "getDeclaringClass" "()Ljava/lang/Class;") ∈ lw_all := lw_g (lw_at lw_m3 143 rfl) rfl
theorem q735 : (Jvm.Cond.code ({ cls := "java/lang/Enum", name := "getDeclaringClass", desc := "()Ljava/lang/Class;" } : Jvm.MethodName) prog_36_method_9_code (3 : Nat) (Option.some (Jvm.ClassFile.FieldType.object "java/lang/Class"))) ∈ lw_all := lw_g (lw_at lw_m3 154 rfl) rfl
theorem q1106 : (Jvm.Cond.declares ({ cls := "java/lang/Enum", name := "ordinal", desc := "()I" } : Jvm.MethodName)) ∈ lw_tbl := lw_at lw_m5 45 rfl
theorem q1117 : (Jvm.Cond.instanceMethod ({ cls := "java/lang/Enum", name := "ordinal", desc := "()I" } : Jvm.MethodName)) ∈ lw_all := lw_g (lw_at lw_m5 56 rfl) rfl
theorem q1118 : (Jvm.Cond.code ({ cls := "java/lang/Enum", name := "ordinal", desc := "()I" } : Jvm.MethodName) prog_36_method_2_code (1 : Nat) (Option.some Jvm.ClassFile.FieldType.int)) ∈ lw_all := lw_g (lw_at lw_m5 57 rfl) rfl
theorem q3476 : (Jvm.Cond.fieldLink "java/lang/Enum" (7 : Nat) "java/lang/Enum" "ordinal" "I") ∈ lw_all := lw_g (lw_at lw_m15 15 rfl) rfl

/-! java/util/AbstractQueue -/
set_option maxRecDepth 100000
def RJ5 : String := "java/util/AbstractQueue"
abbrev cJ5_init : ByteArray := prog_59_method_1_code
def yJ5_init : MethodName := ⟨RJ5, "<init>", "()V"⟩
theorem dJ5_init_0 : decode cJ5_init 0 = .ok (.aload_n 0, 1) := by decide +kernel
theorem dJ5_init_1 : decode cJ5_init 1 = .ok (.invokespecial 1, 3) := by decide +kernel
theorem dJ5_init_4 : decode cJ5_init 4 = .ok (.return_, 1) := by decide +kernel
theorem q113 : (Jvm.Cond.initialized "java/util/AbstractQueue") ∈ lw_all := lw_g (lw_at lw_m1 12 rfl) rfl
theorem q285 : (Jvm.Cond.instanceMethod ({ cls := "java/util/AbstractQueue", name := "<init>", desc := "()V" } : Jvm.MethodName)) ∈ lw_all := lw_g (lw_at lw_m1 184 rfl) rfl
theorem q286 : (Jvm.Cond.code ({ cls := "java/util/AbstractQueue", name := "<init>", desc := "()V" } : Jvm.MethodName) prog_59_method_1_code (1 : Nat) (Option.none : Option Jvm.ClassFile.FieldType)) ∈ lw_all := lw_g (lw_at lw_m1 185 rfl) rfl
theorem q287 : (Jvm.Cond.methodLink "java/util/AbstractQueue" (1 : Nat) ({ cls := "java/util/AbstractCollection", name := "<init>", desc := "()V" } : Jvm.MethodName)) ∈ lw_all := lw_g (lw_at lw_m1 186 rfl) rfl

/-! java/util/PriorityQueue -/
set_option maxRecDepth 100000
def RJ6 : String := "java/util/PriorityQueue"
def TJ6 : u_T := fun k => match k with
  | 0 => ("java/util/PriorityQueue", "queue", "[Ljava/lang/Object;", false)
  | 1 => ("java/util/PriorityQueue", "size", "I", false)
  | 2 => ("java/util/PriorityQueue", "comparator", "Ljava/util/Comparator;", true)
  | _ => ("java/util/PriorityQueue", "modCount", "I", false)
def tyJ6 : Nat → FieldType := fun k => match k with
  | 0 => .array (.object "java/lang/Object")
  | 1 => .int
  | 2 => .object "java/util/Comparator"
  | _ => .int
abbrev wsJ60 : List Cond := u_ws RJ6 TJ6 4
theorem nmJ6 : ∀ a, a < 4 → ∀ b, b < 4 → a ≠ b → (TJ6 a).2.1 ≠ (TJ6 b).2.1 := by decide +kernel
theorem tyJ6_ok : ∀ k, k < 4 → parseFieldDescriptor (TJ6 k).2.2.1 = some (tyJ6 k) := by decide +kernel
abbrev cJ6_init : ByteArray := prog_84_method_2_code
def yJ6_init : MethodName := ⟨RJ6, "<init>", "(I)V"⟩
def dkwJ6_init_0 : List UInt8 := [42, 27, 1, 183, 0, 3, 177]
abbrev dktJ6_init_0 : List UInt8 := dkwJ6_init_0 ++ []
theorem dksJ6_init_0 : cJ6_init.data.toList.drop 0 = dktJ6_init_0 := by decide +kernel
theorem dJ6_init_0 : decode cJ6_init 0 = .ok (.aload_n 0, 1) := dk_42 (dk_at dksJ6_init_0 0 rfl rfl)
theorem dJ6_init_1 : decode cJ6_init 1 = .ok (.iload_n 1, 1) := dk_27 (dk_at dksJ6_init_0 1 rfl rfl)
theorem dJ6_init_2 : decode cJ6_init 2 = .ok (.aconst_null, 1) := dk_1 (dk_at dksJ6_init_0 2 rfl rfl)
theorem dJ6_init_3 : decode cJ6_init 3 = .ok (.invokespecial 3, 3) := dk_183 0 3 (dk_at dksJ6_init_0 3 rfl rfl)
theorem dJ6_init_6 : decode cJ6_init 6 = .ok (.return_, 1) := dk_177 (dk_at dksJ6_init_0 6 rfl rfl)
abbrev cJ6_init_2 : ByteArray := prog_84_method_4_code
def yJ6_init_2 : MethodName := ⟨RJ6, "<init>", "(ILjava/util/Comparator;)V"⟩
def dkwJ6_init_2_1 : List UInt8 := [181, 0, 17, 42, 44, 181, 0, 21, 177]
abbrev dktJ6_init_2_1 : List UInt8 := dkwJ6_init_2_1 ++ []
def dkwJ6_init_2_0 : List UInt8 := [42, 183, 0, 7, 27, 4, 162, 0, 11, 187, 0, 12, 89, 183, 0, 14, 191, 42, 27, 189, 0, 15]
abbrev dktJ6_init_2_0 : List UInt8 := dkwJ6_init_2_0 ++ dktJ6_init_2_1
theorem dksJ6_init_2_0 : cJ6_init_2.data.toList.drop 0 = dktJ6_init_2_0 := by decide +kernel
theorem dksJ6_init_2_1 : cJ6_init_2.data.toList.drop 22 = dktJ6_init_2_1 := dk_seg dksJ6_init_2_0 22 rfl rfl
theorem dJ6_init_2_0 : decode cJ6_init_2 0 = .ok (.aload_n 0, 1) := dk_42 (dk_at dksJ6_init_2_0 0 rfl rfl)
theorem dJ6_init_2_1 : decode cJ6_init_2 1 = .ok (.invokespecial 7, 3) := dk_183 0 7 (dk_at dksJ6_init_2_0 1 rfl rfl)
theorem dJ6_init_2_4 : decode cJ6_init_2 4 = .ok (.iload_n 1, 1) := dk_27 (dk_at dksJ6_init_2_0 4 rfl rfl)
theorem dJ6_init_2_5 : decode cJ6_init_2 5 = .ok (.iconst 1, 1) := dk_4 (dk_at dksJ6_init_2_0 5 rfl rfl)
theorem dJ6_init_2_6 : decode cJ6_init_2 6 = .ok (.if_icmp .ge 11, 3) := dk_162 0 11 (dk_at dksJ6_init_2_0 6 rfl rfl)
theorem dJ6_init_2_9 : decode cJ6_init_2 9 = .ok (.new 12, 3) := dk_187 0 12 (dk_at dksJ6_init_2_0 9 rfl rfl)
theorem dJ6_init_2_12 : decode cJ6_init_2 12 = .ok (.dup, 1) := dk_89 (dk_at dksJ6_init_2_0 12 rfl rfl)
theorem dJ6_init_2_13 : decode cJ6_init_2 13 = .ok (.invokespecial 14, 3) := dk_183 0 14 (dk_at dksJ6_init_2_0 13 rfl rfl)
theorem dJ6_init_2_16 : decode cJ6_init_2 16 = .ok (.athrow, 1) := dk_191 (dk_at dksJ6_init_2_0 16 rfl rfl)
theorem dJ6_init_2_17 : decode cJ6_init_2 17 = .ok (.aload_n 0, 1) := dk_42 (dk_at dksJ6_init_2_0 17 rfl rfl)
theorem dJ6_init_2_18 : decode cJ6_init_2 18 = .ok (.iload_n 1, 1) := dk_27 (dk_at dksJ6_init_2_0 18 rfl rfl)
theorem dJ6_init_2_19 : decode cJ6_init_2 19 = .ok (.anewarray 15, 3) := dk_189 0 15 (dk_at dksJ6_init_2_0 19 rfl rfl)
theorem dJ6_init_2_22 : decode cJ6_init_2 22 = .ok (.putfield 17, 3) := dk_181 0 17 (dk_at dksJ6_init_2_1 0 rfl rfl)
theorem dJ6_init_2_25 : decode cJ6_init_2 25 = .ok (.aload_n 0, 1) := dk_42 (dk_at dksJ6_init_2_1 3 rfl rfl)
theorem dJ6_init_2_26 : decode cJ6_init_2 26 = .ok (.aload_n 2, 1) := dk_44 (dk_at dksJ6_init_2_1 4 rfl rfl)
theorem dJ6_init_2_27 : decode cJ6_init_2 27 = .ok (.putfield 21, 3) := dk_181 0 21 (dk_at dksJ6_init_2_1 5 rfl rfl)
theorem dJ6_init_2_30 : decode cJ6_init_2 30 = .ok (.return_, 1) := dk_177 (dk_at dksJ6_init_2_1 8 rfl rfl)
abbrev cJ6_size : ByteArray := prog_84_method_23_code
def yJ6_size : MethodName := ⟨RJ6, "size", "()I"⟩
theorem dJ6_size_0 : decode cJ6_size 0 = .ok (.aload_n 0, 1) := by decide +kernel
theorem dJ6_size_1 : decode cJ6_size 1 = .ok (.getfield 58, 3) := by decide +kernel
theorem dJ6_size_4 : decode cJ6_size 4 = .ok (.ireturn, 1) := by decide +kernel
abbrev cJ6_add : ByteArray := prog_84_method_13_code
def yJ6_add : MethodName := ⟨RJ6, "add", "(Ljava/lang/Object;)Z"⟩
def dkwJ6_add_0 : List UInt8 := [42, 43, 182, 0, 89, 172]
abbrev dktJ6_add_0 : List UInt8 := dkwJ6_add_0 ++ []
theorem dksJ6_add_0 : cJ6_add.data.toList.drop 0 = dktJ6_add_0 := by decide +kernel
theorem dJ6_add_0 : decode cJ6_add 0 = .ok (.aload_n 0, 1) := dk_42 (dk_at dksJ6_add_0 0 rfl rfl)
theorem dJ6_add_1 : decode cJ6_add 1 = .ok (.aload_n 1, 1) := dk_43 (dk_at dksJ6_add_0 1 rfl rfl)
theorem dJ6_add_2 : decode cJ6_add 2 = .ok (.invokevirtual 89, 3) := dk_182 0 89 (dk_at dksJ6_add_0 2 rfl rfl)
theorem dJ6_add_5 : decode cJ6_add 5 = .ok (.ireturn, 1) := dk_172 (dk_at dksJ6_add_0 5 rfl rfl)
abbrev cJ6_offer : ByteArray := prog_84_method_14_code
def yJ6_offer : MethodName := ⟨RJ6, "offer", "(Ljava/lang/Object;)Z"⟩
def dkwJ6_offer_2 : List UInt8 := [182, 0, 100, 42, 28, 4, 96, 181, 0, 58, 4, 172]
abbrev dktJ6_offer_2 : List UInt8 := dkwJ6_offer_2 ++ []
def dkwJ6_offer_1 : List UInt8 := [180, 0, 58, 61, 28, 42, 180, 0, 17, 190, 161, 0, 10, 42, 28, 4, 96, 182, 0, 96, 42, 28, 43]
abbrev dktJ6_offer_1 : List UInt8 := dkwJ6_offer_1 ++ dktJ6_offer_2
def dkwJ6_offer_0 : List UInt8 := [43, 199, 0, 11, 187, 0, 74, 89, 183, 0, 76, 191, 42, 89, 180, 0, 93, 4, 96, 181, 0, 93, 42]
abbrev dktJ6_offer_0 : List UInt8 := dkwJ6_offer_0 ++ dktJ6_offer_1
theorem dksJ6_offer_0 : cJ6_offer.data.toList.drop 0 = dktJ6_offer_0 := by decide +kernel
theorem dksJ6_offer_1 : cJ6_offer.data.toList.drop 23 = dktJ6_offer_1 := dk_seg dksJ6_offer_0 23 rfl rfl
theorem dksJ6_offer_2 : cJ6_offer.data.toList.drop 46 = dktJ6_offer_2 := dk_seg dksJ6_offer_1 23 rfl rfl
theorem dJ6_offer_0 : decode cJ6_offer 0 = .ok (.aload_n 1, 1) := dk_43 (dk_at dksJ6_offer_0 0 rfl rfl)
theorem dJ6_offer_1 : decode cJ6_offer 1 = .ok (.ifnonnull 11, 3) := dk_199 0 11 (dk_at dksJ6_offer_0 1 rfl rfl)
theorem dJ6_offer_4 : decode cJ6_offer 4 = .ok (.new 74, 3) := dk_187 0 74 (dk_at dksJ6_offer_0 4 rfl rfl)
theorem dJ6_offer_7 : decode cJ6_offer 7 = .ok (.dup, 1) := dk_89 (dk_at dksJ6_offer_0 7 rfl rfl)
theorem dJ6_offer_8 : decode cJ6_offer 8 = .ok (.invokespecial 76, 3) := dk_183 0 76 (dk_at dksJ6_offer_0 8 rfl rfl)
theorem dJ6_offer_11 : decode cJ6_offer 11 = .ok (.athrow, 1) := dk_191 (dk_at dksJ6_offer_0 11 rfl rfl)
theorem dJ6_offer_12 : decode cJ6_offer 12 = .ok (.aload_n 0, 1) := dk_42 (dk_at dksJ6_offer_0 12 rfl rfl)
theorem dJ6_offer_13 : decode cJ6_offer 13 = .ok (.dup, 1) := dk_89 (dk_at dksJ6_offer_0 13 rfl rfl)
theorem dJ6_offer_14 : decode cJ6_offer 14 = .ok (.getfield 93, 3) := dk_180 0 93 (dk_at dksJ6_offer_0 14 rfl rfl)
theorem dJ6_offer_17 : decode cJ6_offer 17 = .ok (.iconst 1, 1) := dk_4 (dk_at dksJ6_offer_0 17 rfl rfl)
theorem dJ6_offer_18 : decode cJ6_offer 18 = .ok (.iadd, 1) := dk_96 (dk_at dksJ6_offer_0 18 rfl rfl)
theorem dJ6_offer_19 : decode cJ6_offer 19 = .ok (.putfield 93, 3) := dk_181 0 93 (dk_at dksJ6_offer_0 19 rfl rfl)
theorem dJ6_offer_22 : decode cJ6_offer 22 = .ok (.aload_n 0, 1) := dk_42 (dk_at dksJ6_offer_0 22 rfl rfl)
theorem dJ6_offer_23 : decode cJ6_offer 23 = .ok (.getfield 58, 3) := dk_180 0 58 (dk_at dksJ6_offer_1 0 rfl rfl)
theorem dJ6_offer_26 : decode cJ6_offer 26 = .ok (.istore_n 2, 1) := dk_61 (dk_at dksJ6_offer_1 3 rfl rfl)
theorem dJ6_offer_27 : decode cJ6_offer 27 = .ok (.iload_n 2, 1) := dk_28 (dk_at dksJ6_offer_1 4 rfl rfl)
theorem dJ6_offer_28 : decode cJ6_offer 28 = .ok (.aload_n 0, 1) := dk_42 (dk_at dksJ6_offer_1 5 rfl rfl)
theorem dJ6_offer_29 : decode cJ6_offer 29 = .ok (.getfield 17, 3) := dk_180 0 17 (dk_at dksJ6_offer_1 6 rfl rfl)
theorem dJ6_offer_32 : decode cJ6_offer 32 = .ok (.arraylength, 1) := dk_190 (dk_at dksJ6_offer_1 9 rfl rfl)
theorem dJ6_offer_33 : decode cJ6_offer 33 = .ok (.if_icmp .lt 10, 3) := dk_161 0 10 (dk_at dksJ6_offer_1 10 rfl rfl)
theorem dJ6_offer_36 : decode cJ6_offer 36 = .ok (.aload_n 0, 1) := dk_42 (dk_at dksJ6_offer_1 13 rfl rfl)
theorem dJ6_offer_37 : decode cJ6_offer 37 = .ok (.iload_n 2, 1) := dk_28 (dk_at dksJ6_offer_1 14 rfl rfl)
theorem dJ6_offer_38 : decode cJ6_offer 38 = .ok (.iconst 1, 1) := dk_4 (dk_at dksJ6_offer_1 15 rfl rfl)
theorem dJ6_offer_39 : decode cJ6_offer 39 = .ok (.iadd, 1) := dk_96 (dk_at dksJ6_offer_1 16 rfl rfl)
theorem dJ6_offer_40 : decode cJ6_offer 40 = .ok (.invokevirtual 96, 3) := dk_182 0 96 (dk_at dksJ6_offer_1 17 rfl rfl)
theorem dJ6_offer_43 : decode cJ6_offer 43 = .ok (.aload_n 0, 1) := dk_42 (dk_at dksJ6_offer_1 20 rfl rfl)
theorem dJ6_offer_44 : decode cJ6_offer 44 = .ok (.iload_n 2, 1) := dk_28 (dk_at dksJ6_offer_1 21 rfl rfl)
theorem dJ6_offer_45 : decode cJ6_offer 45 = .ok (.aload_n 1, 1) := dk_43 (dk_at dksJ6_offer_1 22 rfl rfl)
theorem dJ6_offer_46 : decode cJ6_offer 46 = .ok (.invokevirtual 100, 3) := dk_182 0 100 (dk_at dksJ6_offer_2 0 rfl rfl)
theorem dJ6_offer_49 : decode cJ6_offer 49 = .ok (.aload_n 0, 1) := dk_42 (dk_at dksJ6_offer_2 3 rfl rfl)
theorem dJ6_offer_50 : decode cJ6_offer 50 = .ok (.iload_n 2, 1) := dk_28 (dk_at dksJ6_offer_2 4 rfl rfl)
theorem dJ6_offer_51 : decode cJ6_offer 51 = .ok (.iconst 1, 1) := dk_4 (dk_at dksJ6_offer_2 5 rfl rfl)
theorem dJ6_offer_52 : decode cJ6_offer 52 = .ok (.iadd, 1) := dk_96 (dk_at dksJ6_offer_2 6 rfl rfl)
theorem dJ6_offer_53 : decode cJ6_offer 53 = .ok (.putfield 58, 3) := dk_181 0 58 (dk_at dksJ6_offer_2 7 rfl rfl)
theorem dJ6_offer_56 : decode cJ6_offer 56 = .ok (.iconst 1, 1) := dk_4 (dk_at dksJ6_offer_2 10 rfl rfl)
theorem dJ6_offer_57 : decode cJ6_offer 57 = .ok (.ireturn, 1) := dk_172 (dk_at dksJ6_offer_2 11 rfl rfl)
abbrev cJ6_grow : ByteArray := prog_84_method_12_code
def yJ6_grow : MethodName := ⟨RJ6, "grow", "(I)V"⟩
def dkwJ6_grow_1 : List UInt8 := [122, 184, 0, 80, 62, 42, 42, 180, 0, 17, 29, 184, 0, 86, 181, 0, 17, 177]
abbrev dktJ6_grow_1 : List UInt8 := dkwJ6_grow_1 ++ []
def dkwJ6_grow_0 : List UInt8 := [42, 180, 0, 17, 190, 61, 28, 27, 28, 100, 28, 16, 64, 162, 0, 9, 28, 5, 96, 167, 0, 6, 28, 4]
abbrev dktJ6_grow_0 : List UInt8 := dkwJ6_grow_0 ++ dktJ6_grow_1
theorem dksJ6_grow_0 : cJ6_grow.data.toList.drop 0 = dktJ6_grow_0 := by decide +kernel
theorem dksJ6_grow_1 : cJ6_grow.data.toList.drop 24 = dktJ6_grow_1 := dk_seg dksJ6_grow_0 24 rfl rfl
theorem dJ6_grow_0 : decode cJ6_grow 0 = .ok (.aload_n 0, 1) := dk_42 (dk_at dksJ6_grow_0 0 rfl rfl)
theorem dJ6_grow_1 : decode cJ6_grow 1 = .ok (.getfield 17, 3) := dk_180 0 17 (dk_at dksJ6_grow_0 1 rfl rfl)
theorem dJ6_grow_4 : decode cJ6_grow 4 = .ok (.arraylength, 1) := dk_190 (dk_at dksJ6_grow_0 4 rfl rfl)
theorem dJ6_grow_5 : decode cJ6_grow 5 = .ok (.istore_n 2, 1) := dk_61 (dk_at dksJ6_grow_0 5 rfl rfl)
theorem dJ6_grow_6 : decode cJ6_grow 6 = .ok (.iload_n 2, 1) := dk_28 (dk_at dksJ6_grow_0 6 rfl rfl)
theorem dJ6_grow_7 : decode cJ6_grow 7 = .ok (.iload_n 1, 1) := dk_27 (dk_at dksJ6_grow_0 7 rfl rfl)
theorem dJ6_grow_8 : decode cJ6_grow 8 = .ok (.iload_n 2, 1) := dk_28 (dk_at dksJ6_grow_0 8 rfl rfl)
theorem dJ6_grow_9 : decode cJ6_grow 9 = .ok (.isub, 1) := dk_100 (dk_at dksJ6_grow_0 9 rfl rfl)
theorem dJ6_grow_10 : decode cJ6_grow 10 = .ok (.iload_n 2, 1) := dk_28 (dk_at dksJ6_grow_0 10 rfl rfl)
theorem dJ6_grow_11 : decode cJ6_grow 11 = .ok (.bipush 64, 2) := dk_16 64 (dk_at dksJ6_grow_0 11 rfl rfl)
theorem dJ6_grow_13 : decode cJ6_grow 13 = .ok (.if_icmp .ge 9, 3) := dk_162 0 9 (dk_at dksJ6_grow_0 13 rfl rfl)
theorem dJ6_grow_16 : decode cJ6_grow 16 = .ok (.iload_n 2, 1) := dk_28 (dk_at dksJ6_grow_0 16 rfl rfl)
theorem dJ6_grow_17 : decode cJ6_grow 17 = .ok (.iconst 2, 1) := dk_5 (dk_at dksJ6_grow_0 17 rfl rfl)
theorem dJ6_grow_18 : decode cJ6_grow 18 = .ok (.iadd, 1) := dk_96 (dk_at dksJ6_grow_0 18 rfl rfl)
theorem dJ6_grow_19 : decode cJ6_grow 19 = .ok (.goto 6, 3) := dk_167 0 6 (dk_at dksJ6_grow_0 19 rfl rfl)
theorem dJ6_grow_22 : decode cJ6_grow 22 = .ok (.iload_n 2, 1) := dk_28 (dk_at dksJ6_grow_0 22 rfl rfl)
theorem dJ6_grow_23 : decode cJ6_grow 23 = .ok (.iconst 1, 1) := dk_4 (dk_at dksJ6_grow_0 23 rfl rfl)
theorem dJ6_grow_24 : decode cJ6_grow 24 = .ok (.ishr, 1) := dk_122 (dk_at dksJ6_grow_1 0 rfl rfl)
theorem dJ6_grow_25 : decode cJ6_grow 25 = .ok (.invokestatic 80, 3) := dk_184 0 80 (dk_at dksJ6_grow_1 1 rfl rfl)
theorem dJ6_grow_28 : decode cJ6_grow 28 = .ok (.istore_n 3, 1) := dk_62 (dk_at dksJ6_grow_1 4 rfl rfl)
theorem dJ6_grow_29 : decode cJ6_grow 29 = .ok (.aload_n 0, 1) := dk_42 (dk_at dksJ6_grow_1 5 rfl rfl)
theorem dJ6_grow_30 : decode cJ6_grow 30 = .ok (.aload_n 0, 1) := dk_42 (dk_at dksJ6_grow_1 6 rfl rfl)
theorem dJ6_grow_31 : decode cJ6_grow 31 = .ok (.getfield 17, 3) := dk_180 0 17 (dk_at dksJ6_grow_1 7 rfl rfl)
theorem dJ6_grow_34 : decode cJ6_grow 34 = .ok (.iload_n 3, 1) := dk_29 (dk_at dksJ6_grow_1 10 rfl rfl)
theorem dJ6_grow_35 : decode cJ6_grow 35 = .ok (.invokestatic 86, 3) := dk_184 0 86 (dk_at dksJ6_grow_1 11 rfl rfl)
theorem dJ6_grow_38 : decode cJ6_grow 38 = .ok (.putfield 17, 3) := dk_181 0 17 (dk_at dksJ6_grow_1 14 rfl rfl)
theorem dJ6_grow_41 : decode cJ6_grow 41 = .ok (.return_, 1) := dk_177 (dk_at dksJ6_grow_1 17 rfl rfl)
abbrev cJ6_siftUp : ByteArray := prog_84_method_27_code
def yJ6_siftUp : MethodName := ⟨RJ6, "siftUp", "(ILjava/lang/Object;)V"⟩
def dkwJ6_siftUp_1 : List UInt8 := [44, 42, 180, 0, 17, 184, 0, 140, 177]
abbrev dktJ6_siftUp_1 : List UInt8 := dkwJ6_siftUp_1 ++ []
def dkwJ6_siftUp_0 : List UInt8 := [42, 180, 0, 21, 198, 0, 19, 27, 44, 42, 180, 0, 17, 42, 180, 0, 21, 184, 0, 136, 167, 0, 12, 27]
abbrev dktJ6_siftUp_0 : List UInt8 := dkwJ6_siftUp_0 ++ dktJ6_siftUp_1
theorem dksJ6_siftUp_0 : cJ6_siftUp.data.toList.drop 0 = dktJ6_siftUp_0 := by decide +kernel
theorem dksJ6_siftUp_1 : cJ6_siftUp.data.toList.drop 24 = dktJ6_siftUp_1 := dk_seg dksJ6_siftUp_0 24 rfl rfl
theorem dJ6_siftUp_0 : decode cJ6_siftUp 0 = .ok (.aload_n 0, 1) := dk_42 (dk_at dksJ6_siftUp_0 0 rfl rfl)
theorem dJ6_siftUp_1 : decode cJ6_siftUp 1 = .ok (.getfield 21, 3) := dk_180 0 21 (dk_at dksJ6_siftUp_0 1 rfl rfl)
theorem dJ6_siftUp_4 : decode cJ6_siftUp 4 = .ok (.ifnull 19, 3) := dk_198 0 19 (dk_at dksJ6_siftUp_0 4 rfl rfl)
theorem dJ6_siftUp_7 : decode cJ6_siftUp 7 = .ok (.iload_n 1, 1) := dk_27 (dk_at dksJ6_siftUp_0 7 rfl rfl)
theorem dJ6_siftUp_8 : decode cJ6_siftUp 8 = .ok (.aload_n 2, 1) := dk_44 (dk_at dksJ6_siftUp_0 8 rfl rfl)
theorem dJ6_siftUp_9 : decode cJ6_siftUp 9 = .ok (.aload_n 0, 1) := dk_42 (dk_at dksJ6_siftUp_0 9 rfl rfl)
theorem dJ6_siftUp_10 : decode cJ6_siftUp 10 = .ok (.getfield 17, 3) := dk_180 0 17 (dk_at dksJ6_siftUp_0 10 rfl rfl)
theorem dJ6_siftUp_13 : decode cJ6_siftUp 13 = .ok (.aload_n 0, 1) := dk_42 (dk_at dksJ6_siftUp_0 13 rfl rfl)
theorem dJ6_siftUp_14 : decode cJ6_siftUp 14 = .ok (.getfield 21, 3) := dk_180 0 21 (dk_at dksJ6_siftUp_0 14 rfl rfl)
theorem dJ6_siftUp_17 : decode cJ6_siftUp 17 = .ok (.invokestatic 136, 3) := dk_184 0 136 (dk_at dksJ6_siftUp_0 17 rfl rfl)
theorem dJ6_siftUp_20 : decode cJ6_siftUp 20 = .ok (.goto 12, 3) := dk_167 0 12 (dk_at dksJ6_siftUp_0 20 rfl rfl)
theorem dJ6_siftUp_23 : decode cJ6_siftUp 23 = .ok (.iload_n 1, 1) := dk_27 (dk_at dksJ6_siftUp_0 23 rfl rfl)
theorem dJ6_siftUp_24 : decode cJ6_siftUp 24 = .ok (.aload_n 2, 1) := dk_44 (dk_at dksJ6_siftUp_1 0 rfl rfl)
theorem dJ6_siftUp_25 : decode cJ6_siftUp 25 = .ok (.aload_n 0, 1) := dk_42 (dk_at dksJ6_siftUp_1 1 rfl rfl)
theorem dJ6_siftUp_26 : decode cJ6_siftUp 26 = .ok (.getfield 17, 3) := dk_180 0 17 (dk_at dksJ6_siftUp_1 2 rfl rfl)
theorem dJ6_siftUp_29 : decode cJ6_siftUp 29 = .ok (.invokestatic 140, 3) := dk_184 0 140 (dk_at dksJ6_siftUp_1 5 rfl rfl)
theorem dJ6_siftUp_32 : decode cJ6_siftUp 32 = .ok (.return_, 1) := dk_177 (dk_at dksJ6_siftUp_1 8 rfl rfl)
abbrev cJ6_siftUpUsingComparator : ByteArray := prog_84_method_29_code
def yJ6_siftUpUsingComparator : MethodName := ⟨RJ6, "siftUpUsingComparator", "(ILjava/lang/Object;[Ljava/lang/Object;Ljava/util/Comparator;)V"⟩
def dkwJ6_siftUpUsingComparator_2 : List UInt8 := [43, 83, 177]
abbrev dktJ6_siftUpUsingComparator_2 : List UInt8 := dkwJ6_siftUpUsingComparator_2 ++ []
def dkwJ6_siftUpUsingComparator_1 : List UInt8 := [185, 0, 149, 3, 0, 155, 0, 6, 167, 0, 14, 44, 26, 25, 5, 83, 21, 4, 59, 167, 255, 216, 44, 26]
abbrev dktJ6_siftUpUsingComparator_1 : List UInt8 := dkwJ6_siftUpUsingComparator_1 ++ dktJ6_siftUpUsingComparator_2
def dkwJ6_siftUpUsingComparator_0 : List UInt8 := [26, 158, 0, 42, 26, 4, 100, 4, 124, 54, 4, 44, 21, 4, 50, 58, 5, 45, 43, 25, 5]
abbrev dktJ6_siftUpUsingComparator_0 : List UInt8 := dkwJ6_siftUpUsingComparator_0 ++ dktJ6_siftUpUsingComparator_1
theorem dksJ6_siftUpUsingComparator_0 : cJ6_siftUpUsingComparator.data.toList.drop 0 = dktJ6_siftUpUsingComparator_0 := by decide +kernel
theorem dksJ6_siftUpUsingComparator_1 : cJ6_siftUpUsingComparator.data.toList.drop 21 = dktJ6_siftUpUsingComparator_1 := dk_seg dksJ6_siftUpUsingComparator_0 21 rfl rfl
theorem dksJ6_siftUpUsingComparator_2 : cJ6_siftUpUsingComparator.data.toList.drop 45 = dktJ6_siftUpUsingComparator_2 := dk_seg dksJ6_siftUpUsingComparator_1 24 rfl rfl
theorem dJ6_siftUpUsingComparator_0 : decode cJ6_siftUpUsingComparator 0 = .ok (.iload_n 0, 1) := dk_26 (dk_at dksJ6_siftUpUsingComparator_0 0 rfl rfl)
theorem dJ6_siftUpUsingComparator_1 : decode cJ6_siftUpUsingComparator 1 = .ok (.ifCond .le 42, 3) := dk_158 0 42 (dk_at dksJ6_siftUpUsingComparator_0 1 rfl rfl)
theorem dJ6_siftUpUsingComparator_4 : decode cJ6_siftUpUsingComparator 4 = .ok (.iload_n 0, 1) := dk_26 (dk_at dksJ6_siftUpUsingComparator_0 4 rfl rfl)
theorem dJ6_siftUpUsingComparator_5 : decode cJ6_siftUpUsingComparator 5 = .ok (.iconst 1, 1) := dk_4 (dk_at dksJ6_siftUpUsingComparator_0 5 rfl rfl)
theorem dJ6_siftUpUsingComparator_6 : decode cJ6_siftUpUsingComparator 6 = .ok (.isub, 1) := dk_100 (dk_at dksJ6_siftUpUsingComparator_0 6 rfl rfl)
theorem dJ6_siftUpUsingComparator_7 : decode cJ6_siftUpUsingComparator 7 = .ok (.iconst 1, 1) := dk_4 (dk_at dksJ6_siftUpUsingComparator_0 7 rfl rfl)
theorem dJ6_siftUpUsingComparator_8 : decode cJ6_siftUpUsingComparator 8 = .ok (.iushr, 1) := dk_124 (dk_at dksJ6_siftUpUsingComparator_0 8 rfl rfl)
theorem dJ6_siftUpUsingComparator_9 : decode cJ6_siftUpUsingComparator 9 = .ok (.istore 4, 2) := dk_54 4 (dk_at dksJ6_siftUpUsingComparator_0 9 rfl rfl)
theorem dJ6_siftUpUsingComparator_11 : decode cJ6_siftUpUsingComparator 11 = .ok (.aload_n 2, 1) := dk_44 (dk_at dksJ6_siftUpUsingComparator_0 11 rfl rfl)
theorem dJ6_siftUpUsingComparator_12 : decode cJ6_siftUpUsingComparator 12 = .ok (.iload 4, 2) := dk_21 4 (dk_at dksJ6_siftUpUsingComparator_0 12 rfl rfl)
theorem dJ6_siftUpUsingComparator_14 : decode cJ6_siftUpUsingComparator 14 = .ok (.aaload, 1) := dk_50 (dk_at dksJ6_siftUpUsingComparator_0 14 rfl rfl)
theorem dJ6_siftUpUsingComparator_15 : decode cJ6_siftUpUsingComparator 15 = .ok (.astore 5, 2) := dk_58 5 (dk_at dksJ6_siftUpUsingComparator_0 15 rfl rfl)
theorem dJ6_siftUpUsingComparator_17 : decode cJ6_siftUpUsingComparator 17 = .ok (.aload_n 3, 1) := dk_45 (dk_at dksJ6_siftUpUsingComparator_0 17 rfl rfl)
theorem dJ6_siftUpUsingComparator_18 : decode cJ6_siftUpUsingComparator 18 = .ok (.aload_n 1, 1) := dk_43 (dk_at dksJ6_siftUpUsingComparator_0 18 rfl rfl)
theorem dJ6_siftUpUsingComparator_19 : decode cJ6_siftUpUsingComparator 19 = .ok (.aload 5, 2) := dk_25 5 (dk_at dksJ6_siftUpUsingComparator_0 19 rfl rfl)
theorem dJ6_siftUpUsingComparator_21 : decode cJ6_siftUpUsingComparator 21 = .ok (.invokeinterface 149 3, 5) := by decide +kernel
theorem dJ6_siftUpUsingComparator_26 : decode cJ6_siftUpUsingComparator 26 = .ok (.ifCond .lt 6, 3) := dk_155 0 6 (dk_at dksJ6_siftUpUsingComparator_1 5 rfl rfl)
theorem dJ6_siftUpUsingComparator_29 : decode cJ6_siftUpUsingComparator 29 = .ok (.goto 14, 3) := dk_167 0 14 (dk_at dksJ6_siftUpUsingComparator_1 8 rfl rfl)
theorem dJ6_siftUpUsingComparator_32 : decode cJ6_siftUpUsingComparator 32 = .ok (.aload_n 2, 1) := dk_44 (dk_at dksJ6_siftUpUsingComparator_1 11 rfl rfl)
theorem dJ6_siftUpUsingComparator_33 : decode cJ6_siftUpUsingComparator 33 = .ok (.iload_n 0, 1) := dk_26 (dk_at dksJ6_siftUpUsingComparator_1 12 rfl rfl)
theorem dJ6_siftUpUsingComparator_34 : decode cJ6_siftUpUsingComparator 34 = .ok (.aload 5, 2) := dk_25 5 (dk_at dksJ6_siftUpUsingComparator_1 13 rfl rfl)
theorem dJ6_siftUpUsingComparator_36 : decode cJ6_siftUpUsingComparator 36 = .ok (.aastore, 1) := dk_83 (dk_at dksJ6_siftUpUsingComparator_1 15 rfl rfl)
theorem dJ6_siftUpUsingComparator_37 : decode cJ6_siftUpUsingComparator 37 = .ok (.iload 4, 2) := dk_21 4 (dk_at dksJ6_siftUpUsingComparator_1 16 rfl rfl)
theorem dJ6_siftUpUsingComparator_39 : decode cJ6_siftUpUsingComparator 39 = .ok (.istore_n 0, 1) := dk_59 (dk_at dksJ6_siftUpUsingComparator_1 18 rfl rfl)
theorem dJ6_siftUpUsingComparator_40 : decode cJ6_siftUpUsingComparator 40 = .ok (.goto (-40), 3) := dk_167 255 216 (dk_at dksJ6_siftUpUsingComparator_1 19 rfl rfl)
theorem dJ6_siftUpUsingComparator_43 : decode cJ6_siftUpUsingComparator 43 = .ok (.aload_n 2, 1) := dk_44 (dk_at dksJ6_siftUpUsingComparator_1 22 rfl rfl)
theorem dJ6_siftUpUsingComparator_44 : decode cJ6_siftUpUsingComparator 44 = .ok (.iload_n 0, 1) := dk_26 (dk_at dksJ6_siftUpUsingComparator_1 23 rfl rfl)
theorem dJ6_siftUpUsingComparator_45 : decode cJ6_siftUpUsingComparator 45 = .ok (.aload_n 1, 1) := dk_43 (dk_at dksJ6_siftUpUsingComparator_2 0 rfl rfl)
theorem dJ6_siftUpUsingComparator_46 : decode cJ6_siftUpUsingComparator 46 = .ok (.aastore, 1) := dk_83 (dk_at dksJ6_siftUpUsingComparator_2 1 rfl rfl)
theorem dJ6_siftUpUsingComparator_47 : decode cJ6_siftUpUsingComparator 47 = .ok (.return_, 1) := dk_177 (dk_at dksJ6_siftUpUsingComparator_2 2 rfl rfl)
abbrev cJ6_siftUpComparable : ByteArray := prog_84_method_28_code
def yJ6_siftUpComparable : MethodName := ⟨RJ6, "siftUpComparable", "(ILjava/lang/Object;[Ljava/lang/Object;)V"⟩
def dkwJ6_siftUpComparable_2 : List UInt8 := [44, 26, 45, 83, 177]
abbrev dktJ6_siftUpComparable_2 : List UInt8 := dkwJ6_siftUpComparable_2 ++ []
def dkwJ6_siftUpComparable_1 : List UInt8 := [25, 5, 185, 0, 146, 2, 0, 155, 0, 6, 167, 0, 14, 44, 26, 25, 5, 83, 21, 4, 59, 167, 255, 217]
abbrev dktJ6_siftUpComparable_1 : List UInt8 := dkwJ6_siftUpComparable_1 ++ dktJ6_siftUpComparable_2
def dkwJ6_siftUpComparable_0 : List UInt8 := [43, 192, 0, 144, 78, 26, 158, 0, 41, 26, 4, 100, 4, 124, 54, 4, 44, 21, 4, 50, 58, 5, 45]
abbrev dktJ6_siftUpComparable_0 : List UInt8 := dkwJ6_siftUpComparable_0 ++ dktJ6_siftUpComparable_1
theorem dksJ6_siftUpComparable_0 : cJ6_siftUpComparable.data.toList.drop 0 = dktJ6_siftUpComparable_0 := by decide +kernel
theorem dksJ6_siftUpComparable_1 : cJ6_siftUpComparable.data.toList.drop 23 = dktJ6_siftUpComparable_1 := dk_seg dksJ6_siftUpComparable_0 23 rfl rfl
theorem dksJ6_siftUpComparable_2 : cJ6_siftUpComparable.data.toList.drop 47 = dktJ6_siftUpComparable_2 := dk_seg dksJ6_siftUpComparable_1 24 rfl rfl
theorem dJ6_siftUpComparable_0 : decode cJ6_siftUpComparable 0 = .ok (.aload_n 1, 1) := dk_43 (dk_at dksJ6_siftUpComparable_0 0 rfl rfl)
theorem dJ6_siftUpComparable_1 : decode cJ6_siftUpComparable 1 = .ok (.checkcast 144, 3) := dk_192 0 144 (dk_at dksJ6_siftUpComparable_0 1 rfl rfl)
theorem dJ6_siftUpComparable_4 : decode cJ6_siftUpComparable 4 = .ok (.astore_n 3, 1) := dk_78 (dk_at dksJ6_siftUpComparable_0 4 rfl rfl)
theorem dJ6_siftUpComparable_5 : decode cJ6_siftUpComparable 5 = .ok (.iload_n 0, 1) := dk_26 (dk_at dksJ6_siftUpComparable_0 5 rfl rfl)
theorem dJ6_siftUpComparable_6 : decode cJ6_siftUpComparable 6 = .ok (.ifCond .le 41, 3) := dk_158 0 41 (dk_at dksJ6_siftUpComparable_0 6 rfl rfl)
theorem dJ6_siftUpComparable_9 : decode cJ6_siftUpComparable 9 = .ok (.iload_n 0, 1) := dk_26 (dk_at dksJ6_siftUpComparable_0 9 rfl rfl)
theorem dJ6_siftUpComparable_10 : decode cJ6_siftUpComparable 10 = .ok (.iconst 1, 1) := dk_4 (dk_at dksJ6_siftUpComparable_0 10 rfl rfl)
theorem dJ6_siftUpComparable_11 : decode cJ6_siftUpComparable 11 = .ok (.isub, 1) := dk_100 (dk_at dksJ6_siftUpComparable_0 11 rfl rfl)
theorem dJ6_siftUpComparable_12 : decode cJ6_siftUpComparable 12 = .ok (.iconst 1, 1) := dk_4 (dk_at dksJ6_siftUpComparable_0 12 rfl rfl)
theorem dJ6_siftUpComparable_13 : decode cJ6_siftUpComparable 13 = .ok (.iushr, 1) := dk_124 (dk_at dksJ6_siftUpComparable_0 13 rfl rfl)
theorem dJ6_siftUpComparable_14 : decode cJ6_siftUpComparable 14 = .ok (.istore 4, 2) := dk_54 4 (dk_at dksJ6_siftUpComparable_0 14 rfl rfl)
theorem dJ6_siftUpComparable_16 : decode cJ6_siftUpComparable 16 = .ok (.aload_n 2, 1) := dk_44 (dk_at dksJ6_siftUpComparable_0 16 rfl rfl)
theorem dJ6_siftUpComparable_17 : decode cJ6_siftUpComparable 17 = .ok (.iload 4, 2) := dk_21 4 (dk_at dksJ6_siftUpComparable_0 17 rfl rfl)
theorem dJ6_siftUpComparable_19 : decode cJ6_siftUpComparable 19 = .ok (.aaload, 1) := dk_50 (dk_at dksJ6_siftUpComparable_0 19 rfl rfl)
theorem dJ6_siftUpComparable_20 : decode cJ6_siftUpComparable 20 = .ok (.astore 5, 2) := dk_58 5 (dk_at dksJ6_siftUpComparable_0 20 rfl rfl)
theorem dJ6_siftUpComparable_22 : decode cJ6_siftUpComparable 22 = .ok (.aload_n 3, 1) := dk_45 (dk_at dksJ6_siftUpComparable_0 22 rfl rfl)
theorem dJ6_siftUpComparable_23 : decode cJ6_siftUpComparable 23 = .ok (.aload 5, 2) := dk_25 5 (dk_at dksJ6_siftUpComparable_1 0 rfl rfl)
theorem dJ6_siftUpComparable_25 : decode cJ6_siftUpComparable 25 = .ok (.invokeinterface 146 2, 5) := by decide +kernel
theorem dJ6_siftUpComparable_30 : decode cJ6_siftUpComparable 30 = .ok (.ifCond .lt 6, 3) := dk_155 0 6 (dk_at dksJ6_siftUpComparable_1 7 rfl rfl)
theorem dJ6_siftUpComparable_33 : decode cJ6_siftUpComparable 33 = .ok (.goto 14, 3) := dk_167 0 14 (dk_at dksJ6_siftUpComparable_1 10 rfl rfl)
theorem dJ6_siftUpComparable_36 : decode cJ6_siftUpComparable 36 = .ok (.aload_n 2, 1) := dk_44 (dk_at dksJ6_siftUpComparable_1 13 rfl rfl)
theorem dJ6_siftUpComparable_37 : decode cJ6_siftUpComparable 37 = .ok (.iload_n 0, 1) := dk_26 (dk_at dksJ6_siftUpComparable_1 14 rfl rfl)
theorem dJ6_siftUpComparable_38 : decode cJ6_siftUpComparable 38 = .ok (.aload 5, 2) := dk_25 5 (dk_at dksJ6_siftUpComparable_1 15 rfl rfl)
theorem dJ6_siftUpComparable_40 : decode cJ6_siftUpComparable 40 = .ok (.aastore, 1) := dk_83 (dk_at dksJ6_siftUpComparable_1 17 rfl rfl)
theorem dJ6_siftUpComparable_41 : decode cJ6_siftUpComparable 41 = .ok (.iload 4, 2) := dk_21 4 (dk_at dksJ6_siftUpComparable_1 18 rfl rfl)
theorem dJ6_siftUpComparable_43 : decode cJ6_siftUpComparable 43 = .ok (.istore_n 0, 1) := dk_59 (dk_at dksJ6_siftUpComparable_1 20 rfl rfl)
theorem dJ6_siftUpComparable_44 : decode cJ6_siftUpComparable 44 = .ok (.goto (-39), 3) := dk_167 255 217 (dk_at dksJ6_siftUpComparable_1 21 rfl rfl)
theorem dJ6_siftUpComparable_47 : decode cJ6_siftUpComparable 47 = .ok (.aload_n 2, 1) := dk_44 (dk_at dksJ6_siftUpComparable_2 0 rfl rfl)
theorem dJ6_siftUpComparable_48 : decode cJ6_siftUpComparable 48 = .ok (.iload_n 0, 1) := dk_26 (dk_at dksJ6_siftUpComparable_2 1 rfl rfl)
theorem dJ6_siftUpComparable_49 : decode cJ6_siftUpComparable 49 = .ok (.aload_n 3, 1) := dk_45 (dk_at dksJ6_siftUpComparable_2 2 rfl rfl)
theorem dJ6_siftUpComparable_50 : decode cJ6_siftUpComparable 50 = .ok (.aastore, 1) := dk_83 (dk_at dksJ6_siftUpComparable_2 3 rfl rfl)
theorem dJ6_siftUpComparable_51 : decode cJ6_siftUpComparable 51 = .ok (.return_, 1) := dk_177 (dk_at dksJ6_siftUpComparable_2 4 rfl rfl)
abbrev cJ6_iterator : ByteArray := prog_84_method_22_code
def yJ6_iterator : MethodName := ⟨RJ6, "iterator", "()Ljava/util/Iterator;"⟩
def dkwJ6_iterator_0 : List UInt8 := [187, 0, 121, 89, 42, 183, 0, 123, 176]
abbrev dktJ6_iterator_0 : List UInt8 := dkwJ6_iterator_0 ++ []
theorem dksJ6_iterator_0 : cJ6_iterator.data.toList.drop 0 = dktJ6_iterator_0 := by decide +kernel
theorem dJ6_iterator_0 : decode cJ6_iterator 0 = .ok (.new 121, 3) := dk_187 0 121 (dk_at dksJ6_iterator_0 0 rfl rfl)
theorem dJ6_iterator_3 : decode cJ6_iterator 3 = .ok (.dup, 1) := dk_89 (dk_at dksJ6_iterator_0 3 rfl rfl)
theorem dJ6_iterator_4 : decode cJ6_iterator 4 = .ok (.aload_n 0, 1) := dk_42 (dk_at dksJ6_iterator_0 4 rfl rfl)
theorem dJ6_iterator_5 : decode cJ6_iterator 5 = .ok (.invokespecial 123, 3) := dk_183 0 123 (dk_at dksJ6_iterator_0 5 rfl rfl)
theorem dJ6_iterator_8 : decode cJ6_iterator 8 = .ok (.areturn, 1) := dk_176 (dk_at dksJ6_iterator_0 8 rfl rfl)
abbrev cJ6_peek : ByteArray := prog_84_method_15_code
def yJ6_peek : MethodName := ⟨RJ6, "peek", "()Ljava/lang/Object;"⟩
def dkwJ6_peek_0 : List UInt8 := [42, 180, 0, 17, 3, 50, 176]
abbrev dktJ6_peek_0 : List UInt8 := dkwJ6_peek_0 ++ []
theorem dksJ6_peek_0 : cJ6_peek.data.toList.drop 0 = dktJ6_peek_0 := by decide +kernel
theorem dJ6_peek_0 : decode cJ6_peek 0 = .ok (.aload_n 0, 1) := dk_42 (dk_at dksJ6_peek_0 0 rfl rfl)
theorem dJ6_peek_1 : decode cJ6_peek 1 = .ok (.getfield 17, 3) := dk_180 0 17 (dk_at dksJ6_peek_0 1 rfl rfl)
theorem dJ6_peek_4 : decode cJ6_peek 4 = .ok (.iconst 0, 1) := dk_3 (dk_at dksJ6_peek_0 4 rfl rfl)
theorem dJ6_peek_5 : decode cJ6_peek 5 = .ok (.aaload, 1) := dk_50 (dk_at dksJ6_peek_0 5 rfl rfl)
theorem dJ6_peek_6 : decode cJ6_peek 6 = .ok (.areturn, 1) := dk_176 (dk_at dksJ6_peek_0 6 rfl rfl)
abbrev cJ6_removeAt : ByteArray := prog_84_method_26_code
def yJ6_removeAt : MethodName := ⟨RJ6, "removeAt", "(I)Ljava/lang/Object;"⟩
def dkwJ6_removeAt_3 : List UInt8 := [27, 50, 25, 4, 165, 0, 6, 25, 4, 176, 1, 176]
abbrev dktJ6_removeAt_3 : List UInt8 := dkwJ6_removeAt_3 ++ []
def dkwJ6_removeAt_2 : List UInt8 := [83, 42, 27, 25, 4, 182, 0, 133, 44, 27, 50, 25, 4, 166, 0, 21, 42, 27, 25, 4, 182, 0, 100, 44]
abbrev dktJ6_removeAt_2 : List UInt8 := dkwJ6_removeAt_2 ++ dktJ6_removeAt_3
def dkwJ6_removeAt_1 : List UInt8 := [181, 0, 58, 62, 29, 27, 160, 0, 10, 44, 27, 1, 83, 167, 0, 45, 44, 29, 50, 58, 4, 44, 29, 1]
abbrev dktJ6_removeAt_1 : List UInt8 := dkwJ6_removeAt_1 ++ dktJ6_removeAt_2
def dkwJ6_removeAt_0 : List UInt8 := [42, 180, 0, 17, 77, 42, 89, 180, 0, 93, 4, 96, 181, 0, 93, 42, 89, 180, 0, 58, 4, 100, 90]
abbrev dktJ6_removeAt_0 : List UInt8 := dkwJ6_removeAt_0 ++ dktJ6_removeAt_1
theorem dksJ6_removeAt_0 : cJ6_removeAt.data.toList.drop 0 = dktJ6_removeAt_0 := by decide +kernel
theorem dksJ6_removeAt_1 : cJ6_removeAt.data.toList.drop 23 = dktJ6_removeAt_1 := dk_seg dksJ6_removeAt_0 23 rfl rfl
theorem dksJ6_removeAt_2 : cJ6_removeAt.data.toList.drop 47 = dktJ6_removeAt_2 := dk_seg dksJ6_removeAt_1 24 rfl rfl
theorem dksJ6_removeAt_3 : cJ6_removeAt.data.toList.drop 71 = dktJ6_removeAt_3 := dk_seg dksJ6_removeAt_2 24 rfl rfl
theorem dJ6_removeAt_0 : decode cJ6_removeAt 0 = .ok (.aload_n 0, 1) := dk_42 (dk_at dksJ6_removeAt_0 0 rfl rfl)
theorem dJ6_removeAt_1 : decode cJ6_removeAt 1 = .ok (.getfield 17, 3) := dk_180 0 17 (dk_at dksJ6_removeAt_0 1 rfl rfl)
theorem dJ6_removeAt_4 : decode cJ6_removeAt 4 = .ok (.astore_n 2, 1) := dk_77 (dk_at dksJ6_removeAt_0 4 rfl rfl)
theorem dJ6_removeAt_5 : decode cJ6_removeAt 5 = .ok (.aload_n 0, 1) := dk_42 (dk_at dksJ6_removeAt_0 5 rfl rfl)
theorem dJ6_removeAt_6 : decode cJ6_removeAt 6 = .ok (.dup, 1) := dk_89 (dk_at dksJ6_removeAt_0 6 rfl rfl)
theorem dJ6_removeAt_7 : decode cJ6_removeAt 7 = .ok (.getfield 93, 3) := dk_180 0 93 (dk_at dksJ6_removeAt_0 7 rfl rfl)
theorem dJ6_removeAt_10 : decode cJ6_removeAt 10 = .ok (.iconst 1, 1) := dk_4 (dk_at dksJ6_removeAt_0 10 rfl rfl)
theorem dJ6_removeAt_11 : decode cJ6_removeAt 11 = .ok (.iadd, 1) := dk_96 (dk_at dksJ6_removeAt_0 11 rfl rfl)
theorem dJ6_removeAt_12 : decode cJ6_removeAt 12 = .ok (.putfield 93, 3) := dk_181 0 93 (dk_at dksJ6_removeAt_0 12 rfl rfl)
theorem dJ6_removeAt_15 : decode cJ6_removeAt 15 = .ok (.aload_n 0, 1) := dk_42 (dk_at dksJ6_removeAt_0 15 rfl rfl)
theorem dJ6_removeAt_16 : decode cJ6_removeAt 16 = .ok (.dup, 1) := dk_89 (dk_at dksJ6_removeAt_0 16 rfl rfl)
theorem dJ6_removeAt_17 : decode cJ6_removeAt 17 = .ok (.getfield 58, 3) := dk_180 0 58 (dk_at dksJ6_removeAt_0 17 rfl rfl)
theorem dJ6_removeAt_20 : decode cJ6_removeAt 20 = .ok (.iconst 1, 1) := dk_4 (dk_at dksJ6_removeAt_0 20 rfl rfl)
theorem dJ6_removeAt_21 : decode cJ6_removeAt 21 = .ok (.isub, 1) := dk_100 (dk_at dksJ6_removeAt_0 21 rfl rfl)
theorem dJ6_removeAt_22 : decode cJ6_removeAt 22 = .ok (.dup_x1, 1) := dk_90 (dk_at dksJ6_removeAt_0 22 rfl rfl)
theorem dJ6_removeAt_23 : decode cJ6_removeAt 23 = .ok (.putfield 58, 3) := dk_181 0 58 (dk_at dksJ6_removeAt_1 0 rfl rfl)
theorem dJ6_removeAt_26 : decode cJ6_removeAt 26 = .ok (.istore_n 3, 1) := dk_62 (dk_at dksJ6_removeAt_1 3 rfl rfl)
theorem dJ6_removeAt_27 : decode cJ6_removeAt 27 = .ok (.iload_n 3, 1) := dk_29 (dk_at dksJ6_removeAt_1 4 rfl rfl)
theorem dJ6_removeAt_28 : decode cJ6_removeAt 28 = .ok (.iload_n 1, 1) := dk_27 (dk_at dksJ6_removeAt_1 5 rfl rfl)
theorem dJ6_removeAt_29 : decode cJ6_removeAt 29 = .ok (.if_icmp .ne 10, 3) := dk_160 0 10 (dk_at dksJ6_removeAt_1 6 rfl rfl)
theorem dJ6_removeAt_32 : decode cJ6_removeAt 32 = .ok (.aload_n 2, 1) := dk_44 (dk_at dksJ6_removeAt_1 9 rfl rfl)
theorem dJ6_removeAt_33 : decode cJ6_removeAt 33 = .ok (.iload_n 1, 1) := dk_27 (dk_at dksJ6_removeAt_1 10 rfl rfl)
theorem dJ6_removeAt_34 : decode cJ6_removeAt 34 = .ok (.aconst_null, 1) := dk_1 (dk_at dksJ6_removeAt_1 11 rfl rfl)
theorem dJ6_removeAt_35 : decode cJ6_removeAt 35 = .ok (.aastore, 1) := dk_83 (dk_at dksJ6_removeAt_1 12 rfl rfl)
theorem dJ6_removeAt_36 : decode cJ6_removeAt 36 = .ok (.goto 45, 3) := dk_167 0 45 (dk_at dksJ6_removeAt_1 13 rfl rfl)
theorem dJ6_removeAt_39 : decode cJ6_removeAt 39 = .ok (.aload_n 2, 1) := dk_44 (dk_at dksJ6_removeAt_1 16 rfl rfl)
theorem dJ6_removeAt_40 : decode cJ6_removeAt 40 = .ok (.iload_n 3, 1) := dk_29 (dk_at dksJ6_removeAt_1 17 rfl rfl)
theorem dJ6_removeAt_41 : decode cJ6_removeAt 41 = .ok (.aaload, 1) := dk_50 (dk_at dksJ6_removeAt_1 18 rfl rfl)
theorem dJ6_removeAt_42 : decode cJ6_removeAt 42 = .ok (.astore 4, 2) := dk_58 4 (dk_at dksJ6_removeAt_1 19 rfl rfl)
theorem dJ6_removeAt_44 : decode cJ6_removeAt 44 = .ok (.aload_n 2, 1) := dk_44 (dk_at dksJ6_removeAt_1 21 rfl rfl)
theorem dJ6_removeAt_45 : decode cJ6_removeAt 45 = .ok (.iload_n 3, 1) := dk_29 (dk_at dksJ6_removeAt_1 22 rfl rfl)
theorem dJ6_removeAt_46 : decode cJ6_removeAt 46 = .ok (.aconst_null, 1) := dk_1 (dk_at dksJ6_removeAt_1 23 rfl rfl)
theorem dJ6_removeAt_47 : decode cJ6_removeAt 47 = .ok (.aastore, 1) := dk_83 (dk_at dksJ6_removeAt_2 0 rfl rfl)
theorem dJ6_removeAt_48 : decode cJ6_removeAt 48 = .ok (.aload_n 0, 1) := dk_42 (dk_at dksJ6_removeAt_2 1 rfl rfl)
theorem dJ6_removeAt_49 : decode cJ6_removeAt 49 = .ok (.iload_n 1, 1) := dk_27 (dk_at dksJ6_removeAt_2 2 rfl rfl)
theorem dJ6_removeAt_50 : decode cJ6_removeAt 50 = .ok (.aload 4, 2) := dk_25 4 (dk_at dksJ6_removeAt_2 3 rfl rfl)
theorem dJ6_removeAt_52 : decode cJ6_removeAt 52 = .ok (.invokevirtual 133, 3) := dk_182 0 133 (dk_at dksJ6_removeAt_2 5 rfl rfl)
theorem dJ6_removeAt_55 : decode cJ6_removeAt 55 = .ok (.aload_n 2, 1) := dk_44 (dk_at dksJ6_removeAt_2 8 rfl rfl)
theorem dJ6_removeAt_56 : decode cJ6_removeAt 56 = .ok (.iload_n 1, 1) := dk_27 (dk_at dksJ6_removeAt_2 9 rfl rfl)
theorem dJ6_removeAt_57 : decode cJ6_removeAt 57 = .ok (.aaload, 1) := dk_50 (dk_at dksJ6_removeAt_2 10 rfl rfl)
theorem dJ6_removeAt_58 : decode cJ6_removeAt 58 = .ok (.aload 4, 2) := dk_25 4 (dk_at dksJ6_removeAt_2 11 rfl rfl)
theorem dJ6_removeAt_60 : decode cJ6_removeAt 60 = .ok (.if_acmp .ne 21, 3) := dk_166 0 21 (dk_at dksJ6_removeAt_2 13 rfl rfl)
theorem dJ6_removeAt_63 : decode cJ6_removeAt 63 = .ok (.aload_n 0, 1) := dk_42 (dk_at dksJ6_removeAt_2 16 rfl rfl)
theorem dJ6_removeAt_64 : decode cJ6_removeAt 64 = .ok (.iload_n 1, 1) := dk_27 (dk_at dksJ6_removeAt_2 17 rfl rfl)
theorem dJ6_removeAt_65 : decode cJ6_removeAt 65 = .ok (.aload 4, 2) := dk_25 4 (dk_at dksJ6_removeAt_2 18 rfl rfl)
theorem dJ6_removeAt_67 : decode cJ6_removeAt 67 = .ok (.invokevirtual 100, 3) := dk_182 0 100 (dk_at dksJ6_removeAt_2 20 rfl rfl)
theorem dJ6_removeAt_70 : decode cJ6_removeAt 70 = .ok (.aload_n 2, 1) := dk_44 (dk_at dksJ6_removeAt_2 23 rfl rfl)
theorem dJ6_removeAt_71 : decode cJ6_removeAt 71 = .ok (.iload_n 1, 1) := dk_27 (dk_at dksJ6_removeAt_3 0 rfl rfl)
theorem dJ6_removeAt_72 : decode cJ6_removeAt 72 = .ok (.aaload, 1) := dk_50 (dk_at dksJ6_removeAt_3 1 rfl rfl)
theorem dJ6_removeAt_73 : decode cJ6_removeAt 73 = .ok (.aload 4, 2) := dk_25 4 (dk_at dksJ6_removeAt_3 2 rfl rfl)
theorem dJ6_removeAt_75 : decode cJ6_removeAt 75 = .ok (.if_acmp .eq 6, 3) := dk_165 0 6 (dk_at dksJ6_removeAt_3 4 rfl rfl)
theorem dJ6_removeAt_78 : decode cJ6_removeAt 78 = .ok (.aload 4, 2) := dk_25 4 (dk_at dksJ6_removeAt_3 7 rfl rfl)
theorem dJ6_removeAt_80 : decode cJ6_removeAt 80 = .ok (.areturn, 1) := dk_176 (dk_at dksJ6_removeAt_3 9 rfl rfl)
theorem dJ6_removeAt_81 : decode cJ6_removeAt 81 = .ok (.aconst_null, 1) := dk_1 (dk_at dksJ6_removeAt_3 10 rfl rfl)
theorem dJ6_removeAt_82 : decode cJ6_removeAt 82 = .ok (.areturn, 1) := dk_176 (dk_at dksJ6_removeAt_3 11 rfl rfl)
abbrev cJ6_siftDown : ByteArray := prog_84_method_30_code
def yJ6_siftDown : MethodName := ⟨RJ6, "siftDown", "(ILjava/lang/Object;)V"⟩
def dkwJ6_siftDown_1 : List UInt8 := [167, 0, 16, 27, 44, 42, 180, 0, 17, 42, 180, 0, 58, 184, 0, 125, 177]
abbrev dktJ6_siftDown_1 : List UInt8 := dkwJ6_siftDown_1 ++ []
def dkwJ6_siftDown_0 : List UInt8 := [42, 180, 0, 21, 198, 0, 23, 27, 44, 42, 180, 0, 17, 42, 180, 0, 58, 42, 180, 0, 21, 184, 0, 129]
abbrev dktJ6_siftDown_0 : List UInt8 := dkwJ6_siftDown_0 ++ dktJ6_siftDown_1
theorem dksJ6_siftDown_0 : cJ6_siftDown.data.toList.drop 0 = dktJ6_siftDown_0 := by decide +kernel
theorem dksJ6_siftDown_1 : cJ6_siftDown.data.toList.drop 24 = dktJ6_siftDown_1 := dk_seg dksJ6_siftDown_0 24 rfl rfl
theorem dJ6_siftDown_0 : decode cJ6_siftDown 0 = .ok (.aload_n 0, 1) := dk_42 (dk_at dksJ6_siftDown_0 0 rfl rfl)
theorem dJ6_siftDown_1 : decode cJ6_siftDown 1 = .ok (.getfield 21, 3) := dk_180 0 21 (dk_at dksJ6_siftDown_0 1 rfl rfl)
theorem dJ6_siftDown_4 : decode cJ6_siftDown 4 = .ok (.ifnull 23, 3) := dk_198 0 23 (dk_at dksJ6_siftDown_0 4 rfl rfl)
theorem dJ6_siftDown_7 : decode cJ6_siftDown 7 = .ok (.iload_n 1, 1) := dk_27 (dk_at dksJ6_siftDown_0 7 rfl rfl)
theorem dJ6_siftDown_8 : decode cJ6_siftDown 8 = .ok (.aload_n 2, 1) := dk_44 (dk_at dksJ6_siftDown_0 8 rfl rfl)
theorem dJ6_siftDown_9 : decode cJ6_siftDown 9 = .ok (.aload_n 0, 1) := dk_42 (dk_at dksJ6_siftDown_0 9 rfl rfl)
theorem dJ6_siftDown_10 : decode cJ6_siftDown 10 = .ok (.getfield 17, 3) := dk_180 0 17 (dk_at dksJ6_siftDown_0 10 rfl rfl)
theorem dJ6_siftDown_13 : decode cJ6_siftDown 13 = .ok (.aload_n 0, 1) := dk_42 (dk_at dksJ6_siftDown_0 13 rfl rfl)
theorem dJ6_siftDown_14 : decode cJ6_siftDown 14 = .ok (.getfield 58, 3) := dk_180 0 58 (dk_at dksJ6_siftDown_0 14 rfl rfl)
theorem dJ6_siftDown_17 : decode cJ6_siftDown 17 = .ok (.aload_n 0, 1) := dk_42 (dk_at dksJ6_siftDown_0 17 rfl rfl)
theorem dJ6_siftDown_18 : decode cJ6_siftDown 18 = .ok (.getfield 21, 3) := dk_180 0 21 (dk_at dksJ6_siftDown_0 18 rfl rfl)
theorem dJ6_siftDown_21 : decode cJ6_siftDown 21 = .ok (.invokestatic 129, 3) := dk_184 0 129 (dk_at dksJ6_siftDown_0 21 rfl rfl)
theorem dJ6_siftDown_24 : decode cJ6_siftDown 24 = .ok (.goto 16, 3) := dk_167 0 16 (dk_at dksJ6_siftDown_1 0 rfl rfl)
theorem dJ6_siftDown_27 : decode cJ6_siftDown 27 = .ok (.iload_n 1, 1) := dk_27 (dk_at dksJ6_siftDown_1 3 rfl rfl)
theorem dJ6_siftDown_28 : decode cJ6_siftDown 28 = .ok (.aload_n 2, 1) := dk_44 (dk_at dksJ6_siftDown_1 4 rfl rfl)
theorem dJ6_siftDown_29 : decode cJ6_siftDown 29 = .ok (.aload_n 0, 1) := dk_42 (dk_at dksJ6_siftDown_1 5 rfl rfl)
theorem dJ6_siftDown_30 : decode cJ6_siftDown 30 = .ok (.getfield 17, 3) := dk_180 0 17 (dk_at dksJ6_siftDown_1 6 rfl rfl)
theorem dJ6_siftDown_33 : decode cJ6_siftDown 33 = .ok (.aload_n 0, 1) := dk_42 (dk_at dksJ6_siftDown_1 9 rfl rfl)
theorem dJ6_siftDown_34 : decode cJ6_siftDown 34 = .ok (.getfield 58, 3) := dk_180 0 58 (dk_at dksJ6_siftDown_1 10 rfl rfl)
theorem dJ6_siftDown_37 : decode cJ6_siftDown 37 = .ok (.invokestatic 125, 3) := dk_184 0 125 (dk_at dksJ6_siftDown_1 13 rfl rfl)
theorem dJ6_siftDown_40 : decode cJ6_siftDown 40 = .ok (.return_, 1) := dk_177 (dk_at dksJ6_siftDown_1 16 rfl rfl)
abbrev cJ6_siftDownUsingComparator : ByteArray := prog_84_method_32_code
def yJ6_siftDownUsingComparator : MethodName := ⟨RJ6, "siftDownUsingComparator", "(ILjava/lang/Object;[Ljava/lang/Object;ILjava/util/Comparator;)V"⟩
def dkwJ6_siftDownUsingComparator_4 : List UInt8 := [43, 83, 177]
abbrev dktJ6_siftDownUsingComparator_4 : List UInt8 := dkwJ6_siftDownUsingComparator_4 ++ []
def dkwJ6_siftDownUsingComparator_3 : List UInt8 := [185, 0, 149, 3, 0, 157, 0, 6, 167, 0, 14, 44, 26, 25, 7, 83, 21, 6, 59, 167, 255, 176, 44, 26]
abbrev dktJ6_siftDownUsingComparator_3 : List UInt8 := dkwJ6_siftDownUsingComparator_3 ++ dktJ6_siftDownUsingComparator_4
def dkwJ6_siftDownUsingComparator_2 : List UInt8 := [185, 0, 149, 3, 0, 158, 0, 12, 44, 21, 8, 89, 54, 6, 50, 58, 7, 25, 4, 43, 25, 7]
abbrev dktJ6_siftDownUsingComparator_2 : List UInt8 := dkwJ6_siftDownUsingComparator_2 ++ dktJ6_siftDownUsingComparator_3
def dkwJ6_siftDownUsingComparator_1 : List UInt8 := [21, 6, 4, 96, 54, 8, 21, 8, 29, 162, 0, 28, 25, 4, 25, 7, 44, 21, 8, 50]
abbrev dktJ6_siftDownUsingComparator_1 : List UInt8 := dkwJ6_siftDownUsingComparator_1 ++ dktJ6_siftDownUsingComparator_2
def dkwJ6_siftDownUsingComparator_0 : List UInt8 := [29, 4, 124, 54, 5, 26, 21, 5, 162, 0, 80, 26, 4, 120, 4, 96, 54, 6, 44, 21, 6, 50, 58, 7]
abbrev dktJ6_siftDownUsingComparator_0 : List UInt8 := dkwJ6_siftDownUsingComparator_0 ++ dktJ6_siftDownUsingComparator_1
theorem dksJ6_siftDownUsingComparator_0 : cJ6_siftDownUsingComparator.data.toList.drop 0 = dktJ6_siftDownUsingComparator_0 := by decide +kernel
theorem dksJ6_siftDownUsingComparator_1 : cJ6_siftDownUsingComparator.data.toList.drop 24 = dktJ6_siftDownUsingComparator_1 := dk_seg dksJ6_siftDownUsingComparator_0 24 rfl rfl
theorem dksJ6_siftDownUsingComparator_2 : cJ6_siftDownUsingComparator.data.toList.drop 44 = dktJ6_siftDownUsingComparator_2 := dk_seg dksJ6_siftDownUsingComparator_1 20 rfl rfl
theorem dksJ6_siftDownUsingComparator_3 : cJ6_siftDownUsingComparator.data.toList.drop 66 = dktJ6_siftDownUsingComparator_3 := dk_seg dksJ6_siftDownUsingComparator_2 22 rfl rfl
theorem dksJ6_siftDownUsingComparator_4 : cJ6_siftDownUsingComparator.data.toList.drop 90 = dktJ6_siftDownUsingComparator_4 := dk_seg dksJ6_siftDownUsingComparator_3 24 rfl rfl
theorem dJ6_siftDownUsingComparator_0 : decode cJ6_siftDownUsingComparator 0 = .ok (.iload_n 3, 1) := dk_29 (dk_at dksJ6_siftDownUsingComparator_0 0 rfl rfl)
theorem dJ6_siftDownUsingComparator_1 : decode cJ6_siftDownUsingComparator 1 = .ok (.iconst 1, 1) := dk_4 (dk_at dksJ6_siftDownUsingComparator_0 1 rfl rfl)
theorem dJ6_siftDownUsingComparator_2 : decode cJ6_siftDownUsingComparator 2 = .ok (.iushr, 1) := dk_124 (dk_at dksJ6_siftDownUsingComparator_0 2 rfl rfl)
theorem dJ6_siftDownUsingComparator_3 : decode cJ6_siftDownUsingComparator 3 = .ok (.istore 5, 2) := dk_54 5 (dk_at dksJ6_siftDownUsingComparator_0 3 rfl rfl)
theorem dJ6_siftDownUsingComparator_5 : decode cJ6_siftDownUsingComparator 5 = .ok (.iload_n 0, 1) := dk_26 (dk_at dksJ6_siftDownUsingComparator_0 5 rfl rfl)
theorem dJ6_siftDownUsingComparator_6 : decode cJ6_siftDownUsingComparator 6 = .ok (.iload 5, 2) := dk_21 5 (dk_at dksJ6_siftDownUsingComparator_0 6 rfl rfl)
theorem dJ6_siftDownUsingComparator_8 : decode cJ6_siftDownUsingComparator 8 = .ok (.if_icmp .ge 80, 3) := dk_162 0 80 (dk_at dksJ6_siftDownUsingComparator_0 8 rfl rfl)
theorem dJ6_siftDownUsingComparator_11 : decode cJ6_siftDownUsingComparator 11 = .ok (.iload_n 0, 1) := dk_26 (dk_at dksJ6_siftDownUsingComparator_0 11 rfl rfl)
theorem dJ6_siftDownUsingComparator_12 : decode cJ6_siftDownUsingComparator 12 = .ok (.iconst 1, 1) := dk_4 (dk_at dksJ6_siftDownUsingComparator_0 12 rfl rfl)
theorem dJ6_siftDownUsingComparator_13 : decode cJ6_siftDownUsingComparator 13 = .ok (.ishl, 1) := dk_120 (dk_at dksJ6_siftDownUsingComparator_0 13 rfl rfl)
theorem dJ6_siftDownUsingComparator_14 : decode cJ6_siftDownUsingComparator 14 = .ok (.iconst 1, 1) := dk_4 (dk_at dksJ6_siftDownUsingComparator_0 14 rfl rfl)
theorem dJ6_siftDownUsingComparator_15 : decode cJ6_siftDownUsingComparator 15 = .ok (.iadd, 1) := dk_96 (dk_at dksJ6_siftDownUsingComparator_0 15 rfl rfl)
theorem dJ6_siftDownUsingComparator_16 : decode cJ6_siftDownUsingComparator 16 = .ok (.istore 6, 2) := dk_54 6 (dk_at dksJ6_siftDownUsingComparator_0 16 rfl rfl)
theorem dJ6_siftDownUsingComparator_18 : decode cJ6_siftDownUsingComparator 18 = .ok (.aload_n 2, 1) := dk_44 (dk_at dksJ6_siftDownUsingComparator_0 18 rfl rfl)
theorem dJ6_siftDownUsingComparator_19 : decode cJ6_siftDownUsingComparator 19 = .ok (.iload 6, 2) := dk_21 6 (dk_at dksJ6_siftDownUsingComparator_0 19 rfl rfl)
theorem dJ6_siftDownUsingComparator_21 : decode cJ6_siftDownUsingComparator 21 = .ok (.aaload, 1) := dk_50 (dk_at dksJ6_siftDownUsingComparator_0 21 rfl rfl)
theorem dJ6_siftDownUsingComparator_22 : decode cJ6_siftDownUsingComparator 22 = .ok (.astore 7, 2) := dk_58 7 (dk_at dksJ6_siftDownUsingComparator_0 22 rfl rfl)
theorem dJ6_siftDownUsingComparator_24 : decode cJ6_siftDownUsingComparator 24 = .ok (.iload 6, 2) := dk_21 6 (dk_at dksJ6_siftDownUsingComparator_1 0 rfl rfl)
theorem dJ6_siftDownUsingComparator_26 : decode cJ6_siftDownUsingComparator 26 = .ok (.iconst 1, 1) := dk_4 (dk_at dksJ6_siftDownUsingComparator_1 2 rfl rfl)
theorem dJ6_siftDownUsingComparator_27 : decode cJ6_siftDownUsingComparator 27 = .ok (.iadd, 1) := dk_96 (dk_at dksJ6_siftDownUsingComparator_1 3 rfl rfl)
theorem dJ6_siftDownUsingComparator_28 : decode cJ6_siftDownUsingComparator 28 = .ok (.istore 8, 2) := dk_54 8 (dk_at dksJ6_siftDownUsingComparator_1 4 rfl rfl)
theorem dJ6_siftDownUsingComparator_30 : decode cJ6_siftDownUsingComparator 30 = .ok (.iload 8, 2) := dk_21 8 (dk_at dksJ6_siftDownUsingComparator_1 6 rfl rfl)
theorem dJ6_siftDownUsingComparator_32 : decode cJ6_siftDownUsingComparator 32 = .ok (.iload_n 3, 1) := dk_29 (dk_at dksJ6_siftDownUsingComparator_1 8 rfl rfl)
theorem dJ6_siftDownUsingComparator_33 : decode cJ6_siftDownUsingComparator 33 = .ok (.if_icmp .ge 28, 3) := dk_162 0 28 (dk_at dksJ6_siftDownUsingComparator_1 9 rfl rfl)
theorem dJ6_siftDownUsingComparator_36 : decode cJ6_siftDownUsingComparator 36 = .ok (.aload 4, 2) := dk_25 4 (dk_at dksJ6_siftDownUsingComparator_1 12 rfl rfl)
theorem dJ6_siftDownUsingComparator_38 : decode cJ6_siftDownUsingComparator 38 = .ok (.aload 7, 2) := dk_25 7 (dk_at dksJ6_siftDownUsingComparator_1 14 rfl rfl)
theorem dJ6_siftDownUsingComparator_40 : decode cJ6_siftDownUsingComparator 40 = .ok (.aload_n 2, 1) := dk_44 (dk_at dksJ6_siftDownUsingComparator_1 16 rfl rfl)
theorem dJ6_siftDownUsingComparator_41 : decode cJ6_siftDownUsingComparator 41 = .ok (.iload 8, 2) := dk_21 8 (dk_at dksJ6_siftDownUsingComparator_1 17 rfl rfl)
theorem dJ6_siftDownUsingComparator_43 : decode cJ6_siftDownUsingComparator 43 = .ok (.aaload, 1) := dk_50 (dk_at dksJ6_siftDownUsingComparator_1 19 rfl rfl)
theorem dJ6_siftDownUsingComparator_44 : decode cJ6_siftDownUsingComparator 44 = .ok (.invokeinterface 149 3, 5) := by decide +kernel
theorem dJ6_siftDownUsingComparator_49 : decode cJ6_siftDownUsingComparator 49 = .ok (.ifCond .le 12, 3) := dk_158 0 12 (dk_at dksJ6_siftDownUsingComparator_2 5 rfl rfl)
theorem dJ6_siftDownUsingComparator_52 : decode cJ6_siftDownUsingComparator 52 = .ok (.aload_n 2, 1) := dk_44 (dk_at dksJ6_siftDownUsingComparator_2 8 rfl rfl)
theorem dJ6_siftDownUsingComparator_53 : decode cJ6_siftDownUsingComparator 53 = .ok (.iload 8, 2) := dk_21 8 (dk_at dksJ6_siftDownUsingComparator_2 9 rfl rfl)
theorem dJ6_siftDownUsingComparator_55 : decode cJ6_siftDownUsingComparator 55 = .ok (.dup, 1) := dk_89 (dk_at dksJ6_siftDownUsingComparator_2 11 rfl rfl)
theorem dJ6_siftDownUsingComparator_56 : decode cJ6_siftDownUsingComparator 56 = .ok (.istore 6, 2) := dk_54 6 (dk_at dksJ6_siftDownUsingComparator_2 12 rfl rfl)
theorem dJ6_siftDownUsingComparator_58 : decode cJ6_siftDownUsingComparator 58 = .ok (.aaload, 1) := dk_50 (dk_at dksJ6_siftDownUsingComparator_2 14 rfl rfl)
theorem dJ6_siftDownUsingComparator_59 : decode cJ6_siftDownUsingComparator 59 = .ok (.astore 7, 2) := dk_58 7 (dk_at dksJ6_siftDownUsingComparator_2 15 rfl rfl)
theorem dJ6_siftDownUsingComparator_61 : decode cJ6_siftDownUsingComparator 61 = .ok (.aload 4, 2) := dk_25 4 (dk_at dksJ6_siftDownUsingComparator_2 17 rfl rfl)
theorem dJ6_siftDownUsingComparator_63 : decode cJ6_siftDownUsingComparator 63 = .ok (.aload_n 1, 1) := dk_43 (dk_at dksJ6_siftDownUsingComparator_2 19 rfl rfl)
theorem dJ6_siftDownUsingComparator_64 : decode cJ6_siftDownUsingComparator 64 = .ok (.aload 7, 2) := dk_25 7 (dk_at dksJ6_siftDownUsingComparator_2 20 rfl rfl)
theorem dJ6_siftDownUsingComparator_66 : decode cJ6_siftDownUsingComparator 66 = .ok (.invokeinterface 149 3, 5) := by decide +kernel
theorem dJ6_siftDownUsingComparator_71 : decode cJ6_siftDownUsingComparator 71 = .ok (.ifCond .gt 6, 3) := dk_157 0 6 (dk_at dksJ6_siftDownUsingComparator_3 5 rfl rfl)
theorem dJ6_siftDownUsingComparator_74 : decode cJ6_siftDownUsingComparator 74 = .ok (.goto 14, 3) := dk_167 0 14 (dk_at dksJ6_siftDownUsingComparator_3 8 rfl rfl)
theorem dJ6_siftDownUsingComparator_77 : decode cJ6_siftDownUsingComparator 77 = .ok (.aload_n 2, 1) := dk_44 (dk_at dksJ6_siftDownUsingComparator_3 11 rfl rfl)
theorem dJ6_siftDownUsingComparator_78 : decode cJ6_siftDownUsingComparator 78 = .ok (.iload_n 0, 1) := dk_26 (dk_at dksJ6_siftDownUsingComparator_3 12 rfl rfl)
theorem dJ6_siftDownUsingComparator_79 : decode cJ6_siftDownUsingComparator 79 = .ok (.aload 7, 2) := dk_25 7 (dk_at dksJ6_siftDownUsingComparator_3 13 rfl rfl)
theorem dJ6_siftDownUsingComparator_81 : decode cJ6_siftDownUsingComparator 81 = .ok (.aastore, 1) := dk_83 (dk_at dksJ6_siftDownUsingComparator_3 15 rfl rfl)
theorem dJ6_siftDownUsingComparator_82 : decode cJ6_siftDownUsingComparator 82 = .ok (.iload 6, 2) := dk_21 6 (dk_at dksJ6_siftDownUsingComparator_3 16 rfl rfl)
theorem dJ6_siftDownUsingComparator_84 : decode cJ6_siftDownUsingComparator 84 = .ok (.istore_n 0, 1) := dk_59 (dk_at dksJ6_siftDownUsingComparator_3 18 rfl rfl)
theorem dJ6_siftDownUsingComparator_85 : decode cJ6_siftDownUsingComparator 85 = .ok (.goto (-80), 3) := dk_167 255 176 (dk_at dksJ6_siftDownUsingComparator_3 19 rfl rfl)
theorem dJ6_siftDownUsingComparator_88 : decode cJ6_siftDownUsingComparator 88 = .ok (.aload_n 2, 1) := dk_44 (dk_at dksJ6_siftDownUsingComparator_3 22 rfl rfl)
theorem dJ6_siftDownUsingComparator_89 : decode cJ6_siftDownUsingComparator 89 = .ok (.iload_n 0, 1) := dk_26 (dk_at dksJ6_siftDownUsingComparator_3 23 rfl rfl)
theorem dJ6_siftDownUsingComparator_90 : decode cJ6_siftDownUsingComparator 90 = .ok (.aload_n 1, 1) := dk_43 (dk_at dksJ6_siftDownUsingComparator_4 0 rfl rfl)
theorem dJ6_siftDownUsingComparator_91 : decode cJ6_siftDownUsingComparator 91 = .ok (.aastore, 1) := dk_83 (dk_at dksJ6_siftDownUsingComparator_4 1 rfl rfl)
theorem dJ6_siftDownUsingComparator_92 : decode cJ6_siftDownUsingComparator 92 = .ok (.return_, 1) := dk_177 (dk_at dksJ6_siftDownUsingComparator_4 2 rfl rfl)
abbrev cJ6_siftDownComparable : ByteArray := prog_84_method_31_code
def yJ6_siftDownComparable : MethodName := ⟨RJ6, "siftDownComparable", "(ILjava/lang/Object;[Ljava/lang/Object;I)V"⟩
def dkwJ6_siftDownComparable_4 : List UInt8 := [25, 4, 83, 177]
abbrev dktJ6_siftDownComparable_4 : List UInt8 := dkwJ6_siftDownComparable_4 ++ []
def dkwJ6_siftDownComparable_3 : List UInt8 := [185, 0, 146, 2, 0, 157, 0, 6, 167, 0, 14, 44, 26, 25, 7, 83, 21, 6, 59, 167, 255, 176, 44, 26]
abbrev dktJ6_siftDownComparable_3 : List UInt8 := dkwJ6_siftDownComparable_3 ++ dktJ6_siftDownComparable_4
def dkwJ6_siftDownComparable_2 : List UInt8 := [21, 8, 50, 185, 0, 146, 2, 0, 158, 0, 12, 44, 21, 8, 89, 54, 6, 50, 58, 7, 25, 4, 25, 7]
abbrev dktJ6_siftDownComparable_2 : List UInt8 := dkwJ6_siftDownComparable_2 ++ dktJ6_siftDownComparable_3
def dkwJ6_siftDownComparable_1 : List UInt8 := [44, 21, 6, 50, 58, 7, 21, 6, 4, 96, 54, 8, 21, 8, 29, 162, 0, 29, 25, 7, 192, 0, 144, 44]
abbrev dktJ6_siftDownComparable_1 : List UInt8 := dkwJ6_siftDownComparable_1 ++ dktJ6_siftDownComparable_2
def dkwJ6_siftDownComparable_0 : List UInt8 := [43, 192, 0, 144, 58, 4, 29, 4, 124, 54, 5, 26, 21, 5, 162, 0, 80, 26, 4, 120, 4, 96, 54, 6]
abbrev dktJ6_siftDownComparable_0 : List UInt8 := dkwJ6_siftDownComparable_0 ++ dktJ6_siftDownComparable_1
theorem dksJ6_siftDownComparable_0 : cJ6_siftDownComparable.data.toList.drop 0 = dktJ6_siftDownComparable_0 := by decide +kernel
theorem dksJ6_siftDownComparable_1 : cJ6_siftDownComparable.data.toList.drop 24 = dktJ6_siftDownComparable_1 := dk_seg dksJ6_siftDownComparable_0 24 rfl rfl
theorem dksJ6_siftDownComparable_2 : cJ6_siftDownComparable.data.toList.drop 48 = dktJ6_siftDownComparable_2 := dk_seg dksJ6_siftDownComparable_1 24 rfl rfl
theorem dksJ6_siftDownComparable_3 : cJ6_siftDownComparable.data.toList.drop 72 = dktJ6_siftDownComparable_3 := dk_seg dksJ6_siftDownComparable_2 24 rfl rfl
theorem dksJ6_siftDownComparable_4 : cJ6_siftDownComparable.data.toList.drop 96 = dktJ6_siftDownComparable_4 := dk_seg dksJ6_siftDownComparable_3 24 rfl rfl
theorem dJ6_siftDownComparable_0 : decode cJ6_siftDownComparable 0 = .ok (.aload_n 1, 1) := dk_43 (dk_at dksJ6_siftDownComparable_0 0 rfl rfl)
theorem dJ6_siftDownComparable_1 : decode cJ6_siftDownComparable 1 = .ok (.checkcast 144, 3) := dk_192 0 144 (dk_at dksJ6_siftDownComparable_0 1 rfl rfl)
theorem dJ6_siftDownComparable_4 : decode cJ6_siftDownComparable 4 = .ok (.astore 4, 2) := dk_58 4 (dk_at dksJ6_siftDownComparable_0 4 rfl rfl)
theorem dJ6_siftDownComparable_6 : decode cJ6_siftDownComparable 6 = .ok (.iload_n 3, 1) := dk_29 (dk_at dksJ6_siftDownComparable_0 6 rfl rfl)
theorem dJ6_siftDownComparable_7 : decode cJ6_siftDownComparable 7 = .ok (.iconst 1, 1) := dk_4 (dk_at dksJ6_siftDownComparable_0 7 rfl rfl)
theorem dJ6_siftDownComparable_8 : decode cJ6_siftDownComparable 8 = .ok (.iushr, 1) := dk_124 (dk_at dksJ6_siftDownComparable_0 8 rfl rfl)
theorem dJ6_siftDownComparable_9 : decode cJ6_siftDownComparable 9 = .ok (.istore 5, 2) := dk_54 5 (dk_at dksJ6_siftDownComparable_0 9 rfl rfl)
theorem dJ6_siftDownComparable_11 : decode cJ6_siftDownComparable 11 = .ok (.iload_n 0, 1) := dk_26 (dk_at dksJ6_siftDownComparable_0 11 rfl rfl)
theorem dJ6_siftDownComparable_12 : decode cJ6_siftDownComparable 12 = .ok (.iload 5, 2) := dk_21 5 (dk_at dksJ6_siftDownComparable_0 12 rfl rfl)
theorem dJ6_siftDownComparable_14 : decode cJ6_siftDownComparable 14 = .ok (.if_icmp .ge 80, 3) := dk_162 0 80 (dk_at dksJ6_siftDownComparable_0 14 rfl rfl)
theorem dJ6_siftDownComparable_17 : decode cJ6_siftDownComparable 17 = .ok (.iload_n 0, 1) := dk_26 (dk_at dksJ6_siftDownComparable_0 17 rfl rfl)
theorem dJ6_siftDownComparable_18 : decode cJ6_siftDownComparable 18 = .ok (.iconst 1, 1) := dk_4 (dk_at dksJ6_siftDownComparable_0 18 rfl rfl)
theorem dJ6_siftDownComparable_19 : decode cJ6_siftDownComparable 19 = .ok (.ishl, 1) := dk_120 (dk_at dksJ6_siftDownComparable_0 19 rfl rfl)
theorem dJ6_siftDownComparable_20 : decode cJ6_siftDownComparable 20 = .ok (.iconst 1, 1) := dk_4 (dk_at dksJ6_siftDownComparable_0 20 rfl rfl)
theorem dJ6_siftDownComparable_21 : decode cJ6_siftDownComparable 21 = .ok (.iadd, 1) := dk_96 (dk_at dksJ6_siftDownComparable_0 21 rfl rfl)
theorem dJ6_siftDownComparable_22 : decode cJ6_siftDownComparable 22 = .ok (.istore 6, 2) := dk_54 6 (dk_at dksJ6_siftDownComparable_0 22 rfl rfl)
theorem dJ6_siftDownComparable_24 : decode cJ6_siftDownComparable 24 = .ok (.aload_n 2, 1) := dk_44 (dk_at dksJ6_siftDownComparable_1 0 rfl rfl)
theorem dJ6_siftDownComparable_25 : decode cJ6_siftDownComparable 25 = .ok (.iload 6, 2) := dk_21 6 (dk_at dksJ6_siftDownComparable_1 1 rfl rfl)
theorem dJ6_siftDownComparable_27 : decode cJ6_siftDownComparable 27 = .ok (.aaload, 1) := dk_50 (dk_at dksJ6_siftDownComparable_1 3 rfl rfl)
theorem dJ6_siftDownComparable_28 : decode cJ6_siftDownComparable 28 = .ok (.astore 7, 2) := dk_58 7 (dk_at dksJ6_siftDownComparable_1 4 rfl rfl)
theorem dJ6_siftDownComparable_30 : decode cJ6_siftDownComparable 30 = .ok (.iload 6, 2) := dk_21 6 (dk_at dksJ6_siftDownComparable_1 6 rfl rfl)
theorem dJ6_siftDownComparable_32 : decode cJ6_siftDownComparable 32 = .ok (.iconst 1, 1) := dk_4 (dk_at dksJ6_siftDownComparable_1 8 rfl rfl)
theorem dJ6_siftDownComparable_33 : decode cJ6_siftDownComparable 33 = .ok (.iadd, 1) := dk_96 (dk_at dksJ6_siftDownComparable_1 9 rfl rfl)
theorem dJ6_siftDownComparable_34 : decode cJ6_siftDownComparable 34 = .ok (.istore 8, 2) := dk_54 8 (dk_at dksJ6_siftDownComparable_1 10 rfl rfl)
theorem dJ6_siftDownComparable_36 : decode cJ6_siftDownComparable 36 = .ok (.iload 8, 2) := dk_21 8 (dk_at dksJ6_siftDownComparable_1 12 rfl rfl)
theorem dJ6_siftDownComparable_38 : decode cJ6_siftDownComparable 38 = .ok (.iload_n 3, 1) := dk_29 (dk_at dksJ6_siftDownComparable_1 14 rfl rfl)
theorem dJ6_siftDownComparable_39 : decode cJ6_siftDownComparable 39 = .ok (.if_icmp .ge 29, 3) := dk_162 0 29 (dk_at dksJ6_siftDownComparable_1 15 rfl rfl)
theorem dJ6_siftDownComparable_42 : decode cJ6_siftDownComparable 42 = .ok (.aload 7, 2) := dk_25 7 (dk_at dksJ6_siftDownComparable_1 18 rfl rfl)
theorem dJ6_siftDownComparable_44 : decode cJ6_siftDownComparable 44 = .ok (.checkcast 144, 3) := dk_192 0 144 (dk_at dksJ6_siftDownComparable_1 20 rfl rfl)
theorem dJ6_siftDownComparable_47 : decode cJ6_siftDownComparable 47 = .ok (.aload_n 2, 1) := dk_44 (dk_at dksJ6_siftDownComparable_1 23 rfl rfl)
theorem dJ6_siftDownComparable_48 : decode cJ6_siftDownComparable 48 = .ok (.iload 8, 2) := dk_21 8 (dk_at dksJ6_siftDownComparable_2 0 rfl rfl)
theorem dJ6_siftDownComparable_50 : decode cJ6_siftDownComparable 50 = .ok (.aaload, 1) := dk_50 (dk_at dksJ6_siftDownComparable_2 2 rfl rfl)
theorem dJ6_siftDownComparable_51 : decode cJ6_siftDownComparable 51 = .ok (.invokeinterface 146 2, 5) := by decide +kernel
theorem dJ6_siftDownComparable_56 : decode cJ6_siftDownComparable 56 = .ok (.ifCond .le 12, 3) := dk_158 0 12 (dk_at dksJ6_siftDownComparable_2 8 rfl rfl)
theorem dJ6_siftDownComparable_59 : decode cJ6_siftDownComparable 59 = .ok (.aload_n 2, 1) := dk_44 (dk_at dksJ6_siftDownComparable_2 11 rfl rfl)
theorem dJ6_siftDownComparable_60 : decode cJ6_siftDownComparable 60 = .ok (.iload 8, 2) := dk_21 8 (dk_at dksJ6_siftDownComparable_2 12 rfl rfl)
theorem dJ6_siftDownComparable_62 : decode cJ6_siftDownComparable 62 = .ok (.dup, 1) := dk_89 (dk_at dksJ6_siftDownComparable_2 14 rfl rfl)
theorem dJ6_siftDownComparable_63 : decode cJ6_siftDownComparable 63 = .ok (.istore 6, 2) := dk_54 6 (dk_at dksJ6_siftDownComparable_2 15 rfl rfl)
theorem dJ6_siftDownComparable_65 : decode cJ6_siftDownComparable 65 = .ok (.aaload, 1) := dk_50 (dk_at dksJ6_siftDownComparable_2 17 rfl rfl)
theorem dJ6_siftDownComparable_66 : decode cJ6_siftDownComparable 66 = .ok (.astore 7, 2) := dk_58 7 (dk_at dksJ6_siftDownComparable_2 18 rfl rfl)
theorem dJ6_siftDownComparable_68 : decode cJ6_siftDownComparable 68 = .ok (.aload 4, 2) := dk_25 4 (dk_at dksJ6_siftDownComparable_2 20 rfl rfl)
theorem dJ6_siftDownComparable_70 : decode cJ6_siftDownComparable 70 = .ok (.aload 7, 2) := dk_25 7 (dk_at dksJ6_siftDownComparable_2 22 rfl rfl)
theorem dJ6_siftDownComparable_72 : decode cJ6_siftDownComparable 72 = .ok (.invokeinterface 146 2, 5) := by decide +kernel
theorem dJ6_siftDownComparable_77 : decode cJ6_siftDownComparable 77 = .ok (.ifCond .gt 6, 3) := dk_157 0 6 (dk_at dksJ6_siftDownComparable_3 5 rfl rfl)
theorem dJ6_siftDownComparable_80 : decode cJ6_siftDownComparable 80 = .ok (.goto 14, 3) := dk_167 0 14 (dk_at dksJ6_siftDownComparable_3 8 rfl rfl)
theorem dJ6_siftDownComparable_83 : decode cJ6_siftDownComparable 83 = .ok (.aload_n 2, 1) := dk_44 (dk_at dksJ6_siftDownComparable_3 11 rfl rfl)
theorem dJ6_siftDownComparable_84 : decode cJ6_siftDownComparable 84 = .ok (.iload_n 0, 1) := dk_26 (dk_at dksJ6_siftDownComparable_3 12 rfl rfl)
theorem dJ6_siftDownComparable_85 : decode cJ6_siftDownComparable 85 = .ok (.aload 7, 2) := dk_25 7 (dk_at dksJ6_siftDownComparable_3 13 rfl rfl)
theorem dJ6_siftDownComparable_87 : decode cJ6_siftDownComparable 87 = .ok (.aastore, 1) := dk_83 (dk_at dksJ6_siftDownComparable_3 15 rfl rfl)
theorem dJ6_siftDownComparable_88 : decode cJ6_siftDownComparable 88 = .ok (.iload 6, 2) := dk_21 6 (dk_at dksJ6_siftDownComparable_3 16 rfl rfl)
theorem dJ6_siftDownComparable_90 : decode cJ6_siftDownComparable 90 = .ok (.istore_n 0, 1) := dk_59 (dk_at dksJ6_siftDownComparable_3 18 rfl rfl)
theorem dJ6_siftDownComparable_91 : decode cJ6_siftDownComparable 91 = .ok (.goto (-80), 3) := dk_167 255 176 (dk_at dksJ6_siftDownComparable_3 19 rfl rfl)
theorem dJ6_siftDownComparable_94 : decode cJ6_siftDownComparable 94 = .ok (.aload_n 2, 1) := dk_44 (dk_at dksJ6_siftDownComparable_3 22 rfl rfl)
theorem dJ6_siftDownComparable_95 : decode cJ6_siftDownComparable 95 = .ok (.iload_n 0, 1) := dk_26 (dk_at dksJ6_siftDownComparable_3 23 rfl rfl)
theorem dJ6_siftDownComparable_96 : decode cJ6_siftDownComparable 96 = .ok (.aload 4, 2) := dk_25 4 (dk_at dksJ6_siftDownComparable_4 0 rfl rfl)
theorem dJ6_siftDownComparable_98 : decode cJ6_siftDownComparable 98 = .ok (.aastore, 1) := dk_83 (dk_at dksJ6_siftDownComparable_4 2 rfl rfl)
theorem dJ6_siftDownComparable_99 : decode cJ6_siftDownComparable 99 = .ok (.return_, 1) := dk_177 (dk_at dksJ6_siftDownComparable_4 3 rfl rfl)
abbrev cJ6_removeEq : ByteArray := prog_84_method_18_code
def yJ6_removeEq : MethodName := ⟨RJ6, "removeEq", "(Ljava/lang/Object;)V"⟩
def dkwJ6_removeEq_1 : List UInt8 := [166, 0, 12, 42, 29, 182, 0, 111, 87, 167, 0, 9, 132, 3, 1, 167, 255, 231, 177]
abbrev dktJ6_removeEq_1 : List UInt8 := dkwJ6_removeEq_1 ++ []
def dkwJ6_removeEq_0 : List UInt8 := [42, 180, 0, 17, 77, 3, 62, 42, 180, 0, 58, 54, 4, 29, 21, 4, 162, 0, 25, 43, 44, 29, 50]
abbrev dktJ6_removeEq_0 : List UInt8 := dkwJ6_removeEq_0 ++ dktJ6_removeEq_1
theorem dksJ6_removeEq_0 : cJ6_removeEq.data.toList.drop 0 = dktJ6_removeEq_0 := by decide +kernel
theorem dksJ6_removeEq_1 : cJ6_removeEq.data.toList.drop 23 = dktJ6_removeEq_1 := dk_seg dksJ6_removeEq_0 23 rfl rfl
theorem dJ6_removeEq_0 : decode cJ6_removeEq 0 = .ok (.aload_n 0, 1) := dk_42 (dk_at dksJ6_removeEq_0 0 rfl rfl)
theorem dJ6_removeEq_1 : decode cJ6_removeEq 1 = .ok (.getfield 17, 3) := dk_180 0 17 (dk_at dksJ6_removeEq_0 1 rfl rfl)
theorem dJ6_removeEq_4 : decode cJ6_removeEq 4 = .ok (.astore_n 2, 1) := dk_77 (dk_at dksJ6_removeEq_0 4 rfl rfl)
theorem dJ6_removeEq_5 : decode cJ6_removeEq 5 = .ok (.iconst 0, 1) := dk_3 (dk_at dksJ6_removeEq_0 5 rfl rfl)
theorem dJ6_removeEq_6 : decode cJ6_removeEq 6 = .ok (.istore_n 3, 1) := dk_62 (dk_at dksJ6_removeEq_0 6 rfl rfl)
theorem dJ6_removeEq_7 : decode cJ6_removeEq 7 = .ok (.aload_n 0, 1) := dk_42 (dk_at dksJ6_removeEq_0 7 rfl rfl)
theorem dJ6_removeEq_8 : decode cJ6_removeEq 8 = .ok (.getfield 58, 3) := dk_180 0 58 (dk_at dksJ6_removeEq_0 8 rfl rfl)
theorem dJ6_removeEq_11 : decode cJ6_removeEq 11 = .ok (.istore 4, 2) := dk_54 4 (dk_at dksJ6_removeEq_0 11 rfl rfl)
theorem dJ6_removeEq_13 : decode cJ6_removeEq 13 = .ok (.iload_n 3, 1) := dk_29 (dk_at dksJ6_removeEq_0 13 rfl rfl)
theorem dJ6_removeEq_14 : decode cJ6_removeEq 14 = .ok (.iload 4, 2) := dk_21 4 (dk_at dksJ6_removeEq_0 14 rfl rfl)
theorem dJ6_removeEq_16 : decode cJ6_removeEq 16 = .ok (.if_icmp .ge 25, 3) := dk_162 0 25 (dk_at dksJ6_removeEq_0 16 rfl rfl)
theorem dJ6_removeEq_19 : decode cJ6_removeEq 19 = .ok (.aload_n 1, 1) := dk_43 (dk_at dksJ6_removeEq_0 19 rfl rfl)
theorem dJ6_removeEq_20 : decode cJ6_removeEq 20 = .ok (.aload_n 2, 1) := dk_44 (dk_at dksJ6_removeEq_0 20 rfl rfl)
theorem dJ6_removeEq_21 : decode cJ6_removeEq 21 = .ok (.iload_n 3, 1) := dk_29 (dk_at dksJ6_removeEq_0 21 rfl rfl)
theorem dJ6_removeEq_22 : decode cJ6_removeEq 22 = .ok (.aaload, 1) := dk_50 (dk_at dksJ6_removeEq_0 22 rfl rfl)
theorem dJ6_removeEq_23 : decode cJ6_removeEq 23 = .ok (.if_acmp .ne 12, 3) := dk_166 0 12 (dk_at dksJ6_removeEq_1 0 rfl rfl)
theorem dJ6_removeEq_26 : decode cJ6_removeEq 26 = .ok (.aload_n 0, 1) := dk_42 (dk_at dksJ6_removeEq_1 3 rfl rfl)
theorem dJ6_removeEq_27 : decode cJ6_removeEq 27 = .ok (.iload_n 3, 1) := dk_29 (dk_at dksJ6_removeEq_1 4 rfl rfl)
theorem dJ6_removeEq_28 : decode cJ6_removeEq 28 = .ok (.invokevirtual 111, 3) := dk_182 0 111 (dk_at dksJ6_removeEq_1 5 rfl rfl)
theorem dJ6_removeEq_31 : decode cJ6_removeEq 31 = .ok (.pop, 1) := dk_87 (dk_at dksJ6_removeEq_1 8 rfl rfl)
theorem dJ6_removeEq_32 : decode cJ6_removeEq 32 = .ok (.goto 9, 3) := dk_167 0 9 (dk_at dksJ6_removeEq_1 9 rfl rfl)
theorem dJ6_removeEq_35 : decode cJ6_removeEq 35 = .ok (.iinc 3 1, 3) := dk_132 3 1 (dk_at dksJ6_removeEq_1 12 rfl rfl)
theorem dJ6_removeEq_38 : decode cJ6_removeEq 38 = .ok (.goto (-25), 3) := dk_167 255 231 (dk_at dksJ6_removeEq_1 15 rfl rfl)
theorem dJ6_removeEq_41 : decode cJ6_removeEq 41 = .ok (.return_, 1) := dk_177 (dk_at dksJ6_removeEq_1 18 rfl rfl)
abbrev cJ6_poll : ByteArray := prog_84_method_25_code
def yJ6_poll : MethodName := ⟨RJ6, "poll", "()Ljava/lang/Object;"⟩
def dkwJ6_poll_3 : List UInt8 := [43, 29, 25, 5, 184, 0, 129, 44, 176]
abbrev dktJ6_poll_3 : List UInt8 := dkwJ6_poll_3 ++ []
def dkwJ6_poll_2 : List UInt8 := [42, 180, 0, 21, 89, 58, 5, 199, 0, 14, 3, 25, 4, 43, 29, 184, 0, 125, 167, 0, 13, 3, 25, 4]
abbrev dktJ6_poll_2 : List UInt8 := dkwJ6_poll_2 ++ dktJ6_poll_3
def dkwJ6_poll_1 : List UInt8 := [42, 89, 180, 0, 58, 4, 100, 90, 181, 0, 58, 89, 62, 50, 58, 4, 43, 29, 1, 83, 29, 158, 0, 34]
abbrev dktJ6_poll_1 : List UInt8 := dkwJ6_poll_1 ++ dktJ6_poll_2
def dkwJ6_poll_0 : List UInt8 := [42, 180, 0, 17, 89, 76, 3, 50, 89, 77, 198, 0, 69, 42, 89, 180, 0, 93, 4, 96, 181, 0, 93, 43]
abbrev dktJ6_poll_0 : List UInt8 := dkwJ6_poll_0 ++ dktJ6_poll_1
theorem dksJ6_poll_0 : cJ6_poll.data.toList.drop 0 = dktJ6_poll_0 := by decide +kernel
theorem dksJ6_poll_1 : cJ6_poll.data.toList.drop 24 = dktJ6_poll_1 := dk_seg dksJ6_poll_0 24 rfl rfl
theorem dksJ6_poll_2 : cJ6_poll.data.toList.drop 48 = dktJ6_poll_2 := dk_seg dksJ6_poll_1 24 rfl rfl
theorem dksJ6_poll_3 : cJ6_poll.data.toList.drop 72 = dktJ6_poll_3 := dk_seg dksJ6_poll_2 24 rfl rfl
theorem dJ6_poll_0 : decode cJ6_poll 0 = .ok (.aload_n 0, 1) := dk_42 (dk_at dksJ6_poll_0 0 rfl rfl)
theorem dJ6_poll_1 : decode cJ6_poll 1 = .ok (.getfield 17, 3) := dk_180 0 17 (dk_at dksJ6_poll_0 1 rfl rfl)
theorem dJ6_poll_4 : decode cJ6_poll 4 = .ok (.dup, 1) := dk_89 (dk_at dksJ6_poll_0 4 rfl rfl)
theorem dJ6_poll_5 : decode cJ6_poll 5 = .ok (.astore_n 1, 1) := dk_76 (dk_at dksJ6_poll_0 5 rfl rfl)
theorem dJ6_poll_6 : decode cJ6_poll 6 = .ok (.iconst 0, 1) := dk_3 (dk_at dksJ6_poll_0 6 rfl rfl)
theorem dJ6_poll_7 : decode cJ6_poll 7 = .ok (.aaload, 1) := dk_50 (dk_at dksJ6_poll_0 7 rfl rfl)
theorem dJ6_poll_8 : decode cJ6_poll 8 = .ok (.dup, 1) := dk_89 (dk_at dksJ6_poll_0 8 rfl rfl)
theorem dJ6_poll_9 : decode cJ6_poll 9 = .ok (.astore_n 2, 1) := dk_77 (dk_at dksJ6_poll_0 9 rfl rfl)
theorem dJ6_poll_10 : decode cJ6_poll 10 = .ok (.ifnull 69, 3) := dk_198 0 69 (dk_at dksJ6_poll_0 10 rfl rfl)
theorem dJ6_poll_13 : decode cJ6_poll 13 = .ok (.aload_n 0, 1) := dk_42 (dk_at dksJ6_poll_0 13 rfl rfl)
theorem dJ6_poll_14 : decode cJ6_poll 14 = .ok (.dup, 1) := dk_89 (dk_at dksJ6_poll_0 14 rfl rfl)
theorem dJ6_poll_15 : decode cJ6_poll 15 = .ok (.getfield 93, 3) := dk_180 0 93 (dk_at dksJ6_poll_0 15 rfl rfl)
theorem dJ6_poll_18 : decode cJ6_poll 18 = .ok (.iconst 1, 1) := dk_4 (dk_at dksJ6_poll_0 18 rfl rfl)
theorem dJ6_poll_19 : decode cJ6_poll 19 = .ok (.iadd, 1) := dk_96 (dk_at dksJ6_poll_0 19 rfl rfl)
theorem dJ6_poll_20 : decode cJ6_poll 20 = .ok (.putfield 93, 3) := dk_181 0 93 (dk_at dksJ6_poll_0 20 rfl rfl)
theorem dJ6_poll_23 : decode cJ6_poll 23 = .ok (.aload_n 1, 1) := dk_43 (dk_at dksJ6_poll_0 23 rfl rfl)
theorem dJ6_poll_24 : decode cJ6_poll 24 = .ok (.aload_n 0, 1) := dk_42 (dk_at dksJ6_poll_1 0 rfl rfl)
theorem dJ6_poll_25 : decode cJ6_poll 25 = .ok (.dup, 1) := dk_89 (dk_at dksJ6_poll_1 1 rfl rfl)
theorem dJ6_poll_26 : decode cJ6_poll 26 = .ok (.getfield 58, 3) := dk_180 0 58 (dk_at dksJ6_poll_1 2 rfl rfl)
theorem dJ6_poll_29 : decode cJ6_poll 29 = .ok (.iconst 1, 1) := dk_4 (dk_at dksJ6_poll_1 5 rfl rfl)
theorem dJ6_poll_30 : decode cJ6_poll 30 = .ok (.isub, 1) := dk_100 (dk_at dksJ6_poll_1 6 rfl rfl)
theorem dJ6_poll_31 : decode cJ6_poll 31 = .ok (.dup_x1, 1) := dk_90 (dk_at dksJ6_poll_1 7 rfl rfl)
theorem dJ6_poll_32 : decode cJ6_poll 32 = .ok (.putfield 58, 3) := dk_181 0 58 (dk_at dksJ6_poll_1 8 rfl rfl)
theorem dJ6_poll_35 : decode cJ6_poll 35 = .ok (.dup, 1) := dk_89 (dk_at dksJ6_poll_1 11 rfl rfl)
theorem dJ6_poll_36 : decode cJ6_poll 36 = .ok (.istore_n 3, 1) := dk_62 (dk_at dksJ6_poll_1 12 rfl rfl)
theorem dJ6_poll_37 : decode cJ6_poll 37 = .ok (.aaload, 1) := dk_50 (dk_at dksJ6_poll_1 13 rfl rfl)
theorem dJ6_poll_38 : decode cJ6_poll 38 = .ok (.astore 4, 2) := dk_58 4 (dk_at dksJ6_poll_1 14 rfl rfl)
theorem dJ6_poll_40 : decode cJ6_poll 40 = .ok (.aload_n 1, 1) := dk_43 (dk_at dksJ6_poll_1 16 rfl rfl)
theorem dJ6_poll_41 : decode cJ6_poll 41 = .ok (.iload_n 3, 1) := dk_29 (dk_at dksJ6_poll_1 17 rfl rfl)
theorem dJ6_poll_42 : decode cJ6_poll 42 = .ok (.aconst_null, 1) := dk_1 (dk_at dksJ6_poll_1 18 rfl rfl)
theorem dJ6_poll_43 : decode cJ6_poll 43 = .ok (.aastore, 1) := dk_83 (dk_at dksJ6_poll_1 19 rfl rfl)
theorem dJ6_poll_44 : decode cJ6_poll 44 = .ok (.iload_n 3, 1) := dk_29 (dk_at dksJ6_poll_1 20 rfl rfl)
theorem dJ6_poll_45 : decode cJ6_poll 45 = .ok (.ifCond .le 34, 3) := dk_158 0 34 (dk_at dksJ6_poll_1 21 rfl rfl)
theorem dJ6_poll_48 : decode cJ6_poll 48 = .ok (.aload_n 0, 1) := dk_42 (dk_at dksJ6_poll_2 0 rfl rfl)
theorem dJ6_poll_49 : decode cJ6_poll 49 = .ok (.getfield 21, 3) := dk_180 0 21 (dk_at dksJ6_poll_2 1 rfl rfl)
theorem dJ6_poll_52 : decode cJ6_poll 52 = .ok (.dup, 1) := dk_89 (dk_at dksJ6_poll_2 4 rfl rfl)
theorem dJ6_poll_53 : decode cJ6_poll 53 = .ok (.astore 5, 2) := dk_58 5 (dk_at dksJ6_poll_2 5 rfl rfl)
theorem dJ6_poll_55 : decode cJ6_poll 55 = .ok (.ifnonnull 14, 3) := dk_199 0 14 (dk_at dksJ6_poll_2 7 rfl rfl)
theorem dJ6_poll_58 : decode cJ6_poll 58 = .ok (.iconst 0, 1) := dk_3 (dk_at dksJ6_poll_2 10 rfl rfl)
theorem dJ6_poll_59 : decode cJ6_poll 59 = .ok (.aload 4, 2) := dk_25 4 (dk_at dksJ6_poll_2 11 rfl rfl)
theorem dJ6_poll_61 : decode cJ6_poll 61 = .ok (.aload_n 1, 1) := dk_43 (dk_at dksJ6_poll_2 13 rfl rfl)
theorem dJ6_poll_62 : decode cJ6_poll 62 = .ok (.iload_n 3, 1) := dk_29 (dk_at dksJ6_poll_2 14 rfl rfl)
theorem dJ6_poll_63 : decode cJ6_poll 63 = .ok (.invokestatic 125, 3) := dk_184 0 125 (dk_at dksJ6_poll_2 15 rfl rfl)
theorem dJ6_poll_66 : decode cJ6_poll 66 = .ok (.goto 13, 3) := dk_167 0 13 (dk_at dksJ6_poll_2 18 rfl rfl)
theorem dJ6_poll_69 : decode cJ6_poll 69 = .ok (.iconst 0, 1) := dk_3 (dk_at dksJ6_poll_2 21 rfl rfl)
theorem dJ6_poll_70 : decode cJ6_poll 70 = .ok (.aload 4, 2) := dk_25 4 (dk_at dksJ6_poll_2 22 rfl rfl)
theorem dJ6_poll_72 : decode cJ6_poll 72 = .ok (.aload_n 1, 1) := dk_43 (dk_at dksJ6_poll_3 0 rfl rfl)
theorem dJ6_poll_73 : decode cJ6_poll 73 = .ok (.iload_n 3, 1) := dk_29 (dk_at dksJ6_poll_3 1 rfl rfl)
theorem dJ6_poll_74 : decode cJ6_poll 74 = .ok (.aload 5, 2) := dk_25 5 (dk_at dksJ6_poll_3 2 rfl rfl)
theorem dJ6_poll_76 : decode cJ6_poll 76 = .ok (.invokestatic 129, 3) := dk_184 0 129 (dk_at dksJ6_poll_3 4 rfl rfl)
theorem dJ6_poll_79 : decode cJ6_poll 79 = .ok (.aload_n 2, 1) := dk_44 (dk_at dksJ6_poll_3 7 rfl rfl)
theorem dJ6_poll_80 : decode cJ6_poll 80 = .ok (.areturn, 1) := dk_176 (dk_at dksJ6_poll_3 8 rfl rfl)
theorem q114 : (Jvm.Cond.initialized "java/util/PriorityQueue") ∈ lw_all := lw_g (lw_at lw_m1 13 rfl) rfl
theorem q277 : (Jvm.Cond.instantiable "java/util/PriorityQueue" (4 : Nat)) ∈ lw_all := lw_g (lw_at lw_m1 176 rfl) rfl
theorem q279 : (Jvm.Cond.instanceMethod ({ cls := "java/util/PriorityQueue", name := "<init>", desc := "(I)V" } : Jvm.MethodName)) ∈ lw_all := lw_g (lw_at lw_m1 178 rfl) rfl
theorem q280 : (Jvm.Cond.code ({ cls := "java/util/PriorityQueue", name := "<init>", desc := "(I)V" } : Jvm.MethodName) prog_84_method_2_code (2 : Nat) (Option.none : Option Jvm.ClassFile.FieldType)) ∈ lw_all := lw_g (lw_at lw_m1 179 rfl) rfl
theorem q281 : (Jvm.Cond.methodLink "java/util/PriorityQueue" (3 : Nat) ({ cls := "java/util/PriorityQueue", name := "<init>", desc := "(ILjava/util/Comparator;)V" } : Jvm.MethodName)) ∈ lw_all := lw_g (lw_at lw_m1 180 rfl) rfl
theorem q282 : (Jvm.Cond.instanceMethod ({ cls := "java/util/PriorityQueue", name := "<init>", desc := "(ILjava/util/Comparator;)V" } : Jvm.MethodName)) ∈ lw_all := lw_g (lw_at lw_m1 181 rfl) rfl
theorem q283 : (Jvm.Cond.code ({ cls := "java/util/PriorityQueue", name := "<init>", desc := "(ILjava/util/Comparator;)V" } : Jvm.MethodName) prog_84_method_4_code (3 : Nat) (Option.none : Option Jvm.ClassFile.FieldType)) ∈ lw_all := lw_g (lw_at lw_m1 182 rfl) rfl
theorem q284 : (Jvm.Cond.methodLink "java/util/PriorityQueue" (7 : Nat) ({ cls := "java/util/AbstractQueue", name := "<init>", desc := "()V" } : Jvm.MethodName)) ∈ lw_all := lw_g (lw_at lw_m1 183 rfl) rfl
theorem q288 : (Jvm.Cond.classLink "java/util/PriorityQueue" (15 : Nat) "java/lang/Object") ∈ lw_all := lw_g (lw_at lw_m1 187 rfl) rfl
theorem q291 : (Jvm.Cond.fieldLink "java/util/PriorityQueue" (17 : Nat) "java/util/PriorityQueue" "queue" "[Ljava/lang/Object;") ∈ lw_all := lw_g (lw_at lw_m1 190 rfl) rfl
theorem q293 : (Jvm.Cond.fieldLink "java/util/PriorityQueue" (58 : Nat) "java/util/PriorityQueue" "size" "I") ∈ lw_all := lw_g (lw_at lw_m1 192 rfl) rfl
theorem q294 : (Jvm.Cond.fieldLink "java/util/PriorityQueue" (21 : Nat) "java/util/PriorityQueue" "comparator" "Ljava/util/Comparator;") ∈ lw_all := lw_g (lw_at lw_m1 193 rfl) rfl
theorem q296 : (Jvm.Cond.fieldLink "java/util/PriorityQueue" (93 : Nat) "java/util/PriorityQueue" "modCount" "I") ∈ lw_all := lw_g (lw_at lw_m1 195 rfl) rfl
theorem q297 : (Jvm.Cond.lays "java/util/PriorityQueue" "java/util/PriorityQueue" "queue" "[Ljava/lang/Object;") ∈ lw_all := lw_g (lw_at lw_m1 196 rfl) rfl
theorem q298 : (Jvm.Cond.soleField "java/util/PriorityQueue" "queue") ∈ lw_all := lw_g (lw_at lw_m1 197 rfl) rfl
theorem q299 : (Jvm.Cond.lays "java/util/PriorityQueue" "java/util/PriorityQueue" "size" "I") ∈ lw_all := lw_g (lw_at lw_m1 198 rfl) rfl
theorem q300 : (Jvm.Cond.soleField "java/util/PriorityQueue" "size") ∈ lw_all := lw_g (lw_at lw_m1 199 rfl) rfl
theorem q301 : (Jvm.Cond.laysFinal "java/util/PriorityQueue" "java/util/PriorityQueue" "comparator" "Ljava/util/Comparator;") ∈ lw_all := lw_g (lw_at lw_m1 200 rfl) rfl
theorem q302 : (Jvm.Cond.soleField "java/util/PriorityQueue" "comparator") ∈ lw_all := lw_g (lw_at lw_m1 201 rfl) rfl
theorem q303 : (Jvm.Cond.lays "java/util/PriorityQueue" "java/util/PriorityQueue" "modCount" "I") ∈ lw_all := lw_g (lw_at lw_m1 202 rfl) rfl
theorem q304 : (Jvm.Cond.soleField "java/util/PriorityQueue" "modCount") ∈ lw_all := lw_g (lw_at lw_m1 203 rfl) rfl
theorem q305 : (Jvm.Cond.superclass "java/util/PriorityQueue" "java/util/AbstractQueue") ∈ lw_all := lw_g (lw_at lw_m1 204 rfl) rfl
theorem q714 : (Jvm.Cond.selects "java/util/PriorityQueue" ({ cls := "java/lang/Object", name := "getClass", desc := "()Ljava/lang/Class;" } : Jvm.MethodName) ({ cls := "java/lang/Object", name := "getClass", desc := "()Ljava/lang/Class;" } : Jvm.MethodName)) ∈ lw_all := lw_g (lw_at lw_m3 133 rfl) rfl
theorem q1139 : (Jvm.Cond.instanceMethod ({ cls := "java/util/PriorityQueue", name := "size", desc := "()I" } : Jvm.MethodName)) ∈ lw_all := lw_g (lw_at lw_m5 78 rfl) rfl
theorem q1140 : (Jvm.Cond.selects "java/util/PriorityQueue" ({ cls := "java/util/PriorityQueue", name := "size", desc := "()I" } : Jvm.MethodName) ({ cls := "java/util/PriorityQueue", name := "size", desc := "()I" } : Jvm.MethodName)) ∈ lw_all := lw_g (lw_at lw_m5 79 rfl) rfl
theorem q1141 : (Jvm.Cond.code ({ cls := "java/util/PriorityQueue", name := "size", desc := "()I" } : Jvm.MethodName) prog_84_method_23_code (1 : Nat) (Option.some Jvm.ClassFile.FieldType.int)) ∈ lw_all := lw_g (lw_at lw_m5 80 rfl) rfl
theorem q1172 : (Jvm.Cond.instanceMethod ({ cls := "java/util/PriorityQueue", name := "add", desc := "(Ljava/lang/Object;)Z" } : Jvm.MethodName)) ∈ lw_all := lw_g (lw_at lw_m5 111 rfl) rfl
theorem q1173 : (Jvm.Cond.selects "java/util/PriorityQueue" ({ cls := "java/util/PriorityQueue", name := "add", desc := "(Ljava/lang/Object;)Z" } : Jvm.MethodName) ({ cls := "java/util/PriorityQueue", name := "add", desc := "(Ljava/lang/Object;)Z" } : Jvm.MethodName)) ∈ lw_all := lw_g (lw_at lw_m5 112 rfl) rfl
theorem q1174 : (Jvm.Cond.code ({ cls := "java/util/PriorityQueue", name := "add", desc := "(Ljava/lang/Object;)Z" } : Jvm.MethodName) prog_84_method_13_code (2 : Nat) (Option.some Jvm.ClassFile.FieldType.boolean)) ∈ lw_all := lw_g (lw_at lw_m5 113 rfl) rfl
theorem q1175 : (Jvm.Cond.methodLink "java/util/PriorityQueue" (89 : Nat) ({ cls := "java/util/PriorityQueue", name := "offer", desc := "(Ljava/lang/Object;)Z" } : Jvm.MethodName)) ∈ lw_all := lw_g (lw_at lw_m5 114 rfl) rfl
theorem q1176 : (Jvm.Cond.instanceMethod ({ cls := "java/util/PriorityQueue", name := "offer", desc := "(Ljava/lang/Object;)Z" } : Jvm.MethodName)) ∈ lw_all := lw_g (lw_at lw_m5 115 rfl) rfl
theorem q1177 : (Jvm.Cond.selects "java/util/PriorityQueue" ({ cls := "java/util/PriorityQueue", name := "offer", desc := "(Ljava/lang/Object;)Z" } : Jvm.MethodName) ({ cls := "java/util/PriorityQueue", name := "offer", desc := "(Ljava/lang/Object;)Z" } : Jvm.MethodName)) ∈ lw_all := lw_g (lw_at lw_m5 116 rfl) rfl
theorem q1178 : (Jvm.Cond.code ({ cls := "java/util/PriorityQueue", name := "offer", desc := "(Ljava/lang/Object;)Z" } : Jvm.MethodName) prog_84_method_14_code (3 : Nat) (Option.some Jvm.ClassFile.FieldType.boolean)) ∈ lw_all := lw_g (lw_at lw_m5 117 rfl) rfl
theorem q1179 : (Jvm.Cond.methodLink "java/util/PriorityQueue" (96 : Nat) ({ cls := "java/util/PriorityQueue", name := "grow", desc := "(I)V" } : Jvm.MethodName)) ∈ lw_all := lw_g (lw_at lw_m5 118 rfl) rfl
theorem q1180 : (Jvm.Cond.privateMethod ({ cls := "java/util/PriorityQueue", name := "grow", desc := "(I)V" } : Jvm.MethodName)) ∈ lw_tbl := lw_at lw_m5 119 rfl
theorem q1181 : (Jvm.Cond.instanceMethod ({ cls := "java/util/PriorityQueue", name := "grow", desc := "(I)V" } : Jvm.MethodName)) ∈ lw_all := lw_g (lw_at lw_m5 120 rfl) rfl
theorem q1182 : (Jvm.Cond.code ({ cls := "java/util/PriorityQueue", name := "grow", desc := "(I)V" } : Jvm.MethodName) prog_84_method_12_code (4 : Nat) (Option.none : Option Jvm.ClassFile.FieldType)) ∈ lw_all := lw_g (lw_at lw_m5 121 rfl) rfl
theorem q1183 : (Jvm.Cond.methodLink "java/util/PriorityQueue" (80 : Nat) ({ cls := "jdk/internal/util/ArraysSupport", name := "newLength", desc := "(III)I" } : Jvm.MethodName)) ∈ lw_all := lw_g (lw_at lw_m5 122 rfl) rfl
theorem q1193 : (Jvm.Cond.methodLink "java/util/PriorityQueue" (86 : Nat) ({ cls := "java/util/Arrays", name := "copyOf", desc := "([Ljava/lang/Object;I)[Ljava/lang/Object;" } : Jvm.MethodName)) ∈ lw_all := lw_g (lw_at lw_m5 132 rfl) rfl
theorem q1206 : (Jvm.Cond.methodLink "java/util/PriorityQueue" (100 : Nat) ({ cls := "java/util/PriorityQueue", name := "siftUp", desc := "(ILjava/lang/Object;)V" } : Jvm.MethodName)) ∈ lw_all := lw_g (lw_at lw_m5 145 rfl) rfl
theorem q1207 : (Jvm.Cond.privateMethod ({ cls := "java/util/PriorityQueue", name := "siftUp", desc := "(ILjava/lang/Object;)V" } : Jvm.MethodName)) ∈ lw_tbl := lw_at lw_m5 146 rfl
theorem q1208 : (Jvm.Cond.instanceMethod ({ cls := "java/util/PriorityQueue", name := "siftUp", desc := "(ILjava/lang/Object;)V" } : Jvm.MethodName)) ∈ lw_all := lw_g (lw_at lw_m5 147 rfl) rfl
theorem q1209 : (Jvm.Cond.code ({ cls := "java/util/PriorityQueue", name := "siftUp", desc := "(ILjava/lang/Object;)V" } : Jvm.MethodName) prog_84_method_27_code (3 : Nat) (Option.none : Option Jvm.ClassFile.FieldType)) ∈ lw_all := lw_g (lw_at lw_m5 148 rfl) rfl
theorem q1210 : (Jvm.Cond.methodLink "java/util/PriorityQueue" (136 : Nat) ({ cls := "java/util/PriorityQueue", name := "siftUpUsingComparator", desc := "(ILjava/lang/Object;[Ljava/lang/Object;Ljava/util/Comparator;)V" } : Jvm.MethodName)) ∈ lw_all := lw_g (lw_at lw_m5 149 rfl) rfl
theorem q1211 : (Jvm.Cond.static ({ cls := "java/util/PriorityQueue", name := "siftUpUsingComparator", desc := "(ILjava/lang/Object;[Ljava/lang/Object;Ljava/util/Comparator;)V" } : Jvm.MethodName)) ∈ lw_all := lw_g (lw_at lw_m5 150 rfl) rfl
theorem q1212 : (Jvm.Cond.code ({ cls := "java/util/PriorityQueue", name := "siftUpUsingComparator", desc := "(ILjava/lang/Object;[Ljava/lang/Object;Ljava/util/Comparator;)V" } : Jvm.MethodName) prog_84_method_29_code (6 : Nat) (Option.none : Option Jvm.ClassFile.FieldType)) ∈ lw_all := lw_g (lw_at lw_m5 151 rfl) rfl
theorem q1213 : (Jvm.Cond.interfaceEntry "java/util/PriorityQueue" (149 : Nat)) ∈ lw_tbl := lw_at lw_m5 152 rfl
theorem q1214 : (Jvm.Cond.methodLink "java/util/PriorityQueue" (149 : Nat) ({ cls := "java/util/Comparator", name := "compare", desc := "(Ljava/lang/Object;Ljava/lang/Object;)I" } : Jvm.MethodName)) ∈ lw_all := lw_g (lw_at lw_m5 153 rfl) rfl
theorem q1215 : (Jvm.Cond.methodLink "java/util/PriorityQueue" (140 : Nat) ({ cls := "java/util/PriorityQueue", name := "siftUpComparable", desc := "(ILjava/lang/Object;[Ljava/lang/Object;)V" } : Jvm.MethodName)) ∈ lw_all := lw_g (lw_at lw_m5 154 rfl) rfl
theorem q1216 : (Jvm.Cond.static ({ cls := "java/util/PriorityQueue", name := "siftUpComparable", desc := "(ILjava/lang/Object;[Ljava/lang/Object;)V" } : Jvm.MethodName)) ∈ lw_all := lw_g (lw_at lw_m5 155 rfl) rfl
theorem q1217 : (Jvm.Cond.code ({ cls := "java/util/PriorityQueue", name := "siftUpComparable", desc := "(ILjava/lang/Object;[Ljava/lang/Object;)V" } : Jvm.MethodName) prog_84_method_28_code (6 : Nat) (Option.none : Option Jvm.ClassFile.FieldType)) ∈ lw_all := lw_g (lw_at lw_m5 156 rfl) rfl
theorem q1218 : (Jvm.Cond.classLink "java/util/PriorityQueue" (144 : Nat) "java/lang/Comparable") ∈ lw_all := lw_g (lw_at lw_m5 157 rfl) rfl
theorem q1219 : (Jvm.Cond.interfaceEntry "java/util/PriorityQueue" (146 : Nat)) ∈ lw_tbl := lw_at lw_m5 158 rfl
theorem q1220 : (Jvm.Cond.methodLink "java/util/PriorityQueue" (146 : Nat) ({ cls := "java/lang/Comparable", name := "compareTo", desc := "(Ljava/lang/Object;)I" } : Jvm.MethodName)) ∈ lw_all := lw_g (lw_at lw_m5 159 rfl) rfl
theorem q1231 : (Jvm.Cond.instanceMethod ({ cls := "java/util/PriorityQueue", name := "iterator", desc := "()Ljava/util/Iterator;" } : Jvm.MethodName)) ∈ lw_all := lw_g (lw_at lw_m5 170 rfl) rfl
theorem q1232 : (Jvm.Cond.selects "java/util/PriorityQueue" ({ cls := "java/util/PriorityQueue", name := "iterator", desc := "()Ljava/util/Iterator;" } : Jvm.MethodName) ({ cls := "java/util/PriorityQueue", name := "iterator", desc := "()Ljava/util/Iterator;" } : Jvm.MethodName)) ∈ lw_all := lw_g (lw_at lw_m5 171 rfl) rfl
theorem q1233 : (Jvm.Cond.code ({ cls := "java/util/PriorityQueue", name := "iterator", desc := "()Ljava/util/Iterator;" } : Jvm.MethodName) prog_84_method_22_code (1 : Nat) (Option.some (Jvm.ClassFile.FieldType.object "java/util/Iterator"))) ∈ lw_all := lw_g (lw_at lw_m5 172 rfl) rfl
theorem q1234 : (Jvm.Cond.classLink "java/util/PriorityQueue" (121 : Nat) "java/util/PriorityQueue$Itr") ∈ lw_all := lw_g (lw_at lw_m5 173 rfl) rfl
theorem q1236 : (Jvm.Cond.methodLink "java/util/PriorityQueue" (123 : Nat) ({ cls := "java/util/PriorityQueue$Itr", name := "<init>", desc := "(Ljava/util/PriorityQueue;)V" } : Jvm.MethodName)) ∈ lw_all := lw_g (lw_at lw_m5 175 rfl) rfl
theorem q1829 : (Jvm.Cond.instanceMethod ({ cls := "java/util/PriorityQueue", name := "peek", desc := "()Ljava/lang/Object;" } : Jvm.MethodName)) ∈ lw_all := lw_g (lw_at lw_m8 48 rfl) rfl
theorem q1830 : (Jvm.Cond.selects "java/util/PriorityQueue" ({ cls := "java/util/PriorityQueue", name := "peek", desc := "()Ljava/lang/Object;" } : Jvm.MethodName) ({ cls := "java/util/PriorityQueue", name := "peek", desc := "()Ljava/lang/Object;" } : Jvm.MethodName)) ∈ lw_all := lw_g (lw_at lw_m8 49 rfl) rfl
theorem q1831 : (Jvm.Cond.code ({ cls := "java/util/PriorityQueue", name := "peek", desc := "()Ljava/lang/Object;" } : Jvm.MethodName) prog_84_method_15_code (1 : Nat) (Option.some (Jvm.ClassFile.FieldType.object "java/lang/Object"))) ∈ lw_all := lw_g (lw_at lw_m8 50 rfl) rfl
theorem q2076 : (Jvm.Cond.instanceMethod ({ cls := "java/util/PriorityQueue", name := "removeAt", desc := "(I)Ljava/lang/Object;" } : Jvm.MethodName)) ∈ lw_all := lw_g (lw_at lw_m9 55 rfl) rfl
theorem q2077 : (Jvm.Cond.selects "java/util/PriorityQueue" ({ cls := "java/util/PriorityQueue", name := "removeAt", desc := "(I)Ljava/lang/Object;" } : Jvm.MethodName) ({ cls := "java/util/PriorityQueue", name := "removeAt", desc := "(I)Ljava/lang/Object;" } : Jvm.MethodName)) ∈ lw_all := lw_g (lw_at lw_m9 56 rfl) rfl
theorem q2078 : (Jvm.Cond.code ({ cls := "java/util/PriorityQueue", name := "removeAt", desc := "(I)Ljava/lang/Object;" } : Jvm.MethodName) prog_84_method_26_code (5 : Nat) (Option.some (Jvm.ClassFile.FieldType.object "java/lang/Object"))) ∈ lw_all := lw_g (lw_at lw_m9 57 rfl) rfl
theorem q2079 : (Jvm.Cond.methodLink "java/util/PriorityQueue" (133 : Nat) ({ cls := "java/util/PriorityQueue", name := "siftDown", desc := "(ILjava/lang/Object;)V" } : Jvm.MethodName)) ∈ lw_all := lw_g (lw_at lw_m9 58 rfl) rfl
theorem q2080 : (Jvm.Cond.privateMethod ({ cls := "java/util/PriorityQueue", name := "siftDown", desc := "(ILjava/lang/Object;)V" } : Jvm.MethodName)) ∈ lw_tbl := lw_at lw_m9 59 rfl
theorem q2081 : (Jvm.Cond.instanceMethod ({ cls := "java/util/PriorityQueue", name := "siftDown", desc := "(ILjava/lang/Object;)V" } : Jvm.MethodName)) ∈ lw_all := lw_g (lw_at lw_m9 60 rfl) rfl
theorem q2082 : (Jvm.Cond.code ({ cls := "java/util/PriorityQueue", name := "siftDown", desc := "(ILjava/lang/Object;)V" } : Jvm.MethodName) prog_84_method_30_code (3 : Nat) (Option.none : Option Jvm.ClassFile.FieldType)) ∈ lw_all := lw_g (lw_at lw_m9 61 rfl) rfl
theorem q2083 : (Jvm.Cond.methodLink "java/util/PriorityQueue" (129 : Nat) ({ cls := "java/util/PriorityQueue", name := "siftDownUsingComparator", desc := "(ILjava/lang/Object;[Ljava/lang/Object;ILjava/util/Comparator;)V" } : Jvm.MethodName)) ∈ lw_all := lw_g (lw_at lw_m9 62 rfl) rfl
theorem q2084 : (Jvm.Cond.static ({ cls := "java/util/PriorityQueue", name := "siftDownUsingComparator", desc := "(ILjava/lang/Object;[Ljava/lang/Object;ILjava/util/Comparator;)V" } : Jvm.MethodName)) ∈ lw_all := lw_g (lw_at lw_m9 63 rfl) rfl
theorem q2085 : (Jvm.Cond.code ({ cls := "java/util/PriorityQueue", name := "siftDownUsingComparator", desc := "(ILjava/lang/Object;[Ljava/lang/Object;ILjava/util/Comparator;)V" } : Jvm.MethodName) prog_84_method_32_code (9 : Nat) (Option.none : Option Jvm.ClassFile.FieldType)) ∈ lw_all := lw_g (lw_at lw_m9 64 rfl) rfl
theorem q2086 : (Jvm.Cond.methodLink "java/util/PriorityQueue" (125 : Nat) ({ cls := "java/util/PriorityQueue", name := "siftDownComparable", desc := "(ILjava/lang/Object;[Ljava/lang/Object;I)V" } : Jvm.MethodName)) ∈ lw_all := lw_g (lw_at lw_m9 65 rfl) rfl
theorem q2087 : (Jvm.Cond.static ({ cls := "java/util/PriorityQueue", name := "siftDownComparable", desc := "(ILjava/lang/Object;[Ljava/lang/Object;I)V" } : Jvm.MethodName)) ∈ lw_all := lw_g (lw_at lw_m9 66 rfl) rfl
theorem q2088 : (Jvm.Cond.code ({ cls := "java/util/PriorityQueue", name := "siftDownComparable", desc := "(ILjava/lang/Object;[Ljava/lang/Object;I)V" } : Jvm.MethodName) prog_84_method_31_code (9 : Nat) (Option.none : Option Jvm.ClassFile.FieldType)) ∈ lw_all := lw_g (lw_at lw_m9 67 rfl) rfl
theorem q2112 : (Jvm.Cond.instanceMethod ({ cls := "java/util/PriorityQueue", name := "removeEq", desc := "(Ljava/lang/Object;)V" } : Jvm.MethodName)) ∈ lw_all := lw_g (lw_at lw_m9 91 rfl) rfl
theorem q2113 : (Jvm.Cond.selects "java/util/PriorityQueue" ({ cls := "java/util/PriorityQueue", name := "removeEq", desc := "(Ljava/lang/Object;)V" } : Jvm.MethodName) ({ cls := "java/util/PriorityQueue", name := "removeEq", desc := "(Ljava/lang/Object;)V" } : Jvm.MethodName)) ∈ lw_all := lw_g (lw_at lw_m9 92 rfl) rfl
theorem q2114 : (Jvm.Cond.code ({ cls := "java/util/PriorityQueue", name := "removeEq", desc := "(Ljava/lang/Object;)V" } : Jvm.MethodName) prog_84_method_18_code (5 : Nat) (Option.none : Option Jvm.ClassFile.FieldType)) ∈ lw_all := lw_g (lw_at lw_m9 93 rfl) rfl
theorem q2115 : (Jvm.Cond.methodLink "java/util/PriorityQueue" (111 : Nat) ({ cls := "java/util/PriorityQueue", name := "removeAt", desc := "(I)Ljava/lang/Object;" } : Jvm.MethodName)) ∈ lw_all := lw_g (lw_at lw_m9 94 rfl) rfl
theorem q2301 : (Jvm.Cond.sameMethod "java/util/PriorityQueue" "java/util/AbstractCollection" "isEmpty" "()Z") ∈ lw_all := lw_g (lw_at lw_m10 40 rfl) rfl
theorem q2303 : (Jvm.Cond.selects "java/util/PriorityQueue" ({ cls := "java/util/PriorityQueue", name := "isEmpty", desc := "()Z" } : Jvm.MethodName) ({ cls := "java/util/AbstractCollection", name := "isEmpty", desc := "()Z" } : Jvm.MethodName)) ∈ lw_all := lw_g (lw_at lw_m10 42 rfl) rfl
theorem q2385 : (Jvm.Cond.instanceMethod ({ cls := "java/util/PriorityQueue", name := "poll", desc := "()Ljava/lang/Object;" } : Jvm.MethodName)) ∈ lw_all := lw_g (lw_at lw_m10 124 rfl) rfl
theorem q2386 : (Jvm.Cond.selects "java/util/PriorityQueue" ({ cls := "java/util/PriorityQueue", name := "poll", desc := "()Ljava/lang/Object;" } : Jvm.MethodName) ({ cls := "java/util/PriorityQueue", name := "poll", desc := "()Ljava/lang/Object;" } : Jvm.MethodName)) ∈ lw_all := lw_g (lw_at lw_m10 125 rfl) rfl
theorem q2387 : (Jvm.Cond.code ({ cls := "java/util/PriorityQueue", name := "poll", desc := "()Ljava/lang/Object;" } : Jvm.MethodName) prog_84_method_25_code (6 : Nat) (Option.some (Jvm.ClassFile.FieldType.object "java/lang/Object"))) ∈ lw_all := lw_g (lw_at lw_m10 126 rfl) rfl
theorem q3404 : (Jvm.Cond.selects "java/util/PriorityQueue" ({ cls := "java/util/AbstractCollection", name := "size", desc := "()I" } : Jvm.MethodName) ({ cls := "java/util/PriorityQueue", name := "size", desc := "()I" } : Jvm.MethodName)) ∈ lw_all := lw_g (lw_at lw_m14 183 rfl) rfl
theorem q3422 : (Jvm.Cond.castable "java/util/PriorityQueue" "java/lang/Object") ∈ lw_tbl := lw_at lw_m14 201 rfl
theorem in_J6 : ∀ w ∈ wsJ60, w ∈ lw_all := lw_in wsJ60 [297, 299, 301, 303] (by decide +kernel) (by decide +kernel)

/-! java/util/ArrayDeque -/
set_option maxRecDepth 100000
def RJ7 : String := "java/util/ArrayDeque"
def TJ7 : u_T := fun k => match k with
  | 0 => ("java/util/ArrayDeque", "elements", "[Ljava/lang/Object;", false)
  | 1 => ("java/util/ArrayDeque", "head", "I", false)
  | _ => ("java/util/ArrayDeque", "tail", "I", false)
def tyJ7 : Nat → FieldType := fun k => match k with
  | 0 => .array (.object "java/lang/Object")
  | 1 => .int
  | _ => .int
abbrev wsJ70 : List Cond := u_ws RJ7 TJ7 3
theorem nmJ7 : ∀ a, a < 3 → ∀ b, b < 3 → a ≠ b → (TJ7 a).2.1 ≠ (TJ7 b).2.1 := by decide +kernel
theorem tyJ7_ok : ∀ k, k < 3 → parseFieldDescriptor (TJ7 k).2.2.1 = some (tyJ7 k) := by decide +kernel
abbrev cJ7_init : ByteArray := prog_62_method_4_code
def yJ7_init : MethodName := ⟨RJ7, "<init>", "(I)V"⟩
def dkwJ7_init_1 : List UInt8 := [167, 0, 6, 27, 4, 96, 189, 0, 47, 181, 0, 3, 177]
abbrev dktJ7_init_1 : List UInt8 := dkwJ7_init_1 ++ []
def dkwJ7_init_0 : List UInt8 := [42, 183, 0, 42, 42, 27, 4, 162, 0, 7, 4, 167, 0, 17, 27, 18, 41, 160, 0, 8, 18, 41]
abbrev dktJ7_init_0 : List UInt8 := dkwJ7_init_0 ++ dktJ7_init_1
theorem dksJ7_init_0 : cJ7_init.data.toList.drop 0 = dktJ7_init_0 := by decide +kernel
theorem dksJ7_init_1 : cJ7_init.data.toList.drop 22 = dktJ7_init_1 := dk_seg dksJ7_init_0 22 rfl rfl
theorem dJ7_init_0 : decode cJ7_init 0 = .ok (.aload_n 0, 1) := dk_42 (dk_at dksJ7_init_0 0 rfl rfl)
theorem dJ7_init_1 : decode cJ7_init 1 = .ok (.invokespecial 42, 3) := dk_183 0 42 (dk_at dksJ7_init_0 1 rfl rfl)
theorem dJ7_init_4 : decode cJ7_init 4 = .ok (.aload_n 0, 1) := dk_42 (dk_at dksJ7_init_0 4 rfl rfl)
theorem dJ7_init_5 : decode cJ7_init 5 = .ok (.iload_n 1, 1) := dk_27 (dk_at dksJ7_init_0 5 rfl rfl)
theorem dJ7_init_6 : decode cJ7_init 6 = .ok (.iconst 1, 1) := dk_4 (dk_at dksJ7_init_0 6 rfl rfl)
theorem dJ7_init_7 : decode cJ7_init 7 = .ok (.if_icmp .ge 7, 3) := dk_162 0 7 (dk_at dksJ7_init_0 7 rfl rfl)
theorem dJ7_init_10 : decode cJ7_init 10 = .ok (.iconst 1, 1) := dk_4 (dk_at dksJ7_init_0 10 rfl rfl)
theorem dJ7_init_11 : decode cJ7_init 11 = .ok (.goto 17, 3) := dk_167 0 17 (dk_at dksJ7_init_0 11 rfl rfl)
theorem dJ7_init_14 : decode cJ7_init 14 = .ok (.iload_n 1, 1) := dk_27 (dk_at dksJ7_init_0 14 rfl rfl)
theorem dJ7_init_15 : decode cJ7_init 15 = .ok (.ldc 41, 2) := dk_18 41 (dk_at dksJ7_init_0 15 rfl rfl)
theorem dJ7_init_17 : decode cJ7_init 17 = .ok (.if_icmp .ne 8, 3) := dk_160 0 8 (dk_at dksJ7_init_0 17 rfl rfl)
theorem dJ7_init_20 : decode cJ7_init 20 = .ok (.ldc 41, 2) := dk_18 41 (dk_at dksJ7_init_0 20 rfl rfl)
theorem dJ7_init_22 : decode cJ7_init 22 = .ok (.goto 6, 3) := dk_167 0 6 (dk_at dksJ7_init_1 0 rfl rfl)
theorem dJ7_init_25 : decode cJ7_init 25 = .ok (.iload_n 1, 1) := dk_27 (dk_at dksJ7_init_1 3 rfl rfl)
theorem dJ7_init_26 : decode cJ7_init 26 = .ok (.iconst 1, 1) := dk_4 (dk_at dksJ7_init_1 4 rfl rfl)
theorem dJ7_init_27 : decode cJ7_init 27 = .ok (.iadd, 1) := dk_96 (dk_at dksJ7_init_1 5 rfl rfl)
theorem dJ7_init_28 : decode cJ7_init 28 = .ok (.anewarray 47, 3) := dk_189 0 47 (dk_at dksJ7_init_1 6 rfl rfl)
theorem dJ7_init_31 : decode cJ7_init 31 = .ok (.putfield 3, 3) := dk_181 0 3 (dk_at dksJ7_init_1 9 rfl rfl)
theorem dJ7_init_34 : decode cJ7_init 34 = .ok (.return_, 1) := dk_177 (dk_at dksJ7_init_1 12 rfl rfl)
abbrev cJ7_isEmpty : ByteArray := prog_62_method_38_code
def yJ7_isEmpty : MethodName := ⟨RJ7, "isEmpty", "()Z"⟩
def dkwJ7_isEmpty_0 : List UInt8 := [42, 180, 0, 24, 42, 180, 0, 20, 160, 0, 7, 4, 167, 0, 4, 3, 172]
abbrev dktJ7_isEmpty_0 : List UInt8 := dkwJ7_isEmpty_0 ++ []
theorem dksJ7_isEmpty_0 : cJ7_isEmpty.data.toList.drop 0 = dktJ7_isEmpty_0 := by decide +kernel
theorem dJ7_isEmpty_0 : decode cJ7_isEmpty 0 = .ok (.aload_n 0, 1) := dk_42 (dk_at dksJ7_isEmpty_0 0 rfl rfl)
theorem dJ7_isEmpty_1 : decode cJ7_isEmpty 1 = .ok (.getfield 24, 3) := dk_180 0 24 (dk_at dksJ7_isEmpty_0 1 rfl rfl)
theorem dJ7_isEmpty_4 : decode cJ7_isEmpty 4 = .ok (.aload_n 0, 1) := dk_42 (dk_at dksJ7_isEmpty_0 4 rfl rfl)
theorem dJ7_isEmpty_5 : decode cJ7_isEmpty 5 = .ok (.getfield 20, 3) := dk_180 0 20 (dk_at dksJ7_isEmpty_0 5 rfl rfl)
theorem dJ7_isEmpty_8 : decode cJ7_isEmpty 8 = .ok (.if_icmp .ne 7, 3) := dk_160 0 7 (dk_at dksJ7_isEmpty_0 8 rfl rfl)
theorem dJ7_isEmpty_11 : decode cJ7_isEmpty 11 = .ok (.iconst 1, 1) := dk_4 (dk_at dksJ7_isEmpty_0 11 rfl rfl)
theorem dJ7_isEmpty_12 : decode cJ7_isEmpty 12 = .ok (.goto 4, 3) := dk_167 0 4 (dk_at dksJ7_isEmpty_0 12 rfl rfl)
theorem dJ7_isEmpty_15 : decode cJ7_isEmpty 15 = .ok (.iconst 0, 1) := dk_3 (dk_at dksJ7_isEmpty_0 15 rfl rfl)
theorem dJ7_isEmpty_16 : decode cJ7_isEmpty 16 = .ok (.ireturn, 1) := dk_172 (dk_at dksJ7_isEmpty_0 16 rfl rfl)
abbrev cJ7_nonNullElementAt : ByteArray := prog_62_method_11_code
def yJ7_nonNullElementAt : MethodName := ⟨RJ7, "nonNullElementAt", "([Ljava/lang/Object;I)Ljava/lang/Object;"⟩
def dkwJ7_nonNullElementAt_0 : List UInt8 := [42, 27, 50, 77, 44, 199, 0, 11, 187, 0, 62, 89, 183, 0, 64, 191, 44, 176]
abbrev dktJ7_nonNullElementAt_0 : List UInt8 := dkwJ7_nonNullElementAt_0 ++ []
theorem dksJ7_nonNullElementAt_0 : cJ7_nonNullElementAt.data.toList.drop 0 = dktJ7_nonNullElementAt_0 := by decide +kernel
theorem dJ7_nonNullElementAt_0 : decode cJ7_nonNullElementAt 0 = .ok (.aload_n 0, 1) := dk_42 (dk_at dksJ7_nonNullElementAt_0 0 rfl rfl)
theorem dJ7_nonNullElementAt_1 : decode cJ7_nonNullElementAt 1 = .ok (.iload_n 1, 1) := dk_27 (dk_at dksJ7_nonNullElementAt_0 1 rfl rfl)
theorem dJ7_nonNullElementAt_2 : decode cJ7_nonNullElementAt 2 = .ok (.aaload, 1) := dk_50 (dk_at dksJ7_nonNullElementAt_0 2 rfl rfl)
theorem dJ7_nonNullElementAt_3 : decode cJ7_nonNullElementAt 3 = .ok (.astore_n 2, 1) := dk_77 (dk_at dksJ7_nonNullElementAt_0 3 rfl rfl)
theorem dJ7_nonNullElementAt_4 : decode cJ7_nonNullElementAt 4 = .ok (.aload_n 2, 1) := dk_44 (dk_at dksJ7_nonNullElementAt_0 4 rfl rfl)
theorem dJ7_nonNullElementAt_5 : decode cJ7_nonNullElementAt 5 = .ok (.ifnonnull 11, 3) := dk_199 0 11 (dk_at dksJ7_nonNullElementAt_0 5 rfl rfl)
theorem dJ7_nonNullElementAt_8 : decode cJ7_nonNullElementAt 8 = .ok (.new 62, 3) := dk_187 0 62 (dk_at dksJ7_nonNullElementAt_0 8 rfl rfl)
theorem dJ7_nonNullElementAt_11 : decode cJ7_nonNullElementAt 11 = .ok (.dup, 1) := dk_89 (dk_at dksJ7_nonNullElementAt_0 11 rfl rfl)
theorem dJ7_nonNullElementAt_12 : decode cJ7_nonNullElementAt 12 = .ok (.invokespecial 64, 3) := dk_183 0 64 (dk_at dksJ7_nonNullElementAt_0 12 rfl rfl)
theorem dJ7_nonNullElementAt_15 : decode cJ7_nonNullElementAt 15 = .ok (.athrow, 1) := dk_191 (dk_at dksJ7_nonNullElementAt_0 15 rfl rfl)
theorem dJ7_nonNullElementAt_16 : decode cJ7_nonNullElementAt 16 = .ok (.aload_n 2, 1) := dk_44 (dk_at dksJ7_nonNullElementAt_0 16 rfl rfl)
theorem dJ7_nonNullElementAt_17 : decode cJ7_nonNullElementAt 17 = .ok (.areturn, 1) := dk_176 (dk_at dksJ7_nonNullElementAt_0 17 rfl rfl)
abbrev cJ7_inc : ByteArray := prog_62_method_6_code
def yJ7_inc : MethodName := ⟨RJ7, "inc", "(II)I"⟩
def dkwJ7_inc_0 : List UInt8 := [132, 0, 1, 26, 27, 161, 0, 5, 3, 59, 26, 172]
abbrev dktJ7_inc_0 : List UInt8 := dkwJ7_inc_0 ++ []
theorem dksJ7_inc_0 : cJ7_inc.data.toList.drop 0 = dktJ7_inc_0 := by decide +kernel
theorem dJ7_inc_0 : decode cJ7_inc 0 = .ok (.iinc 0 1, 3) := dk_132 0 1 (dk_at dksJ7_inc_0 0 rfl rfl)
theorem dJ7_inc_3 : decode cJ7_inc 3 = .ok (.iload_n 0, 1) := dk_26 (dk_at dksJ7_inc_0 3 rfl rfl)
theorem dJ7_inc_4 : decode cJ7_inc 4 = .ok (.iload_n 1, 1) := dk_27 (dk_at dksJ7_inc_0 4 rfl rfl)
theorem dJ7_inc_5 : decode cJ7_inc 5 = .ok (.if_icmp .lt 5, 3) := dk_161 0 5 (dk_at dksJ7_inc_0 5 rfl rfl)
theorem dJ7_inc_8 : decode cJ7_inc 8 = .ok (.iconst 0, 1) := dk_3 (dk_at dksJ7_inc_0 8 rfl rfl)
theorem dJ7_inc_9 : decode cJ7_inc 9 = .ok (.istore_n 0, 1) := dk_59 (dk_at dksJ7_inc_0 9 rfl rfl)
theorem dJ7_inc_10 : decode cJ7_inc 10 = .ok (.iload_n 0, 1) := dk_26 (dk_at dksJ7_inc_0 10 rfl rfl)
theorem dJ7_inc_11 : decode cJ7_inc 11 = .ok (.ireturn, 1) := dk_172 (dk_at dksJ7_inc_0 11 rfl rfl)
abbrev cJ7_poll : ByteArray := prog_62_method_31_code
def yJ7_poll : MethodName := ⟨RJ7, "poll", "()Ljava/lang/Object;"⟩
theorem dJ7_poll_0 : decode cJ7_poll 0 = .ok (.aload_n 0, 1) := by decide +kernel
theorem dJ7_poll_1 : decode cJ7_poll 1 = .ok (.invokevirtual 93, 3) := by decide +kernel
theorem dJ7_poll_4 : decode cJ7_poll 4 = .ok (.areturn, 1) := by decide +kernel
abbrev cJ7_pollFirst : ByteArray := prog_62_method_20_code
def yJ7_pollFirst : MethodName := ⟨RJ7, "pollFirst", "()Ljava/lang/Object;"⟩
def dkwJ7_pollFirst_1 : List UInt8 := [42, 28, 43, 190, 184, 0, 74, 181, 0, 24, 45, 176]
abbrev dktJ7_pollFirst_1 : List UInt8 := dkwJ7_pollFirst_1 ++ []
def dkwJ7_pollFirst_0 : List UInt8 := [42, 180, 0, 3, 89, 76, 42, 180, 0, 24, 89, 61, 184, 0, 103, 78, 45, 198, 0, 17, 43, 28, 1, 83]
abbrev dktJ7_pollFirst_0 : List UInt8 := dkwJ7_pollFirst_0 ++ dktJ7_pollFirst_1
theorem dksJ7_pollFirst_0 : cJ7_pollFirst.data.toList.drop 0 = dktJ7_pollFirst_0 := by decide +kernel
theorem dksJ7_pollFirst_1 : cJ7_pollFirst.data.toList.drop 24 = dktJ7_pollFirst_1 := dk_seg dksJ7_pollFirst_0 24 rfl rfl
theorem dJ7_pollFirst_0 : decode cJ7_pollFirst 0 = .ok (.aload_n 0, 1) := dk_42 (dk_at dksJ7_pollFirst_0 0 rfl rfl)
theorem dJ7_pollFirst_1 : decode cJ7_pollFirst 1 = .ok (.getfield 3, 3) := dk_180 0 3 (dk_at dksJ7_pollFirst_0 1 rfl rfl)
theorem dJ7_pollFirst_4 : decode cJ7_pollFirst 4 = .ok (.dup, 1) := dk_89 (dk_at dksJ7_pollFirst_0 4 rfl rfl)
theorem dJ7_pollFirst_5 : decode cJ7_pollFirst 5 = .ok (.astore_n 1, 1) := dk_76 (dk_at dksJ7_pollFirst_0 5 rfl rfl)
theorem dJ7_pollFirst_6 : decode cJ7_pollFirst 6 = .ok (.aload_n 0, 1) := dk_42 (dk_at dksJ7_pollFirst_0 6 rfl rfl)
theorem dJ7_pollFirst_7 : decode cJ7_pollFirst 7 = .ok (.getfield 24, 3) := dk_180 0 24 (dk_at dksJ7_pollFirst_0 7 rfl rfl)
theorem dJ7_pollFirst_10 : decode cJ7_pollFirst 10 = .ok (.dup, 1) := dk_89 (dk_at dksJ7_pollFirst_0 10 rfl rfl)
theorem dJ7_pollFirst_11 : decode cJ7_pollFirst 11 = .ok (.istore_n 2, 1) := dk_61 (dk_at dksJ7_pollFirst_0 11 rfl rfl)
theorem dJ7_pollFirst_12 : decode cJ7_pollFirst 12 = .ok (.invokestatic 103, 3) := dk_184 0 103 (dk_at dksJ7_pollFirst_0 12 rfl rfl)
theorem dJ7_pollFirst_15 : decode cJ7_pollFirst 15 = .ok (.astore_n 3, 1) := dk_78 (dk_at dksJ7_pollFirst_0 15 rfl rfl)
theorem dJ7_pollFirst_16 : decode cJ7_pollFirst 16 = .ok (.aload_n 3, 1) := dk_45 (dk_at dksJ7_pollFirst_0 16 rfl rfl)
theorem dJ7_pollFirst_17 : decode cJ7_pollFirst 17 = .ok (.ifnull 17, 3) := dk_198 0 17 (dk_at dksJ7_pollFirst_0 17 rfl rfl)
theorem dJ7_pollFirst_20 : decode cJ7_pollFirst 20 = .ok (.aload_n 1, 1) := dk_43 (dk_at dksJ7_pollFirst_0 20 rfl rfl)
theorem dJ7_pollFirst_21 : decode cJ7_pollFirst 21 = .ok (.iload_n 2, 1) := dk_28 (dk_at dksJ7_pollFirst_0 21 rfl rfl)
theorem dJ7_pollFirst_22 : decode cJ7_pollFirst 22 = .ok (.aconst_null, 1) := dk_1 (dk_at dksJ7_pollFirst_0 22 rfl rfl)
theorem dJ7_pollFirst_23 : decode cJ7_pollFirst 23 = .ok (.aastore, 1) := dk_83 (dk_at dksJ7_pollFirst_0 23 rfl rfl)
theorem dJ7_pollFirst_24 : decode cJ7_pollFirst 24 = .ok (.aload_n 0, 1) := dk_42 (dk_at dksJ7_pollFirst_1 0 rfl rfl)
theorem dJ7_pollFirst_25 : decode cJ7_pollFirst 25 = .ok (.iload_n 2, 1) := dk_28 (dk_at dksJ7_pollFirst_1 1 rfl rfl)
theorem dJ7_pollFirst_26 : decode cJ7_pollFirst 26 = .ok (.aload_n 1, 1) := dk_43 (dk_at dksJ7_pollFirst_1 2 rfl rfl)
theorem dJ7_pollFirst_27 : decode cJ7_pollFirst 27 = .ok (.arraylength, 1) := dk_190 (dk_at dksJ7_pollFirst_1 3 rfl rfl)
theorem dJ7_pollFirst_28 : decode cJ7_pollFirst 28 = .ok (.invokestatic 74, 3) := dk_184 0 74 (dk_at dksJ7_pollFirst_1 4 rfl rfl)
theorem dJ7_pollFirst_31 : decode cJ7_pollFirst 31 = .ok (.putfield 24, 3) := dk_181 0 24 (dk_at dksJ7_pollFirst_1 7 rfl rfl)
theorem dJ7_pollFirst_34 : decode cJ7_pollFirst 34 = .ok (.aload_n 3, 1) := dk_45 (dk_at dksJ7_pollFirst_1 10 rfl rfl)
theorem dJ7_pollFirst_35 : decode cJ7_pollFirst 35 = .ok (.areturn, 1) := dk_176 (dk_at dksJ7_pollFirst_1 11 rfl rfl)
abbrev cJ7_elementAt : ByteArray := prog_62_method_10_code
def yJ7_elementAt : MethodName := ⟨RJ7, "elementAt", "([Ljava/lang/Object;I)Ljava/lang/Object;"⟩
def dkwJ7_elementAt_0 : List UInt8 := [42, 27, 50, 176]
abbrev dktJ7_elementAt_0 : List UInt8 := dkwJ7_elementAt_0 ++ []
theorem dksJ7_elementAt_0 : cJ7_elementAt.data.toList.drop 0 = dktJ7_elementAt_0 := by decide +kernel
theorem dJ7_elementAt_0 : decode cJ7_elementAt 0 = .ok (.aload_n 0, 1) := dk_42 (dk_at dksJ7_elementAt_0 0 rfl rfl)
theorem dJ7_elementAt_1 : decode cJ7_elementAt 1 = .ok (.iload_n 1, 1) := dk_27 (dk_at dksJ7_elementAt_0 1 rfl rfl)
theorem dJ7_elementAt_2 : decode cJ7_elementAt 2 = .ok (.aaload, 1) := dk_50 (dk_at dksJ7_elementAt_0 2 rfl rfl)
theorem dJ7_elementAt_3 : decode cJ7_elementAt 3 = .ok (.areturn, 1) := dk_176 (dk_at dksJ7_elementAt_0 3 rfl rfl)
abbrev cJ7_delete : ByteArray := prog_62_method_36_code
def yJ7_delete : MethodName := ⟨RJ7, "delete", "(I)Z"⟩
def dkwJ7_delete_8 : List UInt8 := [4, 172]
abbrev dktJ7_delete_8 : List UInt8 := dkwJ7_delete_8 ++ []
def dkwJ7_delete_7 : List UInt8 := [4, 100, 44, 3, 50, 83, 44, 4, 44, 3, 21, 5, 4, 100, 184, 0, 27, 44, 42, 180, 0, 20, 1, 83]
abbrev dktJ7_delete_7 : List UInt8 := dkwJ7_delete_7 ++ dktJ7_delete_8
def dkwJ7_delete_6 : List UInt8 := [21, 7, 184, 0, 27, 167, 0, 36, 44, 27, 4, 96, 44, 27, 29, 27, 4, 96, 100, 184, 0, 27, 44, 29]
abbrev dktJ7_delete_6 : List UInt8 := dkwJ7_delete_6 ++ dktJ7_delete_7
def dkwJ7_delete_5 : List UInt8 := [21, 5, 29, 184, 0, 68, 181, 0, 20, 27, 42, 180, 0, 20, 163, 0, 17, 44, 27, 4, 96, 44, 27]
abbrev dktJ7_delete_5 : List UInt8 := dkwJ7_delete_5 ++ dktJ7_delete_6
def dkwJ7_delete_4 : List UInt8 := [96, 100, 184, 0, 27, 44, 21, 4, 1, 83, 42, 21, 4, 29, 184, 0, 74, 181, 0, 24, 3, 172, 42]
abbrev dktJ7_delete_4 : List UInt8 := dkwJ7_delete_4 ++ dktJ7_delete_5
def dkwJ7_delete_3 : List UInt8 := [27, 184, 0, 27, 44, 3, 44, 29, 4, 100, 50, 83, 44, 21, 4, 44, 21, 4, 4, 96, 21, 6, 27, 4]
abbrev dktJ7_delete_3 : List UInt8 := dkwJ7_delete_3 ++ dktJ7_delete_4
def dkwJ7_delete_2 : List UInt8 := [27, 163, 0, 19, 44, 21, 4, 44, 21, 4, 4, 96, 21, 6, 184, 0, 27, 167, 0, 36, 44, 3, 44, 4]
abbrev dktJ7_delete_2 : List UInt8 := dkwJ7_delete_2 ++ dktJ7_delete_3
def dkwJ7_delete_1 : List UInt8 := [180, 0, 20, 89, 54, 5, 27, 29, 184, 0, 127, 4, 100, 54, 7, 21, 6, 21, 7, 162, 0, 75, 21, 4]
abbrev dktJ7_delete_1 : List UInt8 := dkwJ7_delete_1 ++ dktJ7_delete_2
def dkwJ7_delete_0 : List UInt8 := [42, 180, 0, 3, 77, 44, 190, 62, 27, 42, 180, 0, 24, 89, 54, 4, 29, 184, 0, 127, 54, 6, 42]
abbrev dktJ7_delete_0 : List UInt8 := dkwJ7_delete_0 ++ dktJ7_delete_1
theorem dksJ7_delete_0 : cJ7_delete.data.toList.drop 0 = dktJ7_delete_0 := by decide +kernel
theorem dksJ7_delete_1 : cJ7_delete.data.toList.drop 23 = dktJ7_delete_1 := dk_seg dksJ7_delete_0 23 rfl rfl
theorem dksJ7_delete_2 : cJ7_delete.data.toList.drop 47 = dktJ7_delete_2 := dk_seg dksJ7_delete_1 24 rfl rfl
theorem dksJ7_delete_3 : cJ7_delete.data.toList.drop 71 = dktJ7_delete_3 := dk_seg dksJ7_delete_2 24 rfl rfl
theorem dksJ7_delete_4 : cJ7_delete.data.toList.drop 95 = dktJ7_delete_4 := dk_seg dksJ7_delete_3 24 rfl rfl
theorem dksJ7_delete_5 : cJ7_delete.data.toList.drop 118 = dktJ7_delete_5 := dk_seg dksJ7_delete_4 23 rfl rfl
theorem dksJ7_delete_6 : cJ7_delete.data.toList.drop 141 = dktJ7_delete_6 := dk_seg dksJ7_delete_5 23 rfl rfl
theorem dksJ7_delete_7 : cJ7_delete.data.toList.drop 165 = dktJ7_delete_7 := dk_seg dksJ7_delete_6 24 rfl rfl
theorem dksJ7_delete_8 : cJ7_delete.data.toList.drop 189 = dktJ7_delete_8 := dk_seg dksJ7_delete_7 24 rfl rfl
theorem dJ7_delete_0 : decode cJ7_delete 0 = .ok (.aload_n 0, 1) := dk_42 (dk_at dksJ7_delete_0 0 rfl rfl)
theorem dJ7_delete_1 : decode cJ7_delete 1 = .ok (.getfield 3, 3) := dk_180 0 3 (dk_at dksJ7_delete_0 1 rfl rfl)
theorem dJ7_delete_4 : decode cJ7_delete 4 = .ok (.astore_n 2, 1) := dk_77 (dk_at dksJ7_delete_0 4 rfl rfl)
theorem dJ7_delete_5 : decode cJ7_delete 5 = .ok (.aload_n 2, 1) := dk_44 (dk_at dksJ7_delete_0 5 rfl rfl)
theorem dJ7_delete_6 : decode cJ7_delete 6 = .ok (.arraylength, 1) := dk_190 (dk_at dksJ7_delete_0 6 rfl rfl)
theorem dJ7_delete_7 : decode cJ7_delete 7 = .ok (.istore_n 3, 1) := dk_62 (dk_at dksJ7_delete_0 7 rfl rfl)
theorem dJ7_delete_8 : decode cJ7_delete 8 = .ok (.iload_n 1, 1) := dk_27 (dk_at dksJ7_delete_0 8 rfl rfl)
theorem dJ7_delete_9 : decode cJ7_delete 9 = .ok (.aload_n 0, 1) := dk_42 (dk_at dksJ7_delete_0 9 rfl rfl)
theorem dJ7_delete_10 : decode cJ7_delete 10 = .ok (.getfield 24, 3) := dk_180 0 24 (dk_at dksJ7_delete_0 10 rfl rfl)
theorem dJ7_delete_13 : decode cJ7_delete 13 = .ok (.dup, 1) := dk_89 (dk_at dksJ7_delete_0 13 rfl rfl)
theorem dJ7_delete_14 : decode cJ7_delete 14 = .ok (.istore 4, 2) := dk_54 4 (dk_at dksJ7_delete_0 14 rfl rfl)
theorem dJ7_delete_16 : decode cJ7_delete 16 = .ok (.iload_n 3, 1) := dk_29 (dk_at dksJ7_delete_0 16 rfl rfl)
theorem dJ7_delete_17 : decode cJ7_delete 17 = .ok (.invokestatic 127, 3) := dk_184 0 127 (dk_at dksJ7_delete_0 17 rfl rfl)
theorem dJ7_delete_20 : decode cJ7_delete 20 = .ok (.istore 6, 2) := dk_54 6 (dk_at dksJ7_delete_0 20 rfl rfl)
theorem dJ7_delete_22 : decode cJ7_delete 22 = .ok (.aload_n 0, 1) := dk_42 (dk_at dksJ7_delete_0 22 rfl rfl)
theorem dJ7_delete_23 : decode cJ7_delete 23 = .ok (.getfield 20, 3) := dk_180 0 20 (dk_at dksJ7_delete_1 0 rfl rfl)
theorem dJ7_delete_26 : decode cJ7_delete 26 = .ok (.dup, 1) := dk_89 (dk_at dksJ7_delete_1 3 rfl rfl)
theorem dJ7_delete_27 : decode cJ7_delete 27 = .ok (.istore 5, 2) := dk_54 5 (dk_at dksJ7_delete_1 4 rfl rfl)
theorem dJ7_delete_29 : decode cJ7_delete 29 = .ok (.iload_n 1, 1) := dk_27 (dk_at dksJ7_delete_1 6 rfl rfl)
theorem dJ7_delete_30 : decode cJ7_delete 30 = .ok (.iload_n 3, 1) := dk_29 (dk_at dksJ7_delete_1 7 rfl rfl)
theorem dJ7_delete_31 : decode cJ7_delete 31 = .ok (.invokestatic 127, 3) := dk_184 0 127 (dk_at dksJ7_delete_1 8 rfl rfl)
theorem dJ7_delete_34 : decode cJ7_delete 34 = .ok (.iconst 1, 1) := dk_4 (dk_at dksJ7_delete_1 11 rfl rfl)
theorem dJ7_delete_35 : decode cJ7_delete 35 = .ok (.isub, 1) := dk_100 (dk_at dksJ7_delete_1 12 rfl rfl)
theorem dJ7_delete_36 : decode cJ7_delete 36 = .ok (.istore 7, 2) := dk_54 7 (dk_at dksJ7_delete_1 13 rfl rfl)
theorem dJ7_delete_38 : decode cJ7_delete 38 = .ok (.iload 6, 2) := dk_21 6 (dk_at dksJ7_delete_1 15 rfl rfl)
theorem dJ7_delete_40 : decode cJ7_delete 40 = .ok (.iload 7, 2) := dk_21 7 (dk_at dksJ7_delete_1 17 rfl rfl)
theorem dJ7_delete_42 : decode cJ7_delete 42 = .ok (.if_icmp .ge 75, 3) := dk_162 0 75 (dk_at dksJ7_delete_1 19 rfl rfl)
theorem dJ7_delete_45 : decode cJ7_delete 45 = .ok (.iload 4, 2) := dk_21 4 (dk_at dksJ7_delete_1 22 rfl rfl)
theorem dJ7_delete_47 : decode cJ7_delete 47 = .ok (.iload_n 1, 1) := dk_27 (dk_at dksJ7_delete_2 0 rfl rfl)
theorem dJ7_delete_48 : decode cJ7_delete 48 = .ok (.if_icmp .gt 19, 3) := dk_163 0 19 (dk_at dksJ7_delete_2 1 rfl rfl)
theorem dJ7_delete_51 : decode cJ7_delete 51 = .ok (.aload_n 2, 1) := dk_44 (dk_at dksJ7_delete_2 4 rfl rfl)
theorem dJ7_delete_52 : decode cJ7_delete 52 = .ok (.iload 4, 2) := dk_21 4 (dk_at dksJ7_delete_2 5 rfl rfl)
theorem dJ7_delete_54 : decode cJ7_delete 54 = .ok (.aload_n 2, 1) := dk_44 (dk_at dksJ7_delete_2 7 rfl rfl)
theorem dJ7_delete_55 : decode cJ7_delete 55 = .ok (.iload 4, 2) := dk_21 4 (dk_at dksJ7_delete_2 8 rfl rfl)
theorem dJ7_delete_57 : decode cJ7_delete 57 = .ok (.iconst 1, 1) := dk_4 (dk_at dksJ7_delete_2 10 rfl rfl)
theorem dJ7_delete_58 : decode cJ7_delete 58 = .ok (.iadd, 1) := dk_96 (dk_at dksJ7_delete_2 11 rfl rfl)
theorem dJ7_delete_59 : decode cJ7_delete 59 = .ok (.iload 6, 2) := dk_21 6 (dk_at dksJ7_delete_2 12 rfl rfl)
theorem dJ7_delete_61 : decode cJ7_delete 61 = .ok (.invokestatic 27, 3) := dk_184 0 27 (dk_at dksJ7_delete_2 14 rfl rfl)
theorem dJ7_delete_64 : decode cJ7_delete 64 = .ok (.goto 36, 3) := dk_167 0 36 (dk_at dksJ7_delete_2 17 rfl rfl)
theorem dJ7_delete_67 : decode cJ7_delete 67 = .ok (.aload_n 2, 1) := dk_44 (dk_at dksJ7_delete_2 20 rfl rfl)
theorem dJ7_delete_68 : decode cJ7_delete 68 = .ok (.iconst 0, 1) := dk_3 (dk_at dksJ7_delete_2 21 rfl rfl)
theorem dJ7_delete_69 : decode cJ7_delete 69 = .ok (.aload_n 2, 1) := dk_44 (dk_at dksJ7_delete_2 22 rfl rfl)
theorem dJ7_delete_70 : decode cJ7_delete 70 = .ok (.iconst 1, 1) := dk_4 (dk_at dksJ7_delete_2 23 rfl rfl)
theorem dJ7_delete_71 : decode cJ7_delete 71 = .ok (.iload_n 1, 1) := dk_27 (dk_at dksJ7_delete_3 0 rfl rfl)
theorem dJ7_delete_72 : decode cJ7_delete 72 = .ok (.invokestatic 27, 3) := dk_184 0 27 (dk_at dksJ7_delete_3 1 rfl rfl)
theorem dJ7_delete_75 : decode cJ7_delete 75 = .ok (.aload_n 2, 1) := dk_44 (dk_at dksJ7_delete_3 4 rfl rfl)
theorem dJ7_delete_76 : decode cJ7_delete 76 = .ok (.iconst 0, 1) := dk_3 (dk_at dksJ7_delete_3 5 rfl rfl)
theorem dJ7_delete_77 : decode cJ7_delete 77 = .ok (.aload_n 2, 1) := dk_44 (dk_at dksJ7_delete_3 6 rfl rfl)
theorem dJ7_delete_78 : decode cJ7_delete 78 = .ok (.iload_n 3, 1) := dk_29 (dk_at dksJ7_delete_3 7 rfl rfl)
theorem dJ7_delete_79 : decode cJ7_delete 79 = .ok (.iconst 1, 1) := dk_4 (dk_at dksJ7_delete_3 8 rfl rfl)
theorem dJ7_delete_80 : decode cJ7_delete 80 = .ok (.isub, 1) := dk_100 (dk_at dksJ7_delete_3 9 rfl rfl)
theorem dJ7_delete_81 : decode cJ7_delete 81 = .ok (.aaload, 1) := dk_50 (dk_at dksJ7_delete_3 10 rfl rfl)
theorem dJ7_delete_82 : decode cJ7_delete 82 = .ok (.aastore, 1) := dk_83 (dk_at dksJ7_delete_3 11 rfl rfl)
theorem dJ7_delete_83 : decode cJ7_delete 83 = .ok (.aload_n 2, 1) := dk_44 (dk_at dksJ7_delete_3 12 rfl rfl)
theorem dJ7_delete_84 : decode cJ7_delete 84 = .ok (.iload 4, 2) := dk_21 4 (dk_at dksJ7_delete_3 13 rfl rfl)
theorem dJ7_delete_86 : decode cJ7_delete 86 = .ok (.aload_n 2, 1) := dk_44 (dk_at dksJ7_delete_3 15 rfl rfl)
theorem dJ7_delete_87 : decode cJ7_delete 87 = .ok (.iload 4, 2) := dk_21 4 (dk_at dksJ7_delete_3 16 rfl rfl)
theorem dJ7_delete_89 : decode cJ7_delete 89 = .ok (.iconst 1, 1) := dk_4 (dk_at dksJ7_delete_3 18 rfl rfl)
theorem dJ7_delete_90 : decode cJ7_delete 90 = .ok (.iadd, 1) := dk_96 (dk_at dksJ7_delete_3 19 rfl rfl)
theorem dJ7_delete_91 : decode cJ7_delete 91 = .ok (.iload 6, 2) := dk_21 6 (dk_at dksJ7_delete_3 20 rfl rfl)
theorem dJ7_delete_93 : decode cJ7_delete 93 = .ok (.iload_n 1, 1) := dk_27 (dk_at dksJ7_delete_3 22 rfl rfl)
theorem dJ7_delete_94 : decode cJ7_delete 94 = .ok (.iconst 1, 1) := dk_4 (dk_at dksJ7_delete_3 23 rfl rfl)
theorem dJ7_delete_95 : decode cJ7_delete 95 = .ok (.iadd, 1) := dk_96 (dk_at dksJ7_delete_4 0 rfl rfl)
theorem dJ7_delete_96 : decode cJ7_delete 96 = .ok (.isub, 1) := dk_100 (dk_at dksJ7_delete_4 1 rfl rfl)
theorem dJ7_delete_97 : decode cJ7_delete 97 = .ok (.invokestatic 27, 3) := dk_184 0 27 (dk_at dksJ7_delete_4 2 rfl rfl)
theorem dJ7_delete_100 : decode cJ7_delete 100 = .ok (.aload_n 2, 1) := dk_44 (dk_at dksJ7_delete_4 5 rfl rfl)
theorem dJ7_delete_101 : decode cJ7_delete 101 = .ok (.iload 4, 2) := dk_21 4 (dk_at dksJ7_delete_4 6 rfl rfl)
theorem dJ7_delete_103 : decode cJ7_delete 103 = .ok (.aconst_null, 1) := dk_1 (dk_at dksJ7_delete_4 8 rfl rfl)
theorem dJ7_delete_104 : decode cJ7_delete 104 = .ok (.aastore, 1) := dk_83 (dk_at dksJ7_delete_4 9 rfl rfl)
theorem dJ7_delete_105 : decode cJ7_delete 105 = .ok (.aload_n 0, 1) := dk_42 (dk_at dksJ7_delete_4 10 rfl rfl)
theorem dJ7_delete_106 : decode cJ7_delete 106 = .ok (.iload 4, 2) := dk_21 4 (dk_at dksJ7_delete_4 11 rfl rfl)
theorem dJ7_delete_108 : decode cJ7_delete 108 = .ok (.iload_n 3, 1) := dk_29 (dk_at dksJ7_delete_4 13 rfl rfl)
theorem dJ7_delete_109 : decode cJ7_delete 109 = .ok (.invokestatic 74, 3) := dk_184 0 74 (dk_at dksJ7_delete_4 14 rfl rfl)
theorem dJ7_delete_112 : decode cJ7_delete 112 = .ok (.putfield 24, 3) := dk_181 0 24 (dk_at dksJ7_delete_4 17 rfl rfl)
theorem dJ7_delete_115 : decode cJ7_delete 115 = .ok (.iconst 0, 1) := dk_3 (dk_at dksJ7_delete_4 20 rfl rfl)
theorem dJ7_delete_116 : decode cJ7_delete 116 = .ok (.ireturn, 1) := dk_172 (dk_at dksJ7_delete_4 21 rfl rfl)
theorem dJ7_delete_117 : decode cJ7_delete 117 = .ok (.aload_n 0, 1) := dk_42 (dk_at dksJ7_delete_4 22 rfl rfl)
theorem dJ7_delete_118 : decode cJ7_delete 118 = .ok (.iload 5, 2) := dk_21 5 (dk_at dksJ7_delete_5 0 rfl rfl)
theorem dJ7_delete_120 : decode cJ7_delete 120 = .ok (.iload_n 3, 1) := dk_29 (dk_at dksJ7_delete_5 2 rfl rfl)
theorem dJ7_delete_121 : decode cJ7_delete 121 = .ok (.invokestatic 68, 3) := dk_184 0 68 (dk_at dksJ7_delete_5 3 rfl rfl)
theorem dJ7_delete_124 : decode cJ7_delete 124 = .ok (.putfield 20, 3) := dk_181 0 20 (dk_at dksJ7_delete_5 6 rfl rfl)
theorem dJ7_delete_127 : decode cJ7_delete 127 = .ok (.iload_n 1, 1) := dk_27 (dk_at dksJ7_delete_5 9 rfl rfl)
theorem dJ7_delete_128 : decode cJ7_delete 128 = .ok (.aload_n 0, 1) := dk_42 (dk_at dksJ7_delete_5 10 rfl rfl)
theorem dJ7_delete_129 : decode cJ7_delete 129 = .ok (.getfield 20, 3) := dk_180 0 20 (dk_at dksJ7_delete_5 11 rfl rfl)
theorem dJ7_delete_132 : decode cJ7_delete 132 = .ok (.if_icmp .gt 17, 3) := dk_163 0 17 (dk_at dksJ7_delete_5 14 rfl rfl)
theorem dJ7_delete_135 : decode cJ7_delete 135 = .ok (.aload_n 2, 1) := dk_44 (dk_at dksJ7_delete_5 17 rfl rfl)
theorem dJ7_delete_136 : decode cJ7_delete 136 = .ok (.iload_n 1, 1) := dk_27 (dk_at dksJ7_delete_5 18 rfl rfl)
theorem dJ7_delete_137 : decode cJ7_delete 137 = .ok (.iconst 1, 1) := dk_4 (dk_at dksJ7_delete_5 19 rfl rfl)
theorem dJ7_delete_138 : decode cJ7_delete 138 = .ok (.iadd, 1) := dk_96 (dk_at dksJ7_delete_5 20 rfl rfl)
theorem dJ7_delete_139 : decode cJ7_delete 139 = .ok (.aload_n 2, 1) := dk_44 (dk_at dksJ7_delete_5 21 rfl rfl)
theorem dJ7_delete_140 : decode cJ7_delete 140 = .ok (.iload_n 1, 1) := dk_27 (dk_at dksJ7_delete_5 22 rfl rfl)
theorem dJ7_delete_141 : decode cJ7_delete 141 = .ok (.iload 7, 2) := dk_21 7 (dk_at dksJ7_delete_6 0 rfl rfl)
theorem dJ7_delete_143 : decode cJ7_delete 143 = .ok (.invokestatic 27, 3) := dk_184 0 27 (dk_at dksJ7_delete_6 2 rfl rfl)
theorem dJ7_delete_146 : decode cJ7_delete 146 = .ok (.goto 36, 3) := dk_167 0 36 (dk_at dksJ7_delete_6 5 rfl rfl)
theorem dJ7_delete_149 : decode cJ7_delete 149 = .ok (.aload_n 2, 1) := dk_44 (dk_at dksJ7_delete_6 8 rfl rfl)
theorem dJ7_delete_150 : decode cJ7_delete 150 = .ok (.iload_n 1, 1) := dk_27 (dk_at dksJ7_delete_6 9 rfl rfl)
theorem dJ7_delete_151 : decode cJ7_delete 151 = .ok (.iconst 1, 1) := dk_4 (dk_at dksJ7_delete_6 10 rfl rfl)
theorem dJ7_delete_152 : decode cJ7_delete 152 = .ok (.iadd, 1) := dk_96 (dk_at dksJ7_delete_6 11 rfl rfl)
theorem dJ7_delete_153 : decode cJ7_delete 153 = .ok (.aload_n 2, 1) := dk_44 (dk_at dksJ7_delete_6 12 rfl rfl)
theorem dJ7_delete_154 : decode cJ7_delete 154 = .ok (.iload_n 1, 1) := dk_27 (dk_at dksJ7_delete_6 13 rfl rfl)
theorem dJ7_delete_155 : decode cJ7_delete 155 = .ok (.iload_n 3, 1) := dk_29 (dk_at dksJ7_delete_6 14 rfl rfl)
theorem dJ7_delete_156 : decode cJ7_delete 156 = .ok (.iload_n 1, 1) := dk_27 (dk_at dksJ7_delete_6 15 rfl rfl)
theorem dJ7_delete_157 : decode cJ7_delete 157 = .ok (.iconst 1, 1) := dk_4 (dk_at dksJ7_delete_6 16 rfl rfl)
theorem dJ7_delete_158 : decode cJ7_delete 158 = .ok (.iadd, 1) := dk_96 (dk_at dksJ7_delete_6 17 rfl rfl)
theorem dJ7_delete_159 : decode cJ7_delete 159 = .ok (.isub, 1) := dk_100 (dk_at dksJ7_delete_6 18 rfl rfl)
theorem dJ7_delete_160 : decode cJ7_delete 160 = .ok (.invokestatic 27, 3) := dk_184 0 27 (dk_at dksJ7_delete_6 19 rfl rfl)
theorem dJ7_delete_163 : decode cJ7_delete 163 = .ok (.aload_n 2, 1) := dk_44 (dk_at dksJ7_delete_6 22 rfl rfl)
theorem dJ7_delete_164 : decode cJ7_delete 164 = .ok (.iload_n 3, 1) := dk_29 (dk_at dksJ7_delete_6 23 rfl rfl)
theorem dJ7_delete_165 : decode cJ7_delete 165 = .ok (.iconst 1, 1) := dk_4 (dk_at dksJ7_delete_7 0 rfl rfl)
theorem dJ7_delete_166 : decode cJ7_delete 166 = .ok (.isub, 1) := dk_100 (dk_at dksJ7_delete_7 1 rfl rfl)
theorem dJ7_delete_167 : decode cJ7_delete 167 = .ok (.aload_n 2, 1) := dk_44 (dk_at dksJ7_delete_7 2 rfl rfl)
theorem dJ7_delete_168 : decode cJ7_delete 168 = .ok (.iconst 0, 1) := dk_3 (dk_at dksJ7_delete_7 3 rfl rfl)
theorem dJ7_delete_169 : decode cJ7_delete 169 = .ok (.aaload, 1) := dk_50 (dk_at dksJ7_delete_7 4 rfl rfl)
theorem dJ7_delete_170 : decode cJ7_delete 170 = .ok (.aastore, 1) := dk_83 (dk_at dksJ7_delete_7 5 rfl rfl)
theorem dJ7_delete_171 : decode cJ7_delete 171 = .ok (.aload_n 2, 1) := dk_44 (dk_at dksJ7_delete_7 6 rfl rfl)
theorem dJ7_delete_172 : decode cJ7_delete 172 = .ok (.iconst 1, 1) := dk_4 (dk_at dksJ7_delete_7 7 rfl rfl)
theorem dJ7_delete_173 : decode cJ7_delete 173 = .ok (.aload_n 2, 1) := dk_44 (dk_at dksJ7_delete_7 8 rfl rfl)
theorem dJ7_delete_174 : decode cJ7_delete 174 = .ok (.iconst 0, 1) := dk_3 (dk_at dksJ7_delete_7 9 rfl rfl)
theorem dJ7_delete_175 : decode cJ7_delete 175 = .ok (.iload 5, 2) := dk_21 5 (dk_at dksJ7_delete_7 10 rfl rfl)
theorem dJ7_delete_177 : decode cJ7_delete 177 = .ok (.iconst 1, 1) := dk_4 (dk_at dksJ7_delete_7 12 rfl rfl)
theorem dJ7_delete_178 : decode cJ7_delete 178 = .ok (.isub, 1) := dk_100 (dk_at dksJ7_delete_7 13 rfl rfl)
theorem dJ7_delete_179 : decode cJ7_delete 179 = .ok (.invokestatic 27, 3) := dk_184 0 27 (dk_at dksJ7_delete_7 14 rfl rfl)
theorem dJ7_delete_182 : decode cJ7_delete 182 = .ok (.aload_n 2, 1) := dk_44 (dk_at dksJ7_delete_7 17 rfl rfl)
theorem dJ7_delete_183 : decode cJ7_delete 183 = .ok (.aload_n 0, 1) := dk_42 (dk_at dksJ7_delete_7 18 rfl rfl)
theorem dJ7_delete_184 : decode cJ7_delete 184 = .ok (.getfield 20, 3) := dk_180 0 20 (dk_at dksJ7_delete_7 19 rfl rfl)
theorem dJ7_delete_187 : decode cJ7_delete 187 = .ok (.aconst_null, 1) := dk_1 (dk_at dksJ7_delete_7 22 rfl rfl)
theorem dJ7_delete_188 : decode cJ7_delete 188 = .ok (.aastore, 1) := dk_83 (dk_at dksJ7_delete_7 23 rfl rfl)
theorem dJ7_delete_189 : decode cJ7_delete 189 = .ok (.iconst 1, 1) := dk_4 (dk_at dksJ7_delete_8 0 rfl rfl)
theorem dJ7_delete_190 : decode cJ7_delete 190 = .ok (.ireturn, 1) := dk_172 (dk_at dksJ7_delete_8 1 rfl rfl)
abbrev cJ7_sub : ByteArray := prog_62_method_9_code
def yJ7_sub : MethodName := ⟨RJ7, "sub", "(III)I"⟩
def dkwJ7_sub_0 : List UInt8 := [26, 27, 100, 89, 59, 156, 0, 7, 26, 28, 96, 59, 26, 172]
abbrev dktJ7_sub_0 : List UInt8 := dkwJ7_sub_0 ++ []
theorem dksJ7_sub_0 : cJ7_sub.data.toList.drop 0 = dktJ7_sub_0 := by decide +kernel
theorem dJ7_sub_0 : decode cJ7_sub 0 = .ok (.iload_n 0, 1) := dk_26 (dk_at dksJ7_sub_0 0 rfl rfl)
theorem dJ7_sub_1 : decode cJ7_sub 1 = .ok (.iload_n 1, 1) := dk_27 (dk_at dksJ7_sub_0 1 rfl rfl)
theorem dJ7_sub_2 : decode cJ7_sub 2 = .ok (.isub, 1) := dk_100 (dk_at dksJ7_sub_0 2 rfl rfl)
theorem dJ7_sub_3 : decode cJ7_sub 3 = .ok (.dup, 1) := dk_89 (dk_at dksJ7_sub_0 3 rfl rfl)
theorem dJ7_sub_4 : decode cJ7_sub 4 = .ok (.istore_n 0, 1) := dk_59 (dk_at dksJ7_sub_0 4 rfl rfl)
theorem dJ7_sub_5 : decode cJ7_sub 5 = .ok (.ifCond .ge 7, 3) := dk_156 0 7 (dk_at dksJ7_sub_0 5 rfl rfl)
theorem dJ7_sub_8 : decode cJ7_sub 8 = .ok (.iload_n 0, 1) := dk_26 (dk_at dksJ7_sub_0 8 rfl rfl)
theorem dJ7_sub_9 : decode cJ7_sub 9 = .ok (.iload_n 2, 1) := dk_28 (dk_at dksJ7_sub_0 9 rfl rfl)
theorem dJ7_sub_10 : decode cJ7_sub 10 = .ok (.iadd, 1) := dk_96 (dk_at dksJ7_sub_0 10 rfl rfl)
theorem dJ7_sub_11 : decode cJ7_sub 11 = .ok (.istore_n 0, 1) := dk_59 (dk_at dksJ7_sub_0 11 rfl rfl)
theorem dJ7_sub_12 : decode cJ7_sub 12 = .ok (.iload_n 0, 1) := dk_26 (dk_at dksJ7_sub_0 12 rfl rfl)
theorem dJ7_sub_13 : decode cJ7_sub 13 = .ok (.ireturn, 1) := dk_172 (dk_at dksJ7_sub_0 13 rfl rfl)
abbrev cJ7_dec : ByteArray := prog_62_method_7_code
def yJ7_dec : MethodName := ⟨RJ7, "dec", "(II)I"⟩
def dkwJ7_dec_0 : List UInt8 := [132, 0, 255, 26, 156, 0, 7, 27, 4, 100, 59, 26, 172]
abbrev dktJ7_dec_0 : List UInt8 := dkwJ7_dec_0 ++ []
theorem dksJ7_dec_0 : cJ7_dec.data.toList.drop 0 = dktJ7_dec_0 := by decide +kernel
theorem dJ7_dec_0 : decode cJ7_dec 0 = .ok (.iinc 0 (-1), 3) := dk_132 0 255 (dk_at dksJ7_dec_0 0 rfl rfl)
theorem dJ7_dec_3 : decode cJ7_dec 3 = .ok (.iload_n 0, 1) := dk_26 (dk_at dksJ7_dec_0 3 rfl rfl)
theorem dJ7_dec_4 : decode cJ7_dec 4 = .ok (.ifCond .ge 7, 3) := dk_156 0 7 (dk_at dksJ7_dec_0 4 rfl rfl)
theorem dJ7_dec_7 : decode cJ7_dec 7 = .ok (.iload_n 1, 1) := dk_27 (dk_at dksJ7_dec_0 7 rfl rfl)
theorem dJ7_dec_8 : decode cJ7_dec 8 = .ok (.iconst 1, 1) := dk_4 (dk_at dksJ7_dec_0 8 rfl rfl)
theorem dJ7_dec_9 : decode cJ7_dec 9 = .ok (.isub, 1) := dk_100 (dk_at dksJ7_dec_0 9 rfl rfl)
theorem dJ7_dec_10 : decode cJ7_dec 10 = .ok (.istore_n 0, 1) := dk_59 (dk_at dksJ7_dec_0 10 rfl rfl)
theorem dJ7_dec_11 : decode cJ7_dec 11 = .ok (.iload_n 0, 1) := dk_26 (dk_at dksJ7_dec_0 11 rfl rfl)
theorem dJ7_dec_12 : decode cJ7_dec 12 = .ok (.ireturn, 1) := dk_172 (dk_at dksJ7_dec_0 12 rfl rfl)
abbrev cJ7_init_2 : ByteArray := prog_62_method_3_code
def yJ7_init_2 : MethodName := ⟨RJ7, "<init>", "()V"⟩
def dkwJ7_init_2_0 : List UInt8 := [42, 183, 0, 42, 42, 16, 17, 189, 0, 47, 181, 0, 3, 177]
abbrev dktJ7_init_2_0 : List UInt8 := dkwJ7_init_2_0 ++ []
theorem dksJ7_init_2_0 : cJ7_init_2.data.toList.drop 0 = dktJ7_init_2_0 := by decide +kernel
theorem dJ7_init_2_0 : decode cJ7_init_2 0 = .ok (.aload_n 0, 1) := dk_42 (dk_at dksJ7_init_2_0 0 rfl rfl)
theorem dJ7_init_2_1 : decode cJ7_init_2 1 = .ok (.invokespecial 42, 3) := dk_183 0 42 (dk_at dksJ7_init_2_0 1 rfl rfl)
theorem dJ7_init_2_4 : decode cJ7_init_2 4 = .ok (.aload_n 0, 1) := dk_42 (dk_at dksJ7_init_2_0 4 rfl rfl)
theorem dJ7_init_2_5 : decode cJ7_init_2 5 = .ok (.bipush 17, 2) := dk_16 17 (dk_at dksJ7_init_2_0 5 rfl rfl)
theorem dJ7_init_2_7 : decode cJ7_init_2 7 = .ok (.anewarray 47, 3) := dk_189 0 47 (dk_at dksJ7_init_2_0 7 rfl rfl)
theorem dJ7_init_2_10 : decode cJ7_init_2 10 = .ok (.putfield 3, 3) := dk_181 0 3 (dk_at dksJ7_init_2_0 10 rfl rfl)
theorem dJ7_init_2_13 : decode cJ7_init_2 13 = .ok (.return_, 1) := dk_177 (dk_at dksJ7_init_2_0 13 rfl rfl)
abbrev cJ7_add : ByteArray := prog_62_method_28_code
def yJ7_add : MethodName := ⟨RJ7, "add", "(Ljava/lang/Object;)Z"⟩
def dkwJ7_add_0 : List UInt8 := [42, 43, 182, 0, 90, 4, 172]
abbrev dktJ7_add_0 : List UInt8 := dkwJ7_add_0 ++ []
theorem dksJ7_add_0 : cJ7_add.data.toList.drop 0 = dktJ7_add_0 := by decide +kernel
theorem dJ7_add_0 : decode cJ7_add 0 = .ok (.aload_n 0, 1) := dk_42 (dk_at dksJ7_add_0 0 rfl rfl)
theorem dJ7_add_1 : decode cJ7_add 1 = .ok (.aload_n 1, 1) := dk_43 (dk_at dksJ7_add_0 1 rfl rfl)
theorem dJ7_add_2 : decode cJ7_add 2 = .ok (.invokevirtual 90, 3) := dk_182 0 90 (dk_at dksJ7_add_0 2 rfl rfl)
theorem dJ7_add_5 : decode cJ7_add 5 = .ok (.iconst 1, 1) := dk_4 (dk_at dksJ7_add_0 5 rfl rfl)
theorem dJ7_add_6 : decode cJ7_add 6 = .ok (.ireturn, 1) := dk_172 (dk_at dksJ7_add_0 6 rfl rfl)
abbrev cJ7_addLast : ByteArray := prog_62_method_13_code
def yJ7_addLast : MethodName := ⟨RJ7, "addLast", "(Ljava/lang/Object;)V"⟩
def dkwJ7_addLast_2 : List UInt8 := [182, 0, 71, 177]
abbrev dktJ7_addLast_2 : List UInt8 := dkwJ7_addLast_2 ++ []
def dkwJ7_addLast_1 : List UInt8 := [42, 180, 0, 24, 42, 42, 180, 0, 20, 44, 190, 184, 0, 74, 90, 181, 0, 20, 160, 0, 8, 42, 4]
abbrev dktJ7_addLast_1 : List UInt8 := dkwJ7_addLast_1 ++ dktJ7_addLast_2
def dkwJ7_addLast_0 : List UInt8 := [43, 199, 0, 11, 187, 0, 65, 89, 183, 0, 67, 191, 42, 180, 0, 3, 77, 44, 42, 180, 0, 20, 43, 83]
abbrev dktJ7_addLast_0 : List UInt8 := dkwJ7_addLast_0 ++ dktJ7_addLast_1
theorem dksJ7_addLast_0 : cJ7_addLast.data.toList.drop 0 = dktJ7_addLast_0 := by decide +kernel
theorem dksJ7_addLast_1 : cJ7_addLast.data.toList.drop 24 = dktJ7_addLast_1 := dk_seg dksJ7_addLast_0 24 rfl rfl
theorem dksJ7_addLast_2 : cJ7_addLast.data.toList.drop 47 = dktJ7_addLast_2 := dk_seg dksJ7_addLast_1 23 rfl rfl
theorem dJ7_addLast_0 : decode cJ7_addLast 0 = .ok (.aload_n 1, 1) := dk_43 (dk_at dksJ7_addLast_0 0 rfl rfl)
theorem dJ7_addLast_1 : decode cJ7_addLast 1 = .ok (.ifnonnull 11, 3) := dk_199 0 11 (dk_at dksJ7_addLast_0 1 rfl rfl)
theorem dJ7_addLast_4 : decode cJ7_addLast 4 = .ok (.new 65, 3) := dk_187 0 65 (dk_at dksJ7_addLast_0 4 rfl rfl)
theorem dJ7_addLast_7 : decode cJ7_addLast 7 = .ok (.dup, 1) := dk_89 (dk_at dksJ7_addLast_0 7 rfl rfl)
theorem dJ7_addLast_8 : decode cJ7_addLast 8 = .ok (.invokespecial 67, 3) := dk_183 0 67 (dk_at dksJ7_addLast_0 8 rfl rfl)
theorem dJ7_addLast_11 : decode cJ7_addLast 11 = .ok (.athrow, 1) := dk_191 (dk_at dksJ7_addLast_0 11 rfl rfl)
theorem dJ7_addLast_12 : decode cJ7_addLast 12 = .ok (.aload_n 0, 1) := dk_42 (dk_at dksJ7_addLast_0 12 rfl rfl)
theorem dJ7_addLast_13 : decode cJ7_addLast 13 = .ok (.getfield 3, 3) := dk_180 0 3 (dk_at dksJ7_addLast_0 13 rfl rfl)
theorem dJ7_addLast_16 : decode cJ7_addLast 16 = .ok (.astore_n 2, 1) := dk_77 (dk_at dksJ7_addLast_0 16 rfl rfl)
theorem dJ7_addLast_17 : decode cJ7_addLast 17 = .ok (.aload_n 2, 1) := dk_44 (dk_at dksJ7_addLast_0 17 rfl rfl)
theorem dJ7_addLast_18 : decode cJ7_addLast 18 = .ok (.aload_n 0, 1) := dk_42 (dk_at dksJ7_addLast_0 18 rfl rfl)
theorem dJ7_addLast_19 : decode cJ7_addLast 19 = .ok (.getfield 20, 3) := dk_180 0 20 (dk_at dksJ7_addLast_0 19 rfl rfl)
theorem dJ7_addLast_22 : decode cJ7_addLast 22 = .ok (.aload_n 1, 1) := dk_43 (dk_at dksJ7_addLast_0 22 rfl rfl)
theorem dJ7_addLast_23 : decode cJ7_addLast 23 = .ok (.aastore, 1) := dk_83 (dk_at dksJ7_addLast_0 23 rfl rfl)
theorem dJ7_addLast_24 : decode cJ7_addLast 24 = .ok (.aload_n 0, 1) := dk_42 (dk_at dksJ7_addLast_1 0 rfl rfl)
theorem dJ7_addLast_25 : decode cJ7_addLast 25 = .ok (.getfield 24, 3) := dk_180 0 24 (dk_at dksJ7_addLast_1 1 rfl rfl)
theorem dJ7_addLast_28 : decode cJ7_addLast 28 = .ok (.aload_n 0, 1) := dk_42 (dk_at dksJ7_addLast_1 4 rfl rfl)
theorem dJ7_addLast_29 : decode cJ7_addLast 29 = .ok (.aload_n 0, 1) := dk_42 (dk_at dksJ7_addLast_1 5 rfl rfl)
theorem dJ7_addLast_30 : decode cJ7_addLast 30 = .ok (.getfield 20, 3) := dk_180 0 20 (dk_at dksJ7_addLast_1 6 rfl rfl)
theorem dJ7_addLast_33 : decode cJ7_addLast 33 = .ok (.aload_n 2, 1) := dk_44 (dk_at dksJ7_addLast_1 9 rfl rfl)
theorem dJ7_addLast_34 : decode cJ7_addLast 34 = .ok (.arraylength, 1) := dk_190 (dk_at dksJ7_addLast_1 10 rfl rfl)
theorem dJ7_addLast_35 : decode cJ7_addLast 35 = .ok (.invokestatic 74, 3) := dk_184 0 74 (dk_at dksJ7_addLast_1 11 rfl rfl)
theorem dJ7_addLast_38 : decode cJ7_addLast 38 = .ok (.dup_x1, 1) := dk_90 (dk_at dksJ7_addLast_1 14 rfl rfl)
theorem dJ7_addLast_39 : decode cJ7_addLast 39 = .ok (.putfield 20, 3) := dk_181 0 20 (dk_at dksJ7_addLast_1 15 rfl rfl)
theorem dJ7_addLast_42 : decode cJ7_addLast 42 = .ok (.if_icmp .ne 8, 3) := dk_160 0 8 (dk_at dksJ7_addLast_1 18 rfl rfl)
theorem dJ7_addLast_45 : decode cJ7_addLast 45 = .ok (.aload_n 0, 1) := dk_42 (dk_at dksJ7_addLast_1 21 rfl rfl)
theorem dJ7_addLast_46 : decode cJ7_addLast 46 = .ok (.iconst 1, 1) := dk_4 (dk_at dksJ7_addLast_1 22 rfl rfl)
theorem dJ7_addLast_47 : decode cJ7_addLast 47 = .ok (.invokevirtual 71, 3) := dk_182 0 71 (dk_at dksJ7_addLast_2 0 rfl rfl)
theorem dJ7_addLast_50 : decode cJ7_addLast 50 = .ok (.return_, 1) := dk_177 (dk_at dksJ7_addLast_2 3 rfl rfl)
abbrev cJ7_grow : ByteArray := prog_62_method_1_code
def yJ7_grow : MethodName := ⟨RJ7, "grow", "(I)V"⟩
def dkwJ7_grow_7 : List UInt8 := [177]
abbrev dktJ7_grow_7 : List UInt8 := dkwJ7_grow_7 ++ []
def dkwJ7_grow_6 : List UInt8 := [181, 0, 24, 54, 8, 21, 7, 21, 8, 162, 0, 15, 25, 5, 21, 7, 1, 83, 132, 7, 1, 167, 255, 240]
abbrev dktJ7_grow_6 : List UInt8 := dkwJ7_grow_6 ++ dktJ7_grow_7
def dkwJ7_grow_5 : List UInt8 := [42, 180, 0, 24, 100, 184, 0, 27, 42, 180, 0, 24, 54, 7, 42, 89, 180, 0, 24, 21, 6, 96, 90]
abbrev dktJ7_grow_5 : List UInt8 := dkwJ7_grow_5 ++ dktJ7_grow_6
def dkwJ7_grow_4 : List UInt8 := [198, 0, 71, 29, 28, 100, 54, 6, 25, 5, 42, 180, 0, 24, 25, 5, 42, 180, 0, 24, 21, 6, 96, 28]
abbrev dktJ7_grow_4 : List UInt8 := dkwJ7_grow_4 ++ dktJ7_grow_5
def dkwJ7_grow_3 : List UInt8 := [180, 0, 24, 161, 0, 24, 42, 180, 0, 20, 42, 180, 0, 24, 160, 0, 81, 25, 5, 42, 180, 0, 24, 50]
abbrev dktJ7_grow_3 : List UInt8 := dkwJ7_grow_3 ++ dktJ7_grow_4
def dkwJ7_grow_2 : List UInt8 := [182, 0, 10, 62, 42, 42, 180, 0, 3, 29, 184, 0, 14, 90, 181, 0, 3, 58, 5, 42, 180, 0, 20, 42]
abbrev dktJ7_grow_2 : List UInt8 := dkwJ7_grow_2 ++ dktJ7_grow_3
def dkwJ7_grow_1 : List UInt8 := [21, 4, 27, 161, 0, 15, 28, 21, 4, 96, 89, 62, 18, 9, 100, 158, 0, 11, 42, 27, 21, 4]
abbrev dktJ7_grow_1 : List UInt8 := dkwJ7_grow_1 ++ dktJ7_grow_2
def dkwJ7_grow_0 : List UInt8 := [42, 180, 0, 3, 190, 61, 28, 16, 64, 162, 0, 9, 28, 5, 96, 167, 0, 6, 28, 4, 122, 54, 4]
abbrev dktJ7_grow_0 : List UInt8 := dkwJ7_grow_0 ++ dktJ7_grow_1
theorem dksJ7_grow_0 : cJ7_grow.data.toList.drop 0 = dktJ7_grow_0 := by decide +kernel
theorem dksJ7_grow_1 : cJ7_grow.data.toList.drop 23 = dktJ7_grow_1 := dk_seg dksJ7_grow_0 23 rfl rfl
theorem dksJ7_grow_2 : cJ7_grow.data.toList.drop 45 = dktJ7_grow_2 := dk_seg dksJ7_grow_1 22 rfl rfl
theorem dksJ7_grow_3 : cJ7_grow.data.toList.drop 69 = dktJ7_grow_3 := dk_seg dksJ7_grow_2 24 rfl rfl
theorem dksJ7_grow_4 : cJ7_grow.data.toList.drop 93 = dktJ7_grow_4 := dk_seg dksJ7_grow_3 24 rfl rfl
theorem dksJ7_grow_5 : cJ7_grow.data.toList.drop 117 = dktJ7_grow_5 := dk_seg dksJ7_grow_4 24 rfl rfl
theorem dksJ7_grow_6 : cJ7_grow.data.toList.drop 140 = dktJ7_grow_6 := dk_seg dksJ7_grow_5 23 rfl rfl
theorem dksJ7_grow_7 : cJ7_grow.data.toList.drop 164 = dktJ7_grow_7 := dk_seg dksJ7_grow_6 24 rfl rfl
theorem dJ7_grow_0 : decode cJ7_grow 0 = .ok (.aload_n 0, 1) := dk_42 (dk_at dksJ7_grow_0 0 rfl rfl)
theorem dJ7_grow_1 : decode cJ7_grow 1 = .ok (.getfield 3, 3) := dk_180 0 3 (dk_at dksJ7_grow_0 1 rfl rfl)
theorem dJ7_grow_4 : decode cJ7_grow 4 = .ok (.arraylength, 1) := dk_190 (dk_at dksJ7_grow_0 4 rfl rfl)
theorem dJ7_grow_5 : decode cJ7_grow 5 = .ok (.istore_n 2, 1) := dk_61 (dk_at dksJ7_grow_0 5 rfl rfl)
theorem dJ7_grow_6 : decode cJ7_grow 6 = .ok (.iload_n 2, 1) := dk_28 (dk_at dksJ7_grow_0 6 rfl rfl)
theorem dJ7_grow_7 : decode cJ7_grow 7 = .ok (.bipush 64, 2) := dk_16 64 (dk_at dksJ7_grow_0 7 rfl rfl)
theorem dJ7_grow_9 : decode cJ7_grow 9 = .ok (.if_icmp .ge 9, 3) := dk_162 0 9 (dk_at dksJ7_grow_0 9 rfl rfl)
theorem dJ7_grow_12 : decode cJ7_grow 12 = .ok (.iload_n 2, 1) := dk_28 (dk_at dksJ7_grow_0 12 rfl rfl)
theorem dJ7_grow_13 : decode cJ7_grow 13 = .ok (.iconst 2, 1) := dk_5 (dk_at dksJ7_grow_0 13 rfl rfl)
theorem dJ7_grow_14 : decode cJ7_grow 14 = .ok (.iadd, 1) := dk_96 (dk_at dksJ7_grow_0 14 rfl rfl)
theorem dJ7_grow_15 : decode cJ7_grow 15 = .ok (.goto 6, 3) := dk_167 0 6 (dk_at dksJ7_grow_0 15 rfl rfl)
theorem dJ7_grow_18 : decode cJ7_grow 18 = .ok (.iload_n 2, 1) := dk_28 (dk_at dksJ7_grow_0 18 rfl rfl)
theorem dJ7_grow_19 : decode cJ7_grow 19 = .ok (.iconst 1, 1) := dk_4 (dk_at dksJ7_grow_0 19 rfl rfl)
theorem dJ7_grow_20 : decode cJ7_grow 20 = .ok (.ishr, 1) := dk_122 (dk_at dksJ7_grow_0 20 rfl rfl)
theorem dJ7_grow_21 : decode cJ7_grow 21 = .ok (.istore 4, 2) := dk_54 4 (dk_at dksJ7_grow_0 21 rfl rfl)
theorem dJ7_grow_23 : decode cJ7_grow 23 = .ok (.iload 4, 2) := dk_21 4 (dk_at dksJ7_grow_1 0 rfl rfl)
theorem dJ7_grow_25 : decode cJ7_grow 25 = .ok (.iload_n 1, 1) := dk_27 (dk_at dksJ7_grow_1 2 rfl rfl)
theorem dJ7_grow_26 : decode cJ7_grow 26 = .ok (.if_icmp .lt 15, 3) := dk_161 0 15 (dk_at dksJ7_grow_1 3 rfl rfl)
theorem dJ7_grow_29 : decode cJ7_grow 29 = .ok (.iload_n 2, 1) := dk_28 (dk_at dksJ7_grow_1 6 rfl rfl)
theorem dJ7_grow_30 : decode cJ7_grow 30 = .ok (.iload 4, 2) := dk_21 4 (dk_at dksJ7_grow_1 7 rfl rfl)
theorem dJ7_grow_32 : decode cJ7_grow 32 = .ok (.iadd, 1) := dk_96 (dk_at dksJ7_grow_1 9 rfl rfl)
theorem dJ7_grow_33 : decode cJ7_grow 33 = .ok (.dup, 1) := dk_89 (dk_at dksJ7_grow_1 10 rfl rfl)
theorem dJ7_grow_34 : decode cJ7_grow 34 = .ok (.istore_n 3, 1) := dk_62 (dk_at dksJ7_grow_1 11 rfl rfl)
theorem dJ7_grow_35 : decode cJ7_grow 35 = .ok (.ldc 9, 2) := dk_18 9 (dk_at dksJ7_grow_1 12 rfl rfl)
theorem dJ7_grow_37 : decode cJ7_grow 37 = .ok (.isub, 1) := dk_100 (dk_at dksJ7_grow_1 14 rfl rfl)
theorem dJ7_grow_38 : decode cJ7_grow 38 = .ok (.ifCond .le 11, 3) := dk_158 0 11 (dk_at dksJ7_grow_1 15 rfl rfl)
theorem dJ7_grow_41 : decode cJ7_grow 41 = .ok (.aload_n 0, 1) := dk_42 (dk_at dksJ7_grow_1 18 rfl rfl)
theorem dJ7_grow_42 : decode cJ7_grow 42 = .ok (.iload_n 1, 1) := dk_27 (dk_at dksJ7_grow_1 19 rfl rfl)
theorem dJ7_grow_43 : decode cJ7_grow 43 = .ok (.iload 4, 2) := dk_21 4 (dk_at dksJ7_grow_1 20 rfl rfl)
theorem dJ7_grow_45 : decode cJ7_grow 45 = .ok (.invokevirtual 10, 3) := dk_182 0 10 (dk_at dksJ7_grow_2 0 rfl rfl)
theorem dJ7_grow_48 : decode cJ7_grow 48 = .ok (.istore_n 3, 1) := dk_62 (dk_at dksJ7_grow_2 3 rfl rfl)
theorem dJ7_grow_49 : decode cJ7_grow 49 = .ok (.aload_n 0, 1) := dk_42 (dk_at dksJ7_grow_2 4 rfl rfl)
theorem dJ7_grow_50 : decode cJ7_grow 50 = .ok (.aload_n 0, 1) := dk_42 (dk_at dksJ7_grow_2 5 rfl rfl)
theorem dJ7_grow_51 : decode cJ7_grow 51 = .ok (.getfield 3, 3) := dk_180 0 3 (dk_at dksJ7_grow_2 6 rfl rfl)
theorem dJ7_grow_54 : decode cJ7_grow 54 = .ok (.iload_n 3, 1) := dk_29 (dk_at dksJ7_grow_2 9 rfl rfl)
theorem dJ7_grow_55 : decode cJ7_grow 55 = .ok (.invokestatic 14, 3) := dk_184 0 14 (dk_at dksJ7_grow_2 10 rfl rfl)
theorem dJ7_grow_58 : decode cJ7_grow 58 = .ok (.dup_x1, 1) := dk_90 (dk_at dksJ7_grow_2 13 rfl rfl)
theorem dJ7_grow_59 : decode cJ7_grow 59 = .ok (.putfield 3, 3) := dk_181 0 3 (dk_at dksJ7_grow_2 14 rfl rfl)
theorem dJ7_grow_62 : decode cJ7_grow 62 = .ok (.astore 5, 2) := dk_58 5 (dk_at dksJ7_grow_2 17 rfl rfl)
theorem dJ7_grow_64 : decode cJ7_grow 64 = .ok (.aload_n 0, 1) := dk_42 (dk_at dksJ7_grow_2 19 rfl rfl)
theorem dJ7_grow_65 : decode cJ7_grow 65 = .ok (.getfield 20, 3) := dk_180 0 20 (dk_at dksJ7_grow_2 20 rfl rfl)
theorem dJ7_grow_68 : decode cJ7_grow 68 = .ok (.aload_n 0, 1) := dk_42 (dk_at dksJ7_grow_2 23 rfl rfl)
theorem dJ7_grow_69 : decode cJ7_grow 69 = .ok (.getfield 24, 3) := dk_180 0 24 (dk_at dksJ7_grow_3 0 rfl rfl)
theorem dJ7_grow_72 : decode cJ7_grow 72 = .ok (.if_icmp .lt 24, 3) := dk_161 0 24 (dk_at dksJ7_grow_3 3 rfl rfl)
theorem dJ7_grow_75 : decode cJ7_grow 75 = .ok (.aload_n 0, 1) := dk_42 (dk_at dksJ7_grow_3 6 rfl rfl)
theorem dJ7_grow_76 : decode cJ7_grow 76 = .ok (.getfield 20, 3) := dk_180 0 20 (dk_at dksJ7_grow_3 7 rfl rfl)
theorem dJ7_grow_79 : decode cJ7_grow 79 = .ok (.aload_n 0, 1) := dk_42 (dk_at dksJ7_grow_3 10 rfl rfl)
theorem dJ7_grow_80 : decode cJ7_grow 80 = .ok (.getfield 24, 3) := dk_180 0 24 (dk_at dksJ7_grow_3 11 rfl rfl)
theorem dJ7_grow_83 : decode cJ7_grow 83 = .ok (.if_icmp .ne 81, 3) := dk_160 0 81 (dk_at dksJ7_grow_3 14 rfl rfl)
theorem dJ7_grow_86 : decode cJ7_grow 86 = .ok (.aload 5, 2) := dk_25 5 (dk_at dksJ7_grow_3 17 rfl rfl)
theorem dJ7_grow_88 : decode cJ7_grow 88 = .ok (.aload_n 0, 1) := dk_42 (dk_at dksJ7_grow_3 19 rfl rfl)
theorem dJ7_grow_89 : decode cJ7_grow 89 = .ok (.getfield 24, 3) := dk_180 0 24 (dk_at dksJ7_grow_3 20 rfl rfl)
theorem dJ7_grow_92 : decode cJ7_grow 92 = .ok (.aaload, 1) := dk_50 (dk_at dksJ7_grow_3 23 rfl rfl)
theorem dJ7_grow_93 : decode cJ7_grow 93 = .ok (.ifnull 71, 3) := dk_198 0 71 (dk_at dksJ7_grow_4 0 rfl rfl)
theorem dJ7_grow_96 : decode cJ7_grow 96 = .ok (.iload_n 3, 1) := dk_29 (dk_at dksJ7_grow_4 3 rfl rfl)
theorem dJ7_grow_97 : decode cJ7_grow 97 = .ok (.iload_n 2, 1) := dk_28 (dk_at dksJ7_grow_4 4 rfl rfl)
theorem dJ7_grow_98 : decode cJ7_grow 98 = .ok (.isub, 1) := dk_100 (dk_at dksJ7_grow_4 5 rfl rfl)
theorem dJ7_grow_99 : decode cJ7_grow 99 = .ok (.istore 6, 2) := dk_54 6 (dk_at dksJ7_grow_4 6 rfl rfl)
theorem dJ7_grow_101 : decode cJ7_grow 101 = .ok (.aload 5, 2) := dk_25 5 (dk_at dksJ7_grow_4 8 rfl rfl)
theorem dJ7_grow_103 : decode cJ7_grow 103 = .ok (.aload_n 0, 1) := dk_42 (dk_at dksJ7_grow_4 10 rfl rfl)
theorem dJ7_grow_104 : decode cJ7_grow 104 = .ok (.getfield 24, 3) := dk_180 0 24 (dk_at dksJ7_grow_4 11 rfl rfl)
theorem dJ7_grow_107 : decode cJ7_grow 107 = .ok (.aload 5, 2) := dk_25 5 (dk_at dksJ7_grow_4 14 rfl rfl)
theorem dJ7_grow_109 : decode cJ7_grow 109 = .ok (.aload_n 0, 1) := dk_42 (dk_at dksJ7_grow_4 16 rfl rfl)
theorem dJ7_grow_110 : decode cJ7_grow 110 = .ok (.getfield 24, 3) := dk_180 0 24 (dk_at dksJ7_grow_4 17 rfl rfl)
theorem dJ7_grow_113 : decode cJ7_grow 113 = .ok (.iload 6, 2) := dk_21 6 (dk_at dksJ7_grow_4 20 rfl rfl)
theorem dJ7_grow_115 : decode cJ7_grow 115 = .ok (.iadd, 1) := dk_96 (dk_at dksJ7_grow_4 22 rfl rfl)
theorem dJ7_grow_116 : decode cJ7_grow 116 = .ok (.iload_n 2, 1) := dk_28 (dk_at dksJ7_grow_4 23 rfl rfl)
theorem dJ7_grow_117 : decode cJ7_grow 117 = .ok (.aload_n 0, 1) := dk_42 (dk_at dksJ7_grow_5 0 rfl rfl)
theorem dJ7_grow_118 : decode cJ7_grow 118 = .ok (.getfield 24, 3) := dk_180 0 24 (dk_at dksJ7_grow_5 1 rfl rfl)
theorem dJ7_grow_121 : decode cJ7_grow 121 = .ok (.isub, 1) := dk_100 (dk_at dksJ7_grow_5 4 rfl rfl)
theorem dJ7_grow_122 : decode cJ7_grow 122 = .ok (.invokestatic 27, 3) := dk_184 0 27 (dk_at dksJ7_grow_5 5 rfl rfl)
theorem dJ7_grow_125 : decode cJ7_grow 125 = .ok (.aload_n 0, 1) := dk_42 (dk_at dksJ7_grow_5 8 rfl rfl)
theorem dJ7_grow_126 : decode cJ7_grow 126 = .ok (.getfield 24, 3) := dk_180 0 24 (dk_at dksJ7_grow_5 9 rfl rfl)
theorem dJ7_grow_129 : decode cJ7_grow 129 = .ok (.istore 7, 2) := dk_54 7 (dk_at dksJ7_grow_5 12 rfl rfl)
theorem dJ7_grow_131 : decode cJ7_grow 131 = .ok (.aload_n 0, 1) := dk_42 (dk_at dksJ7_grow_5 14 rfl rfl)
theorem dJ7_grow_132 : decode cJ7_grow 132 = .ok (.dup, 1) := dk_89 (dk_at dksJ7_grow_5 15 rfl rfl)
theorem dJ7_grow_133 : decode cJ7_grow 133 = .ok (.getfield 24, 3) := dk_180 0 24 (dk_at dksJ7_grow_5 16 rfl rfl)
theorem dJ7_grow_136 : decode cJ7_grow 136 = .ok (.iload 6, 2) := dk_21 6 (dk_at dksJ7_grow_5 19 rfl rfl)
theorem dJ7_grow_138 : decode cJ7_grow 138 = .ok (.iadd, 1) := dk_96 (dk_at dksJ7_grow_5 21 rfl rfl)
theorem dJ7_grow_139 : decode cJ7_grow 139 = .ok (.dup_x1, 1) := dk_90 (dk_at dksJ7_grow_5 22 rfl rfl)
theorem dJ7_grow_140 : decode cJ7_grow 140 = .ok (.putfield 24, 3) := dk_181 0 24 (dk_at dksJ7_grow_6 0 rfl rfl)
theorem dJ7_grow_143 : decode cJ7_grow 143 = .ok (.istore 8, 2) := dk_54 8 (dk_at dksJ7_grow_6 3 rfl rfl)
theorem dJ7_grow_145 : decode cJ7_grow 145 = .ok (.iload 7, 2) := dk_21 7 (dk_at dksJ7_grow_6 5 rfl rfl)
theorem dJ7_grow_147 : decode cJ7_grow 147 = .ok (.iload 8, 2) := dk_21 8 (dk_at dksJ7_grow_6 7 rfl rfl)
theorem dJ7_grow_149 : decode cJ7_grow 149 = .ok (.if_icmp .ge 15, 3) := dk_162 0 15 (dk_at dksJ7_grow_6 9 rfl rfl)
theorem dJ7_grow_152 : decode cJ7_grow 152 = .ok (.aload 5, 2) := dk_25 5 (dk_at dksJ7_grow_6 12 rfl rfl)
theorem dJ7_grow_154 : decode cJ7_grow 154 = .ok (.iload 7, 2) := dk_21 7 (dk_at dksJ7_grow_6 14 rfl rfl)
theorem dJ7_grow_156 : decode cJ7_grow 156 = .ok (.aconst_null, 1) := dk_1 (dk_at dksJ7_grow_6 16 rfl rfl)
theorem dJ7_grow_157 : decode cJ7_grow 157 = .ok (.aastore, 1) := dk_83 (dk_at dksJ7_grow_6 17 rfl rfl)
theorem dJ7_grow_158 : decode cJ7_grow 158 = .ok (.iinc 7 1, 3) := dk_132 7 1 (dk_at dksJ7_grow_6 18 rfl rfl)
theorem dJ7_grow_161 : decode cJ7_grow 161 = .ok (.goto (-16), 3) := dk_167 255 240 (dk_at dksJ7_grow_6 21 rfl rfl)
theorem dJ7_grow_164 : decode cJ7_grow 164 = .ok (.return_, 1) := dk_177 (dk_at dksJ7_grow_7 0 rfl rfl)
abbrev cJ7_newCapacity : ByteArray := prog_62_method_2_code
def yJ7_newCapacity : MethodName := ⟨RJ7, "newCapacity", "(II)I"⟩
def dkwJ7_newCapacity_2 : List UInt8 := [18, 9, 100, 156, 0, 9, 29, 28, 96, 167, 0, 5, 18, 9, 172]
abbrev dktJ7_newCapacity_2 : List UInt8 := dkwJ7_newCapacity_2 ++ []
def dkwJ7_newCapacity_1 : List UInt8 := [187, 0, 33, 89, 18, 35, 183, 0, 37, 191, 18, 41, 172, 27, 28, 164, 0, 6, 21, 4, 172, 29, 28, 96]
abbrev dktJ7_newCapacity_1 : List UInt8 := dkwJ7_newCapacity_1 ++ dktJ7_newCapacity_2
def dkwJ7_newCapacity_0 : List UInt8 := [42, 180, 0, 3, 190, 62, 29, 27, 96, 89, 54, 4, 18, 9, 100, 158, 0, 21, 21, 4, 156, 0, 13]
abbrev dktJ7_newCapacity_0 : List UInt8 := dkwJ7_newCapacity_0 ++ dktJ7_newCapacity_1
theorem dksJ7_newCapacity_0 : cJ7_newCapacity.data.toList.drop 0 = dktJ7_newCapacity_0 := by decide +kernel
theorem dksJ7_newCapacity_1 : cJ7_newCapacity.data.toList.drop 23 = dktJ7_newCapacity_1 := dk_seg dksJ7_newCapacity_0 23 rfl rfl
theorem dksJ7_newCapacity_2 : cJ7_newCapacity.data.toList.drop 47 = dktJ7_newCapacity_2 := dk_seg dksJ7_newCapacity_1 24 rfl rfl
theorem dJ7_newCapacity_0 : decode cJ7_newCapacity 0 = .ok (.aload_n 0, 1) := dk_42 (dk_at dksJ7_newCapacity_0 0 rfl rfl)
theorem dJ7_newCapacity_1 : decode cJ7_newCapacity 1 = .ok (.getfield 3, 3) := dk_180 0 3 (dk_at dksJ7_newCapacity_0 1 rfl rfl)
theorem dJ7_newCapacity_4 : decode cJ7_newCapacity 4 = .ok (.arraylength, 1) := dk_190 (dk_at dksJ7_newCapacity_0 4 rfl rfl)
theorem dJ7_newCapacity_5 : decode cJ7_newCapacity 5 = .ok (.istore_n 3, 1) := dk_62 (dk_at dksJ7_newCapacity_0 5 rfl rfl)
theorem dJ7_newCapacity_6 : decode cJ7_newCapacity 6 = .ok (.iload_n 3, 1) := dk_29 (dk_at dksJ7_newCapacity_0 6 rfl rfl)
theorem dJ7_newCapacity_7 : decode cJ7_newCapacity 7 = .ok (.iload_n 1, 1) := dk_27 (dk_at dksJ7_newCapacity_0 7 rfl rfl)
theorem dJ7_newCapacity_8 : decode cJ7_newCapacity 8 = .ok (.iadd, 1) := dk_96 (dk_at dksJ7_newCapacity_0 8 rfl rfl)
theorem dJ7_newCapacity_9 : decode cJ7_newCapacity 9 = .ok (.dup, 1) := dk_89 (dk_at dksJ7_newCapacity_0 9 rfl rfl)
theorem dJ7_newCapacity_10 : decode cJ7_newCapacity 10 = .ok (.istore 4, 2) := dk_54 4 (dk_at dksJ7_newCapacity_0 10 rfl rfl)
theorem dJ7_newCapacity_12 : decode cJ7_newCapacity 12 = .ok (.ldc 9, 2) := dk_18 9 (dk_at dksJ7_newCapacity_0 12 rfl rfl)
theorem dJ7_newCapacity_14 : decode cJ7_newCapacity 14 = .ok (.isub, 1) := dk_100 (dk_at dksJ7_newCapacity_0 14 rfl rfl)
theorem dJ7_newCapacity_15 : decode cJ7_newCapacity 15 = .ok (.ifCond .le 21, 3) := dk_158 0 21 (dk_at dksJ7_newCapacity_0 15 rfl rfl)
theorem dJ7_newCapacity_18 : decode cJ7_newCapacity 18 = .ok (.iload 4, 2) := dk_21 4 (dk_at dksJ7_newCapacity_0 18 rfl rfl)
theorem dJ7_newCapacity_20 : decode cJ7_newCapacity 20 = .ok (.ifCond .ge 13, 3) := dk_156 0 13 (dk_at dksJ7_newCapacity_0 20 rfl rfl)
theorem dJ7_newCapacity_23 : decode cJ7_newCapacity 23 = .ok (.new 33, 3) := dk_187 0 33 (dk_at dksJ7_newCapacity_1 0 rfl rfl)
theorem dJ7_newCapacity_26 : decode cJ7_newCapacity 26 = .ok (.dup, 1) := dk_89 (dk_at dksJ7_newCapacity_1 3 rfl rfl)
theorem dJ7_newCapacity_27 : decode cJ7_newCapacity 27 = .ok (.ldc 35, 2) := dk_18 35 (dk_at dksJ7_newCapacity_1 4 rfl rfl)
theorem dJ7_newCapacity_29 : decode cJ7_newCapacity 29 = .ok (.invokespecial 37, 3) := dk_183 0 37 (dk_at dksJ7_newCapacity_1 6 rfl rfl)
theorem dJ7_newCapacity_32 : decode cJ7_newCapacity 32 = .ok (.athrow, 1) := dk_191 (dk_at dksJ7_newCapacity_1 9 rfl rfl)
theorem dJ7_newCapacity_33 : decode cJ7_newCapacity 33 = .ok (.ldc 41, 2) := dk_18 41 (dk_at dksJ7_newCapacity_1 10 rfl rfl)
theorem dJ7_newCapacity_35 : decode cJ7_newCapacity 35 = .ok (.ireturn, 1) := dk_172 (dk_at dksJ7_newCapacity_1 12 rfl rfl)
theorem dJ7_newCapacity_36 : decode cJ7_newCapacity 36 = .ok (.iload_n 1, 1) := dk_27 (dk_at dksJ7_newCapacity_1 13 rfl rfl)
theorem dJ7_newCapacity_37 : decode cJ7_newCapacity 37 = .ok (.iload_n 2, 1) := dk_28 (dk_at dksJ7_newCapacity_1 14 rfl rfl)
theorem dJ7_newCapacity_38 : decode cJ7_newCapacity 38 = .ok (.if_icmp .le 6, 3) := dk_164 0 6 (dk_at dksJ7_newCapacity_1 15 rfl rfl)
theorem dJ7_newCapacity_41 : decode cJ7_newCapacity 41 = .ok (.iload 4, 2) := dk_21 4 (dk_at dksJ7_newCapacity_1 18 rfl rfl)
theorem dJ7_newCapacity_43 : decode cJ7_newCapacity 43 = .ok (.ireturn, 1) := dk_172 (dk_at dksJ7_newCapacity_1 20 rfl rfl)
theorem dJ7_newCapacity_44 : decode cJ7_newCapacity 44 = .ok (.iload_n 3, 1) := dk_29 (dk_at dksJ7_newCapacity_1 21 rfl rfl)
theorem dJ7_newCapacity_45 : decode cJ7_newCapacity 45 = .ok (.iload_n 2, 1) := dk_28 (dk_at dksJ7_newCapacity_1 22 rfl rfl)
theorem dJ7_newCapacity_46 : decode cJ7_newCapacity 46 = .ok (.iadd, 1) := dk_96 (dk_at dksJ7_newCapacity_1 23 rfl rfl)
theorem dJ7_newCapacity_47 : decode cJ7_newCapacity 47 = .ok (.ldc 9, 2) := dk_18 9 (dk_at dksJ7_newCapacity_2 0 rfl rfl)
theorem dJ7_newCapacity_49 : decode cJ7_newCapacity 49 = .ok (.isub, 1) := dk_100 (dk_at dksJ7_newCapacity_2 2 rfl rfl)
theorem dJ7_newCapacity_50 : decode cJ7_newCapacity 50 = .ok (.ifCond .ge 9, 3) := dk_156 0 9 (dk_at dksJ7_newCapacity_2 3 rfl rfl)
theorem dJ7_newCapacity_53 : decode cJ7_newCapacity 53 = .ok (.iload_n 3, 1) := dk_29 (dk_at dksJ7_newCapacity_2 6 rfl rfl)
theorem dJ7_newCapacity_54 : decode cJ7_newCapacity 54 = .ok (.iload_n 2, 1) := dk_28 (dk_at dksJ7_newCapacity_2 7 rfl rfl)
theorem dJ7_newCapacity_55 : decode cJ7_newCapacity 55 = .ok (.iadd, 1) := dk_96 (dk_at dksJ7_newCapacity_2 8 rfl rfl)
theorem dJ7_newCapacity_56 : decode cJ7_newCapacity 56 = .ok (.goto 5, 3) := dk_167 0 5 (dk_at dksJ7_newCapacity_2 9 rfl rfl)
theorem dJ7_newCapacity_59 : decode cJ7_newCapacity 59 = .ok (.ldc 9, 2) := dk_18 9 (dk_at dksJ7_newCapacity_2 12 rfl rfl)
theorem dJ7_newCapacity_61 : decode cJ7_newCapacity 61 = .ok (.ireturn, 1) := dk_172 (dk_at dksJ7_newCapacity_2 14 rfl rfl)
abbrev cJ7_size : ByteArray := prog_62_method_37_code
def yJ7_size : MethodName := ⟨RJ7, "size", "()I"⟩
def dkwJ7_size_0 : List UInt8 := [42, 180, 0, 20, 42, 180, 0, 24, 42, 180, 0, 3, 190, 184, 0, 127, 172]
abbrev dktJ7_size_0 : List UInt8 := dkwJ7_size_0 ++ []
theorem dksJ7_size_0 : cJ7_size.data.toList.drop 0 = dktJ7_size_0 := by decide +kernel
theorem dJ7_size_0 : decode cJ7_size 0 = .ok (.aload_n 0, 1) := dk_42 (dk_at dksJ7_size_0 0 rfl rfl)
theorem dJ7_size_1 : decode cJ7_size 1 = .ok (.getfield 20, 3) := dk_180 0 20 (dk_at dksJ7_size_0 1 rfl rfl)
theorem dJ7_size_4 : decode cJ7_size 4 = .ok (.aload_n 0, 1) := dk_42 (dk_at dksJ7_size_0 4 rfl rfl)
theorem dJ7_size_5 : decode cJ7_size 5 = .ok (.getfield 24, 3) := dk_180 0 24 (dk_at dksJ7_size_0 5 rfl rfl)
theorem dJ7_size_8 : decode cJ7_size 8 = .ok (.aload_n 0, 1) := dk_42 (dk_at dksJ7_size_0 8 rfl rfl)
theorem dJ7_size_9 : decode cJ7_size 9 = .ok (.getfield 3, 3) := dk_180 0 3 (dk_at dksJ7_size_0 9 rfl rfl)
theorem dJ7_size_12 : decode cJ7_size 12 = .ok (.arraylength, 1) := dk_190 (dk_at dksJ7_size_0 12 rfl rfl)
theorem dJ7_size_13 : decode cJ7_size 13 = .ok (.invokestatic 127, 3) := dk_184 0 127 (dk_at dksJ7_size_0 13 rfl rfl)
theorem dJ7_size_16 : decode cJ7_size 16 = .ok (.ireturn, 1) := dk_172 (dk_at dksJ7_size_0 16 rfl rfl)
abbrev cJ7_iterator : ByteArray := prog_62_method_39_code
def yJ7_iterator : MethodName := ⟨RJ7, "iterator", "()Ljava/util/Iterator;"⟩
def dkwJ7_iterator_0 : List UInt8 := [187, 0, 131, 89, 42, 183, 0, 133, 176]
abbrev dktJ7_iterator_0 : List UInt8 := dkwJ7_iterator_0 ++ []
theorem dksJ7_iterator_0 : cJ7_iterator.data.toList.drop 0 = dktJ7_iterator_0 := by decide +kernel
theorem dJ7_iterator_0 : decode cJ7_iterator 0 = .ok (.new 131, 3) := dk_187 0 131 (dk_at dksJ7_iterator_0 0 rfl rfl)
theorem dJ7_iterator_3 : decode cJ7_iterator 3 = .ok (.dup, 1) := dk_89 (dk_at dksJ7_iterator_0 3 rfl rfl)
theorem dJ7_iterator_4 : decode cJ7_iterator 4 = .ok (.aload_n 0, 1) := dk_42 (dk_at dksJ7_iterator_0 4 rfl rfl)
theorem dJ7_iterator_5 : decode cJ7_iterator 5 = .ok (.invokespecial 133, 3) := dk_183 0 133 (dk_at dksJ7_iterator_0 5 rfl rfl)
theorem dJ7_iterator_8 : decode cJ7_iterator 8 = .ok (.areturn, 1) := dk_176 (dk_at dksJ7_iterator_0 8 rfl rfl)
theorem q115 : (Jvm.Cond.initialized "java/util/ArrayDeque") ∈ lw_all := lw_g (lw_at lw_m1 14 rfl) rfl
theorem q307 : (Jvm.Cond.instantiable "java/util/ArrayDeque" (3 : Nat)) ∈ lw_all := lw_g (lw_at lw_m1 206 rfl) rfl
theorem q309 : (Jvm.Cond.instanceMethod ({ cls := "java/util/ArrayDeque", name := "<init>", desc := "(I)V" } : Jvm.MethodName)) ∈ lw_all := lw_g (lw_at lw_m1 208 rfl) rfl
theorem q310 : (Jvm.Cond.code ({ cls := "java/util/ArrayDeque", name := "<init>", desc := "(I)V" } : Jvm.MethodName) prog_62_method_4_code (2 : Nat) (Option.none : Option Jvm.ClassFile.FieldType)) ∈ lw_all := lw_g (lw_at lw_m1 209 rfl) rfl
theorem q311 : (Jvm.Cond.methodLink "java/util/ArrayDeque" (42 : Nat) ({ cls := "java/util/AbstractCollection", name := "<init>", desc := "()V" } : Jvm.MethodName)) ∈ lw_all := lw_g (lw_at lw_m1 210 rfl) rfl
theorem q312 : (Jvm.Cond.constant "java/util/ArrayDeque" (41 : Nat) (2147483647 : Int32)) ∈ lw_all := lw_g (lw_at lw_m1 211 rfl) rfl
theorem q313 : (Jvm.Cond.classLink "java/util/ArrayDeque" (47 : Nat) "java/lang/Object") ∈ lw_all := lw_g (lw_at lw_m1 212 rfl) rfl
theorem q314 : (Jvm.Cond.fieldLink "java/util/ArrayDeque" (3 : Nat) "java/util/ArrayDeque" "elements" "[Ljava/lang/Object;") ∈ lw_all := lw_g (lw_at lw_m1 213 rfl) rfl
theorem q317 : (Jvm.Cond.fieldLink "java/util/ArrayDeque" (24 : Nat) "java/util/ArrayDeque" "head" "I") ∈ lw_all := lw_g (lw_at lw_m1 216 rfl) rfl
theorem q318 : (Jvm.Cond.fieldLink "java/util/ArrayDeque" (20 : Nat) "java/util/ArrayDeque" "tail" "I") ∈ lw_all := lw_g (lw_at lw_m1 217 rfl) rfl
theorem q319 : (Jvm.Cond.lays "java/util/ArrayDeque" "java/util/ArrayDeque" "elements" "[Ljava/lang/Object;") ∈ lw_all := lw_g (lw_at lw_m1 218 rfl) rfl
theorem q320 : (Jvm.Cond.soleField "java/util/ArrayDeque" "elements") ∈ lw_all := lw_g (lw_at lw_m1 219 rfl) rfl
theorem q321 : (Jvm.Cond.lays "java/util/ArrayDeque" "java/util/ArrayDeque" "head" "I") ∈ lw_all := lw_g (lw_at lw_m1 220 rfl) rfl
theorem q322 : (Jvm.Cond.soleField "java/util/ArrayDeque" "head") ∈ lw_all := lw_g (lw_at lw_m1 221 rfl) rfl
theorem q323 : (Jvm.Cond.lays "java/util/ArrayDeque" "java/util/ArrayDeque" "tail" "I") ∈ lw_all := lw_g (lw_at lw_m1 222 rfl) rfl
theorem q324 : (Jvm.Cond.soleField "java/util/ArrayDeque" "tail") ∈ lw_all := lw_g (lw_at lw_m1 223 rfl) rfl
theorem q325 : (Jvm.Cond.superclass "java/util/ArrayDeque" "java/util/AbstractCollection") ∈ lw_all := lw_g (lw_at lw_m1 224 rfl) rfl
theorem q704 : (Jvm.Cond.selects "java/util/ArrayDeque" ({ cls := "java/lang/Object", name := "getClass", desc := "()Ljava/lang/Class;" } : Jvm.MethodName) ({ cls := "java/lang/Object", name := "getClass", desc := "()Ljava/lang/Class;" } : Jvm.MethodName)) ∈ lw_all := lw_g (lw_at lw_m3 123 rfl) rfl
theorem q1331 : (Jvm.Cond.instanceMethod ({ cls := "java/util/ArrayDeque", name := "isEmpty", desc := "()Z" } : Jvm.MethodName)) ∈ lw_all := lw_g (lw_at lw_m6 30 rfl) rfl
theorem q1332 : (Jvm.Cond.selects "java/util/ArrayDeque" ({ cls := "java/util/ArrayDeque", name := "isEmpty", desc := "()Z" } : Jvm.MethodName) ({ cls := "java/util/ArrayDeque", name := "isEmpty", desc := "()Z" } : Jvm.MethodName)) ∈ lw_all := lw_g (lw_at lw_m6 31 rfl) rfl
theorem q1333 : (Jvm.Cond.code ({ cls := "java/util/ArrayDeque", name := "isEmpty", desc := "()Z" } : Jvm.MethodName) prog_62_method_38_code (1 : Nat) (Option.some Jvm.ClassFile.FieldType.boolean)) ∈ lw_all := lw_g (lw_at lw_m6 32 rfl) rfl
theorem q1688 : (Jvm.Cond.static ({ cls := "java/util/ArrayDeque", name := "nonNullElementAt", desc := "([Ljava/lang/Object;I)Ljava/lang/Object;" } : Jvm.MethodName)) ∈ lw_all := lw_g (lw_at lw_m7 147 rfl) rfl
theorem q1689 : (Jvm.Cond.code ({ cls := "java/util/ArrayDeque", name := "nonNullElementAt", desc := "([Ljava/lang/Object;I)Ljava/lang/Object;" } : Jvm.MethodName) prog_62_method_11_code (3 : Nat) (Option.some (Jvm.ClassFile.FieldType.object "java/lang/Object"))) ∈ lw_all := lw_g (lw_at lw_m7 148 rfl) rfl
theorem q1691 : (Jvm.Cond.static ({ cls := "java/util/ArrayDeque", name := "inc", desc := "(II)I" } : Jvm.MethodName)) ∈ lw_all := lw_g (lw_at lw_m7 150 rfl) rfl
theorem q1692 : (Jvm.Cond.code ({ cls := "java/util/ArrayDeque", name := "inc", desc := "(II)I" } : Jvm.MethodName) prog_62_method_6_code (2 : Nat) (Option.some Jvm.ClassFile.FieldType.int)) ∈ lw_all := lw_g (lw_at lw_m7 151 rfl) rfl
theorem q1722 : (Jvm.Cond.instanceMethod ({ cls := "java/util/ArrayDeque", name := "poll", desc := "()Ljava/lang/Object;" } : Jvm.MethodName)) ∈ lw_all := lw_g (lw_at lw_m7 181 rfl) rfl
theorem q1723 : (Jvm.Cond.selects "java/util/ArrayDeque" ({ cls := "java/util/ArrayDeque", name := "poll", desc := "()Ljava/lang/Object;" } : Jvm.MethodName) ({ cls := "java/util/ArrayDeque", name := "poll", desc := "()Ljava/lang/Object;" } : Jvm.MethodName)) ∈ lw_all := lw_g (lw_at lw_m7 182 rfl) rfl
theorem q1724 : (Jvm.Cond.code ({ cls := "java/util/ArrayDeque", name := "poll", desc := "()Ljava/lang/Object;" } : Jvm.MethodName) prog_62_method_31_code (1 : Nat) (Option.some (Jvm.ClassFile.FieldType.object "java/lang/Object"))) ∈ lw_all := lw_g (lw_at lw_m7 183 rfl) rfl
theorem q1725 : (Jvm.Cond.methodLink "java/util/ArrayDeque" (93 : Nat) ({ cls := "java/util/ArrayDeque", name := "pollFirst", desc := "()Ljava/lang/Object;" } : Jvm.MethodName)) ∈ lw_all := lw_g (lw_at lw_m7 184 rfl) rfl
theorem q1726 : (Jvm.Cond.instanceMethod ({ cls := "java/util/ArrayDeque", name := "pollFirst", desc := "()Ljava/lang/Object;" } : Jvm.MethodName)) ∈ lw_all := lw_g (lw_at lw_m7 185 rfl) rfl
theorem q1727 : (Jvm.Cond.selects "java/util/ArrayDeque" ({ cls := "java/util/ArrayDeque", name := "pollFirst", desc := "()Ljava/lang/Object;" } : Jvm.MethodName) ({ cls := "java/util/ArrayDeque", name := "pollFirst", desc := "()Ljava/lang/Object;" } : Jvm.MethodName)) ∈ lw_all := lw_g (lw_at lw_m7 186 rfl) rfl
theorem q1728 : (Jvm.Cond.code ({ cls := "java/util/ArrayDeque", name := "pollFirst", desc := "()Ljava/lang/Object;" } : Jvm.MethodName) prog_62_method_20_code (4 : Nat) (Option.some (Jvm.ClassFile.FieldType.object "java/lang/Object"))) ∈ lw_all := lw_g (lw_at lw_m7 187 rfl) rfl
theorem q1729 : (Jvm.Cond.methodLink "java/util/ArrayDeque" (103 : Nat) ({ cls := "java/util/ArrayDeque", name := "elementAt", desc := "([Ljava/lang/Object;I)Ljava/lang/Object;" } : Jvm.MethodName)) ∈ lw_all := lw_g (lw_at lw_m7 188 rfl) rfl
theorem q1730 : (Jvm.Cond.static ({ cls := "java/util/ArrayDeque", name := "elementAt", desc := "([Ljava/lang/Object;I)Ljava/lang/Object;" } : Jvm.MethodName)) ∈ lw_all := lw_g (lw_at lw_m7 189 rfl) rfl
theorem q1731 : (Jvm.Cond.code ({ cls := "java/util/ArrayDeque", name := "elementAt", desc := "([Ljava/lang/Object;I)Ljava/lang/Object;" } : Jvm.MethodName) prog_62_method_10_code (2 : Nat) (Option.some (Jvm.ClassFile.FieldType.object "java/lang/Object"))) ∈ lw_all := lw_g (lw_at lw_m7 190 rfl) rfl
theorem q1732 : (Jvm.Cond.methodLink "java/util/ArrayDeque" (74 : Nat) ({ cls := "java/util/ArrayDeque", name := "inc", desc := "(II)I" } : Jvm.MethodName)) ∈ lw_all := lw_g (lw_at lw_m7 191 rfl) rfl
theorem q2037 : (Jvm.Cond.instanceMethod ({ cls := "java/util/ArrayDeque", name := "delete", desc := "(I)Z" } : Jvm.MethodName)) ∈ lw_all := lw_g (lw_at lw_m9 16 rfl) rfl
theorem q2038 : (Jvm.Cond.selects "java/util/ArrayDeque" ({ cls := "java/util/ArrayDeque", name := "delete", desc := "(I)Z" } : Jvm.MethodName) ({ cls := "java/util/ArrayDeque", name := "delete", desc := "(I)Z" } : Jvm.MethodName)) ∈ lw_all := lw_g (lw_at lw_m9 17 rfl) rfl
theorem q2039 : (Jvm.Cond.code ({ cls := "java/util/ArrayDeque", name := "delete", desc := "(I)Z" } : Jvm.MethodName) prog_62_method_36_code (8 : Nat) (Option.some Jvm.ClassFile.FieldType.boolean)) ∈ lw_all := lw_g (lw_at lw_m9 18 rfl) rfl
theorem q2040 : (Jvm.Cond.methodLink "java/util/ArrayDeque" (127 : Nat) ({ cls := "java/util/ArrayDeque", name := "sub", desc := "(III)I" } : Jvm.MethodName)) ∈ lw_all := lw_g (lw_at lw_m9 19 rfl) rfl
theorem q2041 : (Jvm.Cond.static ({ cls := "java/util/ArrayDeque", name := "sub", desc := "(III)I" } : Jvm.MethodName)) ∈ lw_all := lw_g (lw_at lw_m9 20 rfl) rfl
theorem q2042 : (Jvm.Cond.code ({ cls := "java/util/ArrayDeque", name := "sub", desc := "(III)I" } : Jvm.MethodName) prog_62_method_9_code (3 : Nat) (Option.some Jvm.ClassFile.FieldType.int)) ∈ lw_all := lw_g (lw_at lw_m9 21 rfl) rfl
theorem q2043 : (Jvm.Cond.methodLink "java/util/ArrayDeque" (27 : Nat) ({ cls := "java/lang/System", name := "arraycopy", desc := "(Ljava/lang/Object;ILjava/lang/Object;II)V" } : Jvm.MethodName)) ∈ lw_all := lw_g (lw_at lw_m9 22 rfl) rfl
theorem q2044 : (Jvm.Cond.methodLink "java/util/ArrayDeque" (68 : Nat) ({ cls := "java/util/ArrayDeque", name := "dec", desc := "(II)I" } : Jvm.MethodName)) ∈ lw_all := lw_g (lw_at lw_m9 23 rfl) rfl
theorem q2045 : (Jvm.Cond.static ({ cls := "java/util/ArrayDeque", name := "dec", desc := "(II)I" } : Jvm.MethodName)) ∈ lw_all := lw_g (lw_at lw_m9 24 rfl) rfl
theorem q2046 : (Jvm.Cond.code ({ cls := "java/util/ArrayDeque", name := "dec", desc := "(II)I" } : Jvm.MethodName) prog_62_method_7_code (2 : Nat) (Option.some Jvm.ClassFile.FieldType.int)) ∈ lw_all := lw_g (lw_at lw_m9 25 rfl) rfl
theorem q2091 : (Jvm.Cond.instanceMethod ({ cls := "java/util/ArrayDeque", name := "<init>", desc := "()V" } : Jvm.MethodName)) ∈ lw_all := lw_g (lw_at lw_m9 70 rfl) rfl
theorem q2092 : (Jvm.Cond.code ({ cls := "java/util/ArrayDeque", name := "<init>", desc := "()V" } : Jvm.MethodName) prog_62_method_3_code (1 : Nat) (Option.none : Option Jvm.ClassFile.FieldType)) ∈ lw_all := lw_g (lw_at lw_m9 71 rfl) rfl
theorem q2094 : (Jvm.Cond.instanceMethod ({ cls := "java/util/ArrayDeque", name := "add", desc := "(Ljava/lang/Object;)Z" } : Jvm.MethodName)) ∈ lw_all := lw_g (lw_at lw_m9 73 rfl) rfl
theorem q2095 : (Jvm.Cond.selects "java/util/ArrayDeque" ({ cls := "java/util/ArrayDeque", name := "add", desc := "(Ljava/lang/Object;)Z" } : Jvm.MethodName) ({ cls := "java/util/ArrayDeque", name := "add", desc := "(Ljava/lang/Object;)Z" } : Jvm.MethodName)) ∈ lw_all := lw_g (lw_at lw_m9 74 rfl) rfl
theorem q2096 : (Jvm.Cond.code ({ cls := "java/util/ArrayDeque", name := "add", desc := "(Ljava/lang/Object;)Z" } : Jvm.MethodName) prog_62_method_28_code (2 : Nat) (Option.some Jvm.ClassFile.FieldType.boolean)) ∈ lw_all := lw_g (lw_at lw_m9 75 rfl) rfl
theorem q2097 : (Jvm.Cond.methodLink "java/util/ArrayDeque" (90 : Nat) ({ cls := "java/util/ArrayDeque", name := "addLast", desc := "(Ljava/lang/Object;)V" } : Jvm.MethodName)) ∈ lw_all := lw_g (lw_at lw_m9 76 rfl) rfl
theorem q2098 : (Jvm.Cond.instanceMethod ({ cls := "java/util/ArrayDeque", name := "addLast", desc := "(Ljava/lang/Object;)V" } : Jvm.MethodName)) ∈ lw_all := lw_g (lw_at lw_m9 77 rfl) rfl
theorem q2099 : (Jvm.Cond.selects "java/util/ArrayDeque" ({ cls := "java/util/ArrayDeque", name := "addLast", desc := "(Ljava/lang/Object;)V" } : Jvm.MethodName) ({ cls := "java/util/ArrayDeque", name := "addLast", desc := "(Ljava/lang/Object;)V" } : Jvm.MethodName)) ∈ lw_all := lw_g (lw_at lw_m9 78 rfl) rfl
theorem q2100 : (Jvm.Cond.code ({ cls := "java/util/ArrayDeque", name := "addLast", desc := "(Ljava/lang/Object;)V" } : Jvm.MethodName) prog_62_method_13_code (3 : Nat) (Option.none : Option Jvm.ClassFile.FieldType)) ∈ lw_all := lw_g (lw_at lw_m9 79 rfl) rfl
theorem q2101 : (Jvm.Cond.methodLink "java/util/ArrayDeque" (71 : Nat) ({ cls := "java/util/ArrayDeque", name := "grow", desc := "(I)V" } : Jvm.MethodName)) ∈ lw_all := lw_g (lw_at lw_m9 80 rfl) rfl
theorem q2102 : (Jvm.Cond.privateMethod ({ cls := "java/util/ArrayDeque", name := "grow", desc := "(I)V" } : Jvm.MethodName)) ∈ lw_tbl := lw_at lw_m9 81 rfl
theorem q2103 : (Jvm.Cond.instanceMethod ({ cls := "java/util/ArrayDeque", name := "grow", desc := "(I)V" } : Jvm.MethodName)) ∈ lw_all := lw_g (lw_at lw_m9 82 rfl) rfl
theorem q2104 : (Jvm.Cond.code ({ cls := "java/util/ArrayDeque", name := "grow", desc := "(I)V" } : Jvm.MethodName) prog_62_method_1_code (9 : Nat) (Option.none : Option Jvm.ClassFile.FieldType)) ∈ lw_all := lw_g (lw_at lw_m9 83 rfl) rfl
theorem q2105 : (Jvm.Cond.constant "java/util/ArrayDeque" (9 : Nat) (2147483639 : Int32)) ∈ lw_all := lw_g (lw_at lw_m9 84 rfl) rfl
theorem q2106 : (Jvm.Cond.methodLink "java/util/ArrayDeque" (10 : Nat) ({ cls := "java/util/ArrayDeque", name := "newCapacity", desc := "(II)I" } : Jvm.MethodName)) ∈ lw_all := lw_g (lw_at lw_m9 85 rfl) rfl
theorem q2107 : (Jvm.Cond.privateMethod ({ cls := "java/util/ArrayDeque", name := "newCapacity", desc := "(II)I" } : Jvm.MethodName)) ∈ lw_tbl := lw_at lw_m9 86 rfl
theorem q2108 : (Jvm.Cond.instanceMethod ({ cls := "java/util/ArrayDeque", name := "newCapacity", desc := "(II)I" } : Jvm.MethodName)) ∈ lw_all := lw_g (lw_at lw_m9 87 rfl) rfl
theorem q2109 : (Jvm.Cond.code ({ cls := "java/util/ArrayDeque", name := "newCapacity", desc := "(II)I" } : Jvm.MethodName) prog_62_method_2_code (5 : Nat) (Option.some Jvm.ClassFile.FieldType.int)) ∈ lw_all := lw_g (lw_at lw_m9 88 rfl) rfl
theorem q2110 : (Jvm.Cond.methodLink "java/util/ArrayDeque" (14 : Nat) ({ cls := "java/util/Arrays", name := "copyOf", desc := "([Ljava/lang/Object;I)[Ljava/lang/Object;" } : Jvm.MethodName)) ∈ lw_all := lw_g (lw_at lw_m9 89 rfl) rfl
theorem q2247 : (Jvm.Cond.instanceMethod ({ cls := "java/util/ArrayDeque", name := "size", desc := "()I" } : Jvm.MethodName)) ∈ lw_all := lw_g (lw_at lw_m9 226 rfl) rfl
theorem q2248 : (Jvm.Cond.selects "java/util/ArrayDeque" ({ cls := "java/util/ArrayDeque", name := "size", desc := "()I" } : Jvm.MethodName) ({ cls := "java/util/ArrayDeque", name := "size", desc := "()I" } : Jvm.MethodName)) ∈ lw_all := lw_g (lw_at lw_m9 227 rfl) rfl
theorem q2249 : (Jvm.Cond.code ({ cls := "java/util/ArrayDeque", name := "size", desc := "()I" } : Jvm.MethodName) prog_62_method_37_code (1 : Nat) (Option.some Jvm.ClassFile.FieldType.int)) ∈ lw_all := lw_g (lw_at lw_m9 228 rfl) rfl
theorem q2407 : (Jvm.Cond.instanceMethod ({ cls := "java/util/ArrayDeque", name := "iterator", desc := "()Ljava/util/Iterator;" } : Jvm.MethodName)) ∈ lw_all := lw_g (lw_at lw_m10 146 rfl) rfl
theorem q2408 : (Jvm.Cond.selects "java/util/ArrayDeque" ({ cls := "java/util/ArrayDeque", name := "iterator", desc := "()Ljava/util/Iterator;" } : Jvm.MethodName) ({ cls := "java/util/ArrayDeque", name := "iterator", desc := "()Ljava/util/Iterator;" } : Jvm.MethodName)) ∈ lw_all := lw_g (lw_at lw_m10 147 rfl) rfl
theorem q2409 : (Jvm.Cond.code ({ cls := "java/util/ArrayDeque", name := "iterator", desc := "()Ljava/util/Iterator;" } : Jvm.MethodName) prog_62_method_39_code (1 : Nat) (Option.some (Jvm.ClassFile.FieldType.object "java/util/Iterator"))) ∈ lw_all := lw_g (lw_at lw_m10 148 rfl) rfl
theorem q2410 : (Jvm.Cond.classLink "java/util/ArrayDeque" (131 : Nat) "java/util/ArrayDeque$DeqIterator") ∈ lw_all := lw_g (lw_at lw_m10 149 rfl) rfl
theorem q2412 : (Jvm.Cond.methodLink "java/util/ArrayDeque" (133 : Nat) ({ cls := "java/util/ArrayDeque$DeqIterator", name := "<init>", desc := "(Ljava/util/ArrayDeque;)V" } : Jvm.MethodName)) ∈ lw_all := lw_g (lw_at lw_m10 151 rfl) rfl
theorem q3401 : (Jvm.Cond.selects "java/util/ArrayDeque" ({ cls := "java/util/AbstractCollection", name := "size", desc := "()I" } : Jvm.MethodName) ({ cls := "java/util/ArrayDeque", name := "size", desc := "()I" } : Jvm.MethodName)) ∈ lw_all := lw_g (lw_at lw_m14 180 rfl) rfl
theorem q3423 : (Jvm.Cond.castable "java/util/ArrayDeque" "java/lang/Object") ∈ lw_tbl := lw_at lw_m14 202 rfl
theorem in_J7 : ∀ w ∈ wsJ70, w ∈ lw_all := lw_in wsJ70 [319, 321, 323] (by decide +kernel) (by decide +kernel)

/-! java/util/AbstractMap -/
set_option maxRecDepth 100000
def RJ8 : String := "java/util/AbstractMap"
abbrev cJ8_init : ByteArray := prog_58_method_1_code
def yJ8_init : MethodName := ⟨RJ8, "<init>", "()V"⟩
theorem dJ8_init_0 : decode cJ8_init 0 = .ok (.aload_n 0, 1) := by decide +kernel
theorem dJ8_init_1 : decode cJ8_init 1 = .ok (.invokespecial 1, 3) := by decide +kernel
theorem dJ8_init_4 : decode cJ8_init 4 = .ok (.return_, 1) := by decide +kernel
theorem q116 : (Jvm.Cond.initialized "java/util/AbstractMap") ∈ lw_all := lw_g (lw_at lw_m1 15 rfl) rfl
theorem q339 : (Jvm.Cond.instanceMethod ({ cls := "java/util/AbstractMap", name := "<init>", desc := "()V" } : Jvm.MethodName)) ∈ lw_all := lw_g (lw_at lw_m1 238 rfl) rfl
theorem q340 : (Jvm.Cond.code ({ cls := "java/util/AbstractMap", name := "<init>", desc := "()V" } : Jvm.MethodName) prog_58_method_1_code (1 : Nat) (Option.none : Option Jvm.ClassFile.FieldType)) ∈ lw_all := lw_g (lw_at lw_m1 239 rfl) rfl
theorem q341 : (Jvm.Cond.methodLink "java/util/AbstractMap" (1 : Nat) ({ cls := "java/lang/Object", name := "<init>", desc := "()V" } : Jvm.MethodName)) ∈ lw_all := lw_g (lw_at lw_m2 0 rfl) rfl
theorem q363 : (Jvm.Cond.soleField "java/util/AbstractMap" "keySet") ∈ lw_all := lw_g (lw_at lw_m2 22 rfl) rfl
theorem q365 : (Jvm.Cond.soleField "java/util/AbstractMap" "values") ∈ lw_all := lw_g (lw_at lw_m2 24 rfl) rfl

/-! java/util/TreeMap -/
set_option maxRecDepth 100000
def RJ9 : String := "java/util/TreeMap"
def TJ9 : u_T := fun k => match k with
  | 0 => ("java/util/AbstractMap", "keySet", "Ljava/util/Set;", false)
  | 1 => ("java/util/AbstractMap", "values", "Ljava/util/Collection;", false)
  | 2 => ("java/util/TreeMap", "comparator", "Ljava/util/Comparator;", true)
  | 3 => ("java/util/TreeMap", "root", "Ljava/util/TreeMap$Entry;", false)
  | 4 => ("java/util/TreeMap", "size", "I", false)
  | 5 => ("java/util/TreeMap", "modCount", "I", false)
  | 6 => ("java/util/TreeMap", "entrySet", "Ljava/util/TreeMap$EntrySet;", false)
  | 7 => ("java/util/TreeMap", "navigableKeySet", "Ljava/util/TreeMap$KeySet;", false)
  | _ => ("java/util/TreeMap", "descendingMap", "Ljava/util/NavigableMap;", false)
def tyJ9 : Nat → FieldType := fun k => match k with
  | 0 => .object "java/util/Set"
  | 1 => .object "java/util/Collection"
  | 2 => .object "java/util/Comparator"
  | 3 => .object "java/util/TreeMap$Entry"
  | 4 => .int
  | 5 => .int
  | 6 => .object "java/util/TreeMap$EntrySet"
  | 7 => .object "java/util/TreeMap$KeySet"
  | _ => .object "java/util/NavigableMap"
abbrev wsJ90 : List Cond := u_ws RJ9 TJ9 9
theorem nmJ9 : ∀ a, a < 9 → ∀ b, b < 9 → a ≠ b → (TJ9 a).2.1 ≠ (TJ9 b).2.1 := by decide +kernel
theorem tyJ9_ok : ∀ k, k < 9 → parseFieldDescriptor (TJ9 k).2.2.1 = some (tyJ9 k) := by decide +kernel
abbrev cJ9_init : ByteArray := prog_94_method_2_code
def yJ9_init : MethodName := ⟨RJ9, "<init>", "(Ljava/util/Comparator;)V"⟩
def dkwJ9_init_0 : List UInt8 := [42, 183, 0, 1, 42, 3, 181, 0, 7, 42, 3, 181, 0, 13, 42, 43, 181, 0, 16, 177]
abbrev dktJ9_init_0 : List UInt8 := dkwJ9_init_0 ++ []
theorem dksJ9_init_0 : cJ9_init.data.toList.drop 0 = dktJ9_init_0 := by decide +kernel
theorem dJ9_init_0 : decode cJ9_init 0 = .ok (.aload_n 0, 1) := dk_42 (dk_at dksJ9_init_0 0 rfl rfl)
theorem dJ9_init_1 : decode cJ9_init 1 = .ok (.invokespecial 1, 3) := dk_183 0 1 (dk_at dksJ9_init_0 1 rfl rfl)
theorem dJ9_init_4 : decode cJ9_init 4 = .ok (.aload_n 0, 1) := dk_42 (dk_at dksJ9_init_0 4 rfl rfl)
theorem dJ9_init_5 : decode cJ9_init 5 = .ok (.iconst 0, 1) := dk_3 (dk_at dksJ9_init_0 5 rfl rfl)
theorem dJ9_init_6 : decode cJ9_init 6 = .ok (.putfield 7, 3) := dk_181 0 7 (dk_at dksJ9_init_0 6 rfl rfl)
theorem dJ9_init_9 : decode cJ9_init 9 = .ok (.aload_n 0, 1) := dk_42 (dk_at dksJ9_init_0 9 rfl rfl)
theorem dJ9_init_10 : decode cJ9_init 10 = .ok (.iconst 0, 1) := dk_3 (dk_at dksJ9_init_0 10 rfl rfl)
theorem dJ9_init_11 : decode cJ9_init 11 = .ok (.putfield 13, 3) := dk_181 0 13 (dk_at dksJ9_init_0 11 rfl rfl)
theorem dJ9_init_14 : decode cJ9_init 14 = .ok (.aload_n 0, 1) := dk_42 (dk_at dksJ9_init_0 14 rfl rfl)
theorem dJ9_init_15 : decode cJ9_init 15 = .ok (.aload_n 1, 1) := dk_43 (dk_at dksJ9_init_0 15 rfl rfl)
theorem dJ9_init_16 : decode cJ9_init 16 = .ok (.putfield 16, 3) := dk_181 0 16 (dk_at dksJ9_init_0 16 rfl rfl)
theorem dJ9_init_19 : decode cJ9_init 19 = .ok (.return_, 1) := dk_177 (dk_at dksJ9_init_0 19 rfl rfl)
abbrev cJ9_size : ByteArray := prog_94_method_5_code
def yJ9_size : MethodName := ⟨RJ9, "size", "()I"⟩
theorem dJ9_size_0 : decode cJ9_size 0 = .ok (.aload_n 0, 1) := by decide +kernel
theorem dJ9_size_1 : decode cJ9_size 1 = .ok (.getfield 7, 3) := by decide +kernel
theorem dJ9_size_4 : decode cJ9_size 4 = .ok (.ireturn, 1) := by decide +kernel
abbrev cJ9_containsKey : ByteArray := prog_94_method_6_code
def yJ9_containsKey : MethodName := ⟨RJ9, "containsKey", "(Ljava/lang/Object;)Z"⟩
def dkwJ9_containsKey_0 : List UInt8 := [42, 43, 182, 0, 50, 198, 0, 7, 4, 167, 0, 4, 3, 172]
abbrev dktJ9_containsKey_0 : List UInt8 := dkwJ9_containsKey_0 ++ []
theorem dksJ9_containsKey_0 : cJ9_containsKey.data.toList.drop 0 = dktJ9_containsKey_0 := by decide +kernel
theorem dJ9_containsKey_0 : decode cJ9_containsKey 0 = .ok (.aload_n 0, 1) := dk_42 (dk_at dksJ9_containsKey_0 0 rfl rfl)
theorem dJ9_containsKey_1 : decode cJ9_containsKey 1 = .ok (.aload_n 1, 1) := dk_43 (dk_at dksJ9_containsKey_0 1 rfl rfl)
theorem dJ9_containsKey_2 : decode cJ9_containsKey 2 = .ok (.invokevirtual 50, 3) := dk_182 0 50 (dk_at dksJ9_containsKey_0 2 rfl rfl)
theorem dJ9_containsKey_5 : decode cJ9_containsKey 5 = .ok (.ifnull 7, 3) := dk_198 0 7 (dk_at dksJ9_containsKey_0 5 rfl rfl)
theorem dJ9_containsKey_8 : decode cJ9_containsKey 8 = .ok (.iconst 1, 1) := dk_4 (dk_at dksJ9_containsKey_0 8 rfl rfl)
theorem dJ9_containsKey_9 : decode cJ9_containsKey 9 = .ok (.goto 4, 3) := dk_167 0 4 (dk_at dksJ9_containsKey_0 9 rfl rfl)
theorem dJ9_containsKey_12 : decode cJ9_containsKey 12 = .ok (.iconst 0, 1) := dk_3 (dk_at dksJ9_containsKey_0 12 rfl rfl)
theorem dJ9_containsKey_13 : decode cJ9_containsKey 13 = .ok (.ireturn, 1) := dk_172 (dk_at dksJ9_containsKey_0 13 rfl rfl)
abbrev cJ9_getEntry : ByteArray := prog_94_method_15_code
def yJ9_getEntry : MethodName := ⟨RJ9, "getEntry", "(Ljava/lang/Object;)Ljava/util/TreeMap$Entry;"⟩
def dkwJ9_getEntry_3 : List UInt8 := [45, 176, 167, 255, 212, 1, 176]
abbrev dktJ9_getEntry_3 : List UInt8 := dkwJ9_getEntry_3 ++ []
def dkwJ9_getEntry_2 : List UInt8 := [156, 0, 11, 45, 180, 0, 111, 78, 167, 0, 18, 21, 4, 158, 0, 11, 45, 180, 0, 114, 78, 167, 0, 5]
abbrev dktJ9_getEntry_2 : List UInt8 := dkwJ9_getEntry_2 ++ dktJ9_getEntry_3
def dkwJ9_getEntry_1 : List UInt8 := [180, 0, 101, 78, 45, 198, 0, 46, 44, 45, 180, 0, 105, 185, 0, 107, 2, 0, 54, 4, 21, 4]
abbrev dktJ9_getEntry_1 : List UInt8 := dkwJ9_getEntry_1 ++ dktJ9_getEntry_2
def dkwJ9_getEntry_0 : List UInt8 := [42, 180, 0, 16, 198, 0, 9, 42, 43, 182, 0, 92, 176, 43, 184, 0, 95, 87, 43, 192, 0, 99, 77, 42]
abbrev dktJ9_getEntry_0 : List UInt8 := dkwJ9_getEntry_0 ++ dktJ9_getEntry_1
theorem dksJ9_getEntry_0 : cJ9_getEntry.data.toList.drop 0 = dktJ9_getEntry_0 := by decide +kernel
theorem dksJ9_getEntry_1 : cJ9_getEntry.data.toList.drop 24 = dktJ9_getEntry_1 := dk_seg dksJ9_getEntry_0 24 rfl rfl
theorem dksJ9_getEntry_2 : cJ9_getEntry.data.toList.drop 46 = dktJ9_getEntry_2 := dk_seg dksJ9_getEntry_1 22 rfl rfl
theorem dksJ9_getEntry_3 : cJ9_getEntry.data.toList.drop 70 = dktJ9_getEntry_3 := dk_seg dksJ9_getEntry_2 24 rfl rfl
theorem dJ9_getEntry_0 : decode cJ9_getEntry 0 = .ok (.aload_n 0, 1) := dk_42 (dk_at dksJ9_getEntry_0 0 rfl rfl)
theorem dJ9_getEntry_1 : decode cJ9_getEntry 1 = .ok (.getfield 16, 3) := dk_180 0 16 (dk_at dksJ9_getEntry_0 1 rfl rfl)
theorem dJ9_getEntry_4 : decode cJ9_getEntry 4 = .ok (.ifnull 9, 3) := dk_198 0 9 (dk_at dksJ9_getEntry_0 4 rfl rfl)
theorem dJ9_getEntry_7 : decode cJ9_getEntry 7 = .ok (.aload_n 0, 1) := dk_42 (dk_at dksJ9_getEntry_0 7 rfl rfl)
theorem dJ9_getEntry_8 : decode cJ9_getEntry 8 = .ok (.aload_n 1, 1) := dk_43 (dk_at dksJ9_getEntry_0 8 rfl rfl)
theorem dJ9_getEntry_9 : decode cJ9_getEntry 9 = .ok (.invokevirtual 92, 3) := dk_182 0 92 (dk_at dksJ9_getEntry_0 9 rfl rfl)
theorem dJ9_getEntry_12 : decode cJ9_getEntry 12 = .ok (.areturn, 1) := dk_176 (dk_at dksJ9_getEntry_0 12 rfl rfl)
theorem dJ9_getEntry_13 : decode cJ9_getEntry 13 = .ok (.aload_n 1, 1) := dk_43 (dk_at dksJ9_getEntry_0 13 rfl rfl)
theorem dJ9_getEntry_14 : decode cJ9_getEntry 14 = .ok (.invokestatic 95, 3) := dk_184 0 95 (dk_at dksJ9_getEntry_0 14 rfl rfl)
theorem dJ9_getEntry_17 : decode cJ9_getEntry 17 = .ok (.pop, 1) := dk_87 (dk_at dksJ9_getEntry_0 17 rfl rfl)
theorem dJ9_getEntry_18 : decode cJ9_getEntry 18 = .ok (.aload_n 1, 1) := dk_43 (dk_at dksJ9_getEntry_0 18 rfl rfl)
theorem dJ9_getEntry_19 : decode cJ9_getEntry 19 = .ok (.checkcast 99, 3) := dk_192 0 99 (dk_at dksJ9_getEntry_0 19 rfl rfl)
theorem dJ9_getEntry_22 : decode cJ9_getEntry 22 = .ok (.astore_n 2, 1) := dk_77 (dk_at dksJ9_getEntry_0 22 rfl rfl)
theorem dJ9_getEntry_23 : decode cJ9_getEntry 23 = .ok (.aload_n 0, 1) := dk_42 (dk_at dksJ9_getEntry_0 23 rfl rfl)
theorem dJ9_getEntry_24 : decode cJ9_getEntry 24 = .ok (.getfield 101, 3) := dk_180 0 101 (dk_at dksJ9_getEntry_1 0 rfl rfl)
theorem dJ9_getEntry_27 : decode cJ9_getEntry 27 = .ok (.astore_n 3, 1) := dk_78 (dk_at dksJ9_getEntry_1 3 rfl rfl)
theorem dJ9_getEntry_28 : decode cJ9_getEntry 28 = .ok (.aload_n 3, 1) := dk_45 (dk_at dksJ9_getEntry_1 4 rfl rfl)
theorem dJ9_getEntry_29 : decode cJ9_getEntry 29 = .ok (.ifnull 46, 3) := dk_198 0 46 (dk_at dksJ9_getEntry_1 5 rfl rfl)
theorem dJ9_getEntry_32 : decode cJ9_getEntry 32 = .ok (.aload_n 2, 1) := dk_44 (dk_at dksJ9_getEntry_1 8 rfl rfl)
theorem dJ9_getEntry_33 : decode cJ9_getEntry 33 = .ok (.aload_n 3, 1) := dk_45 (dk_at dksJ9_getEntry_1 9 rfl rfl)
theorem dJ9_getEntry_34 : decode cJ9_getEntry 34 = .ok (.getfield 105, 3) := dk_180 0 105 (dk_at dksJ9_getEntry_1 10 rfl rfl)
theorem dJ9_getEntry_37 : decode cJ9_getEntry 37 = .ok (.invokeinterface 107 2, 5) := by decide +kernel
theorem dJ9_getEntry_42 : decode cJ9_getEntry 42 = .ok (.istore 4, 2) := dk_54 4 (dk_at dksJ9_getEntry_1 18 rfl rfl)
theorem dJ9_getEntry_44 : decode cJ9_getEntry 44 = .ok (.iload 4, 2) := dk_21 4 (dk_at dksJ9_getEntry_1 20 rfl rfl)
theorem dJ9_getEntry_46 : decode cJ9_getEntry 46 = .ok (.ifCond .ge 11, 3) := dk_156 0 11 (dk_at dksJ9_getEntry_2 0 rfl rfl)
theorem dJ9_getEntry_49 : decode cJ9_getEntry 49 = .ok (.aload_n 3, 1) := dk_45 (dk_at dksJ9_getEntry_2 3 rfl rfl)
theorem dJ9_getEntry_50 : decode cJ9_getEntry 50 = .ok (.getfield 111, 3) := dk_180 0 111 (dk_at dksJ9_getEntry_2 4 rfl rfl)
theorem dJ9_getEntry_53 : decode cJ9_getEntry 53 = .ok (.astore_n 3, 1) := dk_78 (dk_at dksJ9_getEntry_2 7 rfl rfl)
theorem dJ9_getEntry_54 : decode cJ9_getEntry 54 = .ok (.goto 18, 3) := dk_167 0 18 (dk_at dksJ9_getEntry_2 8 rfl rfl)
theorem dJ9_getEntry_57 : decode cJ9_getEntry 57 = .ok (.iload 4, 2) := dk_21 4 (dk_at dksJ9_getEntry_2 11 rfl rfl)
theorem dJ9_getEntry_59 : decode cJ9_getEntry 59 = .ok (.ifCond .le 11, 3) := dk_158 0 11 (dk_at dksJ9_getEntry_2 13 rfl rfl)
theorem dJ9_getEntry_62 : decode cJ9_getEntry 62 = .ok (.aload_n 3, 1) := dk_45 (dk_at dksJ9_getEntry_2 16 rfl rfl)
theorem dJ9_getEntry_63 : decode cJ9_getEntry 63 = .ok (.getfield 114, 3) := dk_180 0 114 (dk_at dksJ9_getEntry_2 17 rfl rfl)
theorem dJ9_getEntry_66 : decode cJ9_getEntry 66 = .ok (.astore_n 3, 1) := dk_78 (dk_at dksJ9_getEntry_2 20 rfl rfl)
theorem dJ9_getEntry_67 : decode cJ9_getEntry 67 = .ok (.goto 5, 3) := dk_167 0 5 (dk_at dksJ9_getEntry_2 21 rfl rfl)
theorem dJ9_getEntry_70 : decode cJ9_getEntry 70 = .ok (.aload_n 3, 1) := dk_45 (dk_at dksJ9_getEntry_3 0 rfl rfl)
theorem dJ9_getEntry_71 : decode cJ9_getEntry 71 = .ok (.areturn, 1) := dk_176 (dk_at dksJ9_getEntry_3 1 rfl rfl)
theorem dJ9_getEntry_72 : decode cJ9_getEntry 72 = .ok (.goto (-44), 3) := dk_167 255 212 (dk_at dksJ9_getEntry_3 2 rfl rfl)
theorem dJ9_getEntry_75 : decode cJ9_getEntry 75 = .ok (.aconst_null, 1) := dk_1 (dk_at dksJ9_getEntry_3 5 rfl rfl)
theorem dJ9_getEntry_76 : decode cJ9_getEntry 76 = .ok (.areturn, 1) := dk_176 (dk_at dksJ9_getEntry_3 6 rfl rfl)
abbrev cJ9_getEntryUsingComparator : ByteArray := prog_94_method_16_code
def yJ9_getEntryUsingComparator : MethodName := ⟨RJ9, "getEntryUsingComparator", "(Ljava/lang/Object;)Ljava/util/TreeMap$Entry;"⟩
def dkwJ9_getEntryUsingComparator_3 : List UInt8 := [1, 176]
abbrev dktJ9_getEntryUsingComparator_3 : List UInt8 := dkwJ9_getEntryUsingComparator_3 ++ []
def dkwJ9_getEntryUsingComparator_2 : List UInt8 := [167, 0, 21, 21, 5, 158, 0, 13, 25, 4, 180, 0, 114, 58, 4, 167, 0, 6, 25, 4, 176, 167, 255, 204]
abbrev dktJ9_getEntryUsingComparator_2 : List UInt8 := dkwJ9_getEntryUsingComparator_2 ++ dktJ9_getEntryUsingComparator_3
def dkwJ9_getEntryUsingComparator_1 : List UInt8 := [25, 4, 180, 0, 105, 185, 0, 117, 3, 0, 54, 5, 21, 5, 156, 0, 13, 25, 4, 180, 0, 111, 58, 4]
abbrev dktJ9_getEntryUsingComparator_1 : List UInt8 := dkwJ9_getEntryUsingComparator_1 ++ dktJ9_getEntryUsingComparator_2
def dkwJ9_getEntryUsingComparator_0 : List UInt8 := [43, 77, 42, 180, 0, 16, 78, 45, 198, 0, 64, 42, 180, 0, 101, 58, 4, 25, 4, 198, 0, 53, 45, 44]
abbrev dktJ9_getEntryUsingComparator_0 : List UInt8 := dkwJ9_getEntryUsingComparator_0 ++ dktJ9_getEntryUsingComparator_1
theorem dksJ9_getEntryUsingComparator_0 : cJ9_getEntryUsingComparator.data.toList.drop 0 = dktJ9_getEntryUsingComparator_0 := by decide +kernel
theorem dksJ9_getEntryUsingComparator_1 : cJ9_getEntryUsingComparator.data.toList.drop 24 = dktJ9_getEntryUsingComparator_1 := dk_seg dksJ9_getEntryUsingComparator_0 24 rfl rfl
theorem dksJ9_getEntryUsingComparator_2 : cJ9_getEntryUsingComparator.data.toList.drop 48 = dktJ9_getEntryUsingComparator_2 := dk_seg dksJ9_getEntryUsingComparator_1 24 rfl rfl
theorem dksJ9_getEntryUsingComparator_3 : cJ9_getEntryUsingComparator.data.toList.drop 72 = dktJ9_getEntryUsingComparator_3 := dk_seg dksJ9_getEntryUsingComparator_2 24 rfl rfl
theorem dJ9_getEntryUsingComparator_0 : decode cJ9_getEntryUsingComparator 0 = .ok (.aload_n 1, 1) := dk_43 (dk_at dksJ9_getEntryUsingComparator_0 0 rfl rfl)
theorem dJ9_getEntryUsingComparator_1 : decode cJ9_getEntryUsingComparator 1 = .ok (.astore_n 2, 1) := dk_77 (dk_at dksJ9_getEntryUsingComparator_0 1 rfl rfl)
theorem dJ9_getEntryUsingComparator_2 : decode cJ9_getEntryUsingComparator 2 = .ok (.aload_n 0, 1) := dk_42 (dk_at dksJ9_getEntryUsingComparator_0 2 rfl rfl)
theorem dJ9_getEntryUsingComparator_3 : decode cJ9_getEntryUsingComparator 3 = .ok (.getfield 16, 3) := dk_180 0 16 (dk_at dksJ9_getEntryUsingComparator_0 3 rfl rfl)
theorem dJ9_getEntryUsingComparator_6 : decode cJ9_getEntryUsingComparator 6 = .ok (.astore_n 3, 1) := dk_78 (dk_at dksJ9_getEntryUsingComparator_0 6 rfl rfl)
theorem dJ9_getEntryUsingComparator_7 : decode cJ9_getEntryUsingComparator 7 = .ok (.aload_n 3, 1) := dk_45 (dk_at dksJ9_getEntryUsingComparator_0 7 rfl rfl)
theorem dJ9_getEntryUsingComparator_8 : decode cJ9_getEntryUsingComparator 8 = .ok (.ifnull 64, 3) := dk_198 0 64 (dk_at dksJ9_getEntryUsingComparator_0 8 rfl rfl)
theorem dJ9_getEntryUsingComparator_11 : decode cJ9_getEntryUsingComparator 11 = .ok (.aload_n 0, 1) := dk_42 (dk_at dksJ9_getEntryUsingComparator_0 11 rfl rfl)
theorem dJ9_getEntryUsingComparator_12 : decode cJ9_getEntryUsingComparator 12 = .ok (.getfield 101, 3) := dk_180 0 101 (dk_at dksJ9_getEntryUsingComparator_0 12 rfl rfl)
theorem dJ9_getEntryUsingComparator_15 : decode cJ9_getEntryUsingComparator 15 = .ok (.astore 4, 2) := dk_58 4 (dk_at dksJ9_getEntryUsingComparator_0 15 rfl rfl)
theorem dJ9_getEntryUsingComparator_17 : decode cJ9_getEntryUsingComparator 17 = .ok (.aload 4, 2) := dk_25 4 (dk_at dksJ9_getEntryUsingComparator_0 17 rfl rfl)
theorem dJ9_getEntryUsingComparator_19 : decode cJ9_getEntryUsingComparator 19 = .ok (.ifnull 53, 3) := dk_198 0 53 (dk_at dksJ9_getEntryUsingComparator_0 19 rfl rfl)
theorem dJ9_getEntryUsingComparator_22 : decode cJ9_getEntryUsingComparator 22 = .ok (.aload_n 3, 1) := dk_45 (dk_at dksJ9_getEntryUsingComparator_0 22 rfl rfl)
theorem dJ9_getEntryUsingComparator_23 : decode cJ9_getEntryUsingComparator 23 = .ok (.aload_n 2, 1) := dk_44 (dk_at dksJ9_getEntryUsingComparator_0 23 rfl rfl)
theorem dJ9_getEntryUsingComparator_24 : decode cJ9_getEntryUsingComparator 24 = .ok (.aload 4, 2) := dk_25 4 (dk_at dksJ9_getEntryUsingComparator_1 0 rfl rfl)
theorem dJ9_getEntryUsingComparator_26 : decode cJ9_getEntryUsingComparator 26 = .ok (.getfield 105, 3) := dk_180 0 105 (dk_at dksJ9_getEntryUsingComparator_1 2 rfl rfl)
theorem dJ9_getEntryUsingComparator_29 : decode cJ9_getEntryUsingComparator 29 = .ok (.invokeinterface 117 3, 5) := by decide +kernel
theorem dJ9_getEntryUsingComparator_34 : decode cJ9_getEntryUsingComparator 34 = .ok (.istore 5, 2) := dk_54 5 (dk_at dksJ9_getEntryUsingComparator_1 10 rfl rfl)
theorem dJ9_getEntryUsingComparator_36 : decode cJ9_getEntryUsingComparator 36 = .ok (.iload 5, 2) := dk_21 5 (dk_at dksJ9_getEntryUsingComparator_1 12 rfl rfl)
theorem dJ9_getEntryUsingComparator_38 : decode cJ9_getEntryUsingComparator 38 = .ok (.ifCond .ge 13, 3) := dk_156 0 13 (dk_at dksJ9_getEntryUsingComparator_1 14 rfl rfl)
theorem dJ9_getEntryUsingComparator_41 : decode cJ9_getEntryUsingComparator 41 = .ok (.aload 4, 2) := dk_25 4 (dk_at dksJ9_getEntryUsingComparator_1 17 rfl rfl)
theorem dJ9_getEntryUsingComparator_43 : decode cJ9_getEntryUsingComparator 43 = .ok (.getfield 111, 3) := dk_180 0 111 (dk_at dksJ9_getEntryUsingComparator_1 19 rfl rfl)
theorem dJ9_getEntryUsingComparator_46 : decode cJ9_getEntryUsingComparator 46 = .ok (.astore 4, 2) := dk_58 4 (dk_at dksJ9_getEntryUsingComparator_1 22 rfl rfl)
theorem dJ9_getEntryUsingComparator_48 : decode cJ9_getEntryUsingComparator 48 = .ok (.goto 21, 3) := dk_167 0 21 (dk_at dksJ9_getEntryUsingComparator_2 0 rfl rfl)
theorem dJ9_getEntryUsingComparator_51 : decode cJ9_getEntryUsingComparator 51 = .ok (.iload 5, 2) := dk_21 5 (dk_at dksJ9_getEntryUsingComparator_2 3 rfl rfl)
theorem dJ9_getEntryUsingComparator_53 : decode cJ9_getEntryUsingComparator 53 = .ok (.ifCond .le 13, 3) := dk_158 0 13 (dk_at dksJ9_getEntryUsingComparator_2 5 rfl rfl)
theorem dJ9_getEntryUsingComparator_56 : decode cJ9_getEntryUsingComparator 56 = .ok (.aload 4, 2) := dk_25 4 (dk_at dksJ9_getEntryUsingComparator_2 8 rfl rfl)
theorem dJ9_getEntryUsingComparator_58 : decode cJ9_getEntryUsingComparator 58 = .ok (.getfield 114, 3) := dk_180 0 114 (dk_at dksJ9_getEntryUsingComparator_2 10 rfl rfl)
theorem dJ9_getEntryUsingComparator_61 : decode cJ9_getEntryUsingComparator 61 = .ok (.astore 4, 2) := dk_58 4 (dk_at dksJ9_getEntryUsingComparator_2 13 rfl rfl)
theorem dJ9_getEntryUsingComparator_63 : decode cJ9_getEntryUsingComparator 63 = .ok (.goto 6, 3) := dk_167 0 6 (dk_at dksJ9_getEntryUsingComparator_2 15 rfl rfl)
theorem dJ9_getEntryUsingComparator_66 : decode cJ9_getEntryUsingComparator 66 = .ok (.aload 4, 2) := dk_25 4 (dk_at dksJ9_getEntryUsingComparator_2 18 rfl rfl)
theorem dJ9_getEntryUsingComparator_68 : decode cJ9_getEntryUsingComparator 68 = .ok (.areturn, 1) := dk_176 (dk_at dksJ9_getEntryUsingComparator_2 20 rfl rfl)
theorem dJ9_getEntryUsingComparator_69 : decode cJ9_getEntryUsingComparator 69 = .ok (.goto (-52), 3) := dk_167 255 204 (dk_at dksJ9_getEntryUsingComparator_2 21 rfl rfl)
theorem dJ9_getEntryUsingComparator_72 : decode cJ9_getEntryUsingComparator 72 = .ok (.aconst_null, 1) := dk_1 (dk_at dksJ9_getEntryUsingComparator_3 0 rfl rfl)
theorem dJ9_getEntryUsingComparator_73 : decode cJ9_getEntryUsingComparator 73 = .ok (.areturn, 1) := dk_176 (dk_at dksJ9_getEntryUsingComparator_3 1 rfl rfl)
abbrev cJ9_put : ByteArray := prog_94_method_21_code
def yJ9_put : MethodName := ⟨RJ9, "put", "(Ljava/lang/Object;Ljava/lang/Object;)Ljava/lang/Object;"⟩
def dkwJ9_put_0 : List UInt8 := [42, 43, 44, 4, 182, 0, 127, 176]
abbrev dktJ9_put_0 : List UInt8 := dkwJ9_put_0 ++ []
theorem dksJ9_put_0 : cJ9_put.data.toList.drop 0 = dktJ9_put_0 := by decide +kernel
theorem dJ9_put_0 : decode cJ9_put 0 = .ok (.aload_n 0, 1) := dk_42 (dk_at dksJ9_put_0 0 rfl rfl)
theorem dJ9_put_1 : decode cJ9_put 1 = .ok (.aload_n 1, 1) := dk_43 (dk_at dksJ9_put_0 1 rfl rfl)
theorem dJ9_put_2 : decode cJ9_put 2 = .ok (.aload_n 2, 1) := dk_44 (dk_at dksJ9_put_0 2 rfl rfl)
theorem dJ9_put_3 : decode cJ9_put 3 = .ok (.iconst 1, 1) := dk_4 (dk_at dksJ9_put_0 3 rfl rfl)
theorem dJ9_put_4 : decode cJ9_put 4 = .ok (.invokevirtual 127, 3) := dk_182 0 127 (dk_at dksJ9_put_0 4 rfl rfl)
theorem dJ9_put_7 : decode cJ9_put 7 = .ok (.areturn, 1) := dk_176 (dk_at dksJ9_put_0 7 rfl rfl)
abbrev cJ9_put_2 : ByteArray := prog_94_method_31_code
def yJ9_put_2 : MethodName := ⟨RJ9, "put", "(Ljava/lang/Object;Ljava/lang/Object;Z)Ljava/lang/Object;"⟩
def dkwJ9_put_2_9 : List UInt8 := [4, 167, 0, 4, 3, 182, 0, 139, 1, 176]
abbrev dktJ9_put_2_9 : List UInt8 := dkwJ9_put_2_9 ++ []
def dkwJ9_put_2_8 : List UInt8 := [25, 4, 44, 181, 0, 58, 25, 9, 176, 25, 4, 199, 255, 181, 42, 43, 44, 25, 6, 21, 5, 156, 0, 7]
abbrev dktJ9_put_2_8 : List UInt8 := dkwJ9_put_2_8 ++ dktJ9_put_2_9
def dkwJ9_put_2_7 : List UInt8 := [180, 0, 114, 58, 4, 167, 0, 28, 25, 4, 180, 0, 58, 58, 9, 29, 154, 0, 8, 25, 9, 199, 0, 9]
abbrev dktJ9_put_2_7 : List UInt8 := dkwJ9_put_2_7 ++ dktJ9_put_2_8
def dkwJ9_put_2_6 : List UInt8 := [21, 5, 156, 0, 13, 25, 4, 180, 0, 111, 58, 4, 167, 0, 43, 21, 5, 158, 0, 13, 25, 4]
abbrev dktJ9_put_2_6 : List UInt8 := dkwJ9_put_2_6 ++ dktJ9_put_2_7
def dkwJ9_put_2_5 : List UInt8 := [192, 0, 99, 58, 8, 25, 4, 58, 6, 25, 8, 25, 4, 180, 0, 105, 185, 0, 107, 2, 0, 54, 5]
abbrev dktJ9_put_2_5 : List UInt8 := dkwJ9_put_2_5 ++ dktJ9_put_2_6
def dkwJ9_put_2_4 : List UInt8 := [25, 4, 44, 181, 0, 58, 25, 8, 176, 25, 4, 199, 255, 180, 167, 0, 92, 43, 184, 0, 95, 87, 43]
abbrev dktJ9_put_2_4 : List UInt8 := dkwJ9_put_2_4 ++ dktJ9_put_2_5
def dkwJ9_put_2_3 : List UInt8 := [180, 0, 114, 58, 4, 167, 0, 28, 25, 4, 180, 0, 58, 58, 8, 29, 154, 0, 8, 25, 8, 199, 0, 9]
abbrev dktJ9_put_2_3 : List UInt8 := dkwJ9_put_2_3 ++ dktJ9_put_2_4
def dkwJ9_put_2_2 : List UInt8 := [54, 5, 21, 5, 156, 0, 13, 25, 4, 180, 0, 111, 58, 4, 167, 0, 43, 21, 5, 158, 0, 13, 25, 4]
abbrev dktJ9_put_2_2 : List UInt8 := dkwJ9_put_2_2 ++ dktJ9_put_2_3
def dkwJ9_put_2_1 : List UInt8 := [58, 7, 25, 7, 198, 0, 85, 25, 4, 58, 6, 25, 7, 43, 25, 4, 180, 0, 105, 185, 0, 117, 3, 0]
abbrev dktJ9_put_2_1 : List UInt8 := dkwJ9_put_2_1 ++ dktJ9_put_2_2
def dkwJ9_put_2_0 : List UInt8 := [42, 180, 0, 101, 58, 4, 25, 4, 199, 0, 11, 42, 43, 44, 182, 0, 135, 1, 176, 42, 180, 0, 16]
abbrev dktJ9_put_2_0 : List UInt8 := dkwJ9_put_2_0 ++ dktJ9_put_2_1
theorem dksJ9_put_2_0 : cJ9_put_2.data.toList.drop 0 = dktJ9_put_2_0 := by decide +kernel
theorem dksJ9_put_2_1 : cJ9_put_2.data.toList.drop 23 = dktJ9_put_2_1 := dk_seg dksJ9_put_2_0 23 rfl rfl
theorem dksJ9_put_2_2 : cJ9_put_2.data.toList.drop 47 = dktJ9_put_2_2 := dk_seg dksJ9_put_2_1 24 rfl rfl
theorem dksJ9_put_2_3 : cJ9_put_2.data.toList.drop 71 = dktJ9_put_2_3 := dk_seg dksJ9_put_2_2 24 rfl rfl
theorem dksJ9_put_2_4 : cJ9_put_2.data.toList.drop 95 = dktJ9_put_2_4 := dk_seg dksJ9_put_2_3 24 rfl rfl
theorem dksJ9_put_2_5 : cJ9_put_2.data.toList.drop 118 = dktJ9_put_2_5 := dk_seg dksJ9_put_2_4 23 rfl rfl
theorem dksJ9_put_2_6 : cJ9_put_2.data.toList.drop 141 = dktJ9_put_2_6 := dk_seg dksJ9_put_2_5 23 rfl rfl
theorem dksJ9_put_2_7 : cJ9_put_2.data.toList.drop 163 = dktJ9_put_2_7 := dk_seg dksJ9_put_2_6 22 rfl rfl
theorem dksJ9_put_2_8 : cJ9_put_2.data.toList.drop 187 = dktJ9_put_2_8 := dk_seg dksJ9_put_2_7 24 rfl rfl
theorem dksJ9_put_2_9 : cJ9_put_2.data.toList.drop 211 = dktJ9_put_2_9 := dk_seg dksJ9_put_2_8 24 rfl rfl
theorem dJ9_put_2_0 : decode cJ9_put_2 0 = .ok (.aload_n 0, 1) := dk_42 (dk_at dksJ9_put_2_0 0 rfl rfl)
theorem dJ9_put_2_1 : decode cJ9_put_2 1 = .ok (.getfield 101, 3) := dk_180 0 101 (dk_at dksJ9_put_2_0 1 rfl rfl)
theorem dJ9_put_2_4 : decode cJ9_put_2 4 = .ok (.astore 4, 2) := dk_58 4 (dk_at dksJ9_put_2_0 4 rfl rfl)
theorem dJ9_put_2_6 : decode cJ9_put_2 6 = .ok (.aload 4, 2) := dk_25 4 (dk_at dksJ9_put_2_0 6 rfl rfl)
theorem dJ9_put_2_8 : decode cJ9_put_2 8 = .ok (.ifnonnull 11, 3) := dk_199 0 11 (dk_at dksJ9_put_2_0 8 rfl rfl)
theorem dJ9_put_2_11 : decode cJ9_put_2 11 = .ok (.aload_n 0, 1) := dk_42 (dk_at dksJ9_put_2_0 11 rfl rfl)
theorem dJ9_put_2_12 : decode cJ9_put_2 12 = .ok (.aload_n 1, 1) := dk_43 (dk_at dksJ9_put_2_0 12 rfl rfl)
theorem dJ9_put_2_13 : decode cJ9_put_2 13 = .ok (.aload_n 2, 1) := dk_44 (dk_at dksJ9_put_2_0 13 rfl rfl)
theorem dJ9_put_2_14 : decode cJ9_put_2 14 = .ok (.invokevirtual 135, 3) := dk_182 0 135 (dk_at dksJ9_put_2_0 14 rfl rfl)
theorem dJ9_put_2_17 : decode cJ9_put_2 17 = .ok (.aconst_null, 1) := dk_1 (dk_at dksJ9_put_2_0 17 rfl rfl)
theorem dJ9_put_2_18 : decode cJ9_put_2 18 = .ok (.areturn, 1) := dk_176 (dk_at dksJ9_put_2_0 18 rfl rfl)
theorem dJ9_put_2_19 : decode cJ9_put_2 19 = .ok (.aload_n 0, 1) := dk_42 (dk_at dksJ9_put_2_0 19 rfl rfl)
theorem dJ9_put_2_20 : decode cJ9_put_2 20 = .ok (.getfield 16, 3) := dk_180 0 16 (dk_at dksJ9_put_2_0 20 rfl rfl)
theorem dJ9_put_2_23 : decode cJ9_put_2 23 = .ok (.astore 7, 2) := dk_58 7 (dk_at dksJ9_put_2_1 0 rfl rfl)
theorem dJ9_put_2_25 : decode cJ9_put_2 25 = .ok (.aload 7, 2) := dk_25 7 (dk_at dksJ9_put_2_1 2 rfl rfl)
theorem dJ9_put_2_27 : decode cJ9_put_2 27 = .ok (.ifnull 85, 3) := dk_198 0 85 (dk_at dksJ9_put_2_1 4 rfl rfl)
theorem dJ9_put_2_30 : decode cJ9_put_2 30 = .ok (.aload 4, 2) := dk_25 4 (dk_at dksJ9_put_2_1 7 rfl rfl)
theorem dJ9_put_2_32 : decode cJ9_put_2 32 = .ok (.astore 6, 2) := dk_58 6 (dk_at dksJ9_put_2_1 9 rfl rfl)
theorem dJ9_put_2_34 : decode cJ9_put_2 34 = .ok (.aload 7, 2) := dk_25 7 (dk_at dksJ9_put_2_1 11 rfl rfl)
theorem dJ9_put_2_36 : decode cJ9_put_2 36 = .ok (.aload_n 1, 1) := dk_43 (dk_at dksJ9_put_2_1 13 rfl rfl)
theorem dJ9_put_2_37 : decode cJ9_put_2 37 = .ok (.aload 4, 2) := dk_25 4 (dk_at dksJ9_put_2_1 14 rfl rfl)
theorem dJ9_put_2_39 : decode cJ9_put_2 39 = .ok (.getfield 105, 3) := dk_180 0 105 (dk_at dksJ9_put_2_1 16 rfl rfl)
theorem dJ9_put_2_42 : decode cJ9_put_2 42 = .ok (.invokeinterface 117 3, 5) := by decide +kernel
theorem dJ9_put_2_47 : decode cJ9_put_2 47 = .ok (.istore 5, 2) := dk_54 5 (dk_at dksJ9_put_2_2 0 rfl rfl)
theorem dJ9_put_2_49 : decode cJ9_put_2 49 = .ok (.iload 5, 2) := dk_21 5 (dk_at dksJ9_put_2_2 2 rfl rfl)
theorem dJ9_put_2_51 : decode cJ9_put_2 51 = .ok (.ifCond .ge 13, 3) := dk_156 0 13 (dk_at dksJ9_put_2_2 4 rfl rfl)
theorem dJ9_put_2_54 : decode cJ9_put_2 54 = .ok (.aload 4, 2) := dk_25 4 (dk_at dksJ9_put_2_2 7 rfl rfl)
theorem dJ9_put_2_56 : decode cJ9_put_2 56 = .ok (.getfield 111, 3) := dk_180 0 111 (dk_at dksJ9_put_2_2 9 rfl rfl)
theorem dJ9_put_2_59 : decode cJ9_put_2 59 = .ok (.astore 4, 2) := dk_58 4 (dk_at dksJ9_put_2_2 12 rfl rfl)
theorem dJ9_put_2_61 : decode cJ9_put_2 61 = .ok (.goto 43, 3) := dk_167 0 43 (dk_at dksJ9_put_2_2 14 rfl rfl)
theorem dJ9_put_2_64 : decode cJ9_put_2 64 = .ok (.iload 5, 2) := dk_21 5 (dk_at dksJ9_put_2_2 17 rfl rfl)
theorem dJ9_put_2_66 : decode cJ9_put_2 66 = .ok (.ifCond .le 13, 3) := dk_158 0 13 (dk_at dksJ9_put_2_2 19 rfl rfl)
theorem dJ9_put_2_69 : decode cJ9_put_2 69 = .ok (.aload 4, 2) := dk_25 4 (dk_at dksJ9_put_2_2 22 rfl rfl)
theorem dJ9_put_2_71 : decode cJ9_put_2 71 = .ok (.getfield 114, 3) := dk_180 0 114 (dk_at dksJ9_put_2_3 0 rfl rfl)
theorem dJ9_put_2_74 : decode cJ9_put_2 74 = .ok (.astore 4, 2) := dk_58 4 (dk_at dksJ9_put_2_3 3 rfl rfl)
theorem dJ9_put_2_76 : decode cJ9_put_2 76 = .ok (.goto 28, 3) := dk_167 0 28 (dk_at dksJ9_put_2_3 5 rfl rfl)
theorem dJ9_put_2_79 : decode cJ9_put_2 79 = .ok (.aload 4, 2) := dk_25 4 (dk_at dksJ9_put_2_3 8 rfl rfl)
theorem dJ9_put_2_81 : decode cJ9_put_2 81 = .ok (.getfield 58, 3) := dk_180 0 58 (dk_at dksJ9_put_2_3 10 rfl rfl)
theorem dJ9_put_2_84 : decode cJ9_put_2 84 = .ok (.astore 8, 2) := dk_58 8 (dk_at dksJ9_put_2_3 13 rfl rfl)
theorem dJ9_put_2_86 : decode cJ9_put_2 86 = .ok (.iload_n 3, 1) := dk_29 (dk_at dksJ9_put_2_3 15 rfl rfl)
theorem dJ9_put_2_87 : decode cJ9_put_2 87 = .ok (.ifCond .ne 8, 3) := dk_154 0 8 (dk_at dksJ9_put_2_3 16 rfl rfl)
theorem dJ9_put_2_90 : decode cJ9_put_2 90 = .ok (.aload 8, 2) := dk_25 8 (dk_at dksJ9_put_2_3 19 rfl rfl)
theorem dJ9_put_2_92 : decode cJ9_put_2 92 = .ok (.ifnonnull 9, 3) := dk_199 0 9 (dk_at dksJ9_put_2_3 21 rfl rfl)
theorem dJ9_put_2_95 : decode cJ9_put_2 95 = .ok (.aload 4, 2) := dk_25 4 (dk_at dksJ9_put_2_4 0 rfl rfl)
theorem dJ9_put_2_97 : decode cJ9_put_2 97 = .ok (.aload_n 2, 1) := dk_44 (dk_at dksJ9_put_2_4 2 rfl rfl)
theorem dJ9_put_2_98 : decode cJ9_put_2 98 = .ok (.putfield 58, 3) := dk_181 0 58 (dk_at dksJ9_put_2_4 3 rfl rfl)
theorem dJ9_put_2_101 : decode cJ9_put_2 101 = .ok (.aload 8, 2) := dk_25 8 (dk_at dksJ9_put_2_4 6 rfl rfl)
theorem dJ9_put_2_103 : decode cJ9_put_2 103 = .ok (.areturn, 1) := dk_176 (dk_at dksJ9_put_2_4 8 rfl rfl)
theorem dJ9_put_2_104 : decode cJ9_put_2 104 = .ok (.aload 4, 2) := dk_25 4 (dk_at dksJ9_put_2_4 9 rfl rfl)
theorem dJ9_put_2_106 : decode cJ9_put_2 106 = .ok (.ifnonnull (-76), 3) := dk_199 255 180 (dk_at dksJ9_put_2_4 11 rfl rfl)
theorem dJ9_put_2_109 : decode cJ9_put_2 109 = .ok (.goto 92, 3) := dk_167 0 92 (dk_at dksJ9_put_2_4 14 rfl rfl)
theorem dJ9_put_2_112 : decode cJ9_put_2 112 = .ok (.aload_n 1, 1) := dk_43 (dk_at dksJ9_put_2_4 17 rfl rfl)
theorem dJ9_put_2_113 : decode cJ9_put_2 113 = .ok (.invokestatic 95, 3) := dk_184 0 95 (dk_at dksJ9_put_2_4 18 rfl rfl)
theorem dJ9_put_2_116 : decode cJ9_put_2 116 = .ok (.pop, 1) := dk_87 (dk_at dksJ9_put_2_4 21 rfl rfl)
theorem dJ9_put_2_117 : decode cJ9_put_2 117 = .ok (.aload_n 1, 1) := dk_43 (dk_at dksJ9_put_2_4 22 rfl rfl)
theorem dJ9_put_2_118 : decode cJ9_put_2 118 = .ok (.checkcast 99, 3) := dk_192 0 99 (dk_at dksJ9_put_2_5 0 rfl rfl)
theorem dJ9_put_2_121 : decode cJ9_put_2 121 = .ok (.astore 8, 2) := dk_58 8 (dk_at dksJ9_put_2_5 3 rfl rfl)
theorem dJ9_put_2_123 : decode cJ9_put_2 123 = .ok (.aload 4, 2) := dk_25 4 (dk_at dksJ9_put_2_5 5 rfl rfl)
theorem dJ9_put_2_125 : decode cJ9_put_2 125 = .ok (.astore 6, 2) := dk_58 6 (dk_at dksJ9_put_2_5 7 rfl rfl)
theorem dJ9_put_2_127 : decode cJ9_put_2 127 = .ok (.aload 8, 2) := dk_25 8 (dk_at dksJ9_put_2_5 9 rfl rfl)
theorem dJ9_put_2_129 : decode cJ9_put_2 129 = .ok (.aload 4, 2) := dk_25 4 (dk_at dksJ9_put_2_5 11 rfl rfl)
theorem dJ9_put_2_131 : decode cJ9_put_2 131 = .ok (.getfield 105, 3) := dk_180 0 105 (dk_at dksJ9_put_2_5 13 rfl rfl)
theorem dJ9_put_2_134 : decode cJ9_put_2 134 = .ok (.invokeinterface 107 2, 5) := by decide +kernel
theorem dJ9_put_2_139 : decode cJ9_put_2 139 = .ok (.istore 5, 2) := dk_54 5 (dk_at dksJ9_put_2_5 21 rfl rfl)
theorem dJ9_put_2_141 : decode cJ9_put_2 141 = .ok (.iload 5, 2) := dk_21 5 (dk_at dksJ9_put_2_6 0 rfl rfl)
theorem dJ9_put_2_143 : decode cJ9_put_2 143 = .ok (.ifCond .ge 13, 3) := dk_156 0 13 (dk_at dksJ9_put_2_6 2 rfl rfl)
theorem dJ9_put_2_146 : decode cJ9_put_2 146 = .ok (.aload 4, 2) := dk_25 4 (dk_at dksJ9_put_2_6 5 rfl rfl)
theorem dJ9_put_2_148 : decode cJ9_put_2 148 = .ok (.getfield 111, 3) := dk_180 0 111 (dk_at dksJ9_put_2_6 7 rfl rfl)
theorem dJ9_put_2_151 : decode cJ9_put_2 151 = .ok (.astore 4, 2) := dk_58 4 (dk_at dksJ9_put_2_6 10 rfl rfl)
theorem dJ9_put_2_153 : decode cJ9_put_2 153 = .ok (.goto 43, 3) := dk_167 0 43 (dk_at dksJ9_put_2_6 12 rfl rfl)
theorem dJ9_put_2_156 : decode cJ9_put_2 156 = .ok (.iload 5, 2) := dk_21 5 (dk_at dksJ9_put_2_6 15 rfl rfl)
theorem dJ9_put_2_158 : decode cJ9_put_2 158 = .ok (.ifCond .le 13, 3) := dk_158 0 13 (dk_at dksJ9_put_2_6 17 rfl rfl)
theorem dJ9_put_2_161 : decode cJ9_put_2 161 = .ok (.aload 4, 2) := dk_25 4 (dk_at dksJ9_put_2_6 20 rfl rfl)
theorem dJ9_put_2_163 : decode cJ9_put_2 163 = .ok (.getfield 114, 3) := dk_180 0 114 (dk_at dksJ9_put_2_7 0 rfl rfl)
theorem dJ9_put_2_166 : decode cJ9_put_2 166 = .ok (.astore 4, 2) := dk_58 4 (dk_at dksJ9_put_2_7 3 rfl rfl)
theorem dJ9_put_2_168 : decode cJ9_put_2 168 = .ok (.goto 28, 3) := dk_167 0 28 (dk_at dksJ9_put_2_7 5 rfl rfl)
theorem dJ9_put_2_171 : decode cJ9_put_2 171 = .ok (.aload 4, 2) := dk_25 4 (dk_at dksJ9_put_2_7 8 rfl rfl)
theorem dJ9_put_2_173 : decode cJ9_put_2 173 = .ok (.getfield 58, 3) := dk_180 0 58 (dk_at dksJ9_put_2_7 10 rfl rfl)
theorem dJ9_put_2_176 : decode cJ9_put_2 176 = .ok (.astore 9, 2) := dk_58 9 (dk_at dksJ9_put_2_7 13 rfl rfl)
theorem dJ9_put_2_178 : decode cJ9_put_2 178 = .ok (.iload_n 3, 1) := dk_29 (dk_at dksJ9_put_2_7 15 rfl rfl)
theorem dJ9_put_2_179 : decode cJ9_put_2 179 = .ok (.ifCond .ne 8, 3) := dk_154 0 8 (dk_at dksJ9_put_2_7 16 rfl rfl)
theorem dJ9_put_2_182 : decode cJ9_put_2 182 = .ok (.aload 9, 2) := dk_25 9 (dk_at dksJ9_put_2_7 19 rfl rfl)
theorem dJ9_put_2_184 : decode cJ9_put_2 184 = .ok (.ifnonnull 9, 3) := dk_199 0 9 (dk_at dksJ9_put_2_7 21 rfl rfl)
theorem dJ9_put_2_187 : decode cJ9_put_2 187 = .ok (.aload 4, 2) := dk_25 4 (dk_at dksJ9_put_2_8 0 rfl rfl)
theorem dJ9_put_2_189 : decode cJ9_put_2 189 = .ok (.aload_n 2, 1) := dk_44 (dk_at dksJ9_put_2_8 2 rfl rfl)
theorem dJ9_put_2_190 : decode cJ9_put_2 190 = .ok (.putfield 58, 3) := dk_181 0 58 (dk_at dksJ9_put_2_8 3 rfl rfl)
theorem dJ9_put_2_193 : decode cJ9_put_2 193 = .ok (.aload 9, 2) := dk_25 9 (dk_at dksJ9_put_2_8 6 rfl rfl)
theorem dJ9_put_2_195 : decode cJ9_put_2 195 = .ok (.areturn, 1) := dk_176 (dk_at dksJ9_put_2_8 8 rfl rfl)
theorem dJ9_put_2_196 : decode cJ9_put_2 196 = .ok (.aload 4, 2) := dk_25 4 (dk_at dksJ9_put_2_8 9 rfl rfl)
theorem dJ9_put_2_198 : decode cJ9_put_2 198 = .ok (.ifnonnull (-75), 3) := dk_199 255 181 (dk_at dksJ9_put_2_8 11 rfl rfl)
theorem dJ9_put_2_201 : decode cJ9_put_2 201 = .ok (.aload_n 0, 1) := dk_42 (dk_at dksJ9_put_2_8 14 rfl rfl)
theorem dJ9_put_2_202 : decode cJ9_put_2 202 = .ok (.aload_n 1, 1) := dk_43 (dk_at dksJ9_put_2_8 15 rfl rfl)
theorem dJ9_put_2_203 : decode cJ9_put_2 203 = .ok (.aload_n 2, 1) := dk_44 (dk_at dksJ9_put_2_8 16 rfl rfl)
theorem dJ9_put_2_204 : decode cJ9_put_2 204 = .ok (.aload 6, 2) := dk_25 6 (dk_at dksJ9_put_2_8 17 rfl rfl)
theorem dJ9_put_2_206 : decode cJ9_put_2 206 = .ok (.iload 5, 2) := dk_21 5 (dk_at dksJ9_put_2_8 19 rfl rfl)
theorem dJ9_put_2_208 : decode cJ9_put_2 208 = .ok (.ifCond .ge 7, 3) := dk_156 0 7 (dk_at dksJ9_put_2_8 21 rfl rfl)
theorem dJ9_put_2_211 : decode cJ9_put_2 211 = .ok (.iconst 1, 1) := dk_4 (dk_at dksJ9_put_2_9 0 rfl rfl)
theorem dJ9_put_2_212 : decode cJ9_put_2 212 = .ok (.goto 4, 3) := dk_167 0 4 (dk_at dksJ9_put_2_9 1 rfl rfl)
theorem dJ9_put_2_215 : decode cJ9_put_2 215 = .ok (.iconst 0, 1) := dk_3 (dk_at dksJ9_put_2_9 4 rfl rfl)
theorem dJ9_put_2_216 : decode cJ9_put_2 216 = .ok (.invokevirtual 139, 3) := dk_182 0 139 (dk_at dksJ9_put_2_9 5 rfl rfl)
theorem dJ9_put_2_219 : decode cJ9_put_2 219 = .ok (.aconst_null, 1) := dk_1 (dk_at dksJ9_put_2_9 8 rfl rfl)
theorem dJ9_put_2_220 : decode cJ9_put_2 220 = .ok (.areturn, 1) := dk_176 (dk_at dksJ9_put_2_9 9 rfl rfl)
abbrev cJ9_addEntryToEmptyMap : ByteArray := prog_94_method_30_code
def yJ9_addEntryToEmptyMap : MethodName := ⟨RJ9, "addEntryToEmptyMap", "(Ljava/lang/Object;Ljava/lang/Object;)V"⟩
def dkwJ9_addEntryToEmptyMap_1 : List UInt8 := [181, 0, 7, 42, 89, 180, 0, 13, 4, 96, 181, 0, 13, 177]
abbrev dktJ9_addEntryToEmptyMap_1 : List UInt8 := dkwJ9_addEntryToEmptyMap_1 ++ []
def dkwJ9_addEntryToEmptyMap_0 : List UInt8 := [42, 43, 43, 182, 0, 123, 87, 42, 187, 0, 59, 89, 43, 44, 1, 183, 0, 167, 181, 0, 101, 42, 4]
abbrev dktJ9_addEntryToEmptyMap_0 : List UInt8 := dkwJ9_addEntryToEmptyMap_0 ++ dktJ9_addEntryToEmptyMap_1
theorem dksJ9_addEntryToEmptyMap_0 : cJ9_addEntryToEmptyMap.data.toList.drop 0 = dktJ9_addEntryToEmptyMap_0 := by decide +kernel
theorem dksJ9_addEntryToEmptyMap_1 : cJ9_addEntryToEmptyMap.data.toList.drop 23 = dktJ9_addEntryToEmptyMap_1 := dk_seg dksJ9_addEntryToEmptyMap_0 23 rfl rfl
theorem dJ9_addEntryToEmptyMap_0 : decode cJ9_addEntryToEmptyMap 0 = .ok (.aload_n 0, 1) := dk_42 (dk_at dksJ9_addEntryToEmptyMap_0 0 rfl rfl)
theorem dJ9_addEntryToEmptyMap_1 : decode cJ9_addEntryToEmptyMap 1 = .ok (.aload_n 1, 1) := dk_43 (dk_at dksJ9_addEntryToEmptyMap_0 1 rfl rfl)
theorem dJ9_addEntryToEmptyMap_2 : decode cJ9_addEntryToEmptyMap 2 = .ok (.aload_n 1, 1) := dk_43 (dk_at dksJ9_addEntryToEmptyMap_0 2 rfl rfl)
theorem dJ9_addEntryToEmptyMap_3 : decode cJ9_addEntryToEmptyMap 3 = .ok (.invokevirtual 123, 3) := dk_182 0 123 (dk_at dksJ9_addEntryToEmptyMap_0 3 rfl rfl)
theorem dJ9_addEntryToEmptyMap_6 : decode cJ9_addEntryToEmptyMap 6 = .ok (.pop, 1) := dk_87 (dk_at dksJ9_addEntryToEmptyMap_0 6 rfl rfl)
theorem dJ9_addEntryToEmptyMap_7 : decode cJ9_addEntryToEmptyMap 7 = .ok (.aload_n 0, 1) := dk_42 (dk_at dksJ9_addEntryToEmptyMap_0 7 rfl rfl)
theorem dJ9_addEntryToEmptyMap_8 : decode cJ9_addEntryToEmptyMap 8 = .ok (.new 59, 3) := dk_187 0 59 (dk_at dksJ9_addEntryToEmptyMap_0 8 rfl rfl)
theorem dJ9_addEntryToEmptyMap_11 : decode cJ9_addEntryToEmptyMap 11 = .ok (.dup, 1) := dk_89 (dk_at dksJ9_addEntryToEmptyMap_0 11 rfl rfl)
theorem dJ9_addEntryToEmptyMap_12 : decode cJ9_addEntryToEmptyMap 12 = .ok (.aload_n 1, 1) := dk_43 (dk_at dksJ9_addEntryToEmptyMap_0 12 rfl rfl)
theorem dJ9_addEntryToEmptyMap_13 : decode cJ9_addEntryToEmptyMap 13 = .ok (.aload_n 2, 1) := dk_44 (dk_at dksJ9_addEntryToEmptyMap_0 13 rfl rfl)
theorem dJ9_addEntryToEmptyMap_14 : decode cJ9_addEntryToEmptyMap 14 = .ok (.aconst_null, 1) := dk_1 (dk_at dksJ9_addEntryToEmptyMap_0 14 rfl rfl)
theorem dJ9_addEntryToEmptyMap_15 : decode cJ9_addEntryToEmptyMap 15 = .ok (.invokespecial 167, 3) := dk_183 0 167 (dk_at dksJ9_addEntryToEmptyMap_0 15 rfl rfl)
theorem dJ9_addEntryToEmptyMap_18 : decode cJ9_addEntryToEmptyMap 18 = .ok (.putfield 101, 3) := dk_181 0 101 (dk_at dksJ9_addEntryToEmptyMap_0 18 rfl rfl)
theorem dJ9_addEntryToEmptyMap_21 : decode cJ9_addEntryToEmptyMap 21 = .ok (.aload_n 0, 1) := dk_42 (dk_at dksJ9_addEntryToEmptyMap_0 21 rfl rfl)
theorem dJ9_addEntryToEmptyMap_22 : decode cJ9_addEntryToEmptyMap 22 = .ok (.iconst 1, 1) := dk_4 (dk_at dksJ9_addEntryToEmptyMap_0 22 rfl rfl)
theorem dJ9_addEntryToEmptyMap_23 : decode cJ9_addEntryToEmptyMap 23 = .ok (.putfield 7, 3) := dk_181 0 7 (dk_at dksJ9_addEntryToEmptyMap_1 0 rfl rfl)
theorem dJ9_addEntryToEmptyMap_26 : decode cJ9_addEntryToEmptyMap 26 = .ok (.aload_n 0, 1) := dk_42 (dk_at dksJ9_addEntryToEmptyMap_1 3 rfl rfl)
theorem dJ9_addEntryToEmptyMap_27 : decode cJ9_addEntryToEmptyMap 27 = .ok (.dup, 1) := dk_89 (dk_at dksJ9_addEntryToEmptyMap_1 4 rfl rfl)
theorem dJ9_addEntryToEmptyMap_28 : decode cJ9_addEntryToEmptyMap 28 = .ok (.getfield 13, 3) := dk_180 0 13 (dk_at dksJ9_addEntryToEmptyMap_1 5 rfl rfl)
theorem dJ9_addEntryToEmptyMap_31 : decode cJ9_addEntryToEmptyMap 31 = .ok (.iconst 1, 1) := dk_4 (dk_at dksJ9_addEntryToEmptyMap_1 8 rfl rfl)
theorem dJ9_addEntryToEmptyMap_32 : decode cJ9_addEntryToEmptyMap 32 = .ok (.iadd, 1) := dk_96 (dk_at dksJ9_addEntryToEmptyMap_1 9 rfl rfl)
theorem dJ9_addEntryToEmptyMap_33 : decode cJ9_addEntryToEmptyMap 33 = .ok (.putfield 13, 3) := dk_181 0 13 (dk_at dksJ9_addEntryToEmptyMap_1 10 rfl rfl)
theorem dJ9_addEntryToEmptyMap_36 : decode cJ9_addEntryToEmptyMap 36 = .ok (.return_, 1) := dk_177 (dk_at dksJ9_addEntryToEmptyMap_1 13 rfl rfl)
abbrev cJ9_compare : ByteArray := prog_94_method_67_code
def yJ9_compare : MethodName := ⟨RJ9, "compare", "(Ljava/lang/Object;Ljava/lang/Object;)I"⟩
def dkwJ9_compare_1 : List UInt8 := [43, 44, 185, 0, 117, 3, 0, 172]
abbrev dktJ9_compare_1 : List UInt8 := dkwJ9_compare_1 ++ []
def dkwJ9_compare_0 : List UInt8 := [42, 180, 0, 16, 199, 0, 16, 43, 192, 0, 99, 44, 185, 0, 107, 2, 0, 167, 0, 14, 42, 180, 0, 16]
abbrev dktJ9_compare_0 : List UInt8 := dkwJ9_compare_0 ++ dktJ9_compare_1
theorem dksJ9_compare_0 : cJ9_compare.data.toList.drop 0 = dktJ9_compare_0 := by decide +kernel
theorem dksJ9_compare_1 : cJ9_compare.data.toList.drop 24 = dktJ9_compare_1 := dk_seg dksJ9_compare_0 24 rfl rfl
theorem dJ9_compare_0 : decode cJ9_compare 0 = .ok (.aload_n 0, 1) := dk_42 (dk_at dksJ9_compare_0 0 rfl rfl)
theorem dJ9_compare_1 : decode cJ9_compare 1 = .ok (.getfield 16, 3) := dk_180 0 16 (dk_at dksJ9_compare_0 1 rfl rfl)
theorem dJ9_compare_4 : decode cJ9_compare 4 = .ok (.ifnonnull 16, 3) := dk_199 0 16 (dk_at dksJ9_compare_0 4 rfl rfl)
theorem dJ9_compare_7 : decode cJ9_compare 7 = .ok (.aload_n 1, 1) := dk_43 (dk_at dksJ9_compare_0 7 rfl rfl)
theorem dJ9_compare_8 : decode cJ9_compare 8 = .ok (.checkcast 99, 3) := dk_192 0 99 (dk_at dksJ9_compare_0 8 rfl rfl)
theorem dJ9_compare_11 : decode cJ9_compare 11 = .ok (.aload_n 2, 1) := dk_44 (dk_at dksJ9_compare_0 11 rfl rfl)
theorem dJ9_compare_12 : decode cJ9_compare 12 = .ok (.invokeinterface 107 2, 5) := by decide +kernel
theorem dJ9_compare_17 : decode cJ9_compare 17 = .ok (.goto 14, 3) := dk_167 0 14 (dk_at dksJ9_compare_0 17 rfl rfl)
theorem dJ9_compare_20 : decode cJ9_compare 20 = .ok (.aload_n 0, 1) := dk_42 (dk_at dksJ9_compare_0 20 rfl rfl)
theorem dJ9_compare_21 : decode cJ9_compare 21 = .ok (.getfield 16, 3) := dk_180 0 16 (dk_at dksJ9_compare_0 21 rfl rfl)
theorem dJ9_compare_24 : decode cJ9_compare 24 = .ok (.aload_n 1, 1) := dk_43 (dk_at dksJ9_compare_1 0 rfl rfl)
theorem dJ9_compare_25 : decode cJ9_compare 25 = .ok (.aload_n 2, 1) := dk_44 (dk_at dksJ9_compare_1 1 rfl rfl)
theorem dJ9_compare_26 : decode cJ9_compare 26 = .ok (.invokeinterface 117 3, 5) := by decide +kernel
theorem dJ9_compare_31 : decode cJ9_compare 31 = .ok (.ireturn, 1) := dk_172 (dk_at dksJ9_compare_1 7 rfl rfl)
abbrev cJ9_addEntry : ByteArray := prog_94_method_29_code
def yJ9_addEntry : MethodName := ⟨RJ9, "addEntry", "(Ljava/lang/Object;Ljava/lang/Object;Ljava/util/TreeMap$Entry;Z)V"⟩
def dkwJ9_addEntry_2 : List UInt8 := [181, 0, 7, 42, 89, 180, 0, 13, 4, 96, 181, 0, 13, 177]
abbrev dktJ9_addEntry_2 : List UInt8 := dkwJ9_addEntry_2 ++ []
def dkwJ9_addEntry_1 : List UInt8 := [167, 0, 9, 45, 25, 5, 181, 0, 114, 42, 25, 5, 182, 0, 170, 42, 89, 180, 0, 7, 4, 96]
abbrev dktJ9_addEntry_1 : List UInt8 := dkwJ9_addEntry_1 ++ dktJ9_addEntry_2
def dkwJ9_addEntry_0 : List UInt8 := [187, 0, 59, 89, 43, 44, 45, 183, 0, 167, 58, 5, 21, 4, 153, 0, 12, 45, 25, 5, 181, 0, 111]
abbrev dktJ9_addEntry_0 : List UInt8 := dkwJ9_addEntry_0 ++ dktJ9_addEntry_1
theorem dksJ9_addEntry_0 : cJ9_addEntry.data.toList.drop 0 = dktJ9_addEntry_0 := by decide +kernel
theorem dksJ9_addEntry_1 : cJ9_addEntry.data.toList.drop 23 = dktJ9_addEntry_1 := dk_seg dksJ9_addEntry_0 23 rfl rfl
theorem dksJ9_addEntry_2 : cJ9_addEntry.data.toList.drop 45 = dktJ9_addEntry_2 := dk_seg dksJ9_addEntry_1 22 rfl rfl
theorem dJ9_addEntry_0 : decode cJ9_addEntry 0 = .ok (.new 59, 3) := dk_187 0 59 (dk_at dksJ9_addEntry_0 0 rfl rfl)
theorem dJ9_addEntry_3 : decode cJ9_addEntry 3 = .ok (.dup, 1) := dk_89 (dk_at dksJ9_addEntry_0 3 rfl rfl)
theorem dJ9_addEntry_4 : decode cJ9_addEntry 4 = .ok (.aload_n 1, 1) := dk_43 (dk_at dksJ9_addEntry_0 4 rfl rfl)
theorem dJ9_addEntry_5 : decode cJ9_addEntry 5 = .ok (.aload_n 2, 1) := dk_44 (dk_at dksJ9_addEntry_0 5 rfl rfl)
theorem dJ9_addEntry_6 : decode cJ9_addEntry 6 = .ok (.aload_n 3, 1) := dk_45 (dk_at dksJ9_addEntry_0 6 rfl rfl)
theorem dJ9_addEntry_7 : decode cJ9_addEntry 7 = .ok (.invokespecial 167, 3) := dk_183 0 167 (dk_at dksJ9_addEntry_0 7 rfl rfl)
theorem dJ9_addEntry_10 : decode cJ9_addEntry 10 = .ok (.astore 5, 2) := dk_58 5 (dk_at dksJ9_addEntry_0 10 rfl rfl)
theorem dJ9_addEntry_12 : decode cJ9_addEntry 12 = .ok (.iload 4, 2) := dk_21 4 (dk_at dksJ9_addEntry_0 12 rfl rfl)
theorem dJ9_addEntry_14 : decode cJ9_addEntry 14 = .ok (.ifCond .eq 12, 3) := dk_153 0 12 (dk_at dksJ9_addEntry_0 14 rfl rfl)
theorem dJ9_addEntry_17 : decode cJ9_addEntry 17 = .ok (.aload_n 3, 1) := dk_45 (dk_at dksJ9_addEntry_0 17 rfl rfl)
theorem dJ9_addEntry_18 : decode cJ9_addEntry 18 = .ok (.aload 5, 2) := dk_25 5 (dk_at dksJ9_addEntry_0 18 rfl rfl)
theorem dJ9_addEntry_20 : decode cJ9_addEntry 20 = .ok (.putfield 111, 3) := dk_181 0 111 (dk_at dksJ9_addEntry_0 20 rfl rfl)
theorem dJ9_addEntry_23 : decode cJ9_addEntry 23 = .ok (.goto 9, 3) := dk_167 0 9 (dk_at dksJ9_addEntry_1 0 rfl rfl)
theorem dJ9_addEntry_26 : decode cJ9_addEntry 26 = .ok (.aload_n 3, 1) := dk_45 (dk_at dksJ9_addEntry_1 3 rfl rfl)
theorem dJ9_addEntry_27 : decode cJ9_addEntry 27 = .ok (.aload 5, 2) := dk_25 5 (dk_at dksJ9_addEntry_1 4 rfl rfl)
theorem dJ9_addEntry_29 : decode cJ9_addEntry 29 = .ok (.putfield 114, 3) := dk_181 0 114 (dk_at dksJ9_addEntry_1 6 rfl rfl)
theorem dJ9_addEntry_32 : decode cJ9_addEntry 32 = .ok (.aload_n 0, 1) := dk_42 (dk_at dksJ9_addEntry_1 9 rfl rfl)
theorem dJ9_addEntry_33 : decode cJ9_addEntry 33 = .ok (.aload 5, 2) := dk_25 5 (dk_at dksJ9_addEntry_1 10 rfl rfl)
theorem dJ9_addEntry_35 : decode cJ9_addEntry 35 = .ok (.invokevirtual 170, 3) := dk_182 0 170 (dk_at dksJ9_addEntry_1 12 rfl rfl)
theorem dJ9_addEntry_38 : decode cJ9_addEntry 38 = .ok (.aload_n 0, 1) := dk_42 (dk_at dksJ9_addEntry_1 15 rfl rfl)
theorem dJ9_addEntry_39 : decode cJ9_addEntry 39 = .ok (.dup, 1) := dk_89 (dk_at dksJ9_addEntry_1 16 rfl rfl)
theorem dJ9_addEntry_40 : decode cJ9_addEntry 40 = .ok (.getfield 7, 3) := dk_180 0 7 (dk_at dksJ9_addEntry_1 17 rfl rfl)
theorem dJ9_addEntry_43 : decode cJ9_addEntry 43 = .ok (.iconst 1, 1) := dk_4 (dk_at dksJ9_addEntry_1 20 rfl rfl)
theorem dJ9_addEntry_44 : decode cJ9_addEntry 44 = .ok (.iadd, 1) := dk_96 (dk_at dksJ9_addEntry_1 21 rfl rfl)
theorem dJ9_addEntry_45 : decode cJ9_addEntry 45 = .ok (.putfield 7, 3) := dk_181 0 7 (dk_at dksJ9_addEntry_2 0 rfl rfl)
theorem dJ9_addEntry_48 : decode cJ9_addEntry 48 = .ok (.aload_n 0, 1) := dk_42 (dk_at dksJ9_addEntry_2 3 rfl rfl)
theorem dJ9_addEntry_49 : decode cJ9_addEntry 49 = .ok (.dup, 1) := dk_89 (dk_at dksJ9_addEntry_2 4 rfl rfl)
theorem dJ9_addEntry_50 : decode cJ9_addEntry 50 = .ok (.getfield 13, 3) := dk_180 0 13 (dk_at dksJ9_addEntry_2 5 rfl rfl)
theorem dJ9_addEntry_53 : decode cJ9_addEntry 53 = .ok (.iconst 1, 1) := dk_4 (dk_at dksJ9_addEntry_2 8 rfl rfl)
theorem dJ9_addEntry_54 : decode cJ9_addEntry 54 = .ok (.iadd, 1) := dk_96 (dk_at dksJ9_addEntry_2 9 rfl rfl)
theorem dJ9_addEntry_55 : decode cJ9_addEntry 55 = .ok (.putfield 13, 3) := dk_181 0 13 (dk_at dksJ9_addEntry_2 10 rfl rfl)
theorem dJ9_addEntry_58 : decode cJ9_addEntry 58 = .ok (.return_, 1) := dk_177 (dk_at dksJ9_addEntry_2 13 rfl rfl)
abbrev cJ9_fixAfterInsertion : ByteArray := prog_94_method_83_code
def yJ9_fixAfterInsertion : MethodName := ⟨RJ9, "fixAfterInsertion", "(Ljava/util/TreeMap$Entry;)V"⟩
def dkwJ9_fixAfterInsertion_11 : List UInt8 := [42, 180, 0, 101, 4, 181, 1, 34, 177]
abbrev dktJ9_fixAfterInsertion_11 : List UInt8 := dkwJ9_fixAfterInsertion_11 ++ []
def dkwJ9_fixAfterInsertion_10 : List UInt8 := [184, 1, 38, 184, 1, 38, 3, 184, 1, 51, 42, 43, 184, 1, 38, 184, 1, 38, 182, 1, 55, 167, 255, 6]
abbrev dktJ9_fixAfterInsertion_10 : List UInt8 := dkwJ9_fixAfterInsertion_10 ++ dktJ9_fixAfterInsertion_11
def dkwJ9_fixAfterInsertion_9 : List UInt8 := [166, 0, 13, 43, 184, 1, 38, 76, 42, 43, 182, 1, 58, 43, 184, 1, 38, 4, 184, 1, 51, 43]
abbrev dktJ9_fixAfterInsertion_9 : List UInt8 := dkwJ9_fixAfterInsertion_9 ++ dktJ9_fixAfterInsertion_10
def dkwJ9_fixAfterInsertion_8 : List UInt8 := [184, 1, 51, 43, 184, 1, 38, 184, 1, 38, 76, 167, 0, 54, 43, 43, 184, 1, 38, 184, 1, 41]
abbrev dktJ9_fixAfterInsertion_8 : List UInt8 := dkwJ9_fixAfterInsertion_8 ++ dktJ9_fixAfterInsertion_9
def dkwJ9_fixAfterInsertion_7 : List UInt8 := [154, 0, 38, 43, 184, 1, 38, 4, 184, 1, 51, 44, 4, 184, 1, 51, 43, 184, 1, 38, 184, 1, 38, 3]
abbrev dktJ9_fixAfterInsertion_7 : List UInt8 := dkwJ9_fixAfterInsertion_7 ++ dktJ9_fixAfterInsertion_8
def dkwJ9_fixAfterInsertion_6 : List UInt8 := [184, 1, 38, 182, 1, 58, 167, 255, 113, 43, 184, 1, 38, 184, 1, 38, 184, 1, 41, 77, 44, 184, 1, 47]
abbrev dktJ9_fixAfterInsertion_6 : List UInt8 := dkwJ9_fixAfterInsertion_6 ++ dktJ9_fixAfterInsertion_7
def dkwJ9_fixAfterInsertion_5 : List UInt8 := [43, 184, 1, 38, 4, 184, 1, 51, 43, 184, 1, 38, 184, 1, 38, 3, 184, 1, 51, 42, 43, 184, 1, 38]
abbrev dktJ9_fixAfterInsertion_5 : List UInt8 := dkwJ9_fixAfterInsertion_5 ++ dktJ9_fixAfterInsertion_6
def dkwJ9_fixAfterInsertion_4 : List UInt8 := [167, 0, 54, 43, 43, 184, 1, 38, 184, 1, 44, 166, 0, 13, 43, 184, 1, 38, 76, 42, 43, 182, 1, 55]
abbrev dktJ9_fixAfterInsertion_4 : List UInt8 := dkwJ9_fixAfterInsertion_4 ++ dktJ9_fixAfterInsertion_5
def dkwJ9_fixAfterInsertion_3 : List UInt8 := [184, 1, 51, 43, 184, 1, 38, 184, 1, 38, 3, 184, 1, 51, 43, 184, 1, 38, 184, 1, 38, 76]
abbrev dktJ9_fixAfterInsertion_3 : List UInt8 := dkwJ9_fixAfterInsertion_3 ++ dktJ9_fixAfterInsertion_4
def dkwJ9_fixAfterInsertion_2 : List UInt8 := [184, 1, 38, 184, 1, 44, 77, 44, 184, 1, 47, 154, 0, 38, 43, 184, 1, 38, 4, 184, 1, 51, 44, 4]
abbrev dktJ9_fixAfterInsertion_2 : List UInt8 := dkwJ9_fixAfterInsertion_2 ++ dktJ9_fixAfterInsertion_3
def dkwJ9_fixAfterInsertion_1 : List UInt8 := [154, 0, 234, 43, 184, 1, 38, 43, 184, 1, 38, 184, 1, 38, 184, 1, 41, 166, 0, 110, 43, 184, 1, 38]
abbrev dktJ9_fixAfterInsertion_1 : List UInt8 := dkwJ9_fixAfterInsertion_1 ++ dktJ9_fixAfterInsertion_2
def dkwJ9_fixAfterInsertion_0 : List UInt8 := [43, 3, 181, 1, 34, 43, 198, 0, 252, 43, 42, 180, 0, 101, 165, 0, 244, 43, 180, 0, 124, 180, 1, 34]
abbrev dktJ9_fixAfterInsertion_0 : List UInt8 := dkwJ9_fixAfterInsertion_0 ++ dktJ9_fixAfterInsertion_1
theorem dksJ9_fixAfterInsertion_0 : cJ9_fixAfterInsertion.data.toList.drop 0 = dktJ9_fixAfterInsertion_0 := by decide +kernel
theorem dksJ9_fixAfterInsertion_1 : cJ9_fixAfterInsertion.data.toList.drop 24 = dktJ9_fixAfterInsertion_1 := dk_seg dksJ9_fixAfterInsertion_0 24 rfl rfl
theorem dksJ9_fixAfterInsertion_2 : cJ9_fixAfterInsertion.data.toList.drop 48 = dktJ9_fixAfterInsertion_2 := dk_seg dksJ9_fixAfterInsertion_1 24 rfl rfl
theorem dksJ9_fixAfterInsertion_3 : cJ9_fixAfterInsertion.data.toList.drop 72 = dktJ9_fixAfterInsertion_3 := dk_seg dksJ9_fixAfterInsertion_2 24 rfl rfl
theorem dksJ9_fixAfterInsertion_4 : cJ9_fixAfterInsertion.data.toList.drop 94 = dktJ9_fixAfterInsertion_4 := dk_seg dksJ9_fixAfterInsertion_3 22 rfl rfl
theorem dksJ9_fixAfterInsertion_5 : cJ9_fixAfterInsertion.data.toList.drop 118 = dktJ9_fixAfterInsertion_5 := dk_seg dksJ9_fixAfterInsertion_4 24 rfl rfl
theorem dksJ9_fixAfterInsertion_6 : cJ9_fixAfterInsertion.data.toList.drop 142 = dktJ9_fixAfterInsertion_6 := dk_seg dksJ9_fixAfterInsertion_5 24 rfl rfl
theorem dksJ9_fixAfterInsertion_7 : cJ9_fixAfterInsertion.data.toList.drop 166 = dktJ9_fixAfterInsertion_7 := dk_seg dksJ9_fixAfterInsertion_6 24 rfl rfl
theorem dksJ9_fixAfterInsertion_8 : cJ9_fixAfterInsertion.data.toList.drop 190 = dktJ9_fixAfterInsertion_8 := dk_seg dksJ9_fixAfterInsertion_7 24 rfl rfl
theorem dksJ9_fixAfterInsertion_9 : cJ9_fixAfterInsertion.data.toList.drop 212 = dktJ9_fixAfterInsertion_9 := dk_seg dksJ9_fixAfterInsertion_8 22 rfl rfl
theorem dksJ9_fixAfterInsertion_10 : cJ9_fixAfterInsertion.data.toList.drop 234 = dktJ9_fixAfterInsertion_10 := dk_seg dksJ9_fixAfterInsertion_9 22 rfl rfl
theorem dksJ9_fixAfterInsertion_11 : cJ9_fixAfterInsertion.data.toList.drop 258 = dktJ9_fixAfterInsertion_11 := dk_seg dksJ9_fixAfterInsertion_10 24 rfl rfl
theorem dJ9_fixAfterInsertion_0 : decode cJ9_fixAfterInsertion 0 = .ok (.aload_n 1, 1) := dk_43 (dk_at dksJ9_fixAfterInsertion_0 0 rfl rfl)
theorem dJ9_fixAfterInsertion_1 : decode cJ9_fixAfterInsertion 1 = .ok (.iconst 0, 1) := dk_3 (dk_at dksJ9_fixAfterInsertion_0 1 rfl rfl)
theorem dJ9_fixAfterInsertion_2 : decode cJ9_fixAfterInsertion 2 = .ok (.putfield 290, 3) := dk_181 1 34 (dk_at dksJ9_fixAfterInsertion_0 2 rfl rfl)
theorem dJ9_fixAfterInsertion_5 : decode cJ9_fixAfterInsertion 5 = .ok (.aload_n 1, 1) := dk_43 (dk_at dksJ9_fixAfterInsertion_0 5 rfl rfl)
theorem dJ9_fixAfterInsertion_6 : decode cJ9_fixAfterInsertion 6 = .ok (.ifnull 252, 3) := dk_198 0 252 (dk_at dksJ9_fixAfterInsertion_0 6 rfl rfl)
theorem dJ9_fixAfterInsertion_9 : decode cJ9_fixAfterInsertion 9 = .ok (.aload_n 1, 1) := dk_43 (dk_at dksJ9_fixAfterInsertion_0 9 rfl rfl)
theorem dJ9_fixAfterInsertion_10 : decode cJ9_fixAfterInsertion 10 = .ok (.aload_n 0, 1) := dk_42 (dk_at dksJ9_fixAfterInsertion_0 10 rfl rfl)
theorem dJ9_fixAfterInsertion_11 : decode cJ9_fixAfterInsertion 11 = .ok (.getfield 101, 3) := dk_180 0 101 (dk_at dksJ9_fixAfterInsertion_0 11 rfl rfl)
theorem dJ9_fixAfterInsertion_14 : decode cJ9_fixAfterInsertion 14 = .ok (.if_acmp .eq 244, 3) := dk_165 0 244 (dk_at dksJ9_fixAfterInsertion_0 14 rfl rfl)
theorem dJ9_fixAfterInsertion_17 : decode cJ9_fixAfterInsertion 17 = .ok (.aload_n 1, 1) := dk_43 (dk_at dksJ9_fixAfterInsertion_0 17 rfl rfl)
theorem dJ9_fixAfterInsertion_18 : decode cJ9_fixAfterInsertion 18 = .ok (.getfield 124, 3) := dk_180 0 124 (dk_at dksJ9_fixAfterInsertion_0 18 rfl rfl)
theorem dJ9_fixAfterInsertion_21 : decode cJ9_fixAfterInsertion 21 = .ok (.getfield 290, 3) := dk_180 1 34 (dk_at dksJ9_fixAfterInsertion_0 21 rfl rfl)
theorem dJ9_fixAfterInsertion_24 : decode cJ9_fixAfterInsertion 24 = .ok (.ifCond .ne 234, 3) := dk_154 0 234 (dk_at dksJ9_fixAfterInsertion_1 0 rfl rfl)
theorem dJ9_fixAfterInsertion_27 : decode cJ9_fixAfterInsertion 27 = .ok (.aload_n 1, 1) := dk_43 (dk_at dksJ9_fixAfterInsertion_1 3 rfl rfl)
theorem dJ9_fixAfterInsertion_28 : decode cJ9_fixAfterInsertion 28 = .ok (.invokestatic 294, 3) := dk_184 1 38 (dk_at dksJ9_fixAfterInsertion_1 4 rfl rfl)
theorem dJ9_fixAfterInsertion_31 : decode cJ9_fixAfterInsertion 31 = .ok (.aload_n 1, 1) := dk_43 (dk_at dksJ9_fixAfterInsertion_1 7 rfl rfl)
theorem dJ9_fixAfterInsertion_32 : decode cJ9_fixAfterInsertion 32 = .ok (.invokestatic 294, 3) := dk_184 1 38 (dk_at dksJ9_fixAfterInsertion_1 8 rfl rfl)
theorem dJ9_fixAfterInsertion_35 : decode cJ9_fixAfterInsertion 35 = .ok (.invokestatic 294, 3) := dk_184 1 38 (dk_at dksJ9_fixAfterInsertion_1 11 rfl rfl)
theorem dJ9_fixAfterInsertion_38 : decode cJ9_fixAfterInsertion 38 = .ok (.invokestatic 297, 3) := dk_184 1 41 (dk_at dksJ9_fixAfterInsertion_1 14 rfl rfl)
theorem dJ9_fixAfterInsertion_41 : decode cJ9_fixAfterInsertion 41 = .ok (.if_acmp .ne 110, 3) := dk_166 0 110 (dk_at dksJ9_fixAfterInsertion_1 17 rfl rfl)
theorem dJ9_fixAfterInsertion_44 : decode cJ9_fixAfterInsertion 44 = .ok (.aload_n 1, 1) := dk_43 (dk_at dksJ9_fixAfterInsertion_1 20 rfl rfl)
theorem dJ9_fixAfterInsertion_45 : decode cJ9_fixAfterInsertion 45 = .ok (.invokestatic 294, 3) := dk_184 1 38 (dk_at dksJ9_fixAfterInsertion_1 21 rfl rfl)
theorem dJ9_fixAfterInsertion_48 : decode cJ9_fixAfterInsertion 48 = .ok (.invokestatic 294, 3) := dk_184 1 38 (dk_at dksJ9_fixAfterInsertion_2 0 rfl rfl)
theorem dJ9_fixAfterInsertion_51 : decode cJ9_fixAfterInsertion 51 = .ok (.invokestatic 300, 3) := dk_184 1 44 (dk_at dksJ9_fixAfterInsertion_2 3 rfl rfl)
theorem dJ9_fixAfterInsertion_54 : decode cJ9_fixAfterInsertion 54 = .ok (.astore_n 2, 1) := dk_77 (dk_at dksJ9_fixAfterInsertion_2 6 rfl rfl)
theorem dJ9_fixAfterInsertion_55 : decode cJ9_fixAfterInsertion 55 = .ok (.aload_n 2, 1) := dk_44 (dk_at dksJ9_fixAfterInsertion_2 7 rfl rfl)
theorem dJ9_fixAfterInsertion_56 : decode cJ9_fixAfterInsertion 56 = .ok (.invokestatic 303, 3) := dk_184 1 47 (dk_at dksJ9_fixAfterInsertion_2 8 rfl rfl)
theorem dJ9_fixAfterInsertion_59 : decode cJ9_fixAfterInsertion 59 = .ok (.ifCond .ne 38, 3) := dk_154 0 38 (dk_at dksJ9_fixAfterInsertion_2 11 rfl rfl)
theorem dJ9_fixAfterInsertion_62 : decode cJ9_fixAfterInsertion 62 = .ok (.aload_n 1, 1) := dk_43 (dk_at dksJ9_fixAfterInsertion_2 14 rfl rfl)
theorem dJ9_fixAfterInsertion_63 : decode cJ9_fixAfterInsertion 63 = .ok (.invokestatic 294, 3) := dk_184 1 38 (dk_at dksJ9_fixAfterInsertion_2 15 rfl rfl)
theorem dJ9_fixAfterInsertion_66 : decode cJ9_fixAfterInsertion 66 = .ok (.iconst 1, 1) := dk_4 (dk_at dksJ9_fixAfterInsertion_2 18 rfl rfl)
theorem dJ9_fixAfterInsertion_67 : decode cJ9_fixAfterInsertion 67 = .ok (.invokestatic 307, 3) := dk_184 1 51 (dk_at dksJ9_fixAfterInsertion_2 19 rfl rfl)
theorem dJ9_fixAfterInsertion_70 : decode cJ9_fixAfterInsertion 70 = .ok (.aload_n 2, 1) := dk_44 (dk_at dksJ9_fixAfterInsertion_2 22 rfl rfl)
theorem dJ9_fixAfterInsertion_71 : decode cJ9_fixAfterInsertion 71 = .ok (.iconst 1, 1) := dk_4 (dk_at dksJ9_fixAfterInsertion_2 23 rfl rfl)
theorem dJ9_fixAfterInsertion_72 : decode cJ9_fixAfterInsertion 72 = .ok (.invokestatic 307, 3) := dk_184 1 51 (dk_at dksJ9_fixAfterInsertion_3 0 rfl rfl)
theorem dJ9_fixAfterInsertion_75 : decode cJ9_fixAfterInsertion 75 = .ok (.aload_n 1, 1) := dk_43 (dk_at dksJ9_fixAfterInsertion_3 3 rfl rfl)
theorem dJ9_fixAfterInsertion_76 : decode cJ9_fixAfterInsertion 76 = .ok (.invokestatic 294, 3) := dk_184 1 38 (dk_at dksJ9_fixAfterInsertion_3 4 rfl rfl)
theorem dJ9_fixAfterInsertion_79 : decode cJ9_fixAfterInsertion 79 = .ok (.invokestatic 294, 3) := dk_184 1 38 (dk_at dksJ9_fixAfterInsertion_3 7 rfl rfl)
theorem dJ9_fixAfterInsertion_82 : decode cJ9_fixAfterInsertion 82 = .ok (.iconst 0, 1) := dk_3 (dk_at dksJ9_fixAfterInsertion_3 10 rfl rfl)
theorem dJ9_fixAfterInsertion_83 : decode cJ9_fixAfterInsertion 83 = .ok (.invokestatic 307, 3) := dk_184 1 51 (dk_at dksJ9_fixAfterInsertion_3 11 rfl rfl)
theorem dJ9_fixAfterInsertion_86 : decode cJ9_fixAfterInsertion 86 = .ok (.aload_n 1, 1) := dk_43 (dk_at dksJ9_fixAfterInsertion_3 14 rfl rfl)
theorem dJ9_fixAfterInsertion_87 : decode cJ9_fixAfterInsertion 87 = .ok (.invokestatic 294, 3) := dk_184 1 38 (dk_at dksJ9_fixAfterInsertion_3 15 rfl rfl)
theorem dJ9_fixAfterInsertion_90 : decode cJ9_fixAfterInsertion 90 = .ok (.invokestatic 294, 3) := dk_184 1 38 (dk_at dksJ9_fixAfterInsertion_3 18 rfl rfl)
theorem dJ9_fixAfterInsertion_93 : decode cJ9_fixAfterInsertion 93 = .ok (.astore_n 1, 1) := dk_76 (dk_at dksJ9_fixAfterInsertion_3 21 rfl rfl)
theorem dJ9_fixAfterInsertion_94 : decode cJ9_fixAfterInsertion 94 = .ok (.goto 54, 3) := dk_167 0 54 (dk_at dksJ9_fixAfterInsertion_4 0 rfl rfl)
theorem dJ9_fixAfterInsertion_97 : decode cJ9_fixAfterInsertion 97 = .ok (.aload_n 1, 1) := dk_43 (dk_at dksJ9_fixAfterInsertion_4 3 rfl rfl)
theorem dJ9_fixAfterInsertion_98 : decode cJ9_fixAfterInsertion 98 = .ok (.aload_n 1, 1) := dk_43 (dk_at dksJ9_fixAfterInsertion_4 4 rfl rfl)
theorem dJ9_fixAfterInsertion_99 : decode cJ9_fixAfterInsertion 99 = .ok (.invokestatic 294, 3) := dk_184 1 38 (dk_at dksJ9_fixAfterInsertion_4 5 rfl rfl)
theorem dJ9_fixAfterInsertion_102 : decode cJ9_fixAfterInsertion 102 = .ok (.invokestatic 300, 3) := dk_184 1 44 (dk_at dksJ9_fixAfterInsertion_4 8 rfl rfl)
theorem dJ9_fixAfterInsertion_105 : decode cJ9_fixAfterInsertion 105 = .ok (.if_acmp .ne 13, 3) := dk_166 0 13 (dk_at dksJ9_fixAfterInsertion_4 11 rfl rfl)
theorem dJ9_fixAfterInsertion_108 : decode cJ9_fixAfterInsertion 108 = .ok (.aload_n 1, 1) := dk_43 (dk_at dksJ9_fixAfterInsertion_4 14 rfl rfl)
theorem dJ9_fixAfterInsertion_109 : decode cJ9_fixAfterInsertion 109 = .ok (.invokestatic 294, 3) := dk_184 1 38 (dk_at dksJ9_fixAfterInsertion_4 15 rfl rfl)
theorem dJ9_fixAfterInsertion_112 : decode cJ9_fixAfterInsertion 112 = .ok (.astore_n 1, 1) := dk_76 (dk_at dksJ9_fixAfterInsertion_4 18 rfl rfl)
theorem dJ9_fixAfterInsertion_113 : decode cJ9_fixAfterInsertion 113 = .ok (.aload_n 0, 1) := dk_42 (dk_at dksJ9_fixAfterInsertion_4 19 rfl rfl)
theorem dJ9_fixAfterInsertion_114 : decode cJ9_fixAfterInsertion 114 = .ok (.aload_n 1, 1) := dk_43 (dk_at dksJ9_fixAfterInsertion_4 20 rfl rfl)
theorem dJ9_fixAfterInsertion_115 : decode cJ9_fixAfterInsertion 115 = .ok (.invokevirtual 311, 3) := dk_182 1 55 (dk_at dksJ9_fixAfterInsertion_4 21 rfl rfl)
theorem dJ9_fixAfterInsertion_118 : decode cJ9_fixAfterInsertion 118 = .ok (.aload_n 1, 1) := dk_43 (dk_at dksJ9_fixAfterInsertion_5 0 rfl rfl)
theorem dJ9_fixAfterInsertion_119 : decode cJ9_fixAfterInsertion 119 = .ok (.invokestatic 294, 3) := dk_184 1 38 (dk_at dksJ9_fixAfterInsertion_5 1 rfl rfl)
theorem dJ9_fixAfterInsertion_122 : decode cJ9_fixAfterInsertion 122 = .ok (.iconst 1, 1) := dk_4 (dk_at dksJ9_fixAfterInsertion_5 4 rfl rfl)
theorem dJ9_fixAfterInsertion_123 : decode cJ9_fixAfterInsertion 123 = .ok (.invokestatic 307, 3) := dk_184 1 51 (dk_at dksJ9_fixAfterInsertion_5 5 rfl rfl)
theorem dJ9_fixAfterInsertion_126 : decode cJ9_fixAfterInsertion 126 = .ok (.aload_n 1, 1) := dk_43 (dk_at dksJ9_fixAfterInsertion_5 8 rfl rfl)
theorem dJ9_fixAfterInsertion_127 : decode cJ9_fixAfterInsertion 127 = .ok (.invokestatic 294, 3) := dk_184 1 38 (dk_at dksJ9_fixAfterInsertion_5 9 rfl rfl)
theorem dJ9_fixAfterInsertion_130 : decode cJ9_fixAfterInsertion 130 = .ok (.invokestatic 294, 3) := dk_184 1 38 (dk_at dksJ9_fixAfterInsertion_5 12 rfl rfl)
theorem dJ9_fixAfterInsertion_133 : decode cJ9_fixAfterInsertion 133 = .ok (.iconst 0, 1) := dk_3 (dk_at dksJ9_fixAfterInsertion_5 15 rfl rfl)
theorem dJ9_fixAfterInsertion_134 : decode cJ9_fixAfterInsertion 134 = .ok (.invokestatic 307, 3) := dk_184 1 51 (dk_at dksJ9_fixAfterInsertion_5 16 rfl rfl)
theorem dJ9_fixAfterInsertion_137 : decode cJ9_fixAfterInsertion 137 = .ok (.aload_n 0, 1) := dk_42 (dk_at dksJ9_fixAfterInsertion_5 19 rfl rfl)
theorem dJ9_fixAfterInsertion_138 : decode cJ9_fixAfterInsertion 138 = .ok (.aload_n 1, 1) := dk_43 (dk_at dksJ9_fixAfterInsertion_5 20 rfl rfl)
theorem dJ9_fixAfterInsertion_139 : decode cJ9_fixAfterInsertion 139 = .ok (.invokestatic 294, 3) := dk_184 1 38 (dk_at dksJ9_fixAfterInsertion_5 21 rfl rfl)
theorem dJ9_fixAfterInsertion_142 : decode cJ9_fixAfterInsertion 142 = .ok (.invokestatic 294, 3) := dk_184 1 38 (dk_at dksJ9_fixAfterInsertion_6 0 rfl rfl)
theorem dJ9_fixAfterInsertion_145 : decode cJ9_fixAfterInsertion 145 = .ok (.invokevirtual 314, 3) := dk_182 1 58 (dk_at dksJ9_fixAfterInsertion_6 3 rfl rfl)
theorem dJ9_fixAfterInsertion_148 : decode cJ9_fixAfterInsertion 148 = .ok (.goto (-143), 3) := dk_167 255 113 (dk_at dksJ9_fixAfterInsertion_6 6 rfl rfl)
theorem dJ9_fixAfterInsertion_151 : decode cJ9_fixAfterInsertion 151 = .ok (.aload_n 1, 1) := dk_43 (dk_at dksJ9_fixAfterInsertion_6 9 rfl rfl)
theorem dJ9_fixAfterInsertion_152 : decode cJ9_fixAfterInsertion 152 = .ok (.invokestatic 294, 3) := dk_184 1 38 (dk_at dksJ9_fixAfterInsertion_6 10 rfl rfl)
theorem dJ9_fixAfterInsertion_155 : decode cJ9_fixAfterInsertion 155 = .ok (.invokestatic 294, 3) := dk_184 1 38 (dk_at dksJ9_fixAfterInsertion_6 13 rfl rfl)
theorem dJ9_fixAfterInsertion_158 : decode cJ9_fixAfterInsertion 158 = .ok (.invokestatic 297, 3) := dk_184 1 41 (dk_at dksJ9_fixAfterInsertion_6 16 rfl rfl)
theorem dJ9_fixAfterInsertion_161 : decode cJ9_fixAfterInsertion 161 = .ok (.astore_n 2, 1) := dk_77 (dk_at dksJ9_fixAfterInsertion_6 19 rfl rfl)
theorem dJ9_fixAfterInsertion_162 : decode cJ9_fixAfterInsertion 162 = .ok (.aload_n 2, 1) := dk_44 (dk_at dksJ9_fixAfterInsertion_6 20 rfl rfl)
theorem dJ9_fixAfterInsertion_163 : decode cJ9_fixAfterInsertion 163 = .ok (.invokestatic 303, 3) := dk_184 1 47 (dk_at dksJ9_fixAfterInsertion_6 21 rfl rfl)
theorem dJ9_fixAfterInsertion_166 : decode cJ9_fixAfterInsertion 166 = .ok (.ifCond .ne 38, 3) := dk_154 0 38 (dk_at dksJ9_fixAfterInsertion_7 0 rfl rfl)
theorem dJ9_fixAfterInsertion_169 : decode cJ9_fixAfterInsertion 169 = .ok (.aload_n 1, 1) := dk_43 (dk_at dksJ9_fixAfterInsertion_7 3 rfl rfl)
theorem dJ9_fixAfterInsertion_170 : decode cJ9_fixAfterInsertion 170 = .ok (.invokestatic 294, 3) := dk_184 1 38 (dk_at dksJ9_fixAfterInsertion_7 4 rfl rfl)
theorem dJ9_fixAfterInsertion_173 : decode cJ9_fixAfterInsertion 173 = .ok (.iconst 1, 1) := dk_4 (dk_at dksJ9_fixAfterInsertion_7 7 rfl rfl)
theorem dJ9_fixAfterInsertion_174 : decode cJ9_fixAfterInsertion 174 = .ok (.invokestatic 307, 3) := dk_184 1 51 (dk_at dksJ9_fixAfterInsertion_7 8 rfl rfl)
theorem dJ9_fixAfterInsertion_177 : decode cJ9_fixAfterInsertion 177 = .ok (.aload_n 2, 1) := dk_44 (dk_at dksJ9_fixAfterInsertion_7 11 rfl rfl)
theorem dJ9_fixAfterInsertion_178 : decode cJ9_fixAfterInsertion 178 = .ok (.iconst 1, 1) := dk_4 (dk_at dksJ9_fixAfterInsertion_7 12 rfl rfl)
theorem dJ9_fixAfterInsertion_179 : decode cJ9_fixAfterInsertion 179 = .ok (.invokestatic 307, 3) := dk_184 1 51 (dk_at dksJ9_fixAfterInsertion_7 13 rfl rfl)
theorem dJ9_fixAfterInsertion_182 : decode cJ9_fixAfterInsertion 182 = .ok (.aload_n 1, 1) := dk_43 (dk_at dksJ9_fixAfterInsertion_7 16 rfl rfl)
theorem dJ9_fixAfterInsertion_183 : decode cJ9_fixAfterInsertion 183 = .ok (.invokestatic 294, 3) := dk_184 1 38 (dk_at dksJ9_fixAfterInsertion_7 17 rfl rfl)
theorem dJ9_fixAfterInsertion_186 : decode cJ9_fixAfterInsertion 186 = .ok (.invokestatic 294, 3) := dk_184 1 38 (dk_at dksJ9_fixAfterInsertion_7 20 rfl rfl)
theorem dJ9_fixAfterInsertion_189 : decode cJ9_fixAfterInsertion 189 = .ok (.iconst 0, 1) := dk_3 (dk_at dksJ9_fixAfterInsertion_7 23 rfl rfl)
theorem dJ9_fixAfterInsertion_190 : decode cJ9_fixAfterInsertion 190 = .ok (.invokestatic 307, 3) := dk_184 1 51 (dk_at dksJ9_fixAfterInsertion_8 0 rfl rfl)
theorem dJ9_fixAfterInsertion_193 : decode cJ9_fixAfterInsertion 193 = .ok (.aload_n 1, 1) := dk_43 (dk_at dksJ9_fixAfterInsertion_8 3 rfl rfl)
theorem dJ9_fixAfterInsertion_194 : decode cJ9_fixAfterInsertion 194 = .ok (.invokestatic 294, 3) := dk_184 1 38 (dk_at dksJ9_fixAfterInsertion_8 4 rfl rfl)
theorem dJ9_fixAfterInsertion_197 : decode cJ9_fixAfterInsertion 197 = .ok (.invokestatic 294, 3) := dk_184 1 38 (dk_at dksJ9_fixAfterInsertion_8 7 rfl rfl)
theorem dJ9_fixAfterInsertion_200 : decode cJ9_fixAfterInsertion 200 = .ok (.astore_n 1, 1) := dk_76 (dk_at dksJ9_fixAfterInsertion_8 10 rfl rfl)
theorem dJ9_fixAfterInsertion_201 : decode cJ9_fixAfterInsertion 201 = .ok (.goto 54, 3) := dk_167 0 54 (dk_at dksJ9_fixAfterInsertion_8 11 rfl rfl)
theorem dJ9_fixAfterInsertion_204 : decode cJ9_fixAfterInsertion 204 = .ok (.aload_n 1, 1) := dk_43 (dk_at dksJ9_fixAfterInsertion_8 14 rfl rfl)
theorem dJ9_fixAfterInsertion_205 : decode cJ9_fixAfterInsertion 205 = .ok (.aload_n 1, 1) := dk_43 (dk_at dksJ9_fixAfterInsertion_8 15 rfl rfl)
theorem dJ9_fixAfterInsertion_206 : decode cJ9_fixAfterInsertion 206 = .ok (.invokestatic 294, 3) := dk_184 1 38 (dk_at dksJ9_fixAfterInsertion_8 16 rfl rfl)
theorem dJ9_fixAfterInsertion_209 : decode cJ9_fixAfterInsertion 209 = .ok (.invokestatic 297, 3) := dk_184 1 41 (dk_at dksJ9_fixAfterInsertion_8 19 rfl rfl)
theorem dJ9_fixAfterInsertion_212 : decode cJ9_fixAfterInsertion 212 = .ok (.if_acmp .ne 13, 3) := dk_166 0 13 (dk_at dksJ9_fixAfterInsertion_9 0 rfl rfl)
theorem dJ9_fixAfterInsertion_215 : decode cJ9_fixAfterInsertion 215 = .ok (.aload_n 1, 1) := dk_43 (dk_at dksJ9_fixAfterInsertion_9 3 rfl rfl)
theorem dJ9_fixAfterInsertion_216 : decode cJ9_fixAfterInsertion 216 = .ok (.invokestatic 294, 3) := dk_184 1 38 (dk_at dksJ9_fixAfterInsertion_9 4 rfl rfl)
theorem dJ9_fixAfterInsertion_219 : decode cJ9_fixAfterInsertion 219 = .ok (.astore_n 1, 1) := dk_76 (dk_at dksJ9_fixAfterInsertion_9 7 rfl rfl)
theorem dJ9_fixAfterInsertion_220 : decode cJ9_fixAfterInsertion 220 = .ok (.aload_n 0, 1) := dk_42 (dk_at dksJ9_fixAfterInsertion_9 8 rfl rfl)
theorem dJ9_fixAfterInsertion_221 : decode cJ9_fixAfterInsertion 221 = .ok (.aload_n 1, 1) := dk_43 (dk_at dksJ9_fixAfterInsertion_9 9 rfl rfl)
theorem dJ9_fixAfterInsertion_222 : decode cJ9_fixAfterInsertion 222 = .ok (.invokevirtual 314, 3) := dk_182 1 58 (dk_at dksJ9_fixAfterInsertion_9 10 rfl rfl)
theorem dJ9_fixAfterInsertion_225 : decode cJ9_fixAfterInsertion 225 = .ok (.aload_n 1, 1) := dk_43 (dk_at dksJ9_fixAfterInsertion_9 13 rfl rfl)
theorem dJ9_fixAfterInsertion_226 : decode cJ9_fixAfterInsertion 226 = .ok (.invokestatic 294, 3) := dk_184 1 38 (dk_at dksJ9_fixAfterInsertion_9 14 rfl rfl)
theorem dJ9_fixAfterInsertion_229 : decode cJ9_fixAfterInsertion 229 = .ok (.iconst 1, 1) := dk_4 (dk_at dksJ9_fixAfterInsertion_9 17 rfl rfl)
theorem dJ9_fixAfterInsertion_230 : decode cJ9_fixAfterInsertion 230 = .ok (.invokestatic 307, 3) := dk_184 1 51 (dk_at dksJ9_fixAfterInsertion_9 18 rfl rfl)
theorem dJ9_fixAfterInsertion_233 : decode cJ9_fixAfterInsertion 233 = .ok (.aload_n 1, 1) := dk_43 (dk_at dksJ9_fixAfterInsertion_9 21 rfl rfl)
theorem dJ9_fixAfterInsertion_234 : decode cJ9_fixAfterInsertion 234 = .ok (.invokestatic 294, 3) := dk_184 1 38 (dk_at dksJ9_fixAfterInsertion_10 0 rfl rfl)
theorem dJ9_fixAfterInsertion_237 : decode cJ9_fixAfterInsertion 237 = .ok (.invokestatic 294, 3) := dk_184 1 38 (dk_at dksJ9_fixAfterInsertion_10 3 rfl rfl)
theorem dJ9_fixAfterInsertion_240 : decode cJ9_fixAfterInsertion 240 = .ok (.iconst 0, 1) := dk_3 (dk_at dksJ9_fixAfterInsertion_10 6 rfl rfl)
theorem dJ9_fixAfterInsertion_241 : decode cJ9_fixAfterInsertion 241 = .ok (.invokestatic 307, 3) := dk_184 1 51 (dk_at dksJ9_fixAfterInsertion_10 7 rfl rfl)
theorem dJ9_fixAfterInsertion_244 : decode cJ9_fixAfterInsertion 244 = .ok (.aload_n 0, 1) := dk_42 (dk_at dksJ9_fixAfterInsertion_10 10 rfl rfl)
theorem dJ9_fixAfterInsertion_245 : decode cJ9_fixAfterInsertion 245 = .ok (.aload_n 1, 1) := dk_43 (dk_at dksJ9_fixAfterInsertion_10 11 rfl rfl)
theorem dJ9_fixAfterInsertion_246 : decode cJ9_fixAfterInsertion 246 = .ok (.invokestatic 294, 3) := dk_184 1 38 (dk_at dksJ9_fixAfterInsertion_10 12 rfl rfl)
theorem dJ9_fixAfterInsertion_249 : decode cJ9_fixAfterInsertion 249 = .ok (.invokestatic 294, 3) := dk_184 1 38 (dk_at dksJ9_fixAfterInsertion_10 15 rfl rfl)
theorem dJ9_fixAfterInsertion_252 : decode cJ9_fixAfterInsertion 252 = .ok (.invokevirtual 311, 3) := dk_182 1 55 (dk_at dksJ9_fixAfterInsertion_10 18 rfl rfl)
theorem dJ9_fixAfterInsertion_255 : decode cJ9_fixAfterInsertion 255 = .ok (.goto (-250), 3) := dk_167 255 6 (dk_at dksJ9_fixAfterInsertion_10 21 rfl rfl)
theorem dJ9_fixAfterInsertion_258 : decode cJ9_fixAfterInsertion 258 = .ok (.aload_n 0, 1) := dk_42 (dk_at dksJ9_fixAfterInsertion_11 0 rfl rfl)
theorem dJ9_fixAfterInsertion_259 : decode cJ9_fixAfterInsertion 259 = .ok (.getfield 101, 3) := dk_180 0 101 (dk_at dksJ9_fixAfterInsertion_11 1 rfl rfl)
theorem dJ9_fixAfterInsertion_262 : decode cJ9_fixAfterInsertion 262 = .ok (.iconst 1, 1) := dk_4 (dk_at dksJ9_fixAfterInsertion_11 4 rfl rfl)
theorem dJ9_fixAfterInsertion_263 : decode cJ9_fixAfterInsertion 263 = .ok (.putfield 290, 3) := dk_181 1 34 (dk_at dksJ9_fixAfterInsertion_11 5 rfl rfl)
theorem dJ9_fixAfterInsertion_266 : decode cJ9_fixAfterInsertion 266 = .ok (.return_, 1) := dk_177 (dk_at dksJ9_fixAfterInsertion_11 8 rfl rfl)
abbrev cJ9_parentOf : ByteArray := prog_94_method_77_code
def yJ9_parentOf : MethodName := ⟨RJ9, "parentOf", "(Ljava/util/TreeMap$Entry;)Ljava/util/TreeMap$Entry;"⟩
def dkwJ9_parentOf_0 : List UInt8 := [42, 199, 0, 7, 1, 167, 0, 7, 42, 180, 0, 124, 176]
abbrev dktJ9_parentOf_0 : List UInt8 := dkwJ9_parentOf_0 ++ []
theorem dksJ9_parentOf_0 : cJ9_parentOf.data.toList.drop 0 = dktJ9_parentOf_0 := by decide +kernel
theorem dJ9_parentOf_0 : decode cJ9_parentOf 0 = .ok (.aload_n 0, 1) := dk_42 (dk_at dksJ9_parentOf_0 0 rfl rfl)
theorem dJ9_parentOf_1 : decode cJ9_parentOf 1 = .ok (.ifnonnull 7, 3) := dk_199 0 7 (dk_at dksJ9_parentOf_0 1 rfl rfl)
theorem dJ9_parentOf_4 : decode cJ9_parentOf 4 = .ok (.aconst_null, 1) := dk_1 (dk_at dksJ9_parentOf_0 4 rfl rfl)
theorem dJ9_parentOf_5 : decode cJ9_parentOf 5 = .ok (.goto 7, 3) := dk_167 0 7 (dk_at dksJ9_parentOf_0 5 rfl rfl)
theorem dJ9_parentOf_8 : decode cJ9_parentOf 8 = .ok (.aload_n 0, 1) := dk_42 (dk_at dksJ9_parentOf_0 8 rfl rfl)
theorem dJ9_parentOf_9 : decode cJ9_parentOf 9 = .ok (.getfield 124, 3) := dk_180 0 124 (dk_at dksJ9_parentOf_0 9 rfl rfl)
theorem dJ9_parentOf_12 : decode cJ9_parentOf 12 = .ok (.areturn, 1) := dk_176 (dk_at dksJ9_parentOf_0 12 rfl rfl)
abbrev cJ9_leftOf : ByteArray := prog_94_method_79_code
def yJ9_leftOf : MethodName := ⟨RJ9, "leftOf", "(Ljava/util/TreeMap$Entry;)Ljava/util/TreeMap$Entry;"⟩
def dkwJ9_leftOf_0 : List UInt8 := [42, 199, 0, 7, 1, 167, 0, 7, 42, 180, 0, 111, 176]
abbrev dktJ9_leftOf_0 : List UInt8 := dkwJ9_leftOf_0 ++ []
theorem dksJ9_leftOf_0 : cJ9_leftOf.data.toList.drop 0 = dktJ9_leftOf_0 := by decide +kernel
theorem dJ9_leftOf_0 : decode cJ9_leftOf 0 = .ok (.aload_n 0, 1) := dk_42 (dk_at dksJ9_leftOf_0 0 rfl rfl)
theorem dJ9_leftOf_1 : decode cJ9_leftOf 1 = .ok (.ifnonnull 7, 3) := dk_199 0 7 (dk_at dksJ9_leftOf_0 1 rfl rfl)
theorem dJ9_leftOf_4 : decode cJ9_leftOf 4 = .ok (.aconst_null, 1) := dk_1 (dk_at dksJ9_leftOf_0 4 rfl rfl)
theorem dJ9_leftOf_5 : decode cJ9_leftOf 5 = .ok (.goto 7, 3) := dk_167 0 7 (dk_at dksJ9_leftOf_0 5 rfl rfl)
theorem dJ9_leftOf_8 : decode cJ9_leftOf 8 = .ok (.aload_n 0, 1) := dk_42 (dk_at dksJ9_leftOf_0 8 rfl rfl)
theorem dJ9_leftOf_9 : decode cJ9_leftOf 9 = .ok (.getfield 111, 3) := dk_180 0 111 (dk_at dksJ9_leftOf_0 9 rfl rfl)
theorem dJ9_leftOf_12 : decode cJ9_leftOf 12 = .ok (.areturn, 1) := dk_176 (dk_at dksJ9_leftOf_0 12 rfl rfl)
abbrev cJ9_rightOf : ByteArray := prog_94_method_80_code
def yJ9_rightOf : MethodName := ⟨RJ9, "rightOf", "(Ljava/util/TreeMap$Entry;)Ljava/util/TreeMap$Entry;"⟩
def dkwJ9_rightOf_0 : List UInt8 := [42, 199, 0, 7, 1, 167, 0, 7, 42, 180, 0, 114, 176]
abbrev dktJ9_rightOf_0 : List UInt8 := dkwJ9_rightOf_0 ++ []
theorem dksJ9_rightOf_0 : cJ9_rightOf.data.toList.drop 0 = dktJ9_rightOf_0 := by decide +kernel
theorem dJ9_rightOf_0 : decode cJ9_rightOf 0 = .ok (.aload_n 0, 1) := dk_42 (dk_at dksJ9_rightOf_0 0 rfl rfl)
theorem dJ9_rightOf_1 : decode cJ9_rightOf 1 = .ok (.ifnonnull 7, 3) := dk_199 0 7 (dk_at dksJ9_rightOf_0 1 rfl rfl)
theorem dJ9_rightOf_4 : decode cJ9_rightOf 4 = .ok (.aconst_null, 1) := dk_1 (dk_at dksJ9_rightOf_0 4 rfl rfl)
theorem dJ9_rightOf_5 : decode cJ9_rightOf 5 = .ok (.goto 7, 3) := dk_167 0 7 (dk_at dksJ9_rightOf_0 5 rfl rfl)
theorem dJ9_rightOf_8 : decode cJ9_rightOf 8 = .ok (.aload_n 0, 1) := dk_42 (dk_at dksJ9_rightOf_0 8 rfl rfl)
theorem dJ9_rightOf_9 : decode cJ9_rightOf 9 = .ok (.getfield 114, 3) := dk_180 0 114 (dk_at dksJ9_rightOf_0 9 rfl rfl)
theorem dJ9_rightOf_12 : decode cJ9_rightOf 12 = .ok (.areturn, 1) := dk_176 (dk_at dksJ9_rightOf_0 12 rfl rfl)
abbrev cJ9_colorOf : ByteArray := prog_94_method_76_code
def yJ9_colorOf : MethodName := ⟨RJ9, "colorOf", "(Ljava/util/TreeMap$Entry;)Z"⟩
def dkwJ9_colorOf_0 : List UInt8 := [42, 199, 0, 7, 4, 167, 0, 7, 42, 180, 1, 34, 172]
abbrev dktJ9_colorOf_0 : List UInt8 := dkwJ9_colorOf_0 ++ []
theorem dksJ9_colorOf_0 : cJ9_colorOf.data.toList.drop 0 = dktJ9_colorOf_0 := by decide +kernel
theorem dJ9_colorOf_0 : decode cJ9_colorOf 0 = .ok (.aload_n 0, 1) := dk_42 (dk_at dksJ9_colorOf_0 0 rfl rfl)
theorem dJ9_colorOf_1 : decode cJ9_colorOf 1 = .ok (.ifnonnull 7, 3) := dk_199 0 7 (dk_at dksJ9_colorOf_0 1 rfl rfl)
theorem dJ9_colorOf_4 : decode cJ9_colorOf 4 = .ok (.iconst 1, 1) := dk_4 (dk_at dksJ9_colorOf_0 4 rfl rfl)
theorem dJ9_colorOf_5 : decode cJ9_colorOf 5 = .ok (.goto 7, 3) := dk_167 0 7 (dk_at dksJ9_colorOf_0 5 rfl rfl)
theorem dJ9_colorOf_8 : decode cJ9_colorOf 8 = .ok (.aload_n 0, 1) := dk_42 (dk_at dksJ9_colorOf_0 8 rfl rfl)
theorem dJ9_colorOf_9 : decode cJ9_colorOf 9 = .ok (.getfield 290, 3) := dk_180 1 34 (dk_at dksJ9_colorOf_0 9 rfl rfl)
theorem dJ9_colorOf_12 : decode cJ9_colorOf 12 = .ok (.ireturn, 1) := dk_172 (dk_at dksJ9_colorOf_0 12 rfl rfl)
abbrev cJ9_setColor : ByteArray := prog_94_method_78_code
def yJ9_setColor : MethodName := ⟨RJ9, "setColor", "(Ljava/util/TreeMap$Entry;Z)V"⟩
def dkwJ9_setColor_0 : List UInt8 := [42, 198, 0, 8, 42, 27, 181, 1, 34, 177]
abbrev dktJ9_setColor_0 : List UInt8 := dkwJ9_setColor_0 ++ []
theorem dksJ9_setColor_0 : cJ9_setColor.data.toList.drop 0 = dktJ9_setColor_0 := by decide +kernel
theorem dJ9_setColor_0 : decode cJ9_setColor 0 = .ok (.aload_n 0, 1) := dk_42 (dk_at dksJ9_setColor_0 0 rfl rfl)
theorem dJ9_setColor_1 : decode cJ9_setColor 1 = .ok (.ifnull 8, 3) := dk_198 0 8 (dk_at dksJ9_setColor_0 1 rfl rfl)
theorem dJ9_setColor_4 : decode cJ9_setColor 4 = .ok (.aload_n 0, 1) := dk_42 (dk_at dksJ9_setColor_0 4 rfl rfl)
theorem dJ9_setColor_5 : decode cJ9_setColor 5 = .ok (.iload_n 1, 1) := dk_27 (dk_at dksJ9_setColor_0 5 rfl rfl)
theorem dJ9_setColor_6 : decode cJ9_setColor 6 = .ok (.putfield 290, 3) := dk_181 1 34 (dk_at dksJ9_setColor_0 6 rfl rfl)
theorem dJ9_setColor_9 : decode cJ9_setColor 9 = .ok (.return_, 1) := dk_177 (dk_at dksJ9_setColor_0 9 rfl rfl)
abbrev cJ9_rotateLeft : ByteArray := prog_94_method_81_code
def yJ9_rotateLeft : MethodName := ⟨RJ9, "rotateLeft", "(Ljava/util/TreeMap$Entry;)V"⟩
def dkwJ9_rotateLeft_4 : List UInt8 := [177]
abbrev dktJ9_rotateLeft_4 : List UInt8 := dkwJ9_rotateLeft_4 ++ []
def dkwJ9_rotateLeft_3 : List UInt8 := [181, 0, 111, 167, 0, 11, 43, 180, 0, 124, 44, 181, 0, 114, 44, 43, 181, 0, 111, 43, 44, 181, 0, 124]
abbrev dktJ9_rotateLeft_3 : List UInt8 := dkwJ9_rotateLeft_3 ++ dktJ9_rotateLeft_4
def dkwJ9_rotateLeft_2 : List UInt8 := [44, 181, 0, 101, 167, 0, 33, 43, 180, 0, 124, 180, 0, 111, 43, 166, 0, 14, 43, 180, 0, 124, 44]
abbrev dktJ9_rotateLeft_2 : List UInt8 := dkwJ9_rotateLeft_2 ++ dktJ9_rotateLeft_3
def dkwJ9_rotateLeft_1 : List UInt8 := [44, 180, 0, 111, 43, 181, 0, 124, 44, 43, 180, 0, 124, 181, 0, 124, 43, 180, 0, 124, 199, 0, 11, 42]
abbrev dktJ9_rotateLeft_1 : List UInt8 := dkwJ9_rotateLeft_1 ++ dktJ9_rotateLeft_2
def dkwJ9_rotateLeft_0 : List UInt8 := [43, 198, 0, 94, 43, 180, 0, 114, 77, 43, 44, 180, 0, 111, 181, 0, 114, 44, 180, 0, 111, 198, 0, 11]
abbrev dktJ9_rotateLeft_0 : List UInt8 := dkwJ9_rotateLeft_0 ++ dktJ9_rotateLeft_1
theorem dksJ9_rotateLeft_0 : cJ9_rotateLeft.data.toList.drop 0 = dktJ9_rotateLeft_0 := by decide +kernel
theorem dksJ9_rotateLeft_1 : cJ9_rotateLeft.data.toList.drop 24 = dktJ9_rotateLeft_1 := dk_seg dksJ9_rotateLeft_0 24 rfl rfl
theorem dksJ9_rotateLeft_2 : cJ9_rotateLeft.data.toList.drop 48 = dktJ9_rotateLeft_2 := dk_seg dksJ9_rotateLeft_1 24 rfl rfl
theorem dksJ9_rotateLeft_3 : cJ9_rotateLeft.data.toList.drop 71 = dktJ9_rotateLeft_3 := dk_seg dksJ9_rotateLeft_2 23 rfl rfl
theorem dksJ9_rotateLeft_4 : cJ9_rotateLeft.data.toList.drop 95 = dktJ9_rotateLeft_4 := dk_seg dksJ9_rotateLeft_3 24 rfl rfl
theorem dJ9_rotateLeft_0 : decode cJ9_rotateLeft 0 = .ok (.aload_n 1, 1) := dk_43 (dk_at dksJ9_rotateLeft_0 0 rfl rfl)
theorem dJ9_rotateLeft_1 : decode cJ9_rotateLeft 1 = .ok (.ifnull 94, 3) := dk_198 0 94 (dk_at dksJ9_rotateLeft_0 1 rfl rfl)
theorem dJ9_rotateLeft_4 : decode cJ9_rotateLeft 4 = .ok (.aload_n 1, 1) := dk_43 (dk_at dksJ9_rotateLeft_0 4 rfl rfl)
theorem dJ9_rotateLeft_5 : decode cJ9_rotateLeft 5 = .ok (.getfield 114, 3) := dk_180 0 114 (dk_at dksJ9_rotateLeft_0 5 rfl rfl)
theorem dJ9_rotateLeft_8 : decode cJ9_rotateLeft 8 = .ok (.astore_n 2, 1) := dk_77 (dk_at dksJ9_rotateLeft_0 8 rfl rfl)
theorem dJ9_rotateLeft_9 : decode cJ9_rotateLeft 9 = .ok (.aload_n 1, 1) := dk_43 (dk_at dksJ9_rotateLeft_0 9 rfl rfl)
theorem dJ9_rotateLeft_10 : decode cJ9_rotateLeft 10 = .ok (.aload_n 2, 1) := dk_44 (dk_at dksJ9_rotateLeft_0 10 rfl rfl)
theorem dJ9_rotateLeft_11 : decode cJ9_rotateLeft 11 = .ok (.getfield 111, 3) := dk_180 0 111 (dk_at dksJ9_rotateLeft_0 11 rfl rfl)
theorem dJ9_rotateLeft_14 : decode cJ9_rotateLeft 14 = .ok (.putfield 114, 3) := dk_181 0 114 (dk_at dksJ9_rotateLeft_0 14 rfl rfl)
theorem dJ9_rotateLeft_17 : decode cJ9_rotateLeft 17 = .ok (.aload_n 2, 1) := dk_44 (dk_at dksJ9_rotateLeft_0 17 rfl rfl)
theorem dJ9_rotateLeft_18 : decode cJ9_rotateLeft 18 = .ok (.getfield 111, 3) := dk_180 0 111 (dk_at dksJ9_rotateLeft_0 18 rfl rfl)
theorem dJ9_rotateLeft_21 : decode cJ9_rotateLeft 21 = .ok (.ifnull 11, 3) := dk_198 0 11 (dk_at dksJ9_rotateLeft_0 21 rfl rfl)
theorem dJ9_rotateLeft_24 : decode cJ9_rotateLeft 24 = .ok (.aload_n 2, 1) := dk_44 (dk_at dksJ9_rotateLeft_1 0 rfl rfl)
theorem dJ9_rotateLeft_25 : decode cJ9_rotateLeft 25 = .ok (.getfield 111, 3) := dk_180 0 111 (dk_at dksJ9_rotateLeft_1 1 rfl rfl)
theorem dJ9_rotateLeft_28 : decode cJ9_rotateLeft 28 = .ok (.aload_n 1, 1) := dk_43 (dk_at dksJ9_rotateLeft_1 4 rfl rfl)
theorem dJ9_rotateLeft_29 : decode cJ9_rotateLeft 29 = .ok (.putfield 124, 3) := dk_181 0 124 (dk_at dksJ9_rotateLeft_1 5 rfl rfl)
theorem dJ9_rotateLeft_32 : decode cJ9_rotateLeft 32 = .ok (.aload_n 2, 1) := dk_44 (dk_at dksJ9_rotateLeft_1 8 rfl rfl)
theorem dJ9_rotateLeft_33 : decode cJ9_rotateLeft 33 = .ok (.aload_n 1, 1) := dk_43 (dk_at dksJ9_rotateLeft_1 9 rfl rfl)
theorem dJ9_rotateLeft_34 : decode cJ9_rotateLeft 34 = .ok (.getfield 124, 3) := dk_180 0 124 (dk_at dksJ9_rotateLeft_1 10 rfl rfl)
theorem dJ9_rotateLeft_37 : decode cJ9_rotateLeft 37 = .ok (.putfield 124, 3) := dk_181 0 124 (dk_at dksJ9_rotateLeft_1 13 rfl rfl)
theorem dJ9_rotateLeft_40 : decode cJ9_rotateLeft 40 = .ok (.aload_n 1, 1) := dk_43 (dk_at dksJ9_rotateLeft_1 16 rfl rfl)
theorem dJ9_rotateLeft_41 : decode cJ9_rotateLeft 41 = .ok (.getfield 124, 3) := dk_180 0 124 (dk_at dksJ9_rotateLeft_1 17 rfl rfl)
theorem dJ9_rotateLeft_44 : decode cJ9_rotateLeft 44 = .ok (.ifnonnull 11, 3) := dk_199 0 11 (dk_at dksJ9_rotateLeft_1 20 rfl rfl)
theorem dJ9_rotateLeft_47 : decode cJ9_rotateLeft 47 = .ok (.aload_n 0, 1) := dk_42 (dk_at dksJ9_rotateLeft_1 23 rfl rfl)
theorem dJ9_rotateLeft_48 : decode cJ9_rotateLeft 48 = .ok (.aload_n 2, 1) := dk_44 (dk_at dksJ9_rotateLeft_2 0 rfl rfl)
theorem dJ9_rotateLeft_49 : decode cJ9_rotateLeft 49 = .ok (.putfield 101, 3) := dk_181 0 101 (dk_at dksJ9_rotateLeft_2 1 rfl rfl)
theorem dJ9_rotateLeft_52 : decode cJ9_rotateLeft 52 = .ok (.goto 33, 3) := dk_167 0 33 (dk_at dksJ9_rotateLeft_2 4 rfl rfl)
theorem dJ9_rotateLeft_55 : decode cJ9_rotateLeft 55 = .ok (.aload_n 1, 1) := dk_43 (dk_at dksJ9_rotateLeft_2 7 rfl rfl)
theorem dJ9_rotateLeft_56 : decode cJ9_rotateLeft 56 = .ok (.getfield 124, 3) := dk_180 0 124 (dk_at dksJ9_rotateLeft_2 8 rfl rfl)
theorem dJ9_rotateLeft_59 : decode cJ9_rotateLeft 59 = .ok (.getfield 111, 3) := dk_180 0 111 (dk_at dksJ9_rotateLeft_2 11 rfl rfl)
theorem dJ9_rotateLeft_62 : decode cJ9_rotateLeft 62 = .ok (.aload_n 1, 1) := dk_43 (dk_at dksJ9_rotateLeft_2 14 rfl rfl)
theorem dJ9_rotateLeft_63 : decode cJ9_rotateLeft 63 = .ok (.if_acmp .ne 14, 3) := dk_166 0 14 (dk_at dksJ9_rotateLeft_2 15 rfl rfl)
theorem dJ9_rotateLeft_66 : decode cJ9_rotateLeft 66 = .ok (.aload_n 1, 1) := dk_43 (dk_at dksJ9_rotateLeft_2 18 rfl rfl)
theorem dJ9_rotateLeft_67 : decode cJ9_rotateLeft 67 = .ok (.getfield 124, 3) := dk_180 0 124 (dk_at dksJ9_rotateLeft_2 19 rfl rfl)
theorem dJ9_rotateLeft_70 : decode cJ9_rotateLeft 70 = .ok (.aload_n 2, 1) := dk_44 (dk_at dksJ9_rotateLeft_2 22 rfl rfl)
theorem dJ9_rotateLeft_71 : decode cJ9_rotateLeft 71 = .ok (.putfield 111, 3) := dk_181 0 111 (dk_at dksJ9_rotateLeft_3 0 rfl rfl)
theorem dJ9_rotateLeft_74 : decode cJ9_rotateLeft 74 = .ok (.goto 11, 3) := dk_167 0 11 (dk_at dksJ9_rotateLeft_3 3 rfl rfl)
theorem dJ9_rotateLeft_77 : decode cJ9_rotateLeft 77 = .ok (.aload_n 1, 1) := dk_43 (dk_at dksJ9_rotateLeft_3 6 rfl rfl)
theorem dJ9_rotateLeft_78 : decode cJ9_rotateLeft 78 = .ok (.getfield 124, 3) := dk_180 0 124 (dk_at dksJ9_rotateLeft_3 7 rfl rfl)
theorem dJ9_rotateLeft_81 : decode cJ9_rotateLeft 81 = .ok (.aload_n 2, 1) := dk_44 (dk_at dksJ9_rotateLeft_3 10 rfl rfl)
theorem dJ9_rotateLeft_82 : decode cJ9_rotateLeft 82 = .ok (.putfield 114, 3) := dk_181 0 114 (dk_at dksJ9_rotateLeft_3 11 rfl rfl)
theorem dJ9_rotateLeft_85 : decode cJ9_rotateLeft 85 = .ok (.aload_n 2, 1) := dk_44 (dk_at dksJ9_rotateLeft_3 14 rfl rfl)
theorem dJ9_rotateLeft_86 : decode cJ9_rotateLeft 86 = .ok (.aload_n 1, 1) := dk_43 (dk_at dksJ9_rotateLeft_3 15 rfl rfl)
theorem dJ9_rotateLeft_87 : decode cJ9_rotateLeft 87 = .ok (.putfield 111, 3) := dk_181 0 111 (dk_at dksJ9_rotateLeft_3 16 rfl rfl)
theorem dJ9_rotateLeft_90 : decode cJ9_rotateLeft 90 = .ok (.aload_n 1, 1) := dk_43 (dk_at dksJ9_rotateLeft_3 19 rfl rfl)
theorem dJ9_rotateLeft_91 : decode cJ9_rotateLeft 91 = .ok (.aload_n 2, 1) := dk_44 (dk_at dksJ9_rotateLeft_3 20 rfl rfl)
theorem dJ9_rotateLeft_92 : decode cJ9_rotateLeft 92 = .ok (.putfield 124, 3) := dk_181 0 124 (dk_at dksJ9_rotateLeft_3 21 rfl rfl)
theorem dJ9_rotateLeft_95 : decode cJ9_rotateLeft 95 = .ok (.return_, 1) := dk_177 (dk_at dksJ9_rotateLeft_4 0 rfl rfl)
abbrev cJ9_rotateRight : ByteArray := prog_94_method_82_code
def yJ9_rotateRight : MethodName := ⟨RJ9, "rotateRight", "(Ljava/util/TreeMap$Entry;)V"⟩
def dkwJ9_rotateRight_4 : List UInt8 := [177]
abbrev dktJ9_rotateRight_4 : List UInt8 := dkwJ9_rotateRight_4 ++ []
def dkwJ9_rotateRight_3 : List UInt8 := [181, 0, 114, 167, 0, 11, 43, 180, 0, 124, 44, 181, 0, 111, 44, 43, 181, 0, 114, 43, 44, 181, 0, 124]
abbrev dktJ9_rotateRight_3 : List UInt8 := dkwJ9_rotateRight_3 ++ dktJ9_rotateRight_4
def dkwJ9_rotateRight_2 : List UInt8 := [44, 181, 0, 101, 167, 0, 33, 43, 180, 0, 124, 180, 0, 114, 43, 166, 0, 14, 43, 180, 0, 124, 44]
abbrev dktJ9_rotateRight_2 : List UInt8 := dkwJ9_rotateRight_2 ++ dktJ9_rotateRight_3
def dkwJ9_rotateRight_1 : List UInt8 := [44, 180, 0, 114, 43, 181, 0, 124, 44, 43, 180, 0, 124, 181, 0, 124, 43, 180, 0, 124, 199, 0, 11, 42]
abbrev dktJ9_rotateRight_1 : List UInt8 := dkwJ9_rotateRight_1 ++ dktJ9_rotateRight_2
def dkwJ9_rotateRight_0 : List UInt8 := [43, 198, 0, 94, 43, 180, 0, 111, 77, 43, 44, 180, 0, 114, 181, 0, 111, 44, 180, 0, 114, 198, 0, 11]
abbrev dktJ9_rotateRight_0 : List UInt8 := dkwJ9_rotateRight_0 ++ dktJ9_rotateRight_1
theorem dksJ9_rotateRight_0 : cJ9_rotateRight.data.toList.drop 0 = dktJ9_rotateRight_0 := by decide +kernel
theorem dksJ9_rotateRight_1 : cJ9_rotateRight.data.toList.drop 24 = dktJ9_rotateRight_1 := dk_seg dksJ9_rotateRight_0 24 rfl rfl
theorem dksJ9_rotateRight_2 : cJ9_rotateRight.data.toList.drop 48 = dktJ9_rotateRight_2 := dk_seg dksJ9_rotateRight_1 24 rfl rfl
theorem dksJ9_rotateRight_3 : cJ9_rotateRight.data.toList.drop 71 = dktJ9_rotateRight_3 := dk_seg dksJ9_rotateRight_2 23 rfl rfl
theorem dksJ9_rotateRight_4 : cJ9_rotateRight.data.toList.drop 95 = dktJ9_rotateRight_4 := dk_seg dksJ9_rotateRight_3 24 rfl rfl
theorem dJ9_rotateRight_0 : decode cJ9_rotateRight 0 = .ok (.aload_n 1, 1) := dk_43 (dk_at dksJ9_rotateRight_0 0 rfl rfl)
theorem dJ9_rotateRight_1 : decode cJ9_rotateRight 1 = .ok (.ifnull 94, 3) := dk_198 0 94 (dk_at dksJ9_rotateRight_0 1 rfl rfl)
theorem dJ9_rotateRight_4 : decode cJ9_rotateRight 4 = .ok (.aload_n 1, 1) := dk_43 (dk_at dksJ9_rotateRight_0 4 rfl rfl)
theorem dJ9_rotateRight_5 : decode cJ9_rotateRight 5 = .ok (.getfield 111, 3) := dk_180 0 111 (dk_at dksJ9_rotateRight_0 5 rfl rfl)
theorem dJ9_rotateRight_8 : decode cJ9_rotateRight 8 = .ok (.astore_n 2, 1) := dk_77 (dk_at dksJ9_rotateRight_0 8 rfl rfl)
theorem dJ9_rotateRight_9 : decode cJ9_rotateRight 9 = .ok (.aload_n 1, 1) := dk_43 (dk_at dksJ9_rotateRight_0 9 rfl rfl)
theorem dJ9_rotateRight_10 : decode cJ9_rotateRight 10 = .ok (.aload_n 2, 1) := dk_44 (dk_at dksJ9_rotateRight_0 10 rfl rfl)
theorem dJ9_rotateRight_11 : decode cJ9_rotateRight 11 = .ok (.getfield 114, 3) := dk_180 0 114 (dk_at dksJ9_rotateRight_0 11 rfl rfl)
theorem dJ9_rotateRight_14 : decode cJ9_rotateRight 14 = .ok (.putfield 111, 3) := dk_181 0 111 (dk_at dksJ9_rotateRight_0 14 rfl rfl)
theorem dJ9_rotateRight_17 : decode cJ9_rotateRight 17 = .ok (.aload_n 2, 1) := dk_44 (dk_at dksJ9_rotateRight_0 17 rfl rfl)
theorem dJ9_rotateRight_18 : decode cJ9_rotateRight 18 = .ok (.getfield 114, 3) := dk_180 0 114 (dk_at dksJ9_rotateRight_0 18 rfl rfl)
theorem dJ9_rotateRight_21 : decode cJ9_rotateRight 21 = .ok (.ifnull 11, 3) := dk_198 0 11 (dk_at dksJ9_rotateRight_0 21 rfl rfl)
theorem dJ9_rotateRight_24 : decode cJ9_rotateRight 24 = .ok (.aload_n 2, 1) := dk_44 (dk_at dksJ9_rotateRight_1 0 rfl rfl)
theorem dJ9_rotateRight_25 : decode cJ9_rotateRight 25 = .ok (.getfield 114, 3) := dk_180 0 114 (dk_at dksJ9_rotateRight_1 1 rfl rfl)
theorem dJ9_rotateRight_28 : decode cJ9_rotateRight 28 = .ok (.aload_n 1, 1) := dk_43 (dk_at dksJ9_rotateRight_1 4 rfl rfl)
theorem dJ9_rotateRight_29 : decode cJ9_rotateRight 29 = .ok (.putfield 124, 3) := dk_181 0 124 (dk_at dksJ9_rotateRight_1 5 rfl rfl)
theorem dJ9_rotateRight_32 : decode cJ9_rotateRight 32 = .ok (.aload_n 2, 1) := dk_44 (dk_at dksJ9_rotateRight_1 8 rfl rfl)
theorem dJ9_rotateRight_33 : decode cJ9_rotateRight 33 = .ok (.aload_n 1, 1) := dk_43 (dk_at dksJ9_rotateRight_1 9 rfl rfl)
theorem dJ9_rotateRight_34 : decode cJ9_rotateRight 34 = .ok (.getfield 124, 3) := dk_180 0 124 (dk_at dksJ9_rotateRight_1 10 rfl rfl)
theorem dJ9_rotateRight_37 : decode cJ9_rotateRight 37 = .ok (.putfield 124, 3) := dk_181 0 124 (dk_at dksJ9_rotateRight_1 13 rfl rfl)
theorem dJ9_rotateRight_40 : decode cJ9_rotateRight 40 = .ok (.aload_n 1, 1) := dk_43 (dk_at dksJ9_rotateRight_1 16 rfl rfl)
theorem dJ9_rotateRight_41 : decode cJ9_rotateRight 41 = .ok (.getfield 124, 3) := dk_180 0 124 (dk_at dksJ9_rotateRight_1 17 rfl rfl)
theorem dJ9_rotateRight_44 : decode cJ9_rotateRight 44 = .ok (.ifnonnull 11, 3) := dk_199 0 11 (dk_at dksJ9_rotateRight_1 20 rfl rfl)
theorem dJ9_rotateRight_47 : decode cJ9_rotateRight 47 = .ok (.aload_n 0, 1) := dk_42 (dk_at dksJ9_rotateRight_1 23 rfl rfl)
theorem dJ9_rotateRight_48 : decode cJ9_rotateRight 48 = .ok (.aload_n 2, 1) := dk_44 (dk_at dksJ9_rotateRight_2 0 rfl rfl)
theorem dJ9_rotateRight_49 : decode cJ9_rotateRight 49 = .ok (.putfield 101, 3) := dk_181 0 101 (dk_at dksJ9_rotateRight_2 1 rfl rfl)
theorem dJ9_rotateRight_52 : decode cJ9_rotateRight 52 = .ok (.goto 33, 3) := dk_167 0 33 (dk_at dksJ9_rotateRight_2 4 rfl rfl)
theorem dJ9_rotateRight_55 : decode cJ9_rotateRight 55 = .ok (.aload_n 1, 1) := dk_43 (dk_at dksJ9_rotateRight_2 7 rfl rfl)
theorem dJ9_rotateRight_56 : decode cJ9_rotateRight 56 = .ok (.getfield 124, 3) := dk_180 0 124 (dk_at dksJ9_rotateRight_2 8 rfl rfl)
theorem dJ9_rotateRight_59 : decode cJ9_rotateRight 59 = .ok (.getfield 114, 3) := dk_180 0 114 (dk_at dksJ9_rotateRight_2 11 rfl rfl)
theorem dJ9_rotateRight_62 : decode cJ9_rotateRight 62 = .ok (.aload_n 1, 1) := dk_43 (dk_at dksJ9_rotateRight_2 14 rfl rfl)
theorem dJ9_rotateRight_63 : decode cJ9_rotateRight 63 = .ok (.if_acmp .ne 14, 3) := dk_166 0 14 (dk_at dksJ9_rotateRight_2 15 rfl rfl)
theorem dJ9_rotateRight_66 : decode cJ9_rotateRight 66 = .ok (.aload_n 1, 1) := dk_43 (dk_at dksJ9_rotateRight_2 18 rfl rfl)
theorem dJ9_rotateRight_67 : decode cJ9_rotateRight 67 = .ok (.getfield 124, 3) := dk_180 0 124 (dk_at dksJ9_rotateRight_2 19 rfl rfl)
theorem dJ9_rotateRight_70 : decode cJ9_rotateRight 70 = .ok (.aload_n 2, 1) := dk_44 (dk_at dksJ9_rotateRight_2 22 rfl rfl)
theorem dJ9_rotateRight_71 : decode cJ9_rotateRight 71 = .ok (.putfield 114, 3) := dk_181 0 114 (dk_at dksJ9_rotateRight_3 0 rfl rfl)
theorem dJ9_rotateRight_74 : decode cJ9_rotateRight 74 = .ok (.goto 11, 3) := dk_167 0 11 (dk_at dksJ9_rotateRight_3 3 rfl rfl)
theorem dJ9_rotateRight_77 : decode cJ9_rotateRight 77 = .ok (.aload_n 1, 1) := dk_43 (dk_at dksJ9_rotateRight_3 6 rfl rfl)
theorem dJ9_rotateRight_78 : decode cJ9_rotateRight 78 = .ok (.getfield 124, 3) := dk_180 0 124 (dk_at dksJ9_rotateRight_3 7 rfl rfl)
theorem dJ9_rotateRight_81 : decode cJ9_rotateRight 81 = .ok (.aload_n 2, 1) := dk_44 (dk_at dksJ9_rotateRight_3 10 rfl rfl)
theorem dJ9_rotateRight_82 : decode cJ9_rotateRight 82 = .ok (.putfield 111, 3) := dk_181 0 111 (dk_at dksJ9_rotateRight_3 11 rfl rfl)
theorem dJ9_rotateRight_85 : decode cJ9_rotateRight 85 = .ok (.aload_n 2, 1) := dk_44 (dk_at dksJ9_rotateRight_3 14 rfl rfl)
theorem dJ9_rotateRight_86 : decode cJ9_rotateRight 86 = .ok (.aload_n 1, 1) := dk_43 (dk_at dksJ9_rotateRight_3 15 rfl rfl)
theorem dJ9_rotateRight_87 : decode cJ9_rotateRight 87 = .ok (.putfield 114, 3) := dk_181 0 114 (dk_at dksJ9_rotateRight_3 16 rfl rfl)
theorem dJ9_rotateRight_90 : decode cJ9_rotateRight 90 = .ok (.aload_n 1, 1) := dk_43 (dk_at dksJ9_rotateRight_3 19 rfl rfl)
theorem dJ9_rotateRight_91 : decode cJ9_rotateRight 91 = .ok (.aload_n 2, 1) := dk_44 (dk_at dksJ9_rotateRight_3 20 rfl rfl)
theorem dJ9_rotateRight_92 : decode cJ9_rotateRight 92 = .ok (.putfield 124, 3) := dk_181 0 124 (dk_at dksJ9_rotateRight_3 21 rfl rfl)
theorem dJ9_rotateRight_95 : decode cJ9_rotateRight 95 = .ok (.return_, 1) := dk_177 (dk_at dksJ9_rotateRight_4 0 rfl rfl)
abbrev cJ9_remove : ByteArray := prog_94_method_34_code
def yJ9_remove : MethodName := ⟨RJ9, "remove", "(Ljava/lang/Object;)Ljava/lang/Object;"⟩
def dkwJ9_remove_0 : List UInt8 := [42, 43, 182, 0, 50, 77, 44, 199, 0, 5, 1, 176, 44, 180, 0, 58, 78, 42, 44, 182, 0, 174, 45, 176]
abbrev dktJ9_remove_0 : List UInt8 := dkwJ9_remove_0 ++ []
theorem dksJ9_remove_0 : cJ9_remove.data.toList.drop 0 = dktJ9_remove_0 := by decide +kernel
theorem dJ9_remove_0 : decode cJ9_remove 0 = .ok (.aload_n 0, 1) := dk_42 (dk_at dksJ9_remove_0 0 rfl rfl)
theorem dJ9_remove_1 : decode cJ9_remove 1 = .ok (.aload_n 1, 1) := dk_43 (dk_at dksJ9_remove_0 1 rfl rfl)
theorem dJ9_remove_2 : decode cJ9_remove 2 = .ok (.invokevirtual 50, 3) := dk_182 0 50 (dk_at dksJ9_remove_0 2 rfl rfl)
theorem dJ9_remove_5 : decode cJ9_remove 5 = .ok (.astore_n 2, 1) := dk_77 (dk_at dksJ9_remove_0 5 rfl rfl)
theorem dJ9_remove_6 : decode cJ9_remove 6 = .ok (.aload_n 2, 1) := dk_44 (dk_at dksJ9_remove_0 6 rfl rfl)
theorem dJ9_remove_7 : decode cJ9_remove 7 = .ok (.ifnonnull 5, 3) := dk_199 0 5 (dk_at dksJ9_remove_0 7 rfl rfl)
theorem dJ9_remove_10 : decode cJ9_remove 10 = .ok (.aconst_null, 1) := dk_1 (dk_at dksJ9_remove_0 10 rfl rfl)
theorem dJ9_remove_11 : decode cJ9_remove 11 = .ok (.areturn, 1) := dk_176 (dk_at dksJ9_remove_0 11 rfl rfl)
theorem dJ9_remove_12 : decode cJ9_remove 12 = .ok (.aload_n 2, 1) := dk_44 (dk_at dksJ9_remove_0 12 rfl rfl)
theorem dJ9_remove_13 : decode cJ9_remove 13 = .ok (.getfield 58, 3) := dk_180 0 58 (dk_at dksJ9_remove_0 13 rfl rfl)
theorem dJ9_remove_16 : decode cJ9_remove 16 = .ok (.astore_n 3, 1) := dk_78 (dk_at dksJ9_remove_0 16 rfl rfl)
theorem dJ9_remove_17 : decode cJ9_remove 17 = .ok (.aload_n 0, 1) := dk_42 (dk_at dksJ9_remove_0 17 rfl rfl)
theorem dJ9_remove_18 : decode cJ9_remove 18 = .ok (.aload_n 2, 1) := dk_44 (dk_at dksJ9_remove_0 18 rfl rfl)
theorem dJ9_remove_19 : decode cJ9_remove 19 = .ok (.invokevirtual 174, 3) := dk_182 0 174 (dk_at dksJ9_remove_0 19 rfl rfl)
theorem dJ9_remove_22 : decode cJ9_remove 22 = .ok (.aload_n 3, 1) := dk_45 (dk_at dksJ9_remove_0 22 rfl rfl)
theorem dJ9_remove_23 : decode cJ9_remove 23 = .ok (.areturn, 1) := dk_176 (dk_at dksJ9_remove_0 23 rfl rfl)
abbrev cJ9_deleteEntry : ByteArray := prog_94_method_84_code
def yJ9_deleteEntry : MethodName := ⟨RJ9, "deleteEntry", "(Ljava/util/TreeMap$Entry;)V"⟩
def dkwJ9_deleteEntry_10 : List UInt8 := [180, 0, 124, 1, 181, 0, 114, 43, 1, 181, 0, 124, 177]
abbrev dktJ9_deleteEntry_10 : List UInt8 := dkwJ9_deleteEntry_10 ++ []
def dkwJ9_deleteEntry_9 : List UInt8 := [180, 0, 124, 1, 181, 0, 111, 167, 0, 22, 43, 43, 180, 0, 124, 180, 0, 114, 166, 0, 11, 43]
abbrev dktJ9_deleteEntry_9 : List UInt8 := dkwJ9_deleteEntry_9 ++ dktJ9_deleteEntry_10
def dkwJ9_deleteEntry_8 : List UInt8 := [182, 1, 61, 43, 180, 0, 124, 198, 0, 49, 43, 43, 180, 0, 124, 180, 0, 111, 166, 0, 14, 43]
abbrev dktJ9_deleteEntry_8 : List UInt8 := dkwJ9_deleteEntry_8 ++ dktJ9_deleteEntry_9
def dkwJ9_deleteEntry_7 : List UInt8 := [180, 0, 124, 199, 0, 11, 42, 1, 181, 0, 101, 167, 0, 69, 43, 180, 1, 34, 4, 160, 0, 8, 42, 43]
abbrev dktJ9_deleteEntry_7 : List UInt8 := dkwJ9_deleteEntry_7 ++ dktJ9_deleteEntry_8
def dkwJ9_deleteEntry_6 : List UInt8 := [181, 0, 114, 181, 0, 111, 43, 180, 1, 34, 4, 160, 0, 92, 42, 44, 182, 1, 61, 167, 0, 84, 43]
abbrev dktJ9_deleteEntry_6 : List UInt8 := dkwJ9_deleteEntry_6 ++ dktJ9_deleteEntry_7
def dkwJ9_deleteEntry_5 : List UInt8 := [181, 0, 111, 167, 0, 11, 43, 180, 0, 124, 44, 181, 0, 114, 43, 43, 43, 1, 90, 181, 0, 124, 90]
abbrev dktJ9_deleteEntry_5 : List UInt8 := dkwJ9_deleteEntry_5 ++ dktJ9_deleteEntry_6
def dkwJ9_deleteEntry_4 : List UInt8 := [44, 181, 0, 101, 167, 0, 33, 43, 43, 180, 0, 124, 180, 0, 111, 166, 0, 14, 43, 180, 0, 124, 44]
abbrev dktJ9_deleteEntry_4 : List UInt8 := dkwJ9_deleteEntry_4 ++ dktJ9_deleteEntry_5
def dkwJ9_deleteEntry_3 : List UInt8 := [180, 0, 114, 77, 44, 198, 0, 87, 44, 43, 180, 0, 124, 181, 0, 124, 43, 180, 0, 124, 199, 0, 11, 42]
abbrev dktJ9_deleteEntry_3 : List UInt8 := dkwJ9_deleteEntry_3 ++ dktJ9_deleteEntry_4
def dkwJ9_deleteEntry_2 : List UInt8 := [44, 180, 0, 58, 181, 0, 58, 44, 76, 43, 180, 0, 111, 198, 0, 10, 43, 180, 0, 111, 167, 0, 7, 43]
abbrev dktJ9_deleteEntry_2 : List UInt8 := dkwJ9_deleteEntry_2 ++ dktJ9_deleteEntry_3
def dkwJ9_deleteEntry_1 : List UInt8 := [198, 0, 33, 43, 180, 0, 114, 198, 0, 26, 43, 184, 0, 68, 77, 43, 44, 180, 0, 105, 181, 0, 105, 43]
abbrev dktJ9_deleteEntry_1 : List UInt8 := dkwJ9_deleteEntry_1 ++ dktJ9_deleteEntry_2
def dkwJ9_deleteEntry_0 : List UInt8 := [42, 89, 180, 0, 13, 4, 96, 181, 0, 13, 42, 89, 180, 0, 7, 4, 100, 181, 0, 7, 43, 180, 0, 111]
abbrev dktJ9_deleteEntry_0 : List UInt8 := dkwJ9_deleteEntry_0 ++ dktJ9_deleteEntry_1
theorem dksJ9_deleteEntry_0 : cJ9_deleteEntry.data.toList.drop 0 = dktJ9_deleteEntry_0 := by decide +kernel
theorem dksJ9_deleteEntry_1 : cJ9_deleteEntry.data.toList.drop 24 = dktJ9_deleteEntry_1 := dk_seg dksJ9_deleteEntry_0 24 rfl rfl
theorem dksJ9_deleteEntry_2 : cJ9_deleteEntry.data.toList.drop 48 = dktJ9_deleteEntry_2 := dk_seg dksJ9_deleteEntry_1 24 rfl rfl
theorem dksJ9_deleteEntry_3 : cJ9_deleteEntry.data.toList.drop 72 = dktJ9_deleteEntry_3 := dk_seg dksJ9_deleteEntry_2 24 rfl rfl
theorem dksJ9_deleteEntry_4 : cJ9_deleteEntry.data.toList.drop 96 = dktJ9_deleteEntry_4 := dk_seg dksJ9_deleteEntry_3 24 rfl rfl
theorem dksJ9_deleteEntry_5 : cJ9_deleteEntry.data.toList.drop 119 = dktJ9_deleteEntry_5 := dk_seg dksJ9_deleteEntry_4 23 rfl rfl
theorem dksJ9_deleteEntry_6 : cJ9_deleteEntry.data.toList.drop 142 = dktJ9_deleteEntry_6 := dk_seg dksJ9_deleteEntry_5 23 rfl rfl
theorem dksJ9_deleteEntry_7 : cJ9_deleteEntry.data.toList.drop 165 = dktJ9_deleteEntry_7 := dk_seg dksJ9_deleteEntry_6 23 rfl rfl
theorem dksJ9_deleteEntry_8 : cJ9_deleteEntry.data.toList.drop 189 = dktJ9_deleteEntry_8 := dk_seg dksJ9_deleteEntry_7 24 rfl rfl
theorem dksJ9_deleteEntry_9 : cJ9_deleteEntry.data.toList.drop 211 = dktJ9_deleteEntry_9 := dk_seg dksJ9_deleteEntry_8 22 rfl rfl
theorem dksJ9_deleteEntry_10 : cJ9_deleteEntry.data.toList.drop 233 = dktJ9_deleteEntry_10 := dk_seg dksJ9_deleteEntry_9 22 rfl rfl
theorem dJ9_deleteEntry_0 : decode cJ9_deleteEntry 0 = .ok (.aload_n 0, 1) := dk_42 (dk_at dksJ9_deleteEntry_0 0 rfl rfl)
theorem dJ9_deleteEntry_1 : decode cJ9_deleteEntry 1 = .ok (.dup, 1) := dk_89 (dk_at dksJ9_deleteEntry_0 1 rfl rfl)
theorem dJ9_deleteEntry_2 : decode cJ9_deleteEntry 2 = .ok (.getfield 13, 3) := dk_180 0 13 (dk_at dksJ9_deleteEntry_0 2 rfl rfl)
theorem dJ9_deleteEntry_5 : decode cJ9_deleteEntry 5 = .ok (.iconst 1, 1) := dk_4 (dk_at dksJ9_deleteEntry_0 5 rfl rfl)
theorem dJ9_deleteEntry_6 : decode cJ9_deleteEntry 6 = .ok (.iadd, 1) := dk_96 (dk_at dksJ9_deleteEntry_0 6 rfl rfl)
theorem dJ9_deleteEntry_7 : decode cJ9_deleteEntry 7 = .ok (.putfield 13, 3) := dk_181 0 13 (dk_at dksJ9_deleteEntry_0 7 rfl rfl)
theorem dJ9_deleteEntry_10 : decode cJ9_deleteEntry 10 = .ok (.aload_n 0, 1) := dk_42 (dk_at dksJ9_deleteEntry_0 10 rfl rfl)
theorem dJ9_deleteEntry_11 : decode cJ9_deleteEntry 11 = .ok (.dup, 1) := dk_89 (dk_at dksJ9_deleteEntry_0 11 rfl rfl)
theorem dJ9_deleteEntry_12 : decode cJ9_deleteEntry 12 = .ok (.getfield 7, 3) := dk_180 0 7 (dk_at dksJ9_deleteEntry_0 12 rfl rfl)
theorem dJ9_deleteEntry_15 : decode cJ9_deleteEntry 15 = .ok (.iconst 1, 1) := dk_4 (dk_at dksJ9_deleteEntry_0 15 rfl rfl)
theorem dJ9_deleteEntry_16 : decode cJ9_deleteEntry 16 = .ok (.isub, 1) := dk_100 (dk_at dksJ9_deleteEntry_0 16 rfl rfl)
theorem dJ9_deleteEntry_17 : decode cJ9_deleteEntry 17 = .ok (.putfield 7, 3) := dk_181 0 7 (dk_at dksJ9_deleteEntry_0 17 rfl rfl)
theorem dJ9_deleteEntry_20 : decode cJ9_deleteEntry 20 = .ok (.aload_n 1, 1) := dk_43 (dk_at dksJ9_deleteEntry_0 20 rfl rfl)
theorem dJ9_deleteEntry_21 : decode cJ9_deleteEntry 21 = .ok (.getfield 111, 3) := dk_180 0 111 (dk_at dksJ9_deleteEntry_0 21 rfl rfl)
theorem dJ9_deleteEntry_24 : decode cJ9_deleteEntry 24 = .ok (.ifnull 33, 3) := dk_198 0 33 (dk_at dksJ9_deleteEntry_1 0 rfl rfl)
theorem dJ9_deleteEntry_27 : decode cJ9_deleteEntry 27 = .ok (.aload_n 1, 1) := dk_43 (dk_at dksJ9_deleteEntry_1 3 rfl rfl)
theorem dJ9_deleteEntry_28 : decode cJ9_deleteEntry 28 = .ok (.getfield 114, 3) := dk_180 0 114 (dk_at dksJ9_deleteEntry_1 4 rfl rfl)
theorem dJ9_deleteEntry_31 : decode cJ9_deleteEntry 31 = .ok (.ifnull 26, 3) := dk_198 0 26 (dk_at dksJ9_deleteEntry_1 7 rfl rfl)
theorem dJ9_deleteEntry_34 : decode cJ9_deleteEntry 34 = .ok (.aload_n 1, 1) := dk_43 (dk_at dksJ9_deleteEntry_1 10 rfl rfl)
theorem dJ9_deleteEntry_35 : decode cJ9_deleteEntry 35 = .ok (.invokestatic 68, 3) := dk_184 0 68 (dk_at dksJ9_deleteEntry_1 11 rfl rfl)
theorem dJ9_deleteEntry_38 : decode cJ9_deleteEntry 38 = .ok (.astore_n 2, 1) := dk_77 (dk_at dksJ9_deleteEntry_1 14 rfl rfl)
theorem dJ9_deleteEntry_39 : decode cJ9_deleteEntry 39 = .ok (.aload_n 1, 1) := dk_43 (dk_at dksJ9_deleteEntry_1 15 rfl rfl)
theorem dJ9_deleteEntry_40 : decode cJ9_deleteEntry 40 = .ok (.aload_n 2, 1) := dk_44 (dk_at dksJ9_deleteEntry_1 16 rfl rfl)
theorem dJ9_deleteEntry_41 : decode cJ9_deleteEntry 41 = .ok (.getfield 105, 3) := dk_180 0 105 (dk_at dksJ9_deleteEntry_1 17 rfl rfl)
theorem dJ9_deleteEntry_44 : decode cJ9_deleteEntry 44 = .ok (.putfield 105, 3) := dk_181 0 105 (dk_at dksJ9_deleteEntry_1 20 rfl rfl)
theorem dJ9_deleteEntry_47 : decode cJ9_deleteEntry 47 = .ok (.aload_n 1, 1) := dk_43 (dk_at dksJ9_deleteEntry_1 23 rfl rfl)
theorem dJ9_deleteEntry_48 : decode cJ9_deleteEntry 48 = .ok (.aload_n 2, 1) := dk_44 (dk_at dksJ9_deleteEntry_2 0 rfl rfl)
theorem dJ9_deleteEntry_49 : decode cJ9_deleteEntry 49 = .ok (.getfield 58, 3) := dk_180 0 58 (dk_at dksJ9_deleteEntry_2 1 rfl rfl)
theorem dJ9_deleteEntry_52 : decode cJ9_deleteEntry 52 = .ok (.putfield 58, 3) := dk_181 0 58 (dk_at dksJ9_deleteEntry_2 4 rfl rfl)
theorem dJ9_deleteEntry_55 : decode cJ9_deleteEntry 55 = .ok (.aload_n 2, 1) := dk_44 (dk_at dksJ9_deleteEntry_2 7 rfl rfl)
theorem dJ9_deleteEntry_56 : decode cJ9_deleteEntry 56 = .ok (.astore_n 1, 1) := dk_76 (dk_at dksJ9_deleteEntry_2 8 rfl rfl)
theorem dJ9_deleteEntry_57 : decode cJ9_deleteEntry 57 = .ok (.aload_n 1, 1) := dk_43 (dk_at dksJ9_deleteEntry_2 9 rfl rfl)
theorem dJ9_deleteEntry_58 : decode cJ9_deleteEntry 58 = .ok (.getfield 111, 3) := dk_180 0 111 (dk_at dksJ9_deleteEntry_2 10 rfl rfl)
theorem dJ9_deleteEntry_61 : decode cJ9_deleteEntry 61 = .ok (.ifnull 10, 3) := dk_198 0 10 (dk_at dksJ9_deleteEntry_2 13 rfl rfl)
theorem dJ9_deleteEntry_64 : decode cJ9_deleteEntry 64 = .ok (.aload_n 1, 1) := dk_43 (dk_at dksJ9_deleteEntry_2 16 rfl rfl)
theorem dJ9_deleteEntry_65 : decode cJ9_deleteEntry 65 = .ok (.getfield 111, 3) := dk_180 0 111 (dk_at dksJ9_deleteEntry_2 17 rfl rfl)
theorem dJ9_deleteEntry_68 : decode cJ9_deleteEntry 68 = .ok (.goto 7, 3) := dk_167 0 7 (dk_at dksJ9_deleteEntry_2 20 rfl rfl)
theorem dJ9_deleteEntry_71 : decode cJ9_deleteEntry 71 = .ok (.aload_n 1, 1) := dk_43 (dk_at dksJ9_deleteEntry_2 23 rfl rfl)
theorem dJ9_deleteEntry_72 : decode cJ9_deleteEntry 72 = .ok (.getfield 114, 3) := dk_180 0 114 (dk_at dksJ9_deleteEntry_3 0 rfl rfl)
theorem dJ9_deleteEntry_75 : decode cJ9_deleteEntry 75 = .ok (.astore_n 2, 1) := dk_77 (dk_at dksJ9_deleteEntry_3 3 rfl rfl)
theorem dJ9_deleteEntry_76 : decode cJ9_deleteEntry 76 = .ok (.aload_n 2, 1) := dk_44 (dk_at dksJ9_deleteEntry_3 4 rfl rfl)
theorem dJ9_deleteEntry_77 : decode cJ9_deleteEntry 77 = .ok (.ifnull 87, 3) := dk_198 0 87 (dk_at dksJ9_deleteEntry_3 5 rfl rfl)
theorem dJ9_deleteEntry_80 : decode cJ9_deleteEntry 80 = .ok (.aload_n 2, 1) := dk_44 (dk_at dksJ9_deleteEntry_3 8 rfl rfl)
theorem dJ9_deleteEntry_81 : decode cJ9_deleteEntry 81 = .ok (.aload_n 1, 1) := dk_43 (dk_at dksJ9_deleteEntry_3 9 rfl rfl)
theorem dJ9_deleteEntry_82 : decode cJ9_deleteEntry 82 = .ok (.getfield 124, 3) := dk_180 0 124 (dk_at dksJ9_deleteEntry_3 10 rfl rfl)
theorem dJ9_deleteEntry_85 : decode cJ9_deleteEntry 85 = .ok (.putfield 124, 3) := dk_181 0 124 (dk_at dksJ9_deleteEntry_3 13 rfl rfl)
theorem dJ9_deleteEntry_88 : decode cJ9_deleteEntry 88 = .ok (.aload_n 1, 1) := dk_43 (dk_at dksJ9_deleteEntry_3 16 rfl rfl)
theorem dJ9_deleteEntry_89 : decode cJ9_deleteEntry 89 = .ok (.getfield 124, 3) := dk_180 0 124 (dk_at dksJ9_deleteEntry_3 17 rfl rfl)
theorem dJ9_deleteEntry_92 : decode cJ9_deleteEntry 92 = .ok (.ifnonnull 11, 3) := dk_199 0 11 (dk_at dksJ9_deleteEntry_3 20 rfl rfl)
theorem dJ9_deleteEntry_95 : decode cJ9_deleteEntry 95 = .ok (.aload_n 0, 1) := dk_42 (dk_at dksJ9_deleteEntry_3 23 rfl rfl)
theorem dJ9_deleteEntry_96 : decode cJ9_deleteEntry 96 = .ok (.aload_n 2, 1) := dk_44 (dk_at dksJ9_deleteEntry_4 0 rfl rfl)
theorem dJ9_deleteEntry_97 : decode cJ9_deleteEntry 97 = .ok (.putfield 101, 3) := dk_181 0 101 (dk_at dksJ9_deleteEntry_4 1 rfl rfl)
theorem dJ9_deleteEntry_100 : decode cJ9_deleteEntry 100 = .ok (.goto 33, 3) := dk_167 0 33 (dk_at dksJ9_deleteEntry_4 4 rfl rfl)
theorem dJ9_deleteEntry_103 : decode cJ9_deleteEntry 103 = .ok (.aload_n 1, 1) := dk_43 (dk_at dksJ9_deleteEntry_4 7 rfl rfl)
theorem dJ9_deleteEntry_104 : decode cJ9_deleteEntry 104 = .ok (.aload_n 1, 1) := dk_43 (dk_at dksJ9_deleteEntry_4 8 rfl rfl)
theorem dJ9_deleteEntry_105 : decode cJ9_deleteEntry 105 = .ok (.getfield 124, 3) := dk_180 0 124 (dk_at dksJ9_deleteEntry_4 9 rfl rfl)
theorem dJ9_deleteEntry_108 : decode cJ9_deleteEntry 108 = .ok (.getfield 111, 3) := dk_180 0 111 (dk_at dksJ9_deleteEntry_4 12 rfl rfl)
theorem dJ9_deleteEntry_111 : decode cJ9_deleteEntry 111 = .ok (.if_acmp .ne 14, 3) := dk_166 0 14 (dk_at dksJ9_deleteEntry_4 15 rfl rfl)
theorem dJ9_deleteEntry_114 : decode cJ9_deleteEntry 114 = .ok (.aload_n 1, 1) := dk_43 (dk_at dksJ9_deleteEntry_4 18 rfl rfl)
theorem dJ9_deleteEntry_115 : decode cJ9_deleteEntry 115 = .ok (.getfield 124, 3) := dk_180 0 124 (dk_at dksJ9_deleteEntry_4 19 rfl rfl)
theorem dJ9_deleteEntry_118 : decode cJ9_deleteEntry 118 = .ok (.aload_n 2, 1) := dk_44 (dk_at dksJ9_deleteEntry_4 22 rfl rfl)
theorem dJ9_deleteEntry_119 : decode cJ9_deleteEntry 119 = .ok (.putfield 111, 3) := dk_181 0 111 (dk_at dksJ9_deleteEntry_5 0 rfl rfl)
theorem dJ9_deleteEntry_122 : decode cJ9_deleteEntry 122 = .ok (.goto 11, 3) := dk_167 0 11 (dk_at dksJ9_deleteEntry_5 3 rfl rfl)
theorem dJ9_deleteEntry_125 : decode cJ9_deleteEntry 125 = .ok (.aload_n 1, 1) := dk_43 (dk_at dksJ9_deleteEntry_5 6 rfl rfl)
theorem dJ9_deleteEntry_126 : decode cJ9_deleteEntry 126 = .ok (.getfield 124, 3) := dk_180 0 124 (dk_at dksJ9_deleteEntry_5 7 rfl rfl)
theorem dJ9_deleteEntry_129 : decode cJ9_deleteEntry 129 = .ok (.aload_n 2, 1) := dk_44 (dk_at dksJ9_deleteEntry_5 10 rfl rfl)
theorem dJ9_deleteEntry_130 : decode cJ9_deleteEntry 130 = .ok (.putfield 114, 3) := dk_181 0 114 (dk_at dksJ9_deleteEntry_5 11 rfl rfl)
theorem dJ9_deleteEntry_133 : decode cJ9_deleteEntry 133 = .ok (.aload_n 1, 1) := dk_43 (dk_at dksJ9_deleteEntry_5 14 rfl rfl)
theorem dJ9_deleteEntry_134 : decode cJ9_deleteEntry 134 = .ok (.aload_n 1, 1) := dk_43 (dk_at dksJ9_deleteEntry_5 15 rfl rfl)
theorem dJ9_deleteEntry_135 : decode cJ9_deleteEntry 135 = .ok (.aload_n 1, 1) := dk_43 (dk_at dksJ9_deleteEntry_5 16 rfl rfl)
theorem dJ9_deleteEntry_136 : decode cJ9_deleteEntry 136 = .ok (.aconst_null, 1) := dk_1 (dk_at dksJ9_deleteEntry_5 17 rfl rfl)
theorem dJ9_deleteEntry_137 : decode cJ9_deleteEntry 137 = .ok (.dup_x1, 1) := dk_90 (dk_at dksJ9_deleteEntry_5 18 rfl rfl)
theorem dJ9_deleteEntry_138 : decode cJ9_deleteEntry 138 = .ok (.putfield 124, 3) := dk_181 0 124 (dk_at dksJ9_deleteEntry_5 19 rfl rfl)
theorem dJ9_deleteEntry_141 : decode cJ9_deleteEntry 141 = .ok (.dup_x1, 1) := dk_90 (dk_at dksJ9_deleteEntry_5 22 rfl rfl)
theorem dJ9_deleteEntry_142 : decode cJ9_deleteEntry 142 = .ok (.putfield 114, 3) := dk_181 0 114 (dk_at dksJ9_deleteEntry_6 0 rfl rfl)
theorem dJ9_deleteEntry_145 : decode cJ9_deleteEntry 145 = .ok (.putfield 111, 3) := dk_181 0 111 (dk_at dksJ9_deleteEntry_6 3 rfl rfl)
theorem dJ9_deleteEntry_148 : decode cJ9_deleteEntry 148 = .ok (.aload_n 1, 1) := dk_43 (dk_at dksJ9_deleteEntry_6 6 rfl rfl)
theorem dJ9_deleteEntry_149 : decode cJ9_deleteEntry 149 = .ok (.getfield 290, 3) := dk_180 1 34 (dk_at dksJ9_deleteEntry_6 7 rfl rfl)
theorem dJ9_deleteEntry_152 : decode cJ9_deleteEntry 152 = .ok (.iconst 1, 1) := dk_4 (dk_at dksJ9_deleteEntry_6 10 rfl rfl)
theorem dJ9_deleteEntry_153 : decode cJ9_deleteEntry 153 = .ok (.if_icmp .ne 92, 3) := dk_160 0 92 (dk_at dksJ9_deleteEntry_6 11 rfl rfl)
theorem dJ9_deleteEntry_156 : decode cJ9_deleteEntry 156 = .ok (.aload_n 0, 1) := dk_42 (dk_at dksJ9_deleteEntry_6 14 rfl rfl)
theorem dJ9_deleteEntry_157 : decode cJ9_deleteEntry 157 = .ok (.aload_n 2, 1) := dk_44 (dk_at dksJ9_deleteEntry_6 15 rfl rfl)
theorem dJ9_deleteEntry_158 : decode cJ9_deleteEntry 158 = .ok (.invokevirtual 317, 3) := dk_182 1 61 (dk_at dksJ9_deleteEntry_6 16 rfl rfl)
theorem dJ9_deleteEntry_161 : decode cJ9_deleteEntry 161 = .ok (.goto 84, 3) := dk_167 0 84 (dk_at dksJ9_deleteEntry_6 19 rfl rfl)
theorem dJ9_deleteEntry_164 : decode cJ9_deleteEntry 164 = .ok (.aload_n 1, 1) := dk_43 (dk_at dksJ9_deleteEntry_6 22 rfl rfl)
theorem dJ9_deleteEntry_165 : decode cJ9_deleteEntry 165 = .ok (.getfield 124, 3) := dk_180 0 124 (dk_at dksJ9_deleteEntry_7 0 rfl rfl)
theorem dJ9_deleteEntry_168 : decode cJ9_deleteEntry 168 = .ok (.ifnonnull 11, 3) := dk_199 0 11 (dk_at dksJ9_deleteEntry_7 3 rfl rfl)
theorem dJ9_deleteEntry_171 : decode cJ9_deleteEntry 171 = .ok (.aload_n 0, 1) := dk_42 (dk_at dksJ9_deleteEntry_7 6 rfl rfl)
theorem dJ9_deleteEntry_172 : decode cJ9_deleteEntry 172 = .ok (.aconst_null, 1) := dk_1 (dk_at dksJ9_deleteEntry_7 7 rfl rfl)
theorem dJ9_deleteEntry_173 : decode cJ9_deleteEntry 173 = .ok (.putfield 101, 3) := dk_181 0 101 (dk_at dksJ9_deleteEntry_7 8 rfl rfl)
theorem dJ9_deleteEntry_176 : decode cJ9_deleteEntry 176 = .ok (.goto 69, 3) := dk_167 0 69 (dk_at dksJ9_deleteEntry_7 11 rfl rfl)
theorem dJ9_deleteEntry_179 : decode cJ9_deleteEntry 179 = .ok (.aload_n 1, 1) := dk_43 (dk_at dksJ9_deleteEntry_7 14 rfl rfl)
theorem dJ9_deleteEntry_180 : decode cJ9_deleteEntry 180 = .ok (.getfield 290, 3) := dk_180 1 34 (dk_at dksJ9_deleteEntry_7 15 rfl rfl)
theorem dJ9_deleteEntry_183 : decode cJ9_deleteEntry 183 = .ok (.iconst 1, 1) := dk_4 (dk_at dksJ9_deleteEntry_7 18 rfl rfl)
theorem dJ9_deleteEntry_184 : decode cJ9_deleteEntry 184 = .ok (.if_icmp .ne 8, 3) := dk_160 0 8 (dk_at dksJ9_deleteEntry_7 19 rfl rfl)
theorem dJ9_deleteEntry_187 : decode cJ9_deleteEntry 187 = .ok (.aload_n 0, 1) := dk_42 (dk_at dksJ9_deleteEntry_7 22 rfl rfl)
theorem dJ9_deleteEntry_188 : decode cJ9_deleteEntry 188 = .ok (.aload_n 1, 1) := dk_43 (dk_at dksJ9_deleteEntry_7 23 rfl rfl)
theorem dJ9_deleteEntry_189 : decode cJ9_deleteEntry 189 = .ok (.invokevirtual 317, 3) := dk_182 1 61 (dk_at dksJ9_deleteEntry_8 0 rfl rfl)
theorem dJ9_deleteEntry_192 : decode cJ9_deleteEntry 192 = .ok (.aload_n 1, 1) := dk_43 (dk_at dksJ9_deleteEntry_8 3 rfl rfl)
theorem dJ9_deleteEntry_193 : decode cJ9_deleteEntry 193 = .ok (.getfield 124, 3) := dk_180 0 124 (dk_at dksJ9_deleteEntry_8 4 rfl rfl)
theorem dJ9_deleteEntry_196 : decode cJ9_deleteEntry 196 = .ok (.ifnull 49, 3) := dk_198 0 49 (dk_at dksJ9_deleteEntry_8 7 rfl rfl)
theorem dJ9_deleteEntry_199 : decode cJ9_deleteEntry 199 = .ok (.aload_n 1, 1) := dk_43 (dk_at dksJ9_deleteEntry_8 10 rfl rfl)
theorem dJ9_deleteEntry_200 : decode cJ9_deleteEntry 200 = .ok (.aload_n 1, 1) := dk_43 (dk_at dksJ9_deleteEntry_8 11 rfl rfl)
theorem dJ9_deleteEntry_201 : decode cJ9_deleteEntry 201 = .ok (.getfield 124, 3) := dk_180 0 124 (dk_at dksJ9_deleteEntry_8 12 rfl rfl)
theorem dJ9_deleteEntry_204 : decode cJ9_deleteEntry 204 = .ok (.getfield 111, 3) := dk_180 0 111 (dk_at dksJ9_deleteEntry_8 15 rfl rfl)
theorem dJ9_deleteEntry_207 : decode cJ9_deleteEntry 207 = .ok (.if_acmp .ne 14, 3) := dk_166 0 14 (dk_at dksJ9_deleteEntry_8 18 rfl rfl)
theorem dJ9_deleteEntry_210 : decode cJ9_deleteEntry 210 = .ok (.aload_n 1, 1) := dk_43 (dk_at dksJ9_deleteEntry_8 21 rfl rfl)
theorem dJ9_deleteEntry_211 : decode cJ9_deleteEntry 211 = .ok (.getfield 124, 3) := dk_180 0 124 (dk_at dksJ9_deleteEntry_9 0 rfl rfl)
theorem dJ9_deleteEntry_214 : decode cJ9_deleteEntry 214 = .ok (.aconst_null, 1) := dk_1 (dk_at dksJ9_deleteEntry_9 3 rfl rfl)
theorem dJ9_deleteEntry_215 : decode cJ9_deleteEntry 215 = .ok (.putfield 111, 3) := dk_181 0 111 (dk_at dksJ9_deleteEntry_9 4 rfl rfl)
theorem dJ9_deleteEntry_218 : decode cJ9_deleteEntry 218 = .ok (.goto 22, 3) := dk_167 0 22 (dk_at dksJ9_deleteEntry_9 7 rfl rfl)
theorem dJ9_deleteEntry_221 : decode cJ9_deleteEntry 221 = .ok (.aload_n 1, 1) := dk_43 (dk_at dksJ9_deleteEntry_9 10 rfl rfl)
theorem dJ9_deleteEntry_222 : decode cJ9_deleteEntry 222 = .ok (.aload_n 1, 1) := dk_43 (dk_at dksJ9_deleteEntry_9 11 rfl rfl)
theorem dJ9_deleteEntry_223 : decode cJ9_deleteEntry 223 = .ok (.getfield 124, 3) := dk_180 0 124 (dk_at dksJ9_deleteEntry_9 12 rfl rfl)
theorem dJ9_deleteEntry_226 : decode cJ9_deleteEntry 226 = .ok (.getfield 114, 3) := dk_180 0 114 (dk_at dksJ9_deleteEntry_9 15 rfl rfl)
theorem dJ9_deleteEntry_229 : decode cJ9_deleteEntry 229 = .ok (.if_acmp .ne 11, 3) := dk_166 0 11 (dk_at dksJ9_deleteEntry_9 18 rfl rfl)
theorem dJ9_deleteEntry_232 : decode cJ9_deleteEntry 232 = .ok (.aload_n 1, 1) := dk_43 (dk_at dksJ9_deleteEntry_9 21 rfl rfl)
theorem dJ9_deleteEntry_233 : decode cJ9_deleteEntry 233 = .ok (.getfield 124, 3) := dk_180 0 124 (dk_at dksJ9_deleteEntry_10 0 rfl rfl)
theorem dJ9_deleteEntry_236 : decode cJ9_deleteEntry 236 = .ok (.aconst_null, 1) := dk_1 (dk_at dksJ9_deleteEntry_10 3 rfl rfl)
theorem dJ9_deleteEntry_237 : decode cJ9_deleteEntry 237 = .ok (.putfield 114, 3) := dk_181 0 114 (dk_at dksJ9_deleteEntry_10 4 rfl rfl)
theorem dJ9_deleteEntry_240 : decode cJ9_deleteEntry 240 = .ok (.aload_n 1, 1) := dk_43 (dk_at dksJ9_deleteEntry_10 7 rfl rfl)
theorem dJ9_deleteEntry_241 : decode cJ9_deleteEntry 241 = .ok (.aconst_null, 1) := dk_1 (dk_at dksJ9_deleteEntry_10 8 rfl rfl)
theorem dJ9_deleteEntry_242 : decode cJ9_deleteEntry 242 = .ok (.putfield 124, 3) := dk_181 0 124 (dk_at dksJ9_deleteEntry_10 9 rfl rfl)
theorem dJ9_deleteEntry_245 : decode cJ9_deleteEntry 245 = .ok (.return_, 1) := dk_177 (dk_at dksJ9_deleteEntry_10 12 rfl rfl)
abbrev cJ9_successor : ByteArray := prog_94_method_74_code
def yJ9_successor : MethodName := ⟨RJ9, "successor", "(Ljava/util/TreeMap$Entry;)Ljava/util/TreeMap$Entry;"⟩
def dkwJ9_successor_2 : List UInt8 := [44, 43, 180, 0, 114, 166, 0, 13, 43, 77, 43, 180, 0, 124, 76, 167, 255, 237, 43, 176]
abbrev dktJ9_successor_2 : List UInt8 := dkwJ9_successor_2 ++ []
def dkwJ9_successor_1 : List UInt8 := [198, 0, 11, 43, 180, 0, 111, 76, 167, 255, 244, 43, 176, 42, 180, 0, 124, 76, 42, 77, 43, 198, 0, 21]
abbrev dktJ9_successor_1 : List UInt8 := dkwJ9_successor_1 ++ dktJ9_successor_2
def dkwJ9_successor_0 : List UInt8 := [42, 199, 0, 5, 1, 176, 42, 180, 0, 114, 198, 0, 25, 42, 180, 0, 114, 76, 43, 180, 0, 111]
abbrev dktJ9_successor_0 : List UInt8 := dkwJ9_successor_0 ++ dktJ9_successor_1
theorem dksJ9_successor_0 : cJ9_successor.data.toList.drop 0 = dktJ9_successor_0 := by decide +kernel
theorem dksJ9_successor_1 : cJ9_successor.data.toList.drop 22 = dktJ9_successor_1 := dk_seg dksJ9_successor_0 22 rfl rfl
theorem dksJ9_successor_2 : cJ9_successor.data.toList.drop 46 = dktJ9_successor_2 := dk_seg dksJ9_successor_1 24 rfl rfl
theorem dJ9_successor_0 : decode cJ9_successor 0 = .ok (.aload_n 0, 1) := dk_42 (dk_at dksJ9_successor_0 0 rfl rfl)
theorem dJ9_successor_1 : decode cJ9_successor 1 = .ok (.ifnonnull 5, 3) := dk_199 0 5 (dk_at dksJ9_successor_0 1 rfl rfl)
theorem dJ9_successor_4 : decode cJ9_successor 4 = .ok (.aconst_null, 1) := dk_1 (dk_at dksJ9_successor_0 4 rfl rfl)
theorem dJ9_successor_5 : decode cJ9_successor 5 = .ok (.areturn, 1) := dk_176 (dk_at dksJ9_successor_0 5 rfl rfl)
theorem dJ9_successor_6 : decode cJ9_successor 6 = .ok (.aload_n 0, 1) := dk_42 (dk_at dksJ9_successor_0 6 rfl rfl)
theorem dJ9_successor_7 : decode cJ9_successor 7 = .ok (.getfield 114, 3) := dk_180 0 114 (dk_at dksJ9_successor_0 7 rfl rfl)
theorem dJ9_successor_10 : decode cJ9_successor 10 = .ok (.ifnull 25, 3) := dk_198 0 25 (dk_at dksJ9_successor_0 10 rfl rfl)
theorem dJ9_successor_13 : decode cJ9_successor 13 = .ok (.aload_n 0, 1) := dk_42 (dk_at dksJ9_successor_0 13 rfl rfl)
theorem dJ9_successor_14 : decode cJ9_successor 14 = .ok (.getfield 114, 3) := dk_180 0 114 (dk_at dksJ9_successor_0 14 rfl rfl)
theorem dJ9_successor_17 : decode cJ9_successor 17 = .ok (.astore_n 1, 1) := dk_76 (dk_at dksJ9_successor_0 17 rfl rfl)
theorem dJ9_successor_18 : decode cJ9_successor 18 = .ok (.aload_n 1, 1) := dk_43 (dk_at dksJ9_successor_0 18 rfl rfl)
theorem dJ9_successor_19 : decode cJ9_successor 19 = .ok (.getfield 111, 3) := dk_180 0 111 (dk_at dksJ9_successor_0 19 rfl rfl)
theorem dJ9_successor_22 : decode cJ9_successor 22 = .ok (.ifnull 11, 3) := dk_198 0 11 (dk_at dksJ9_successor_1 0 rfl rfl)
theorem dJ9_successor_25 : decode cJ9_successor 25 = .ok (.aload_n 1, 1) := dk_43 (dk_at dksJ9_successor_1 3 rfl rfl)
theorem dJ9_successor_26 : decode cJ9_successor 26 = .ok (.getfield 111, 3) := dk_180 0 111 (dk_at dksJ9_successor_1 4 rfl rfl)
theorem dJ9_successor_29 : decode cJ9_successor 29 = .ok (.astore_n 1, 1) := dk_76 (dk_at dksJ9_successor_1 7 rfl rfl)
theorem dJ9_successor_30 : decode cJ9_successor 30 = .ok (.goto (-12), 3) := dk_167 255 244 (dk_at dksJ9_successor_1 8 rfl rfl)
theorem dJ9_successor_33 : decode cJ9_successor 33 = .ok (.aload_n 1, 1) := dk_43 (dk_at dksJ9_successor_1 11 rfl rfl)
theorem dJ9_successor_34 : decode cJ9_successor 34 = .ok (.areturn, 1) := dk_176 (dk_at dksJ9_successor_1 12 rfl rfl)
theorem dJ9_successor_35 : decode cJ9_successor 35 = .ok (.aload_n 0, 1) := dk_42 (dk_at dksJ9_successor_1 13 rfl rfl)
theorem dJ9_successor_36 : decode cJ9_successor 36 = .ok (.getfield 124, 3) := dk_180 0 124 (dk_at dksJ9_successor_1 14 rfl rfl)
theorem dJ9_successor_39 : decode cJ9_successor 39 = .ok (.astore_n 1, 1) := dk_76 (dk_at dksJ9_successor_1 17 rfl rfl)
theorem dJ9_successor_40 : decode cJ9_successor 40 = .ok (.aload_n 0, 1) := dk_42 (dk_at dksJ9_successor_1 18 rfl rfl)
theorem dJ9_successor_41 : decode cJ9_successor 41 = .ok (.astore_n 2, 1) := dk_77 (dk_at dksJ9_successor_1 19 rfl rfl)
theorem dJ9_successor_42 : decode cJ9_successor 42 = .ok (.aload_n 1, 1) := dk_43 (dk_at dksJ9_successor_1 20 rfl rfl)
theorem dJ9_successor_43 : decode cJ9_successor 43 = .ok (.ifnull 21, 3) := dk_198 0 21 (dk_at dksJ9_successor_1 21 rfl rfl)
theorem dJ9_successor_46 : decode cJ9_successor 46 = .ok (.aload_n 2, 1) := dk_44 (dk_at dksJ9_successor_2 0 rfl rfl)
theorem dJ9_successor_47 : decode cJ9_successor 47 = .ok (.aload_n 1, 1) := dk_43 (dk_at dksJ9_successor_2 1 rfl rfl)
theorem dJ9_successor_48 : decode cJ9_successor 48 = .ok (.getfield 114, 3) := dk_180 0 114 (dk_at dksJ9_successor_2 2 rfl rfl)
theorem dJ9_successor_51 : decode cJ9_successor 51 = .ok (.if_acmp .ne 13, 3) := dk_166 0 13 (dk_at dksJ9_successor_2 5 rfl rfl)
theorem dJ9_successor_54 : decode cJ9_successor 54 = .ok (.aload_n 1, 1) := dk_43 (dk_at dksJ9_successor_2 8 rfl rfl)
theorem dJ9_successor_55 : decode cJ9_successor 55 = .ok (.astore_n 2, 1) := dk_77 (dk_at dksJ9_successor_2 9 rfl rfl)
theorem dJ9_successor_56 : decode cJ9_successor 56 = .ok (.aload_n 1, 1) := dk_43 (dk_at dksJ9_successor_2 10 rfl rfl)
theorem dJ9_successor_57 : decode cJ9_successor 57 = .ok (.getfield 124, 3) := dk_180 0 124 (dk_at dksJ9_successor_2 11 rfl rfl)
theorem dJ9_successor_60 : decode cJ9_successor 60 = .ok (.astore_n 1, 1) := dk_76 (dk_at dksJ9_successor_2 14 rfl rfl)
theorem dJ9_successor_61 : decode cJ9_successor 61 = .ok (.goto (-19), 3) := dk_167 255 237 (dk_at dksJ9_successor_2 15 rfl rfl)
theorem dJ9_successor_64 : decode cJ9_successor 64 = .ok (.aload_n 1, 1) := dk_43 (dk_at dksJ9_successor_2 18 rfl rfl)
theorem dJ9_successor_65 : decode cJ9_successor 65 = .ok (.areturn, 1) := dk_176 (dk_at dksJ9_successor_2 19 rfl rfl)
abbrev cJ9_fixAfterDeletion : ByteArray := prog_94_method_85_code
def yJ9_fixAfterDeletion : MethodName := ⟨RJ9, "fixAfterDeletion", "(Ljava/util/TreeMap$Entry;)V"⟩
def dkwJ9_fixAfterDeletion_14 : List UInt8 := [182, 1, 58, 42, 180, 0, 101, 76, 167, 254, 170, 43, 4, 184, 1, 51, 177]
abbrev dktJ9_fixAfterDeletion_14 : List UInt8 := dkwJ9_fixAfterDeletion_14 ++ []
def dkwJ9_fixAfterDeletion_13 : List UInt8 := [184, 1, 51, 43, 184, 1, 38, 4, 184, 1, 51, 44, 184, 1, 41, 4, 184, 1, 51, 42, 43, 184, 1, 38]
abbrev dktJ9_fixAfterDeletion_13 : List UInt8 := dkwJ9_fixAfterDeletion_13 ++ dktJ9_fixAfterDeletion_14
def dkwJ9_fixAfterDeletion_12 : List UInt8 := [184, 1, 51, 42, 44, 182, 1, 55, 43, 184, 1, 38, 184, 1, 41, 77, 44, 43, 184, 1, 38, 184, 1, 47]
abbrev dktJ9_fixAfterDeletion_12 : List UInt8 := dkwJ9_fixAfterDeletion_12 ++ dktJ9_fixAfterDeletion_13
def dkwJ9_fixAfterDeletion_11 : List UInt8 := [167, 0, 80, 44, 184, 1, 41, 184, 1, 47, 4, 160, 0, 29, 44, 184, 1, 44, 4, 184, 1, 51, 44, 3]
abbrev dktJ9_fixAfterDeletion_11 : List UInt8 := dkwJ9_fixAfterDeletion_11 ++ dktJ9_fixAfterDeletion_12
def dkwJ9_fixAfterDeletion_10 : List UInt8 := [160, 0, 27, 44, 184, 1, 41, 184, 1, 47, 4, 160, 0, 16, 44, 3, 184, 1, 51, 43, 184, 1, 38, 76]
abbrev dktJ9_fixAfterDeletion_10 : List UInt8 := dkwJ9_fixAfterDeletion_10 ++ dktJ9_fixAfterDeletion_11
def dkwJ9_fixAfterDeletion_9 : List UInt8 := [42, 43, 184, 1, 38, 182, 1, 58, 43, 184, 1, 38, 184, 1, 41, 77, 44, 184, 1, 44, 184, 1, 47, 4]
abbrev dktJ9_fixAfterDeletion_9 : List UInt8 := dkwJ9_fixAfterDeletion_9 ++ dktJ9_fixAfterDeletion_10
def dkwJ9_fixAfterDeletion_8 : List UInt8 := [184, 1, 41, 77, 44, 184, 1, 47, 154, 0, 32, 44, 4, 184, 1, 51, 43, 184, 1, 38, 3, 184, 1, 51]
abbrev dktJ9_fixAfterDeletion_8 : List UInt8 := dkwJ9_fixAfterDeletion_8 ++ dktJ9_fixAfterDeletion_9
def dkwJ9_fixAfterDeletion_7 : List UInt8 := [4, 184, 1, 51, 42, 43, 184, 1, 38, 182, 1, 55, 42, 180, 0, 101, 76, 167, 255, 73, 43, 184, 1, 38]
abbrev dktJ9_fixAfterDeletion_7 : List UInt8 := dkwJ9_fixAfterDeletion_7 ++ dktJ9_fixAfterDeletion_8
def dkwJ9_fixAfterDeletion_6 : List UInt8 := [77, 44, 43, 184, 1, 38, 184, 1, 47, 184, 1, 51, 43, 184, 1, 38, 4, 184, 1, 51, 44, 184, 1, 44]
abbrev dktJ9_fixAfterDeletion_6 : List UInt8 := dkwJ9_fixAfterDeletion_6 ++ dktJ9_fixAfterDeletion_7
def dkwJ9_fixAfterDeletion_5 : List UInt8 := [184, 1, 41, 4, 184, 1, 51, 44, 3, 184, 1, 51, 42, 44, 182, 1, 58, 43, 184, 1, 38, 184, 1, 44]
abbrev dktJ9_fixAfterDeletion_5 : List UInt8 := dkwJ9_fixAfterDeletion_5 ++ dktJ9_fixAfterDeletion_6
def dkwJ9_fixAfterDeletion_4 : List UInt8 := [184, 1, 51, 43, 184, 1, 38, 76, 167, 0, 80, 44, 184, 1, 44, 184, 1, 47, 4, 160, 0, 29, 44]
abbrev dktJ9_fixAfterDeletion_4 : List UInt8 := dkwJ9_fixAfterDeletion_4 ++ dktJ9_fixAfterDeletion_5
def dkwJ9_fixAfterDeletion_3 : List UInt8 := [184, 1, 41, 184, 1, 47, 4, 160, 0, 27, 44, 184, 1, 44, 184, 1, 47, 4, 160, 0, 16, 44, 3]
abbrev dktJ9_fixAfterDeletion_3 : List UInt8 := dkwJ9_fixAfterDeletion_3 ++ dktJ9_fixAfterDeletion_4
def dkwJ9_fixAfterDeletion_2 : List UInt8 := [184, 1, 38, 3, 184, 1, 51, 42, 43, 184, 1, 38, 182, 1, 55, 43, 184, 1, 38, 184, 1, 44, 77, 44]
abbrev dktJ9_fixAfterDeletion_2 : List UInt8 := dkwJ9_fixAfterDeletion_2 ++ dktJ9_fixAfterDeletion_3
def dkwJ9_fixAfterDeletion_1 : List UInt8 := [166, 0, 162, 43, 184, 1, 38, 184, 1, 44, 77, 44, 184, 1, 47, 154, 0, 32, 44, 4, 184, 1, 51, 43]
abbrev dktJ9_fixAfterDeletion_1 : List UInt8 := dkwJ9_fixAfterDeletion_1 ++ dktJ9_fixAfterDeletion_2
def dkwJ9_fixAfterDeletion_0 : List UInt8 := [43, 42, 180, 0, 101, 165, 1, 84, 43, 184, 1, 47, 4, 160, 1, 76, 43, 43, 184, 1, 38, 184, 1, 41]
abbrev dktJ9_fixAfterDeletion_0 : List UInt8 := dkwJ9_fixAfterDeletion_0 ++ dktJ9_fixAfterDeletion_1
theorem dksJ9_fixAfterDeletion_0 : cJ9_fixAfterDeletion.data.toList.drop 0 = dktJ9_fixAfterDeletion_0 := by decide +kernel
theorem dksJ9_fixAfterDeletion_1 : cJ9_fixAfterDeletion.data.toList.drop 24 = dktJ9_fixAfterDeletion_1 := dk_seg dksJ9_fixAfterDeletion_0 24 rfl rfl
theorem dksJ9_fixAfterDeletion_2 : cJ9_fixAfterDeletion.data.toList.drop 48 = dktJ9_fixAfterDeletion_2 := dk_seg dksJ9_fixAfterDeletion_1 24 rfl rfl
theorem dksJ9_fixAfterDeletion_3 : cJ9_fixAfterDeletion.data.toList.drop 72 = dktJ9_fixAfterDeletion_3 := dk_seg dksJ9_fixAfterDeletion_2 24 rfl rfl
theorem dksJ9_fixAfterDeletion_4 : cJ9_fixAfterDeletion.data.toList.drop 95 = dktJ9_fixAfterDeletion_4 := dk_seg dksJ9_fixAfterDeletion_3 23 rfl rfl
theorem dksJ9_fixAfterDeletion_5 : cJ9_fixAfterDeletion.data.toList.drop 118 = dktJ9_fixAfterDeletion_5 := dk_seg dksJ9_fixAfterDeletion_4 23 rfl rfl
theorem dksJ9_fixAfterDeletion_6 : cJ9_fixAfterDeletion.data.toList.drop 142 = dktJ9_fixAfterDeletion_6 := dk_seg dksJ9_fixAfterDeletion_5 24 rfl rfl
theorem dksJ9_fixAfterDeletion_7 : cJ9_fixAfterDeletion.data.toList.drop 166 = dktJ9_fixAfterDeletion_7 := dk_seg dksJ9_fixAfterDeletion_6 24 rfl rfl
theorem dksJ9_fixAfterDeletion_8 : cJ9_fixAfterDeletion.data.toList.drop 190 = dktJ9_fixAfterDeletion_8 := dk_seg dksJ9_fixAfterDeletion_7 24 rfl rfl
theorem dksJ9_fixAfterDeletion_9 : cJ9_fixAfterDeletion.data.toList.drop 214 = dktJ9_fixAfterDeletion_9 := dk_seg dksJ9_fixAfterDeletion_8 24 rfl rfl
theorem dksJ9_fixAfterDeletion_10 : cJ9_fixAfterDeletion.data.toList.drop 238 = dktJ9_fixAfterDeletion_10 := dk_seg dksJ9_fixAfterDeletion_9 24 rfl rfl
theorem dksJ9_fixAfterDeletion_11 : cJ9_fixAfterDeletion.data.toList.drop 262 = dktJ9_fixAfterDeletion_11 := dk_seg dksJ9_fixAfterDeletion_10 24 rfl rfl
theorem dksJ9_fixAfterDeletion_12 : cJ9_fixAfterDeletion.data.toList.drop 286 = dktJ9_fixAfterDeletion_12 := dk_seg dksJ9_fixAfterDeletion_11 24 rfl rfl
theorem dksJ9_fixAfterDeletion_13 : cJ9_fixAfterDeletion.data.toList.drop 310 = dktJ9_fixAfterDeletion_13 := dk_seg dksJ9_fixAfterDeletion_12 24 rfl rfl
theorem dksJ9_fixAfterDeletion_14 : cJ9_fixAfterDeletion.data.toList.drop 334 = dktJ9_fixAfterDeletion_14 := dk_seg dksJ9_fixAfterDeletion_13 24 rfl rfl
theorem dJ9_fixAfterDeletion_0 : decode cJ9_fixAfterDeletion 0 = .ok (.aload_n 1, 1) := dk_43 (dk_at dksJ9_fixAfterDeletion_0 0 rfl rfl)
theorem dJ9_fixAfterDeletion_1 : decode cJ9_fixAfterDeletion 1 = .ok (.aload_n 0, 1) := dk_42 (dk_at dksJ9_fixAfterDeletion_0 1 rfl rfl)
theorem dJ9_fixAfterDeletion_2 : decode cJ9_fixAfterDeletion 2 = .ok (.getfield 101, 3) := dk_180 0 101 (dk_at dksJ9_fixAfterDeletion_0 2 rfl rfl)
theorem dJ9_fixAfterDeletion_5 : decode cJ9_fixAfterDeletion 5 = .ok (.if_acmp .eq 340, 3) := dk_165 1 84 (dk_at dksJ9_fixAfterDeletion_0 5 rfl rfl)
theorem dJ9_fixAfterDeletion_8 : decode cJ9_fixAfterDeletion 8 = .ok (.aload_n 1, 1) := dk_43 (dk_at dksJ9_fixAfterDeletion_0 8 rfl rfl)
theorem dJ9_fixAfterDeletion_9 : decode cJ9_fixAfterDeletion 9 = .ok (.invokestatic 303, 3) := dk_184 1 47 (dk_at dksJ9_fixAfterDeletion_0 9 rfl rfl)
theorem dJ9_fixAfterDeletion_12 : decode cJ9_fixAfterDeletion 12 = .ok (.iconst 1, 1) := dk_4 (dk_at dksJ9_fixAfterDeletion_0 12 rfl rfl)
theorem dJ9_fixAfterDeletion_13 : decode cJ9_fixAfterDeletion 13 = .ok (.if_icmp .ne 332, 3) := dk_160 1 76 (dk_at dksJ9_fixAfterDeletion_0 13 rfl rfl)
theorem dJ9_fixAfterDeletion_16 : decode cJ9_fixAfterDeletion 16 = .ok (.aload_n 1, 1) := dk_43 (dk_at dksJ9_fixAfterDeletion_0 16 rfl rfl)
theorem dJ9_fixAfterDeletion_17 : decode cJ9_fixAfterDeletion 17 = .ok (.aload_n 1, 1) := dk_43 (dk_at dksJ9_fixAfterDeletion_0 17 rfl rfl)
theorem dJ9_fixAfterDeletion_18 : decode cJ9_fixAfterDeletion 18 = .ok (.invokestatic 294, 3) := dk_184 1 38 (dk_at dksJ9_fixAfterDeletion_0 18 rfl rfl)
theorem dJ9_fixAfterDeletion_21 : decode cJ9_fixAfterDeletion 21 = .ok (.invokestatic 297, 3) := dk_184 1 41 (dk_at dksJ9_fixAfterDeletion_0 21 rfl rfl)
theorem dJ9_fixAfterDeletion_24 : decode cJ9_fixAfterDeletion 24 = .ok (.if_acmp .ne 162, 3) := dk_166 0 162 (dk_at dksJ9_fixAfterDeletion_1 0 rfl rfl)
theorem dJ9_fixAfterDeletion_27 : decode cJ9_fixAfterDeletion 27 = .ok (.aload_n 1, 1) := dk_43 (dk_at dksJ9_fixAfterDeletion_1 3 rfl rfl)
theorem dJ9_fixAfterDeletion_28 : decode cJ9_fixAfterDeletion 28 = .ok (.invokestatic 294, 3) := dk_184 1 38 (dk_at dksJ9_fixAfterDeletion_1 4 rfl rfl)
theorem dJ9_fixAfterDeletion_31 : decode cJ9_fixAfterDeletion 31 = .ok (.invokestatic 300, 3) := dk_184 1 44 (dk_at dksJ9_fixAfterDeletion_1 7 rfl rfl)
theorem dJ9_fixAfterDeletion_34 : decode cJ9_fixAfterDeletion 34 = .ok (.astore_n 2, 1) := dk_77 (dk_at dksJ9_fixAfterDeletion_1 10 rfl rfl)
theorem dJ9_fixAfterDeletion_35 : decode cJ9_fixAfterDeletion 35 = .ok (.aload_n 2, 1) := dk_44 (dk_at dksJ9_fixAfterDeletion_1 11 rfl rfl)
theorem dJ9_fixAfterDeletion_36 : decode cJ9_fixAfterDeletion 36 = .ok (.invokestatic 303, 3) := dk_184 1 47 (dk_at dksJ9_fixAfterDeletion_1 12 rfl rfl)
theorem dJ9_fixAfterDeletion_39 : decode cJ9_fixAfterDeletion 39 = .ok (.ifCond .ne 32, 3) := dk_154 0 32 (dk_at dksJ9_fixAfterDeletion_1 15 rfl rfl)
theorem dJ9_fixAfterDeletion_42 : decode cJ9_fixAfterDeletion 42 = .ok (.aload_n 2, 1) := dk_44 (dk_at dksJ9_fixAfterDeletion_1 18 rfl rfl)
theorem dJ9_fixAfterDeletion_43 : decode cJ9_fixAfterDeletion 43 = .ok (.iconst 1, 1) := dk_4 (dk_at dksJ9_fixAfterDeletion_1 19 rfl rfl)
theorem dJ9_fixAfterDeletion_44 : decode cJ9_fixAfterDeletion 44 = .ok (.invokestatic 307, 3) := dk_184 1 51 (dk_at dksJ9_fixAfterDeletion_1 20 rfl rfl)
theorem dJ9_fixAfterDeletion_47 : decode cJ9_fixAfterDeletion 47 = .ok (.aload_n 1, 1) := dk_43 (dk_at dksJ9_fixAfterDeletion_1 23 rfl rfl)
theorem dJ9_fixAfterDeletion_48 : decode cJ9_fixAfterDeletion 48 = .ok (.invokestatic 294, 3) := dk_184 1 38 (dk_at dksJ9_fixAfterDeletion_2 0 rfl rfl)
theorem dJ9_fixAfterDeletion_51 : decode cJ9_fixAfterDeletion 51 = .ok (.iconst 0, 1) := dk_3 (dk_at dksJ9_fixAfterDeletion_2 3 rfl rfl)
theorem dJ9_fixAfterDeletion_52 : decode cJ9_fixAfterDeletion 52 = .ok (.invokestatic 307, 3) := dk_184 1 51 (dk_at dksJ9_fixAfterDeletion_2 4 rfl rfl)
theorem dJ9_fixAfterDeletion_55 : decode cJ9_fixAfterDeletion 55 = .ok (.aload_n 0, 1) := dk_42 (dk_at dksJ9_fixAfterDeletion_2 7 rfl rfl)
theorem dJ9_fixAfterDeletion_56 : decode cJ9_fixAfterDeletion 56 = .ok (.aload_n 1, 1) := dk_43 (dk_at dksJ9_fixAfterDeletion_2 8 rfl rfl)
theorem dJ9_fixAfterDeletion_57 : decode cJ9_fixAfterDeletion 57 = .ok (.invokestatic 294, 3) := dk_184 1 38 (dk_at dksJ9_fixAfterDeletion_2 9 rfl rfl)
theorem dJ9_fixAfterDeletion_60 : decode cJ9_fixAfterDeletion 60 = .ok (.invokevirtual 311, 3) := dk_182 1 55 (dk_at dksJ9_fixAfterDeletion_2 12 rfl rfl)
theorem dJ9_fixAfterDeletion_63 : decode cJ9_fixAfterDeletion 63 = .ok (.aload_n 1, 1) := dk_43 (dk_at dksJ9_fixAfterDeletion_2 15 rfl rfl)
theorem dJ9_fixAfterDeletion_64 : decode cJ9_fixAfterDeletion 64 = .ok (.invokestatic 294, 3) := dk_184 1 38 (dk_at dksJ9_fixAfterDeletion_2 16 rfl rfl)
theorem dJ9_fixAfterDeletion_67 : decode cJ9_fixAfterDeletion 67 = .ok (.invokestatic 300, 3) := dk_184 1 44 (dk_at dksJ9_fixAfterDeletion_2 19 rfl rfl)
theorem dJ9_fixAfterDeletion_70 : decode cJ9_fixAfterDeletion 70 = .ok (.astore_n 2, 1) := dk_77 (dk_at dksJ9_fixAfterDeletion_2 22 rfl rfl)
theorem dJ9_fixAfterDeletion_71 : decode cJ9_fixAfterDeletion 71 = .ok (.aload_n 2, 1) := dk_44 (dk_at dksJ9_fixAfterDeletion_2 23 rfl rfl)
theorem dJ9_fixAfterDeletion_72 : decode cJ9_fixAfterDeletion 72 = .ok (.invokestatic 297, 3) := dk_184 1 41 (dk_at dksJ9_fixAfterDeletion_3 0 rfl rfl)
theorem dJ9_fixAfterDeletion_75 : decode cJ9_fixAfterDeletion 75 = .ok (.invokestatic 303, 3) := dk_184 1 47 (dk_at dksJ9_fixAfterDeletion_3 3 rfl rfl)
theorem dJ9_fixAfterDeletion_78 : decode cJ9_fixAfterDeletion 78 = .ok (.iconst 1, 1) := dk_4 (dk_at dksJ9_fixAfterDeletion_3 6 rfl rfl)
theorem dJ9_fixAfterDeletion_79 : decode cJ9_fixAfterDeletion 79 = .ok (.if_icmp .ne 27, 3) := dk_160 0 27 (dk_at dksJ9_fixAfterDeletion_3 7 rfl rfl)
theorem dJ9_fixAfterDeletion_82 : decode cJ9_fixAfterDeletion 82 = .ok (.aload_n 2, 1) := dk_44 (dk_at dksJ9_fixAfterDeletion_3 10 rfl rfl)
theorem dJ9_fixAfterDeletion_83 : decode cJ9_fixAfterDeletion 83 = .ok (.invokestatic 300, 3) := dk_184 1 44 (dk_at dksJ9_fixAfterDeletion_3 11 rfl rfl)
theorem dJ9_fixAfterDeletion_86 : decode cJ9_fixAfterDeletion 86 = .ok (.invokestatic 303, 3) := dk_184 1 47 (dk_at dksJ9_fixAfterDeletion_3 14 rfl rfl)
theorem dJ9_fixAfterDeletion_89 : decode cJ9_fixAfterDeletion 89 = .ok (.iconst 1, 1) := dk_4 (dk_at dksJ9_fixAfterDeletion_3 17 rfl rfl)
theorem dJ9_fixAfterDeletion_90 : decode cJ9_fixAfterDeletion 90 = .ok (.if_icmp .ne 16, 3) := dk_160 0 16 (dk_at dksJ9_fixAfterDeletion_3 18 rfl rfl)
theorem dJ9_fixAfterDeletion_93 : decode cJ9_fixAfterDeletion 93 = .ok (.aload_n 2, 1) := dk_44 (dk_at dksJ9_fixAfterDeletion_3 21 rfl rfl)
theorem dJ9_fixAfterDeletion_94 : decode cJ9_fixAfterDeletion 94 = .ok (.iconst 0, 1) := dk_3 (dk_at dksJ9_fixAfterDeletion_3 22 rfl rfl)
theorem dJ9_fixAfterDeletion_95 : decode cJ9_fixAfterDeletion 95 = .ok (.invokestatic 307, 3) := dk_184 1 51 (dk_at dksJ9_fixAfterDeletion_4 0 rfl rfl)
theorem dJ9_fixAfterDeletion_98 : decode cJ9_fixAfterDeletion 98 = .ok (.aload_n 1, 1) := dk_43 (dk_at dksJ9_fixAfterDeletion_4 3 rfl rfl)
theorem dJ9_fixAfterDeletion_99 : decode cJ9_fixAfterDeletion 99 = .ok (.invokestatic 294, 3) := dk_184 1 38 (dk_at dksJ9_fixAfterDeletion_4 4 rfl rfl)
theorem dJ9_fixAfterDeletion_102 : decode cJ9_fixAfterDeletion 102 = .ok (.astore_n 1, 1) := dk_76 (dk_at dksJ9_fixAfterDeletion_4 7 rfl rfl)
theorem dJ9_fixAfterDeletion_103 : decode cJ9_fixAfterDeletion 103 = .ok (.goto 80, 3) := dk_167 0 80 (dk_at dksJ9_fixAfterDeletion_4 8 rfl rfl)
theorem dJ9_fixAfterDeletion_106 : decode cJ9_fixAfterDeletion 106 = .ok (.aload_n 2, 1) := dk_44 (dk_at dksJ9_fixAfterDeletion_4 11 rfl rfl)
theorem dJ9_fixAfterDeletion_107 : decode cJ9_fixAfterDeletion 107 = .ok (.invokestatic 300, 3) := dk_184 1 44 (dk_at dksJ9_fixAfterDeletion_4 12 rfl rfl)
theorem dJ9_fixAfterDeletion_110 : decode cJ9_fixAfterDeletion 110 = .ok (.invokestatic 303, 3) := dk_184 1 47 (dk_at dksJ9_fixAfterDeletion_4 15 rfl rfl)
theorem dJ9_fixAfterDeletion_113 : decode cJ9_fixAfterDeletion 113 = .ok (.iconst 1, 1) := dk_4 (dk_at dksJ9_fixAfterDeletion_4 18 rfl rfl)
theorem dJ9_fixAfterDeletion_114 : decode cJ9_fixAfterDeletion 114 = .ok (.if_icmp .ne 29, 3) := dk_160 0 29 (dk_at dksJ9_fixAfterDeletion_4 19 rfl rfl)
theorem dJ9_fixAfterDeletion_117 : decode cJ9_fixAfterDeletion 117 = .ok (.aload_n 2, 1) := dk_44 (dk_at dksJ9_fixAfterDeletion_4 22 rfl rfl)
theorem dJ9_fixAfterDeletion_118 : decode cJ9_fixAfterDeletion 118 = .ok (.invokestatic 297, 3) := dk_184 1 41 (dk_at dksJ9_fixAfterDeletion_5 0 rfl rfl)
theorem dJ9_fixAfterDeletion_121 : decode cJ9_fixAfterDeletion 121 = .ok (.iconst 1, 1) := dk_4 (dk_at dksJ9_fixAfterDeletion_5 3 rfl rfl)
theorem dJ9_fixAfterDeletion_122 : decode cJ9_fixAfterDeletion 122 = .ok (.invokestatic 307, 3) := dk_184 1 51 (dk_at dksJ9_fixAfterDeletion_5 4 rfl rfl)
theorem dJ9_fixAfterDeletion_125 : decode cJ9_fixAfterDeletion 125 = .ok (.aload_n 2, 1) := dk_44 (dk_at dksJ9_fixAfterDeletion_5 7 rfl rfl)
theorem dJ9_fixAfterDeletion_126 : decode cJ9_fixAfterDeletion 126 = .ok (.iconst 0, 1) := dk_3 (dk_at dksJ9_fixAfterDeletion_5 8 rfl rfl)
theorem dJ9_fixAfterDeletion_127 : decode cJ9_fixAfterDeletion 127 = .ok (.invokestatic 307, 3) := dk_184 1 51 (dk_at dksJ9_fixAfterDeletion_5 9 rfl rfl)
theorem dJ9_fixAfterDeletion_130 : decode cJ9_fixAfterDeletion 130 = .ok (.aload_n 0, 1) := dk_42 (dk_at dksJ9_fixAfterDeletion_5 12 rfl rfl)
theorem dJ9_fixAfterDeletion_131 : decode cJ9_fixAfterDeletion 131 = .ok (.aload_n 2, 1) := dk_44 (dk_at dksJ9_fixAfterDeletion_5 13 rfl rfl)
theorem dJ9_fixAfterDeletion_132 : decode cJ9_fixAfterDeletion 132 = .ok (.invokevirtual 314, 3) := dk_182 1 58 (dk_at dksJ9_fixAfterDeletion_5 14 rfl rfl)
theorem dJ9_fixAfterDeletion_135 : decode cJ9_fixAfterDeletion 135 = .ok (.aload_n 1, 1) := dk_43 (dk_at dksJ9_fixAfterDeletion_5 17 rfl rfl)
theorem dJ9_fixAfterDeletion_136 : decode cJ9_fixAfterDeletion 136 = .ok (.invokestatic 294, 3) := dk_184 1 38 (dk_at dksJ9_fixAfterDeletion_5 18 rfl rfl)
theorem dJ9_fixAfterDeletion_139 : decode cJ9_fixAfterDeletion 139 = .ok (.invokestatic 300, 3) := dk_184 1 44 (dk_at dksJ9_fixAfterDeletion_5 21 rfl rfl)
theorem dJ9_fixAfterDeletion_142 : decode cJ9_fixAfterDeletion 142 = .ok (.astore_n 2, 1) := dk_77 (dk_at dksJ9_fixAfterDeletion_6 0 rfl rfl)
theorem dJ9_fixAfterDeletion_143 : decode cJ9_fixAfterDeletion 143 = .ok (.aload_n 2, 1) := dk_44 (dk_at dksJ9_fixAfterDeletion_6 1 rfl rfl)
theorem dJ9_fixAfterDeletion_144 : decode cJ9_fixAfterDeletion 144 = .ok (.aload_n 1, 1) := dk_43 (dk_at dksJ9_fixAfterDeletion_6 2 rfl rfl)
theorem dJ9_fixAfterDeletion_145 : decode cJ9_fixAfterDeletion 145 = .ok (.invokestatic 294, 3) := dk_184 1 38 (dk_at dksJ9_fixAfterDeletion_6 3 rfl rfl)
theorem dJ9_fixAfterDeletion_148 : decode cJ9_fixAfterDeletion 148 = .ok (.invokestatic 303, 3) := dk_184 1 47 (dk_at dksJ9_fixAfterDeletion_6 6 rfl rfl)
theorem dJ9_fixAfterDeletion_151 : decode cJ9_fixAfterDeletion 151 = .ok (.invokestatic 307, 3) := dk_184 1 51 (dk_at dksJ9_fixAfterDeletion_6 9 rfl rfl)
theorem dJ9_fixAfterDeletion_154 : decode cJ9_fixAfterDeletion 154 = .ok (.aload_n 1, 1) := dk_43 (dk_at dksJ9_fixAfterDeletion_6 12 rfl rfl)
theorem dJ9_fixAfterDeletion_155 : decode cJ9_fixAfterDeletion 155 = .ok (.invokestatic 294, 3) := dk_184 1 38 (dk_at dksJ9_fixAfterDeletion_6 13 rfl rfl)
theorem dJ9_fixAfterDeletion_158 : decode cJ9_fixAfterDeletion 158 = .ok (.iconst 1, 1) := dk_4 (dk_at dksJ9_fixAfterDeletion_6 16 rfl rfl)
theorem dJ9_fixAfterDeletion_159 : decode cJ9_fixAfterDeletion 159 = .ok (.invokestatic 307, 3) := dk_184 1 51 (dk_at dksJ9_fixAfterDeletion_6 17 rfl rfl)
theorem dJ9_fixAfterDeletion_162 : decode cJ9_fixAfterDeletion 162 = .ok (.aload_n 2, 1) := dk_44 (dk_at dksJ9_fixAfterDeletion_6 20 rfl rfl)
theorem dJ9_fixAfterDeletion_163 : decode cJ9_fixAfterDeletion 163 = .ok (.invokestatic 300, 3) := dk_184 1 44 (dk_at dksJ9_fixAfterDeletion_6 21 rfl rfl)
theorem dJ9_fixAfterDeletion_166 : decode cJ9_fixAfterDeletion 166 = .ok (.iconst 1, 1) := dk_4 (dk_at dksJ9_fixAfterDeletion_7 0 rfl rfl)
theorem dJ9_fixAfterDeletion_167 : decode cJ9_fixAfterDeletion 167 = .ok (.invokestatic 307, 3) := dk_184 1 51 (dk_at dksJ9_fixAfterDeletion_7 1 rfl rfl)
theorem dJ9_fixAfterDeletion_170 : decode cJ9_fixAfterDeletion 170 = .ok (.aload_n 0, 1) := dk_42 (dk_at dksJ9_fixAfterDeletion_7 4 rfl rfl)
theorem dJ9_fixAfterDeletion_171 : decode cJ9_fixAfterDeletion 171 = .ok (.aload_n 1, 1) := dk_43 (dk_at dksJ9_fixAfterDeletion_7 5 rfl rfl)
theorem dJ9_fixAfterDeletion_172 : decode cJ9_fixAfterDeletion 172 = .ok (.invokestatic 294, 3) := dk_184 1 38 (dk_at dksJ9_fixAfterDeletion_7 6 rfl rfl)
theorem dJ9_fixAfterDeletion_175 : decode cJ9_fixAfterDeletion 175 = .ok (.invokevirtual 311, 3) := dk_182 1 55 (dk_at dksJ9_fixAfterDeletion_7 9 rfl rfl)
theorem dJ9_fixAfterDeletion_178 : decode cJ9_fixAfterDeletion 178 = .ok (.aload_n 0, 1) := dk_42 (dk_at dksJ9_fixAfterDeletion_7 12 rfl rfl)
theorem dJ9_fixAfterDeletion_179 : decode cJ9_fixAfterDeletion 179 = .ok (.getfield 101, 3) := dk_180 0 101 (dk_at dksJ9_fixAfterDeletion_7 13 rfl rfl)
theorem dJ9_fixAfterDeletion_182 : decode cJ9_fixAfterDeletion 182 = .ok (.astore_n 1, 1) := dk_76 (dk_at dksJ9_fixAfterDeletion_7 16 rfl rfl)
theorem dJ9_fixAfterDeletion_183 : decode cJ9_fixAfterDeletion 183 = .ok (.goto (-183), 3) := dk_167 255 73 (dk_at dksJ9_fixAfterDeletion_7 17 rfl rfl)
theorem dJ9_fixAfterDeletion_186 : decode cJ9_fixAfterDeletion 186 = .ok (.aload_n 1, 1) := dk_43 (dk_at dksJ9_fixAfterDeletion_7 20 rfl rfl)
theorem dJ9_fixAfterDeletion_187 : decode cJ9_fixAfterDeletion 187 = .ok (.invokestatic 294, 3) := dk_184 1 38 (dk_at dksJ9_fixAfterDeletion_7 21 rfl rfl)
theorem dJ9_fixAfterDeletion_190 : decode cJ9_fixAfterDeletion 190 = .ok (.invokestatic 297, 3) := dk_184 1 41 (dk_at dksJ9_fixAfterDeletion_8 0 rfl rfl)
theorem dJ9_fixAfterDeletion_193 : decode cJ9_fixAfterDeletion 193 = .ok (.astore_n 2, 1) := dk_77 (dk_at dksJ9_fixAfterDeletion_8 3 rfl rfl)
theorem dJ9_fixAfterDeletion_194 : decode cJ9_fixAfterDeletion 194 = .ok (.aload_n 2, 1) := dk_44 (dk_at dksJ9_fixAfterDeletion_8 4 rfl rfl)
theorem dJ9_fixAfterDeletion_195 : decode cJ9_fixAfterDeletion 195 = .ok (.invokestatic 303, 3) := dk_184 1 47 (dk_at dksJ9_fixAfterDeletion_8 5 rfl rfl)
theorem dJ9_fixAfterDeletion_198 : decode cJ9_fixAfterDeletion 198 = .ok (.ifCond .ne 32, 3) := dk_154 0 32 (dk_at dksJ9_fixAfterDeletion_8 8 rfl rfl)
theorem dJ9_fixAfterDeletion_201 : decode cJ9_fixAfterDeletion 201 = .ok (.aload_n 2, 1) := dk_44 (dk_at dksJ9_fixAfterDeletion_8 11 rfl rfl)
theorem dJ9_fixAfterDeletion_202 : decode cJ9_fixAfterDeletion 202 = .ok (.iconst 1, 1) := dk_4 (dk_at dksJ9_fixAfterDeletion_8 12 rfl rfl)
theorem dJ9_fixAfterDeletion_203 : decode cJ9_fixAfterDeletion 203 = .ok (.invokestatic 307, 3) := dk_184 1 51 (dk_at dksJ9_fixAfterDeletion_8 13 rfl rfl)
theorem dJ9_fixAfterDeletion_206 : decode cJ9_fixAfterDeletion 206 = .ok (.aload_n 1, 1) := dk_43 (dk_at dksJ9_fixAfterDeletion_8 16 rfl rfl)
theorem dJ9_fixAfterDeletion_207 : decode cJ9_fixAfterDeletion 207 = .ok (.invokestatic 294, 3) := dk_184 1 38 (dk_at dksJ9_fixAfterDeletion_8 17 rfl rfl)
theorem dJ9_fixAfterDeletion_210 : decode cJ9_fixAfterDeletion 210 = .ok (.iconst 0, 1) := dk_3 (dk_at dksJ9_fixAfterDeletion_8 20 rfl rfl)
theorem dJ9_fixAfterDeletion_211 : decode cJ9_fixAfterDeletion 211 = .ok (.invokestatic 307, 3) := dk_184 1 51 (dk_at dksJ9_fixAfterDeletion_8 21 rfl rfl)
theorem dJ9_fixAfterDeletion_214 : decode cJ9_fixAfterDeletion 214 = .ok (.aload_n 0, 1) := dk_42 (dk_at dksJ9_fixAfterDeletion_9 0 rfl rfl)
theorem dJ9_fixAfterDeletion_215 : decode cJ9_fixAfterDeletion 215 = .ok (.aload_n 1, 1) := dk_43 (dk_at dksJ9_fixAfterDeletion_9 1 rfl rfl)
theorem dJ9_fixAfterDeletion_216 : decode cJ9_fixAfterDeletion 216 = .ok (.invokestatic 294, 3) := dk_184 1 38 (dk_at dksJ9_fixAfterDeletion_9 2 rfl rfl)
theorem dJ9_fixAfterDeletion_219 : decode cJ9_fixAfterDeletion 219 = .ok (.invokevirtual 314, 3) := dk_182 1 58 (dk_at dksJ9_fixAfterDeletion_9 5 rfl rfl)
theorem dJ9_fixAfterDeletion_222 : decode cJ9_fixAfterDeletion 222 = .ok (.aload_n 1, 1) := dk_43 (dk_at dksJ9_fixAfterDeletion_9 8 rfl rfl)
theorem dJ9_fixAfterDeletion_223 : decode cJ9_fixAfterDeletion 223 = .ok (.invokestatic 294, 3) := dk_184 1 38 (dk_at dksJ9_fixAfterDeletion_9 9 rfl rfl)
theorem dJ9_fixAfterDeletion_226 : decode cJ9_fixAfterDeletion 226 = .ok (.invokestatic 297, 3) := dk_184 1 41 (dk_at dksJ9_fixAfterDeletion_9 12 rfl rfl)
theorem dJ9_fixAfterDeletion_229 : decode cJ9_fixAfterDeletion 229 = .ok (.astore_n 2, 1) := dk_77 (dk_at dksJ9_fixAfterDeletion_9 15 rfl rfl)
theorem dJ9_fixAfterDeletion_230 : decode cJ9_fixAfterDeletion 230 = .ok (.aload_n 2, 1) := dk_44 (dk_at dksJ9_fixAfterDeletion_9 16 rfl rfl)
theorem dJ9_fixAfterDeletion_231 : decode cJ9_fixAfterDeletion 231 = .ok (.invokestatic 300, 3) := dk_184 1 44 (dk_at dksJ9_fixAfterDeletion_9 17 rfl rfl)
theorem dJ9_fixAfterDeletion_234 : decode cJ9_fixAfterDeletion 234 = .ok (.invokestatic 303, 3) := dk_184 1 47 (dk_at dksJ9_fixAfterDeletion_9 20 rfl rfl)
theorem dJ9_fixAfterDeletion_237 : decode cJ9_fixAfterDeletion 237 = .ok (.iconst 1, 1) := dk_4 (dk_at dksJ9_fixAfterDeletion_9 23 rfl rfl)
theorem dJ9_fixAfterDeletion_238 : decode cJ9_fixAfterDeletion 238 = .ok (.if_icmp .ne 27, 3) := dk_160 0 27 (dk_at dksJ9_fixAfterDeletion_10 0 rfl rfl)
theorem dJ9_fixAfterDeletion_241 : decode cJ9_fixAfterDeletion 241 = .ok (.aload_n 2, 1) := dk_44 (dk_at dksJ9_fixAfterDeletion_10 3 rfl rfl)
theorem dJ9_fixAfterDeletion_242 : decode cJ9_fixAfterDeletion 242 = .ok (.invokestatic 297, 3) := dk_184 1 41 (dk_at dksJ9_fixAfterDeletion_10 4 rfl rfl)
theorem dJ9_fixAfterDeletion_245 : decode cJ9_fixAfterDeletion 245 = .ok (.invokestatic 303, 3) := dk_184 1 47 (dk_at dksJ9_fixAfterDeletion_10 7 rfl rfl)
theorem dJ9_fixAfterDeletion_248 : decode cJ9_fixAfterDeletion 248 = .ok (.iconst 1, 1) := dk_4 (dk_at dksJ9_fixAfterDeletion_10 10 rfl rfl)
theorem dJ9_fixAfterDeletion_249 : decode cJ9_fixAfterDeletion 249 = .ok (.if_icmp .ne 16, 3) := dk_160 0 16 (dk_at dksJ9_fixAfterDeletion_10 11 rfl rfl)
theorem dJ9_fixAfterDeletion_252 : decode cJ9_fixAfterDeletion 252 = .ok (.aload_n 2, 1) := dk_44 (dk_at dksJ9_fixAfterDeletion_10 14 rfl rfl)
theorem dJ9_fixAfterDeletion_253 : decode cJ9_fixAfterDeletion 253 = .ok (.iconst 0, 1) := dk_3 (dk_at dksJ9_fixAfterDeletion_10 15 rfl rfl)
theorem dJ9_fixAfterDeletion_254 : decode cJ9_fixAfterDeletion 254 = .ok (.invokestatic 307, 3) := dk_184 1 51 (dk_at dksJ9_fixAfterDeletion_10 16 rfl rfl)
theorem dJ9_fixAfterDeletion_257 : decode cJ9_fixAfterDeletion 257 = .ok (.aload_n 1, 1) := dk_43 (dk_at dksJ9_fixAfterDeletion_10 19 rfl rfl)
theorem dJ9_fixAfterDeletion_258 : decode cJ9_fixAfterDeletion 258 = .ok (.invokestatic 294, 3) := dk_184 1 38 (dk_at dksJ9_fixAfterDeletion_10 20 rfl rfl)
theorem dJ9_fixAfterDeletion_261 : decode cJ9_fixAfterDeletion 261 = .ok (.astore_n 1, 1) := dk_76 (dk_at dksJ9_fixAfterDeletion_10 23 rfl rfl)
theorem dJ9_fixAfterDeletion_262 : decode cJ9_fixAfterDeletion 262 = .ok (.goto 80, 3) := dk_167 0 80 (dk_at dksJ9_fixAfterDeletion_11 0 rfl rfl)
theorem dJ9_fixAfterDeletion_265 : decode cJ9_fixAfterDeletion 265 = .ok (.aload_n 2, 1) := dk_44 (dk_at dksJ9_fixAfterDeletion_11 3 rfl rfl)
theorem dJ9_fixAfterDeletion_266 : decode cJ9_fixAfterDeletion 266 = .ok (.invokestatic 297, 3) := dk_184 1 41 (dk_at dksJ9_fixAfterDeletion_11 4 rfl rfl)
theorem dJ9_fixAfterDeletion_269 : decode cJ9_fixAfterDeletion 269 = .ok (.invokestatic 303, 3) := dk_184 1 47 (dk_at dksJ9_fixAfterDeletion_11 7 rfl rfl)
theorem dJ9_fixAfterDeletion_272 : decode cJ9_fixAfterDeletion 272 = .ok (.iconst 1, 1) := dk_4 (dk_at dksJ9_fixAfterDeletion_11 10 rfl rfl)
theorem dJ9_fixAfterDeletion_273 : decode cJ9_fixAfterDeletion 273 = .ok (.if_icmp .ne 29, 3) := dk_160 0 29 (dk_at dksJ9_fixAfterDeletion_11 11 rfl rfl)
theorem dJ9_fixAfterDeletion_276 : decode cJ9_fixAfterDeletion 276 = .ok (.aload_n 2, 1) := dk_44 (dk_at dksJ9_fixAfterDeletion_11 14 rfl rfl)
theorem dJ9_fixAfterDeletion_277 : decode cJ9_fixAfterDeletion 277 = .ok (.invokestatic 300, 3) := dk_184 1 44 (dk_at dksJ9_fixAfterDeletion_11 15 rfl rfl)
theorem dJ9_fixAfterDeletion_280 : decode cJ9_fixAfterDeletion 280 = .ok (.iconst 1, 1) := dk_4 (dk_at dksJ9_fixAfterDeletion_11 18 rfl rfl)
theorem dJ9_fixAfterDeletion_281 : decode cJ9_fixAfterDeletion 281 = .ok (.invokestatic 307, 3) := dk_184 1 51 (dk_at dksJ9_fixAfterDeletion_11 19 rfl rfl)
theorem dJ9_fixAfterDeletion_284 : decode cJ9_fixAfterDeletion 284 = .ok (.aload_n 2, 1) := dk_44 (dk_at dksJ9_fixAfterDeletion_11 22 rfl rfl)
theorem dJ9_fixAfterDeletion_285 : decode cJ9_fixAfterDeletion 285 = .ok (.iconst 0, 1) := dk_3 (dk_at dksJ9_fixAfterDeletion_11 23 rfl rfl)
theorem dJ9_fixAfterDeletion_286 : decode cJ9_fixAfterDeletion 286 = .ok (.invokestatic 307, 3) := dk_184 1 51 (dk_at dksJ9_fixAfterDeletion_12 0 rfl rfl)
theorem dJ9_fixAfterDeletion_289 : decode cJ9_fixAfterDeletion 289 = .ok (.aload_n 0, 1) := dk_42 (dk_at dksJ9_fixAfterDeletion_12 3 rfl rfl)
theorem dJ9_fixAfterDeletion_290 : decode cJ9_fixAfterDeletion 290 = .ok (.aload_n 2, 1) := dk_44 (dk_at dksJ9_fixAfterDeletion_12 4 rfl rfl)
theorem dJ9_fixAfterDeletion_291 : decode cJ9_fixAfterDeletion 291 = .ok (.invokevirtual 311, 3) := dk_182 1 55 (dk_at dksJ9_fixAfterDeletion_12 5 rfl rfl)
theorem dJ9_fixAfterDeletion_294 : decode cJ9_fixAfterDeletion 294 = .ok (.aload_n 1, 1) := dk_43 (dk_at dksJ9_fixAfterDeletion_12 8 rfl rfl)
theorem dJ9_fixAfterDeletion_295 : decode cJ9_fixAfterDeletion 295 = .ok (.invokestatic 294, 3) := dk_184 1 38 (dk_at dksJ9_fixAfterDeletion_12 9 rfl rfl)
theorem dJ9_fixAfterDeletion_298 : decode cJ9_fixAfterDeletion 298 = .ok (.invokestatic 297, 3) := dk_184 1 41 (dk_at dksJ9_fixAfterDeletion_12 12 rfl rfl)
theorem dJ9_fixAfterDeletion_301 : decode cJ9_fixAfterDeletion 301 = .ok (.astore_n 2, 1) := dk_77 (dk_at dksJ9_fixAfterDeletion_12 15 rfl rfl)
theorem dJ9_fixAfterDeletion_302 : decode cJ9_fixAfterDeletion 302 = .ok (.aload_n 2, 1) := dk_44 (dk_at dksJ9_fixAfterDeletion_12 16 rfl rfl)
theorem dJ9_fixAfterDeletion_303 : decode cJ9_fixAfterDeletion 303 = .ok (.aload_n 1, 1) := dk_43 (dk_at dksJ9_fixAfterDeletion_12 17 rfl rfl)
theorem dJ9_fixAfterDeletion_304 : decode cJ9_fixAfterDeletion 304 = .ok (.invokestatic 294, 3) := dk_184 1 38 (dk_at dksJ9_fixAfterDeletion_12 18 rfl rfl)
theorem dJ9_fixAfterDeletion_307 : decode cJ9_fixAfterDeletion 307 = .ok (.invokestatic 303, 3) := dk_184 1 47 (dk_at dksJ9_fixAfterDeletion_12 21 rfl rfl)
theorem dJ9_fixAfterDeletion_310 : decode cJ9_fixAfterDeletion 310 = .ok (.invokestatic 307, 3) := dk_184 1 51 (dk_at dksJ9_fixAfterDeletion_13 0 rfl rfl)
theorem dJ9_fixAfterDeletion_313 : decode cJ9_fixAfterDeletion 313 = .ok (.aload_n 1, 1) := dk_43 (dk_at dksJ9_fixAfterDeletion_13 3 rfl rfl)
theorem dJ9_fixAfterDeletion_314 : decode cJ9_fixAfterDeletion 314 = .ok (.invokestatic 294, 3) := dk_184 1 38 (dk_at dksJ9_fixAfterDeletion_13 4 rfl rfl)
theorem dJ9_fixAfterDeletion_317 : decode cJ9_fixAfterDeletion 317 = .ok (.iconst 1, 1) := dk_4 (dk_at dksJ9_fixAfterDeletion_13 7 rfl rfl)
theorem dJ9_fixAfterDeletion_318 : decode cJ9_fixAfterDeletion 318 = .ok (.invokestatic 307, 3) := dk_184 1 51 (dk_at dksJ9_fixAfterDeletion_13 8 rfl rfl)
theorem dJ9_fixAfterDeletion_321 : decode cJ9_fixAfterDeletion 321 = .ok (.aload_n 2, 1) := dk_44 (dk_at dksJ9_fixAfterDeletion_13 11 rfl rfl)
theorem dJ9_fixAfterDeletion_322 : decode cJ9_fixAfterDeletion 322 = .ok (.invokestatic 297, 3) := dk_184 1 41 (dk_at dksJ9_fixAfterDeletion_13 12 rfl rfl)
theorem dJ9_fixAfterDeletion_325 : decode cJ9_fixAfterDeletion 325 = .ok (.iconst 1, 1) := dk_4 (dk_at dksJ9_fixAfterDeletion_13 15 rfl rfl)
theorem dJ9_fixAfterDeletion_326 : decode cJ9_fixAfterDeletion 326 = .ok (.invokestatic 307, 3) := dk_184 1 51 (dk_at dksJ9_fixAfterDeletion_13 16 rfl rfl)
theorem dJ9_fixAfterDeletion_329 : decode cJ9_fixAfterDeletion 329 = .ok (.aload_n 0, 1) := dk_42 (dk_at dksJ9_fixAfterDeletion_13 19 rfl rfl)
theorem dJ9_fixAfterDeletion_330 : decode cJ9_fixAfterDeletion 330 = .ok (.aload_n 1, 1) := dk_43 (dk_at dksJ9_fixAfterDeletion_13 20 rfl rfl)
theorem dJ9_fixAfterDeletion_331 : decode cJ9_fixAfterDeletion 331 = .ok (.invokestatic 294, 3) := dk_184 1 38 (dk_at dksJ9_fixAfterDeletion_13 21 rfl rfl)
theorem dJ9_fixAfterDeletion_334 : decode cJ9_fixAfterDeletion 334 = .ok (.invokevirtual 314, 3) := dk_182 1 58 (dk_at dksJ9_fixAfterDeletion_14 0 rfl rfl)
theorem dJ9_fixAfterDeletion_337 : decode cJ9_fixAfterDeletion 337 = .ok (.aload_n 0, 1) := dk_42 (dk_at dksJ9_fixAfterDeletion_14 3 rfl rfl)
theorem dJ9_fixAfterDeletion_338 : decode cJ9_fixAfterDeletion 338 = .ok (.getfield 101, 3) := dk_180 0 101 (dk_at dksJ9_fixAfterDeletion_14 4 rfl rfl)
theorem dJ9_fixAfterDeletion_341 : decode cJ9_fixAfterDeletion 341 = .ok (.astore_n 1, 1) := dk_76 (dk_at dksJ9_fixAfterDeletion_14 7 rfl rfl)
theorem dJ9_fixAfterDeletion_342 : decode cJ9_fixAfterDeletion 342 = .ok (.goto (-342), 3) := dk_167 254 170 (dk_at dksJ9_fixAfterDeletion_14 8 rfl rfl)
theorem dJ9_fixAfterDeletion_345 : decode cJ9_fixAfterDeletion 345 = .ok (.aload_n 1, 1) := dk_43 (dk_at dksJ9_fixAfterDeletion_14 11 rfl rfl)
theorem dJ9_fixAfterDeletion_346 : decode cJ9_fixAfterDeletion 346 = .ok (.iconst 1, 1) := dk_4 (dk_at dksJ9_fixAfterDeletion_14 12 rfl rfl)
theorem dJ9_fixAfterDeletion_347 : decode cJ9_fixAfterDeletion 347 = .ok (.invokestatic 307, 3) := dk_184 1 51 (dk_at dksJ9_fixAfterDeletion_14 13 rfl rfl)
theorem dJ9_fixAfterDeletion_350 : decode cJ9_fixAfterDeletion 350 = .ok (.return_, 1) := dk_177 (dk_at dksJ9_fixAfterDeletion_14 16 rfl rfl)
abbrev cJ9_get : ByteArray := prog_94_method_8_code
def yJ9_get : MethodName := ⟨RJ9, "get", "(Ljava/lang/Object;)Ljava/lang/Object;"⟩
def dkwJ9_get_0 : List UInt8 := [42, 43, 182, 0, 50, 77, 44, 199, 0, 7, 1, 167, 0, 7, 44, 180, 0, 58, 176]
abbrev dktJ9_get_0 : List UInt8 := dkwJ9_get_0 ++ []
theorem dksJ9_get_0 : cJ9_get.data.toList.drop 0 = dktJ9_get_0 := by decide +kernel
theorem dJ9_get_0 : decode cJ9_get 0 = .ok (.aload_n 0, 1) := dk_42 (dk_at dksJ9_get_0 0 rfl rfl)
theorem dJ9_get_1 : decode cJ9_get 1 = .ok (.aload_n 1, 1) := dk_43 (dk_at dksJ9_get_0 1 rfl rfl)
theorem dJ9_get_2 : decode cJ9_get 2 = .ok (.invokevirtual 50, 3) := dk_182 0 50 (dk_at dksJ9_get_0 2 rfl rfl)
theorem dJ9_get_5 : decode cJ9_get 5 = .ok (.astore_n 2, 1) := dk_77 (dk_at dksJ9_get_0 5 rfl rfl)
theorem dJ9_get_6 : decode cJ9_get 6 = .ok (.aload_n 2, 1) := dk_44 (dk_at dksJ9_get_0 6 rfl rfl)
theorem dJ9_get_7 : decode cJ9_get 7 = .ok (.ifnonnull 7, 3) := dk_199 0 7 (dk_at dksJ9_get_0 7 rfl rfl)
theorem dJ9_get_10 : decode cJ9_get 10 = .ok (.aconst_null, 1) := dk_1 (dk_at dksJ9_get_0 10 rfl rfl)
theorem dJ9_get_11 : decode cJ9_get 11 = .ok (.goto 7, 3) := dk_167 0 7 (dk_at dksJ9_get_0 11 rfl rfl)
theorem dJ9_get_14 : decode cJ9_get 14 = .ok (.aload_n 2, 1) := dk_44 (dk_at dksJ9_get_0 14 rfl rfl)
theorem dJ9_get_15 : decode cJ9_get 15 = .ok (.getfield 58, 3) := dk_180 0 58 (dk_at dksJ9_get_0 15 rfl rfl)
theorem dJ9_get_18 : decode cJ9_get 18 = .ok (.areturn, 1) := dk_176 (dk_at dksJ9_get_0 18 rfl rfl)
abbrev cJ9_keySet : ByteArray := prog_94_method_49_code
def yJ9_keySet : MethodName := ⟨RJ9, "keySet", "()Ljava/util/Set;"⟩
theorem dJ9_keySet_0 : decode cJ9_keySet 0 = .ok (.aload_n 0, 1) := by decide +kernel
theorem dJ9_keySet_1 : decode cJ9_keySet 1 = .ok (.invokevirtual 219, 3) := by decide +kernel
theorem dJ9_keySet_4 : decode cJ9_keySet 4 = .ok (.areturn, 1) := by decide +kernel
abbrev cJ9_navigableKeySet : ByteArray := prog_94_method_50_code
def yJ9_navigableKeySet : MethodName := ⟨RJ9, "navigableKeySet", "()Ljava/util/NavigableSet;"⟩
def dkwJ9_navigableKeySet_1 : List UInt8 := [181, 0, 191, 176]
abbrev dktJ9_navigableKeySet_1 : List UInt8 := dkwJ9_navigableKeySet_1 ++ []
def dkwJ9_navigableKeySet_0 : List UInt8 := [42, 180, 0, 191, 76, 43, 198, 0, 7, 43, 167, 0, 16, 42, 187, 0, 222, 89, 42, 183, 0, 224, 90]
abbrev dktJ9_navigableKeySet_0 : List UInt8 := dkwJ9_navigableKeySet_0 ++ dktJ9_navigableKeySet_1
theorem dksJ9_navigableKeySet_0 : cJ9_navigableKeySet.data.toList.drop 0 = dktJ9_navigableKeySet_0 := by decide +kernel
theorem dksJ9_navigableKeySet_1 : cJ9_navigableKeySet.data.toList.drop 23 = dktJ9_navigableKeySet_1 := dk_seg dksJ9_navigableKeySet_0 23 rfl rfl
theorem dJ9_navigableKeySet_0 : decode cJ9_navigableKeySet 0 = .ok (.aload_n 0, 1) := dk_42 (dk_at dksJ9_navigableKeySet_0 0 rfl rfl)
theorem dJ9_navigableKeySet_1 : decode cJ9_navigableKeySet 1 = .ok (.getfield 191, 3) := dk_180 0 191 (dk_at dksJ9_navigableKeySet_0 1 rfl rfl)
theorem dJ9_navigableKeySet_4 : decode cJ9_navigableKeySet 4 = .ok (.astore_n 1, 1) := dk_76 (dk_at dksJ9_navigableKeySet_0 4 rfl rfl)
theorem dJ9_navigableKeySet_5 : decode cJ9_navigableKeySet 5 = .ok (.aload_n 1, 1) := dk_43 (dk_at dksJ9_navigableKeySet_0 5 rfl rfl)
theorem dJ9_navigableKeySet_6 : decode cJ9_navigableKeySet 6 = .ok (.ifnull 7, 3) := dk_198 0 7 (dk_at dksJ9_navigableKeySet_0 6 rfl rfl)
theorem dJ9_navigableKeySet_9 : decode cJ9_navigableKeySet 9 = .ok (.aload_n 1, 1) := dk_43 (dk_at dksJ9_navigableKeySet_0 9 rfl rfl)
theorem dJ9_navigableKeySet_10 : decode cJ9_navigableKeySet 10 = .ok (.goto 16, 3) := dk_167 0 16 (dk_at dksJ9_navigableKeySet_0 10 rfl rfl)
theorem dJ9_navigableKeySet_13 : decode cJ9_navigableKeySet 13 = .ok (.aload_n 0, 1) := dk_42 (dk_at dksJ9_navigableKeySet_0 13 rfl rfl)
theorem dJ9_navigableKeySet_14 : decode cJ9_navigableKeySet 14 = .ok (.new 222, 3) := dk_187 0 222 (dk_at dksJ9_navigableKeySet_0 14 rfl rfl)
theorem dJ9_navigableKeySet_17 : decode cJ9_navigableKeySet 17 = .ok (.dup, 1) := dk_89 (dk_at dksJ9_navigableKeySet_0 17 rfl rfl)
theorem dJ9_navigableKeySet_18 : decode cJ9_navigableKeySet 18 = .ok (.aload_n 0, 1) := dk_42 (dk_at dksJ9_navigableKeySet_0 18 rfl rfl)
theorem dJ9_navigableKeySet_19 : decode cJ9_navigableKeySet 19 = .ok (.invokespecial 224, 3) := dk_183 0 224 (dk_at dksJ9_navigableKeySet_0 19 rfl rfl)
theorem dJ9_navigableKeySet_22 : decode cJ9_navigableKeySet 22 = .ok (.dup_x1, 1) := dk_90 (dk_at dksJ9_navigableKeySet_0 22 rfl rfl)
theorem dJ9_navigableKeySet_23 : decode cJ9_navigableKeySet 23 = .ok (.putfield 191, 3) := dk_181 0 191 (dk_at dksJ9_navigableKeySet_1 0 rfl rfl)
theorem dJ9_navigableKeySet_26 : decode cJ9_navigableKeySet 26 = .ok (.areturn, 1) := dk_176 (dk_at dksJ9_navigableKeySet_1 3 rfl rfl)
abbrev cJ9_keyIterator : ByteArray := prog_94_method_65_code
def yJ9_keyIterator : MethodName := ⟨RJ9, "keyIterator", "()Ljava/util/Iterator;"⟩
def dkwJ9_keyIterator_0 : List UInt8 := [187, 1, 13, 89, 42, 42, 182, 0, 54, 183, 1, 15, 176]
abbrev dktJ9_keyIterator_0 : List UInt8 := dkwJ9_keyIterator_0 ++ []
theorem dksJ9_keyIterator_0 : cJ9_keyIterator.data.toList.drop 0 = dktJ9_keyIterator_0 := by decide +kernel
theorem dJ9_keyIterator_0 : decode cJ9_keyIterator 0 = .ok (.new 269, 3) := dk_187 1 13 (dk_at dksJ9_keyIterator_0 0 rfl rfl)
theorem dJ9_keyIterator_3 : decode cJ9_keyIterator 3 = .ok (.dup, 1) := dk_89 (dk_at dksJ9_keyIterator_0 3 rfl rfl)
theorem dJ9_keyIterator_4 : decode cJ9_keyIterator 4 = .ok (.aload_n 0, 1) := dk_42 (dk_at dksJ9_keyIterator_0 4 rfl rfl)
theorem dJ9_keyIterator_5 : decode cJ9_keyIterator 5 = .ok (.aload_n 0, 1) := dk_42 (dk_at dksJ9_keyIterator_0 5 rfl rfl)
theorem dJ9_keyIterator_6 : decode cJ9_keyIterator 6 = .ok (.invokevirtual 54, 3) := dk_182 0 54 (dk_at dksJ9_keyIterator_0 6 rfl rfl)
theorem dJ9_keyIterator_9 : decode cJ9_keyIterator 9 = .ok (.invokespecial 271, 3) := dk_183 1 15 (dk_at dksJ9_keyIterator_0 9 rfl rfl)
theorem dJ9_keyIterator_12 : decode cJ9_keyIterator 12 = .ok (.areturn, 1) := dk_176 (dk_at dksJ9_keyIterator_0 12 rfl rfl)
abbrev cJ9_getFirstEntry : ByteArray := prog_94_method_72_code
def yJ9_getFirstEntry : MethodName := ⟨RJ9, "getFirstEntry", "()Ljava/util/TreeMap$Entry;"⟩
def dkwJ9_getFirstEntry_1 : List UInt8 := [43, 176]
abbrev dktJ9_getFirstEntry_1 : List UInt8 := dkwJ9_getFirstEntry_1 ++ []
def dkwJ9_getFirstEntry_0 : List UInt8 := [42, 180, 0, 101, 76, 43, 198, 0, 18, 43, 180, 0, 111, 198, 0, 11, 43, 180, 0, 111, 76, 167, 255, 244]
abbrev dktJ9_getFirstEntry_0 : List UInt8 := dkwJ9_getFirstEntry_0 ++ dktJ9_getFirstEntry_1
theorem dksJ9_getFirstEntry_0 : cJ9_getFirstEntry.data.toList.drop 0 = dktJ9_getFirstEntry_0 := by decide +kernel
theorem dksJ9_getFirstEntry_1 : cJ9_getFirstEntry.data.toList.drop 24 = dktJ9_getFirstEntry_1 := dk_seg dksJ9_getFirstEntry_0 24 rfl rfl
theorem dJ9_getFirstEntry_0 : decode cJ9_getFirstEntry 0 = .ok (.aload_n 0, 1) := dk_42 (dk_at dksJ9_getFirstEntry_0 0 rfl rfl)
theorem dJ9_getFirstEntry_1 : decode cJ9_getFirstEntry 1 = .ok (.getfield 101, 3) := dk_180 0 101 (dk_at dksJ9_getFirstEntry_0 1 rfl rfl)
theorem dJ9_getFirstEntry_4 : decode cJ9_getFirstEntry 4 = .ok (.astore_n 1, 1) := dk_76 (dk_at dksJ9_getFirstEntry_0 4 rfl rfl)
theorem dJ9_getFirstEntry_5 : decode cJ9_getFirstEntry 5 = .ok (.aload_n 1, 1) := dk_43 (dk_at dksJ9_getFirstEntry_0 5 rfl rfl)
theorem dJ9_getFirstEntry_6 : decode cJ9_getFirstEntry 6 = .ok (.ifnull 18, 3) := dk_198 0 18 (dk_at dksJ9_getFirstEntry_0 6 rfl rfl)
theorem dJ9_getFirstEntry_9 : decode cJ9_getFirstEntry 9 = .ok (.aload_n 1, 1) := dk_43 (dk_at dksJ9_getFirstEntry_0 9 rfl rfl)
theorem dJ9_getFirstEntry_10 : decode cJ9_getFirstEntry 10 = .ok (.getfield 111, 3) := dk_180 0 111 (dk_at dksJ9_getFirstEntry_0 10 rfl rfl)
theorem dJ9_getFirstEntry_13 : decode cJ9_getFirstEntry 13 = .ok (.ifnull 11, 3) := dk_198 0 11 (dk_at dksJ9_getFirstEntry_0 13 rfl rfl)
theorem dJ9_getFirstEntry_16 : decode cJ9_getFirstEntry 16 = .ok (.aload_n 1, 1) := dk_43 (dk_at dksJ9_getFirstEntry_0 16 rfl rfl)
theorem dJ9_getFirstEntry_17 : decode cJ9_getFirstEntry 17 = .ok (.getfield 111, 3) := dk_180 0 111 (dk_at dksJ9_getFirstEntry_0 17 rfl rfl)
theorem dJ9_getFirstEntry_20 : decode cJ9_getFirstEntry 20 = .ok (.astore_n 1, 1) := dk_76 (dk_at dksJ9_getFirstEntry_0 20 rfl rfl)
theorem dJ9_getFirstEntry_21 : decode cJ9_getFirstEntry 21 = .ok (.goto (-12), 3) := dk_167 255 244 (dk_at dksJ9_getFirstEntry_0 21 rfl rfl)
theorem dJ9_getFirstEntry_24 : decode cJ9_getFirstEntry 24 = .ok (.aload_n 1, 1) := dk_43 (dk_at dksJ9_getFirstEntry_1 0 rfl rfl)
theorem dJ9_getFirstEntry_25 : decode cJ9_getFirstEntry 25 = .ok (.areturn, 1) := dk_176 (dk_at dksJ9_getFirstEntry_1 1 rfl rfl)
abbrev cJ9_higherKey : ByteArray := prog_94_method_48_code
def yJ9_higherKey : MethodName := ⟨RJ9, "higherKey", "(Ljava/lang/Object;)Ljava/lang/Object;"⟩
def dkwJ9_higherKey_0 : List UInt8 := [42, 43, 182, 0, 216, 184, 0, 207, 176]
abbrev dktJ9_higherKey_0 : List UInt8 := dkwJ9_higherKey_0 ++ []
theorem dksJ9_higherKey_0 : cJ9_higherKey.data.toList.drop 0 = dktJ9_higherKey_0 := by decide +kernel
theorem dJ9_higherKey_0 : decode cJ9_higherKey 0 = .ok (.aload_n 0, 1) := dk_42 (dk_at dksJ9_higherKey_0 0 rfl rfl)
theorem dJ9_higherKey_1 : decode cJ9_higherKey 1 = .ok (.aload_n 1, 1) := dk_43 (dk_at dksJ9_higherKey_0 1 rfl rfl)
theorem dJ9_higherKey_2 : decode cJ9_higherKey 2 = .ok (.invokevirtual 216, 3) := dk_182 0 216 (dk_at dksJ9_higherKey_0 2 rfl rfl)
theorem dJ9_higherKey_5 : decode cJ9_higherKey 5 = .ok (.invokestatic 207, 3) := dk_184 0 207 (dk_at dksJ9_higherKey_0 5 rfl rfl)
theorem dJ9_higherKey_8 : decode cJ9_higherKey 8 = .ok (.areturn, 1) := dk_176 (dk_at dksJ9_higherKey_0 8 rfl rfl)
abbrev cJ9_getHigherEntry : ByteArray := prog_94_method_19_code
def yJ9_getHigherEntry : MethodName := ⟨RJ9, "getHigherEntry", "(Ljava/lang/Object;)Ljava/util/TreeMap$Entry;"⟩
def dkwJ9_getHigherEntry_4 : List UInt8 := [176, 167, 255, 165, 1, 176]
abbrev dktJ9_getHigherEntry_4 : List UInt8 := dkwJ9_getHigherEntry_4 ++ []
def dkwJ9_getHigherEntry_3 : List UInt8 := [25, 4, 180, 0, 114, 166, 0, 17, 25, 4, 58, 5, 25, 4, 180, 0, 124, 58, 4, 167, 255, 230, 25, 4]
abbrev dktJ9_getHigherEntry_3 : List UInt8 := dkwJ9_getHigherEntry_3 ++ dktJ9_getHigherEntry_4
def dkwJ9_getHigherEntry_2 : List UInt8 := [180, 0, 114, 77, 167, 0, 44, 44, 180, 0, 124, 58, 4, 44, 58, 5, 25, 4, 198, 0, 27, 25, 5]
abbrev dktJ9_getHigherEntry_2 : List UInt8 := dkwJ9_getHigherEntry_2 ++ dktJ9_getHigherEntry_3
def dkwJ9_getHigherEntry_1 : List UInt8 := [180, 0, 111, 198, 0, 11, 44, 180, 0, 111, 77, 167, 0, 61, 44, 176, 44, 180, 0, 114, 198, 0, 11, 44]
abbrev dktJ9_getHigherEntry_1 : List UInt8 := dkwJ9_getHigherEntry_1 ++ dktJ9_getHigherEntry_2
def dkwJ9_getHigherEntry_0 : List UInt8 := [42, 180, 0, 101, 77, 44, 198, 0, 93, 42, 43, 44, 180, 0, 105, 182, 0, 123, 62, 29, 156, 0, 20, 44]
abbrev dktJ9_getHigherEntry_0 : List UInt8 := dkwJ9_getHigherEntry_0 ++ dktJ9_getHigherEntry_1
theorem dksJ9_getHigherEntry_0 : cJ9_getHigherEntry.data.toList.drop 0 = dktJ9_getHigherEntry_0 := by decide +kernel
theorem dksJ9_getHigherEntry_1 : cJ9_getHigherEntry.data.toList.drop 24 = dktJ9_getHigherEntry_1 := dk_seg dksJ9_getHigherEntry_0 24 rfl rfl
theorem dksJ9_getHigherEntry_2 : cJ9_getHigherEntry.data.toList.drop 48 = dktJ9_getHigherEntry_2 := dk_seg dksJ9_getHigherEntry_1 24 rfl rfl
theorem dksJ9_getHigherEntry_3 : cJ9_getHigherEntry.data.toList.drop 71 = dktJ9_getHigherEntry_3 := dk_seg dksJ9_getHigherEntry_2 23 rfl rfl
theorem dksJ9_getHigherEntry_4 : cJ9_getHigherEntry.data.toList.drop 95 = dktJ9_getHigherEntry_4 := dk_seg dksJ9_getHigherEntry_3 24 rfl rfl
theorem dJ9_getHigherEntry_0 : decode cJ9_getHigherEntry 0 = .ok (.aload_n 0, 1) := dk_42 (dk_at dksJ9_getHigherEntry_0 0 rfl rfl)
theorem dJ9_getHigherEntry_1 : decode cJ9_getHigherEntry 1 = .ok (.getfield 101, 3) := dk_180 0 101 (dk_at dksJ9_getHigherEntry_0 1 rfl rfl)
theorem dJ9_getHigherEntry_4 : decode cJ9_getHigherEntry 4 = .ok (.astore_n 2, 1) := dk_77 (dk_at dksJ9_getHigherEntry_0 4 rfl rfl)
theorem dJ9_getHigherEntry_5 : decode cJ9_getHigherEntry 5 = .ok (.aload_n 2, 1) := dk_44 (dk_at dksJ9_getHigherEntry_0 5 rfl rfl)
theorem dJ9_getHigherEntry_6 : decode cJ9_getHigherEntry 6 = .ok (.ifnull 93, 3) := dk_198 0 93 (dk_at dksJ9_getHigherEntry_0 6 rfl rfl)
theorem dJ9_getHigherEntry_9 : decode cJ9_getHigherEntry 9 = .ok (.aload_n 0, 1) := dk_42 (dk_at dksJ9_getHigherEntry_0 9 rfl rfl)
theorem dJ9_getHigherEntry_10 : decode cJ9_getHigherEntry 10 = .ok (.aload_n 1, 1) := dk_43 (dk_at dksJ9_getHigherEntry_0 10 rfl rfl)
theorem dJ9_getHigherEntry_11 : decode cJ9_getHigherEntry 11 = .ok (.aload_n 2, 1) := dk_44 (dk_at dksJ9_getHigherEntry_0 11 rfl rfl)
theorem dJ9_getHigherEntry_12 : decode cJ9_getHigherEntry 12 = .ok (.getfield 105, 3) := dk_180 0 105 (dk_at dksJ9_getHigherEntry_0 12 rfl rfl)
theorem dJ9_getHigherEntry_15 : decode cJ9_getHigherEntry 15 = .ok (.invokevirtual 123, 3) := dk_182 0 123 (dk_at dksJ9_getHigherEntry_0 15 rfl rfl)
theorem dJ9_getHigherEntry_18 : decode cJ9_getHigherEntry 18 = .ok (.istore_n 3, 1) := dk_62 (dk_at dksJ9_getHigherEntry_0 18 rfl rfl)
theorem dJ9_getHigherEntry_19 : decode cJ9_getHigherEntry 19 = .ok (.iload_n 3, 1) := dk_29 (dk_at dksJ9_getHigherEntry_0 19 rfl rfl)
theorem dJ9_getHigherEntry_20 : decode cJ9_getHigherEntry 20 = .ok (.ifCond .ge 20, 3) := dk_156 0 20 (dk_at dksJ9_getHigherEntry_0 20 rfl rfl)
theorem dJ9_getHigherEntry_23 : decode cJ9_getHigherEntry 23 = .ok (.aload_n 2, 1) := dk_44 (dk_at dksJ9_getHigherEntry_0 23 rfl rfl)
theorem dJ9_getHigherEntry_24 : decode cJ9_getHigherEntry 24 = .ok (.getfield 111, 3) := dk_180 0 111 (dk_at dksJ9_getHigherEntry_1 0 rfl rfl)
theorem dJ9_getHigherEntry_27 : decode cJ9_getHigherEntry 27 = .ok (.ifnull 11, 3) := dk_198 0 11 (dk_at dksJ9_getHigherEntry_1 3 rfl rfl)
theorem dJ9_getHigherEntry_30 : decode cJ9_getHigherEntry 30 = .ok (.aload_n 2, 1) := dk_44 (dk_at dksJ9_getHigherEntry_1 6 rfl rfl)
theorem dJ9_getHigherEntry_31 : decode cJ9_getHigherEntry 31 = .ok (.getfield 111, 3) := dk_180 0 111 (dk_at dksJ9_getHigherEntry_1 7 rfl rfl)
theorem dJ9_getHigherEntry_34 : decode cJ9_getHigherEntry 34 = .ok (.astore_n 2, 1) := dk_77 (dk_at dksJ9_getHigherEntry_1 10 rfl rfl)
theorem dJ9_getHigherEntry_35 : decode cJ9_getHigherEntry 35 = .ok (.goto 61, 3) := dk_167 0 61 (dk_at dksJ9_getHigherEntry_1 11 rfl rfl)
theorem dJ9_getHigherEntry_38 : decode cJ9_getHigherEntry 38 = .ok (.aload_n 2, 1) := dk_44 (dk_at dksJ9_getHigherEntry_1 14 rfl rfl)
theorem dJ9_getHigherEntry_39 : decode cJ9_getHigherEntry 39 = .ok (.areturn, 1) := dk_176 (dk_at dksJ9_getHigherEntry_1 15 rfl rfl)
theorem dJ9_getHigherEntry_40 : decode cJ9_getHigherEntry 40 = .ok (.aload_n 2, 1) := dk_44 (dk_at dksJ9_getHigherEntry_1 16 rfl rfl)
theorem dJ9_getHigherEntry_41 : decode cJ9_getHigherEntry 41 = .ok (.getfield 114, 3) := dk_180 0 114 (dk_at dksJ9_getHigherEntry_1 17 rfl rfl)
theorem dJ9_getHigherEntry_44 : decode cJ9_getHigherEntry 44 = .ok (.ifnull 11, 3) := dk_198 0 11 (dk_at dksJ9_getHigherEntry_1 20 rfl rfl)
theorem dJ9_getHigherEntry_47 : decode cJ9_getHigherEntry 47 = .ok (.aload_n 2, 1) := dk_44 (dk_at dksJ9_getHigherEntry_1 23 rfl rfl)
theorem dJ9_getHigherEntry_48 : decode cJ9_getHigherEntry 48 = .ok (.getfield 114, 3) := dk_180 0 114 (dk_at dksJ9_getHigherEntry_2 0 rfl rfl)
theorem dJ9_getHigherEntry_51 : decode cJ9_getHigherEntry 51 = .ok (.astore_n 2, 1) := dk_77 (dk_at dksJ9_getHigherEntry_2 3 rfl rfl)
theorem dJ9_getHigherEntry_52 : decode cJ9_getHigherEntry 52 = .ok (.goto 44, 3) := dk_167 0 44 (dk_at dksJ9_getHigherEntry_2 4 rfl rfl)
theorem dJ9_getHigherEntry_55 : decode cJ9_getHigherEntry 55 = .ok (.aload_n 2, 1) := dk_44 (dk_at dksJ9_getHigherEntry_2 7 rfl rfl)
theorem dJ9_getHigherEntry_56 : decode cJ9_getHigherEntry 56 = .ok (.getfield 124, 3) := dk_180 0 124 (dk_at dksJ9_getHigherEntry_2 8 rfl rfl)
theorem dJ9_getHigherEntry_59 : decode cJ9_getHigherEntry 59 = .ok (.astore 4, 2) := dk_58 4 (dk_at dksJ9_getHigherEntry_2 11 rfl rfl)
theorem dJ9_getHigherEntry_61 : decode cJ9_getHigherEntry 61 = .ok (.aload_n 2, 1) := dk_44 (dk_at dksJ9_getHigherEntry_2 13 rfl rfl)
theorem dJ9_getHigherEntry_62 : decode cJ9_getHigherEntry 62 = .ok (.astore 5, 2) := dk_58 5 (dk_at dksJ9_getHigherEntry_2 14 rfl rfl)
theorem dJ9_getHigherEntry_64 : decode cJ9_getHigherEntry 64 = .ok (.aload 4, 2) := dk_25 4 (dk_at dksJ9_getHigherEntry_2 16 rfl rfl)
theorem dJ9_getHigherEntry_66 : decode cJ9_getHigherEntry 66 = .ok (.ifnull 27, 3) := dk_198 0 27 (dk_at dksJ9_getHigherEntry_2 18 rfl rfl)
theorem dJ9_getHigherEntry_69 : decode cJ9_getHigherEntry 69 = .ok (.aload 5, 2) := dk_25 5 (dk_at dksJ9_getHigherEntry_2 21 rfl rfl)
theorem dJ9_getHigherEntry_71 : decode cJ9_getHigherEntry 71 = .ok (.aload 4, 2) := dk_25 4 (dk_at dksJ9_getHigherEntry_3 0 rfl rfl)
theorem dJ9_getHigherEntry_73 : decode cJ9_getHigherEntry 73 = .ok (.getfield 114, 3) := dk_180 0 114 (dk_at dksJ9_getHigherEntry_3 2 rfl rfl)
theorem dJ9_getHigherEntry_76 : decode cJ9_getHigherEntry 76 = .ok (.if_acmp .ne 17, 3) := dk_166 0 17 (dk_at dksJ9_getHigherEntry_3 5 rfl rfl)
theorem dJ9_getHigherEntry_79 : decode cJ9_getHigherEntry 79 = .ok (.aload 4, 2) := dk_25 4 (dk_at dksJ9_getHigherEntry_3 8 rfl rfl)
theorem dJ9_getHigherEntry_81 : decode cJ9_getHigherEntry 81 = .ok (.astore 5, 2) := dk_58 5 (dk_at dksJ9_getHigherEntry_3 10 rfl rfl)
theorem dJ9_getHigherEntry_83 : decode cJ9_getHigherEntry 83 = .ok (.aload 4, 2) := dk_25 4 (dk_at dksJ9_getHigherEntry_3 12 rfl rfl)
theorem dJ9_getHigherEntry_85 : decode cJ9_getHigherEntry 85 = .ok (.getfield 124, 3) := dk_180 0 124 (dk_at dksJ9_getHigherEntry_3 14 rfl rfl)
theorem dJ9_getHigherEntry_88 : decode cJ9_getHigherEntry 88 = .ok (.astore 4, 2) := dk_58 4 (dk_at dksJ9_getHigherEntry_3 17 rfl rfl)
theorem dJ9_getHigherEntry_90 : decode cJ9_getHigherEntry 90 = .ok (.goto (-26), 3) := dk_167 255 230 (dk_at dksJ9_getHigherEntry_3 19 rfl rfl)
theorem dJ9_getHigherEntry_93 : decode cJ9_getHigherEntry 93 = .ok (.aload 4, 2) := dk_25 4 (dk_at dksJ9_getHigherEntry_3 22 rfl rfl)
theorem dJ9_getHigherEntry_95 : decode cJ9_getHigherEntry 95 = .ok (.areturn, 1) := dk_176 (dk_at dksJ9_getHigherEntry_4 0 rfl rfl)
theorem dJ9_getHigherEntry_96 : decode cJ9_getHigherEntry 96 = .ok (.goto (-91), 3) := dk_167 255 165 (dk_at dksJ9_getHigherEntry_4 1 rfl rfl)
theorem dJ9_getHigherEntry_99 : decode cJ9_getHigherEntry 99 = .ok (.aconst_null, 1) := dk_1 (dk_at dksJ9_getHigherEntry_4 4 rfl rfl)
theorem dJ9_getHigherEntry_100 : decode cJ9_getHigherEntry 100 = .ok (.areturn, 1) := dk_176 (dk_at dksJ9_getHigherEntry_4 5 rfl rfl)
abbrev cJ9_keyOrNull : ByteArray := prog_94_method_70_code
def yJ9_keyOrNull : MethodName := ⟨RJ9, "keyOrNull", "(Ljava/util/TreeMap$Entry;)Ljava/lang/Object;"⟩
def dkwJ9_keyOrNull_0 : List UInt8 := [42, 199, 0, 7, 1, 167, 0, 7, 42, 180, 0, 105, 176]
abbrev dktJ9_keyOrNull_0 : List UInt8 := dkwJ9_keyOrNull_0 ++ []
theorem dksJ9_keyOrNull_0 : cJ9_keyOrNull.data.toList.drop 0 = dktJ9_keyOrNull_0 := by decide +kernel
theorem dJ9_keyOrNull_0 : decode cJ9_keyOrNull 0 = .ok (.aload_n 0, 1) := dk_42 (dk_at dksJ9_keyOrNull_0 0 rfl rfl)
theorem dJ9_keyOrNull_1 : decode cJ9_keyOrNull 1 = .ok (.ifnonnull 7, 3) := dk_199 0 7 (dk_at dksJ9_keyOrNull_0 1 rfl rfl)
theorem dJ9_keyOrNull_4 : decode cJ9_keyOrNull 4 = .ok (.aconst_null, 1) := dk_1 (dk_at dksJ9_keyOrNull_0 4 rfl rfl)
theorem dJ9_keyOrNull_5 : decode cJ9_keyOrNull 5 = .ok (.goto 7, 3) := dk_167 0 7 (dk_at dksJ9_keyOrNull_0 5 rfl rfl)
theorem dJ9_keyOrNull_8 : decode cJ9_keyOrNull 8 = .ok (.aload_n 0, 1) := dk_42 (dk_at dksJ9_keyOrNull_0 8 rfl rfl)
theorem dJ9_keyOrNull_9 : decode cJ9_keyOrNull 9 = .ok (.getfield 105, 3) := dk_180 0 105 (dk_at dksJ9_keyOrNull_0 9 rfl rfl)
theorem dJ9_keyOrNull_12 : decode cJ9_keyOrNull 12 = .ok (.areturn, 1) := dk_176 (dk_at dksJ9_keyOrNull_0 12 rfl rfl)
abbrev cJ9_lowerKey : ByteArray := prog_94_method_42_code
def yJ9_lowerKey : MethodName := ⟨RJ9, "lowerKey", "(Ljava/lang/Object;)Ljava/lang/Object;"⟩
def dkwJ9_lowerKey_0 : List UInt8 := [42, 43, 182, 0, 204, 184, 0, 207, 176]
abbrev dktJ9_lowerKey_0 : List UInt8 := dkwJ9_lowerKey_0 ++ []
theorem dksJ9_lowerKey_0 : cJ9_lowerKey.data.toList.drop 0 = dktJ9_lowerKey_0 := by decide +kernel
theorem dJ9_lowerKey_0 : decode cJ9_lowerKey 0 = .ok (.aload_n 0, 1) := dk_42 (dk_at dksJ9_lowerKey_0 0 rfl rfl)
theorem dJ9_lowerKey_1 : decode cJ9_lowerKey 1 = .ok (.aload_n 1, 1) := dk_43 (dk_at dksJ9_lowerKey_0 1 rfl rfl)
theorem dJ9_lowerKey_2 : decode cJ9_lowerKey 2 = .ok (.invokevirtual 204, 3) := dk_182 0 204 (dk_at dksJ9_lowerKey_0 2 rfl rfl)
theorem dJ9_lowerKey_5 : decode cJ9_lowerKey 5 = .ok (.invokestatic 207, 3) := dk_184 0 207 (dk_at dksJ9_lowerKey_0 5 rfl rfl)
theorem dJ9_lowerKey_8 : decode cJ9_lowerKey 8 = .ok (.areturn, 1) := dk_176 (dk_at dksJ9_lowerKey_0 8 rfl rfl)
abbrev cJ9_getLowerEntry : ByteArray := prog_94_method_20_code
def yJ9_getLowerEntry : MethodName := ⟨RJ9, "getLowerEntry", "(Ljava/lang/Object;)Ljava/util/TreeMap$Entry;"⟩
def dkwJ9_getLowerEntry_4 : List UInt8 := [176, 167, 255, 165, 1, 176]
abbrev dktJ9_getLowerEntry_4 : List UInt8 := dkwJ9_getLowerEntry_4 ++ []
def dkwJ9_getLowerEntry_3 : List UInt8 := [25, 4, 180, 0, 111, 166, 0, 17, 25, 4, 58, 5, 25, 4, 180, 0, 124, 58, 4, 167, 255, 230, 25, 4]
abbrev dktJ9_getLowerEntry_3 : List UInt8 := dkwJ9_getLowerEntry_3 ++ dktJ9_getLowerEntry_4
def dkwJ9_getLowerEntry_2 : List UInt8 := [180, 0, 111, 77, 167, 0, 44, 44, 180, 0, 124, 58, 4, 44, 58, 5, 25, 4, 198, 0, 27, 25, 5]
abbrev dktJ9_getLowerEntry_2 : List UInt8 := dkwJ9_getLowerEntry_2 ++ dktJ9_getLowerEntry_3
def dkwJ9_getLowerEntry_1 : List UInt8 := [180, 0, 114, 198, 0, 11, 44, 180, 0, 114, 77, 167, 0, 61, 44, 176, 44, 180, 0, 111, 198, 0, 11, 44]
abbrev dktJ9_getLowerEntry_1 : List UInt8 := dkwJ9_getLowerEntry_1 ++ dktJ9_getLowerEntry_2
def dkwJ9_getLowerEntry_0 : List UInt8 := [42, 180, 0, 101, 77, 44, 198, 0, 93, 42, 43, 44, 180, 0, 105, 182, 0, 123, 62, 29, 158, 0, 20, 44]
abbrev dktJ9_getLowerEntry_0 : List UInt8 := dkwJ9_getLowerEntry_0 ++ dktJ9_getLowerEntry_1
theorem dksJ9_getLowerEntry_0 : cJ9_getLowerEntry.data.toList.drop 0 = dktJ9_getLowerEntry_0 := by decide +kernel
theorem dksJ9_getLowerEntry_1 : cJ9_getLowerEntry.data.toList.drop 24 = dktJ9_getLowerEntry_1 := dk_seg dksJ9_getLowerEntry_0 24 rfl rfl
theorem dksJ9_getLowerEntry_2 : cJ9_getLowerEntry.data.toList.drop 48 = dktJ9_getLowerEntry_2 := dk_seg dksJ9_getLowerEntry_1 24 rfl rfl
theorem dksJ9_getLowerEntry_3 : cJ9_getLowerEntry.data.toList.drop 71 = dktJ9_getLowerEntry_3 := dk_seg dksJ9_getLowerEntry_2 23 rfl rfl
theorem dksJ9_getLowerEntry_4 : cJ9_getLowerEntry.data.toList.drop 95 = dktJ9_getLowerEntry_4 := dk_seg dksJ9_getLowerEntry_3 24 rfl rfl
theorem dJ9_getLowerEntry_0 : decode cJ9_getLowerEntry 0 = .ok (.aload_n 0, 1) := dk_42 (dk_at dksJ9_getLowerEntry_0 0 rfl rfl)
theorem dJ9_getLowerEntry_1 : decode cJ9_getLowerEntry 1 = .ok (.getfield 101, 3) := dk_180 0 101 (dk_at dksJ9_getLowerEntry_0 1 rfl rfl)
theorem dJ9_getLowerEntry_4 : decode cJ9_getLowerEntry 4 = .ok (.astore_n 2, 1) := dk_77 (dk_at dksJ9_getLowerEntry_0 4 rfl rfl)
theorem dJ9_getLowerEntry_5 : decode cJ9_getLowerEntry 5 = .ok (.aload_n 2, 1) := dk_44 (dk_at dksJ9_getLowerEntry_0 5 rfl rfl)
theorem dJ9_getLowerEntry_6 : decode cJ9_getLowerEntry 6 = .ok (.ifnull 93, 3) := dk_198 0 93 (dk_at dksJ9_getLowerEntry_0 6 rfl rfl)
theorem dJ9_getLowerEntry_9 : decode cJ9_getLowerEntry 9 = .ok (.aload_n 0, 1) := dk_42 (dk_at dksJ9_getLowerEntry_0 9 rfl rfl)
theorem dJ9_getLowerEntry_10 : decode cJ9_getLowerEntry 10 = .ok (.aload_n 1, 1) := dk_43 (dk_at dksJ9_getLowerEntry_0 10 rfl rfl)
theorem dJ9_getLowerEntry_11 : decode cJ9_getLowerEntry 11 = .ok (.aload_n 2, 1) := dk_44 (dk_at dksJ9_getLowerEntry_0 11 rfl rfl)
theorem dJ9_getLowerEntry_12 : decode cJ9_getLowerEntry 12 = .ok (.getfield 105, 3) := dk_180 0 105 (dk_at dksJ9_getLowerEntry_0 12 rfl rfl)
theorem dJ9_getLowerEntry_15 : decode cJ9_getLowerEntry 15 = .ok (.invokevirtual 123, 3) := dk_182 0 123 (dk_at dksJ9_getLowerEntry_0 15 rfl rfl)
theorem dJ9_getLowerEntry_18 : decode cJ9_getLowerEntry 18 = .ok (.istore_n 3, 1) := dk_62 (dk_at dksJ9_getLowerEntry_0 18 rfl rfl)
theorem dJ9_getLowerEntry_19 : decode cJ9_getLowerEntry 19 = .ok (.iload_n 3, 1) := dk_29 (dk_at dksJ9_getLowerEntry_0 19 rfl rfl)
theorem dJ9_getLowerEntry_20 : decode cJ9_getLowerEntry 20 = .ok (.ifCond .le 20, 3) := dk_158 0 20 (dk_at dksJ9_getLowerEntry_0 20 rfl rfl)
theorem dJ9_getLowerEntry_23 : decode cJ9_getLowerEntry 23 = .ok (.aload_n 2, 1) := dk_44 (dk_at dksJ9_getLowerEntry_0 23 rfl rfl)
theorem dJ9_getLowerEntry_24 : decode cJ9_getLowerEntry 24 = .ok (.getfield 114, 3) := dk_180 0 114 (dk_at dksJ9_getLowerEntry_1 0 rfl rfl)
theorem dJ9_getLowerEntry_27 : decode cJ9_getLowerEntry 27 = .ok (.ifnull 11, 3) := dk_198 0 11 (dk_at dksJ9_getLowerEntry_1 3 rfl rfl)
theorem dJ9_getLowerEntry_30 : decode cJ9_getLowerEntry 30 = .ok (.aload_n 2, 1) := dk_44 (dk_at dksJ9_getLowerEntry_1 6 rfl rfl)
theorem dJ9_getLowerEntry_31 : decode cJ9_getLowerEntry 31 = .ok (.getfield 114, 3) := dk_180 0 114 (dk_at dksJ9_getLowerEntry_1 7 rfl rfl)
theorem dJ9_getLowerEntry_34 : decode cJ9_getLowerEntry 34 = .ok (.astore_n 2, 1) := dk_77 (dk_at dksJ9_getLowerEntry_1 10 rfl rfl)
theorem dJ9_getLowerEntry_35 : decode cJ9_getLowerEntry 35 = .ok (.goto 61, 3) := dk_167 0 61 (dk_at dksJ9_getLowerEntry_1 11 rfl rfl)
theorem dJ9_getLowerEntry_38 : decode cJ9_getLowerEntry 38 = .ok (.aload_n 2, 1) := dk_44 (dk_at dksJ9_getLowerEntry_1 14 rfl rfl)
theorem dJ9_getLowerEntry_39 : decode cJ9_getLowerEntry 39 = .ok (.areturn, 1) := dk_176 (dk_at dksJ9_getLowerEntry_1 15 rfl rfl)
theorem dJ9_getLowerEntry_40 : decode cJ9_getLowerEntry 40 = .ok (.aload_n 2, 1) := dk_44 (dk_at dksJ9_getLowerEntry_1 16 rfl rfl)
theorem dJ9_getLowerEntry_41 : decode cJ9_getLowerEntry 41 = .ok (.getfield 111, 3) := dk_180 0 111 (dk_at dksJ9_getLowerEntry_1 17 rfl rfl)
theorem dJ9_getLowerEntry_44 : decode cJ9_getLowerEntry 44 = .ok (.ifnull 11, 3) := dk_198 0 11 (dk_at dksJ9_getLowerEntry_1 20 rfl rfl)
theorem dJ9_getLowerEntry_47 : decode cJ9_getLowerEntry 47 = .ok (.aload_n 2, 1) := dk_44 (dk_at dksJ9_getLowerEntry_1 23 rfl rfl)
theorem dJ9_getLowerEntry_48 : decode cJ9_getLowerEntry 48 = .ok (.getfield 111, 3) := dk_180 0 111 (dk_at dksJ9_getLowerEntry_2 0 rfl rfl)
theorem dJ9_getLowerEntry_51 : decode cJ9_getLowerEntry 51 = .ok (.astore_n 2, 1) := dk_77 (dk_at dksJ9_getLowerEntry_2 3 rfl rfl)
theorem dJ9_getLowerEntry_52 : decode cJ9_getLowerEntry 52 = .ok (.goto 44, 3) := dk_167 0 44 (dk_at dksJ9_getLowerEntry_2 4 rfl rfl)
theorem dJ9_getLowerEntry_55 : decode cJ9_getLowerEntry 55 = .ok (.aload_n 2, 1) := dk_44 (dk_at dksJ9_getLowerEntry_2 7 rfl rfl)
theorem dJ9_getLowerEntry_56 : decode cJ9_getLowerEntry 56 = .ok (.getfield 124, 3) := dk_180 0 124 (dk_at dksJ9_getLowerEntry_2 8 rfl rfl)
theorem dJ9_getLowerEntry_59 : decode cJ9_getLowerEntry 59 = .ok (.astore 4, 2) := dk_58 4 (dk_at dksJ9_getLowerEntry_2 11 rfl rfl)
theorem dJ9_getLowerEntry_61 : decode cJ9_getLowerEntry 61 = .ok (.aload_n 2, 1) := dk_44 (dk_at dksJ9_getLowerEntry_2 13 rfl rfl)
theorem dJ9_getLowerEntry_62 : decode cJ9_getLowerEntry 62 = .ok (.astore 5, 2) := dk_58 5 (dk_at dksJ9_getLowerEntry_2 14 rfl rfl)
theorem dJ9_getLowerEntry_64 : decode cJ9_getLowerEntry 64 = .ok (.aload 4, 2) := dk_25 4 (dk_at dksJ9_getLowerEntry_2 16 rfl rfl)
theorem dJ9_getLowerEntry_66 : decode cJ9_getLowerEntry 66 = .ok (.ifnull 27, 3) := dk_198 0 27 (dk_at dksJ9_getLowerEntry_2 18 rfl rfl)
theorem dJ9_getLowerEntry_69 : decode cJ9_getLowerEntry 69 = .ok (.aload 5, 2) := dk_25 5 (dk_at dksJ9_getLowerEntry_2 21 rfl rfl)
theorem dJ9_getLowerEntry_71 : decode cJ9_getLowerEntry 71 = .ok (.aload 4, 2) := dk_25 4 (dk_at dksJ9_getLowerEntry_3 0 rfl rfl)
theorem dJ9_getLowerEntry_73 : decode cJ9_getLowerEntry 73 = .ok (.getfield 111, 3) := dk_180 0 111 (dk_at dksJ9_getLowerEntry_3 2 rfl rfl)
theorem dJ9_getLowerEntry_76 : decode cJ9_getLowerEntry 76 = .ok (.if_acmp .ne 17, 3) := dk_166 0 17 (dk_at dksJ9_getLowerEntry_3 5 rfl rfl)
theorem dJ9_getLowerEntry_79 : decode cJ9_getLowerEntry 79 = .ok (.aload 4, 2) := dk_25 4 (dk_at dksJ9_getLowerEntry_3 8 rfl rfl)
theorem dJ9_getLowerEntry_81 : decode cJ9_getLowerEntry 81 = .ok (.astore 5, 2) := dk_58 5 (dk_at dksJ9_getLowerEntry_3 10 rfl rfl)
theorem dJ9_getLowerEntry_83 : decode cJ9_getLowerEntry 83 = .ok (.aload 4, 2) := dk_25 4 (dk_at dksJ9_getLowerEntry_3 12 rfl rfl)
theorem dJ9_getLowerEntry_85 : decode cJ9_getLowerEntry 85 = .ok (.getfield 124, 3) := dk_180 0 124 (dk_at dksJ9_getLowerEntry_3 14 rfl rfl)
theorem dJ9_getLowerEntry_88 : decode cJ9_getLowerEntry 88 = .ok (.astore 4, 2) := dk_58 4 (dk_at dksJ9_getLowerEntry_3 17 rfl rfl)
theorem dJ9_getLowerEntry_90 : decode cJ9_getLowerEntry 90 = .ok (.goto (-26), 3) := dk_167 255 230 (dk_at dksJ9_getLowerEntry_3 19 rfl rfl)
theorem dJ9_getLowerEntry_93 : decode cJ9_getLowerEntry 93 = .ok (.aload 4, 2) := dk_25 4 (dk_at dksJ9_getLowerEntry_3 22 rfl rfl)
theorem dJ9_getLowerEntry_95 : decode cJ9_getLowerEntry 95 = .ok (.areturn, 1) := dk_176 (dk_at dksJ9_getLowerEntry_4 0 rfl rfl)
theorem dJ9_getLowerEntry_96 : decode cJ9_getLowerEntry 96 = .ok (.goto (-91), 3) := dk_167 255 165 (dk_at dksJ9_getLowerEntry_4 1 rfl rfl)
theorem dJ9_getLowerEntry_99 : decode cJ9_getLowerEntry 99 = .ok (.aconst_null, 1) := dk_1 (dk_at dksJ9_getLowerEntry_4 4 rfl rfl)
theorem dJ9_getLowerEntry_100 : decode cJ9_getLowerEntry 100 = .ok (.areturn, 1) := dk_176 (dk_at dksJ9_getLowerEntry_4 5 rfl rfl)
theorem q117 : (Jvm.Cond.initialized "java/util/TreeMap") ∈ lw_all := lw_g (lw_at lw_m1 16 rfl) rfl
theorem q327 : (Jvm.Cond.instantiable "java/util/TreeMap" (9 : Nat)) ∈ lw_all := lw_g (lw_at lw_m1 226 rfl) rfl
theorem q336 : (Jvm.Cond.instanceMethod ({ cls := "java/util/TreeMap", name := "<init>", desc := "(Ljava/util/Comparator;)V" } : Jvm.MethodName)) ∈ lw_all := lw_g (lw_at lw_m1 235 rfl) rfl
theorem q337 : (Jvm.Cond.code ({ cls := "java/util/TreeMap", name := "<init>", desc := "(Ljava/util/Comparator;)V" } : Jvm.MethodName) prog_94_method_2_code (2 : Nat) (Option.none : Option Jvm.ClassFile.FieldType)) ∈ lw_all := lw_g (lw_at lw_m1 236 rfl) rfl
theorem q338 : (Jvm.Cond.methodLink "java/util/TreeMap" (1 : Nat) ({ cls := "java/util/AbstractMap", name := "<init>", desc := "()V" } : Jvm.MethodName)) ∈ lw_all := lw_g (lw_at lw_m1 237 rfl) rfl
theorem q342 : (Jvm.Cond.fieldLink "java/util/TreeMap" (16 : Nat) "java/util/TreeMap" "comparator" "Ljava/util/Comparator;") ∈ lw_all := lw_g (lw_at lw_m2 1 rfl) rfl
theorem q343 : (Jvm.Cond.fieldLink "java/util/TreeMap" (101 : Nat) "java/util/TreeMap" "root" "Ljava/util/TreeMap$Entry;") ∈ lw_all := lw_g (lw_at lw_m2 2 rfl) rfl
theorem q344 : (Jvm.Cond.fieldLink "java/util/TreeMap" (7 : Nat) "java/util/TreeMap" "size" "I") ∈ lw_all := lw_g (lw_at lw_m2 3 rfl) rfl
theorem q346 : (Jvm.Cond.fieldLink "java/util/TreeMap" (13 : Nat) "java/util/TreeMap" "modCount" "I") ∈ lw_all := lw_g (lw_at lw_m2 5 rfl) rfl
theorem q347 : (Jvm.Cond.fieldLink "java/util/TreeMap" (191 : Nat) "java/util/TreeMap" "navigableKeySet" "Ljava/util/TreeMap$KeySet;") ∈ lw_all := lw_g (lw_at lw_m2 6 rfl) rfl
theorem q348 : (Jvm.Cond.laysFinal "java/util/TreeMap" "java/util/TreeMap" "comparator" "Ljava/util/Comparator;") ∈ lw_all := lw_g (lw_at lw_m2 7 rfl) rfl
theorem q349 : (Jvm.Cond.soleField "java/util/TreeMap" "comparator") ∈ lw_all := lw_g (lw_at lw_m2 8 rfl) rfl
theorem q350 : (Jvm.Cond.lays "java/util/TreeMap" "java/util/TreeMap" "root" "Ljava/util/TreeMap$Entry;") ∈ lw_all := lw_g (lw_at lw_m2 9 rfl) rfl
theorem q351 : (Jvm.Cond.soleField "java/util/TreeMap" "root") ∈ lw_all := lw_g (lw_at lw_m2 10 rfl) rfl
theorem q352 : (Jvm.Cond.lays "java/util/TreeMap" "java/util/TreeMap" "size" "I") ∈ lw_all := lw_g (lw_at lw_m2 11 rfl) rfl
theorem q353 : (Jvm.Cond.soleField "java/util/TreeMap" "size") ∈ lw_all := lw_g (lw_at lw_m2 12 rfl) rfl
theorem q354 : (Jvm.Cond.lays "java/util/TreeMap" "java/util/TreeMap" "modCount" "I") ∈ lw_all := lw_g (lw_at lw_m2 13 rfl) rfl
theorem q355 : (Jvm.Cond.soleField "java/util/TreeMap" "modCount") ∈ lw_all := lw_g (lw_at lw_m2 14 rfl) rfl
theorem q356 : (Jvm.Cond.lays "java/util/TreeMap" "java/util/TreeMap" "entrySet" "Ljava/util/TreeMap$EntrySet;") ∈ lw_all := lw_g (lw_at lw_m2 15 rfl) rfl
theorem q357 : (Jvm.Cond.soleField "java/util/TreeMap" "entrySet") ∈ lw_all := lw_g (lw_at lw_m2 16 rfl) rfl
theorem q358 : (Jvm.Cond.lays "java/util/TreeMap" "java/util/TreeMap" "navigableKeySet" "Ljava/util/TreeMap$KeySet;") ∈ lw_all := lw_g (lw_at lw_m2 17 rfl) rfl
theorem q359 : (Jvm.Cond.soleField "java/util/TreeMap" "navigableKeySet") ∈ lw_all := lw_g (lw_at lw_m2 18 rfl) rfl
theorem q360 : (Jvm.Cond.lays "java/util/TreeMap" "java/util/TreeMap" "descendingMap" "Ljava/util/NavigableMap;") ∈ lw_all := lw_g (lw_at lw_m2 19 rfl) rfl
theorem q361 : (Jvm.Cond.soleField "java/util/TreeMap" "descendingMap") ∈ lw_all := lw_g (lw_at lw_m2 20 rfl) rfl
theorem q362 : (Jvm.Cond.lays "java/util/TreeMap" "java/util/AbstractMap" "keySet" "Ljava/util/Set;") ∈ lw_all := lw_g (lw_at lw_m2 21 rfl) rfl
theorem q364 : (Jvm.Cond.lays "java/util/TreeMap" "java/util/AbstractMap" "values" "Ljava/util/Collection;") ∈ lw_all := lw_g (lw_at lw_m2 23 rfl) rfl
theorem q366 : (Jvm.Cond.superclass "java/util/TreeMap" "java/util/AbstractMap") ∈ lw_all := lw_g (lw_at lw_m2 25 rfl) rfl
theorem q567 : (Jvm.Cond.instanceMethod ({ cls := "java/util/TreeMap", name := "size", desc := "()I" } : Jvm.MethodName)) ∈ lw_all := lw_g (lw_at lw_m2 226 rfl) rfl
theorem q568 : (Jvm.Cond.selects "java/util/TreeMap" ({ cls := "java/util/TreeMap", name := "size", desc := "()I" } : Jvm.MethodName) ({ cls := "java/util/TreeMap", name := "size", desc := "()I" } : Jvm.MethodName)) ∈ lw_all := lw_g (lw_at lw_m2 227 rfl) rfl
theorem q569 : (Jvm.Cond.code ({ cls := "java/util/TreeMap", name := "size", desc := "()I" } : Jvm.MethodName) prog_94_method_5_code (1 : Nat) (Option.some Jvm.ClassFile.FieldType.int)) ∈ lw_all := lw_g (lw_at lw_m2 228 rfl) rfl
theorem q591 : (Jvm.Cond.instanceMethod ({ cls := "java/util/TreeMap", name := "containsKey", desc := "(Ljava/lang/Object;)Z" } : Jvm.MethodName)) ∈ lw_all := lw_g (lw_at lw_m3 10 rfl) rfl
theorem q592 : (Jvm.Cond.selects "java/util/TreeMap" ({ cls := "java/util/TreeMap", name := "containsKey", desc := "(Ljava/lang/Object;)Z" } : Jvm.MethodName) ({ cls := "java/util/TreeMap", name := "containsKey", desc := "(Ljava/lang/Object;)Z" } : Jvm.MethodName)) ∈ lw_all := lw_g (lw_at lw_m3 11 rfl) rfl
theorem q593 : (Jvm.Cond.code ({ cls := "java/util/TreeMap", name := "containsKey", desc := "(Ljava/lang/Object;)Z" } : Jvm.MethodName) prog_94_method_6_code (2 : Nat) (Option.some Jvm.ClassFile.FieldType.boolean)) ∈ lw_all := lw_g (lw_at lw_m3 12 rfl) rfl
theorem q594 : (Jvm.Cond.methodLink "java/util/TreeMap" (50 : Nat) ({ cls := "java/util/TreeMap", name := "getEntry", desc := "(Ljava/lang/Object;)Ljava/util/TreeMap$Entry;" } : Jvm.MethodName)) ∈ lw_all := lw_g (lw_at lw_m3 13 rfl) rfl
theorem q595 : (Jvm.Cond.instanceMethod ({ cls := "java/util/TreeMap", name := "getEntry", desc := "(Ljava/lang/Object;)Ljava/util/TreeMap$Entry;" } : Jvm.MethodName)) ∈ lw_all := lw_g (lw_at lw_m3 14 rfl) rfl
theorem q596 : (Jvm.Cond.selects "java/util/TreeMap" ({ cls := "java/util/TreeMap", name := "getEntry", desc := "(Ljava/lang/Object;)Ljava/util/TreeMap$Entry;" } : Jvm.MethodName) ({ cls := "java/util/TreeMap", name := "getEntry", desc := "(Ljava/lang/Object;)Ljava/util/TreeMap$Entry;" } : Jvm.MethodName)) ∈ lw_all := lw_g (lw_at lw_m3 15 rfl) rfl
theorem q597 : (Jvm.Cond.code ({ cls := "java/util/TreeMap", name := "getEntry", desc := "(Ljava/lang/Object;)Ljava/util/TreeMap$Entry;" } : Jvm.MethodName) prog_94_method_15_code (5 : Nat) (Option.some (Jvm.ClassFile.FieldType.object "java/util/TreeMap$Entry"))) ∈ lw_all := lw_g (lw_at lw_m3 16 rfl) rfl
theorem q598 : (Jvm.Cond.methodLink "java/util/TreeMap" (92 : Nat) ({ cls := "java/util/TreeMap", name := "getEntryUsingComparator", desc := "(Ljava/lang/Object;)Ljava/util/TreeMap$Entry;" } : Jvm.MethodName)) ∈ lw_all := lw_g (lw_at lw_m3 17 rfl) rfl
theorem q599 : (Jvm.Cond.instanceMethod ({ cls := "java/util/TreeMap", name := "getEntryUsingComparator", desc := "(Ljava/lang/Object;)Ljava/util/TreeMap$Entry;" } : Jvm.MethodName)) ∈ lw_all := lw_g (lw_at lw_m3 18 rfl) rfl
theorem q600 : (Jvm.Cond.selects "java/util/TreeMap" ({ cls := "java/util/TreeMap", name := "getEntryUsingComparator", desc := "(Ljava/lang/Object;)Ljava/util/TreeMap$Entry;" } : Jvm.MethodName) ({ cls := "java/util/TreeMap", name := "getEntryUsingComparator", desc := "(Ljava/lang/Object;)Ljava/util/TreeMap$Entry;" } : Jvm.MethodName)) ∈ lw_all := lw_g (lw_at lw_m3 19 rfl) rfl
theorem q601 : (Jvm.Cond.code ({ cls := "java/util/TreeMap", name := "getEntryUsingComparator", desc := "(Ljava/lang/Object;)Ljava/util/TreeMap$Entry;" } : Jvm.MethodName) prog_94_method_16_code (6 : Nat) (Option.some (Jvm.ClassFile.FieldType.object "java/util/TreeMap$Entry"))) ∈ lw_all := lw_g (lw_at lw_m3 20 rfl) rfl
theorem q602 : (Jvm.Cond.interfaceEntry "java/util/TreeMap" (117 : Nat)) ∈ lw_tbl := lw_at lw_m3 21 rfl
theorem q603 : (Jvm.Cond.methodLink "java/util/TreeMap" (117 : Nat) ({ cls := "java/util/Comparator", name := "compare", desc := "(Ljava/lang/Object;Ljava/lang/Object;)I" } : Jvm.MethodName)) ∈ lw_all := lw_g (lw_at lw_m3 22 rfl) rfl
theorem q624 : (Jvm.Cond.methodLink "java/util/TreeMap" (95 : Nat) ({ cls := "java/util/Objects", name := "requireNonNull", desc := "(Ljava/lang/Object;)Ljava/lang/Object;" } : Jvm.MethodName)) ∈ lw_all := lw_g (lw_at lw_m3 43 rfl) rfl
theorem q627 : (Jvm.Cond.classLink "java/util/TreeMap" (99 : Nat) "java/lang/Comparable") ∈ lw_all := lw_g (lw_at lw_m3 46 rfl) rfl
theorem q628 : (Jvm.Cond.interfaceEntry "java/util/TreeMap" (107 : Nat)) ∈ lw_tbl := lw_at lw_m3 47 rfl
theorem q629 : (Jvm.Cond.methodLink "java/util/TreeMap" (107 : Nat) ({ cls := "java/lang/Comparable", name := "compareTo", desc := "(Ljava/lang/Object;)I" } : Jvm.MethodName)) ∈ lw_all := lw_g (lw_at lw_m3 48 rfl) rfl
theorem q716 : (Jvm.Cond.selects "java/util/TreeMap" ({ cls := "java/lang/Object", name := "getClass", desc := "()Ljava/lang/Class;" } : Jvm.MethodName) ({ cls := "java/lang/Object", name := "getClass", desc := "()Ljava/lang/Class;" } : Jvm.MethodName)) ∈ lw_all := lw_g (lw_at lw_m3 135 rfl) rfl
theorem q1001 : (Jvm.Cond.instanceMethod ({ cls := "java/util/TreeMap", name := "put", desc := "(Ljava/lang/Object;Ljava/lang/Object;)Ljava/lang/Object;" } : Jvm.MethodName)) ∈ lw_all := lw_g (lw_at lw_m4 180 rfl) rfl
theorem q1002 : (Jvm.Cond.selects "java/util/TreeMap" ({ cls := "java/util/TreeMap", name := "put", desc := "(Ljava/lang/Object;Ljava/lang/Object;)Ljava/lang/Object;" } : Jvm.MethodName) ({ cls := "java/util/TreeMap", name := "put", desc := "(Ljava/lang/Object;Ljava/lang/Object;)Ljava/lang/Object;" } : Jvm.MethodName)) ∈ lw_all := lw_g (lw_at lw_m4 181 rfl) rfl
theorem q1003 : (Jvm.Cond.code ({ cls := "java/util/TreeMap", name := "put", desc := "(Ljava/lang/Object;Ljava/lang/Object;)Ljava/lang/Object;" } : Jvm.MethodName) prog_94_method_21_code (3 : Nat) (Option.some (Jvm.ClassFile.FieldType.object "java/lang/Object"))) ∈ lw_all := lw_g (lw_at lw_m4 182 rfl) rfl
theorem q1004 : (Jvm.Cond.methodLink "java/util/TreeMap" (127 : Nat) ({ cls := "java/util/TreeMap", name := "put", desc := "(Ljava/lang/Object;Ljava/lang/Object;Z)Ljava/lang/Object;" } : Jvm.MethodName)) ∈ lw_all := lw_g (lw_at lw_m4 183 rfl) rfl
theorem q1005 : (Jvm.Cond.privateMethod ({ cls := "java/util/TreeMap", name := "put", desc := "(Ljava/lang/Object;Ljava/lang/Object;Z)Ljava/lang/Object;" } : Jvm.MethodName)) ∈ lw_tbl := lw_at lw_m4 184 rfl
theorem q1006 : (Jvm.Cond.instanceMethod ({ cls := "java/util/TreeMap", name := "put", desc := "(Ljava/lang/Object;Ljava/lang/Object;Z)Ljava/lang/Object;" } : Jvm.MethodName)) ∈ lw_all := lw_g (lw_at lw_m4 185 rfl) rfl
theorem q1007 : (Jvm.Cond.code ({ cls := "java/util/TreeMap", name := "put", desc := "(Ljava/lang/Object;Ljava/lang/Object;Z)Ljava/lang/Object;" } : Jvm.MethodName) prog_94_method_31_code (10 : Nat) (Option.some (Jvm.ClassFile.FieldType.object "java/lang/Object"))) ∈ lw_all := lw_g (lw_at lw_m4 186 rfl) rfl
theorem q1008 : (Jvm.Cond.methodLink "java/util/TreeMap" (135 : Nat) ({ cls := "java/util/TreeMap", name := "addEntryToEmptyMap", desc := "(Ljava/lang/Object;Ljava/lang/Object;)V" } : Jvm.MethodName)) ∈ lw_all := lw_g (lw_at lw_m4 187 rfl) rfl
theorem q1009 : (Jvm.Cond.privateMethod ({ cls := "java/util/TreeMap", name := "addEntryToEmptyMap", desc := "(Ljava/lang/Object;Ljava/lang/Object;)V" } : Jvm.MethodName)) ∈ lw_tbl := lw_at lw_m4 188 rfl
theorem q1010 : (Jvm.Cond.instanceMethod ({ cls := "java/util/TreeMap", name := "addEntryToEmptyMap", desc := "(Ljava/lang/Object;Ljava/lang/Object;)V" } : Jvm.MethodName)) ∈ lw_all := lw_g (lw_at lw_m4 189 rfl) rfl
theorem q1011 : (Jvm.Cond.code ({ cls := "java/util/TreeMap", name := "addEntryToEmptyMap", desc := "(Ljava/lang/Object;Ljava/lang/Object;)V" } : Jvm.MethodName) prog_94_method_30_code (3 : Nat) (Option.none : Option Jvm.ClassFile.FieldType)) ∈ lw_all := lw_g (lw_at lw_m4 190 rfl) rfl
theorem q1012 : (Jvm.Cond.methodLink "java/util/TreeMap" (123 : Nat) ({ cls := "java/util/TreeMap", name := "compare", desc := "(Ljava/lang/Object;Ljava/lang/Object;)I" } : Jvm.MethodName)) ∈ lw_all := lw_g (lw_at lw_m4 191 rfl) rfl
theorem q1013 : (Jvm.Cond.instanceMethod ({ cls := "java/util/TreeMap", name := "compare", desc := "(Ljava/lang/Object;Ljava/lang/Object;)I" } : Jvm.MethodName)) ∈ lw_all := lw_g (lw_at lw_m4 192 rfl) rfl
theorem q1014 : (Jvm.Cond.selects "java/util/TreeMap" ({ cls := "java/util/TreeMap", name := "compare", desc := "(Ljava/lang/Object;Ljava/lang/Object;)I" } : Jvm.MethodName) ({ cls := "java/util/TreeMap", name := "compare", desc := "(Ljava/lang/Object;Ljava/lang/Object;)I" } : Jvm.MethodName)) ∈ lw_all := lw_g (lw_at lw_m4 193 rfl) rfl
theorem q1015 : (Jvm.Cond.code ({ cls := "java/util/TreeMap", name := "compare", desc := "(Ljava/lang/Object;Ljava/lang/Object;)I" } : Jvm.MethodName) prog_94_method_67_code (3 : Nat) (Option.some Jvm.ClassFile.FieldType.int)) ∈ lw_all := lw_g (lw_at lw_m4 194 rfl) rfl
theorem q1016 : (Jvm.Cond.classLink "java/util/TreeMap" (59 : Nat) "java/util/TreeMap$Entry") ∈ lw_all := lw_g (lw_at lw_m4 195 rfl) rfl
theorem q1018 : (Jvm.Cond.methodLink "java/util/TreeMap" (167 : Nat) ({ cls := "java/util/TreeMap$Entry", name := "<init>", desc := "(Ljava/lang/Object;Ljava/lang/Object;Ljava/util/TreeMap$Entry;)V" } : Jvm.MethodName)) ∈ lw_all := lw_g (lw_at lw_m4 197 rfl) rfl
theorem q1024 : (Jvm.Cond.fieldLink "java/util/TreeMap" (105 : Nat) "java/util/TreeMap$Entry" "key" "Ljava/lang/Object;") ∈ lw_all := lw_g (lw_at lw_m4 203 rfl) rfl
theorem q1026 : (Jvm.Cond.fieldLink "java/util/TreeMap" (58 : Nat) "java/util/TreeMap$Entry" "value" "Ljava/lang/Object;") ∈ lw_all := lw_g (lw_at lw_m4 205 rfl) rfl
theorem q1028 : (Jvm.Cond.fieldLink "java/util/TreeMap" (111 : Nat) "java/util/TreeMap$Entry" "left" "Ljava/util/TreeMap$Entry;") ∈ lw_all := lw_g (lw_at lw_m4 207 rfl) rfl
theorem q1030 : (Jvm.Cond.fieldLink "java/util/TreeMap" (114 : Nat) "java/util/TreeMap$Entry" "right" "Ljava/util/TreeMap$Entry;") ∈ lw_all := lw_g (lw_at lw_m4 209 rfl) rfl
theorem q1032 : (Jvm.Cond.fieldLink "java/util/TreeMap" (124 : Nat) "java/util/TreeMap$Entry" "parent" "Ljava/util/TreeMap$Entry;") ∈ lw_all := lw_g (lw_at lw_m4 211 rfl) rfl
theorem q1034 : (Jvm.Cond.fieldLink "java/util/TreeMap" (290 : Nat) "java/util/TreeMap$Entry" "color" "Z") ∈ lw_all := lw_g (lw_at lw_m4 213 rfl) rfl
theorem q1048 : (Jvm.Cond.methodLink "java/util/TreeMap" (139 : Nat) ({ cls := "java/util/TreeMap", name := "addEntry", desc := "(Ljava/lang/Object;Ljava/lang/Object;Ljava/util/TreeMap$Entry;Z)V" } : Jvm.MethodName)) ∈ lw_all := lw_g (lw_at lw_m4 227 rfl) rfl
theorem q1049 : (Jvm.Cond.privateMethod ({ cls := "java/util/TreeMap", name := "addEntry", desc := "(Ljava/lang/Object;Ljava/lang/Object;Ljava/util/TreeMap$Entry;Z)V" } : Jvm.MethodName)) ∈ lw_tbl := lw_at lw_m4 228 rfl
theorem q1050 : (Jvm.Cond.instanceMethod ({ cls := "java/util/TreeMap", name := "addEntry", desc := "(Ljava/lang/Object;Ljava/lang/Object;Ljava/util/TreeMap$Entry;Z)V" } : Jvm.MethodName)) ∈ lw_all := lw_g (lw_at lw_m4 229 rfl) rfl
theorem q1051 : (Jvm.Cond.code ({ cls := "java/util/TreeMap", name := "addEntry", desc := "(Ljava/lang/Object;Ljava/lang/Object;Ljava/util/TreeMap$Entry;Z)V" } : Jvm.MethodName) prog_94_method_29_code (6 : Nat) (Option.none : Option Jvm.ClassFile.FieldType)) ∈ lw_all := lw_g (lw_at lw_m4 230 rfl) rfl
theorem q1052 : (Jvm.Cond.methodLink "java/util/TreeMap" (170 : Nat) ({ cls := "java/util/TreeMap", name := "fixAfterInsertion", desc := "(Ljava/util/TreeMap$Entry;)V" } : Jvm.MethodName)) ∈ lw_all := lw_g (lw_at lw_m4 231 rfl) rfl
theorem q1053 : (Jvm.Cond.privateMethod ({ cls := "java/util/TreeMap", name := "fixAfterInsertion", desc := "(Ljava/util/TreeMap$Entry;)V" } : Jvm.MethodName)) ∈ lw_tbl := lw_at lw_m4 232 rfl
theorem q1054 : (Jvm.Cond.instanceMethod ({ cls := "java/util/TreeMap", name := "fixAfterInsertion", desc := "(Ljava/util/TreeMap$Entry;)V" } : Jvm.MethodName)) ∈ lw_all := lw_g (lw_at lw_m4 233 rfl) rfl
theorem q1055 : (Jvm.Cond.code ({ cls := "java/util/TreeMap", name := "fixAfterInsertion", desc := "(Ljava/util/TreeMap$Entry;)V" } : Jvm.MethodName) prog_94_method_83_code (3 : Nat) (Option.none : Option Jvm.ClassFile.FieldType)) ∈ lw_all := lw_g (lw_at lw_m4 234 rfl) rfl
theorem q1056 : (Jvm.Cond.methodLink "java/util/TreeMap" (294 : Nat) ({ cls := "java/util/TreeMap", name := "parentOf", desc := "(Ljava/util/TreeMap$Entry;)Ljava/util/TreeMap$Entry;" } : Jvm.MethodName)) ∈ lw_all := lw_g (lw_at lw_m4 235 rfl) rfl
theorem q1057 : (Jvm.Cond.static ({ cls := "java/util/TreeMap", name := "parentOf", desc := "(Ljava/util/TreeMap$Entry;)Ljava/util/TreeMap$Entry;" } : Jvm.MethodName)) ∈ lw_all := lw_g (lw_at lw_m4 236 rfl) rfl
theorem q1058 : (Jvm.Cond.code ({ cls := "java/util/TreeMap", name := "parentOf", desc := "(Ljava/util/TreeMap$Entry;)Ljava/util/TreeMap$Entry;" } : Jvm.MethodName) prog_94_method_77_code (1 : Nat) (Option.some (Jvm.ClassFile.FieldType.object "java/util/TreeMap$Entry"))) ∈ lw_all := lw_g (lw_at lw_m4 237 rfl) rfl
theorem q1059 : (Jvm.Cond.methodLink "java/util/TreeMap" (297 : Nat) ({ cls := "java/util/TreeMap", name := "leftOf", desc := "(Ljava/util/TreeMap$Entry;)Ljava/util/TreeMap$Entry;" } : Jvm.MethodName)) ∈ lw_all := lw_g (lw_at lw_m4 238 rfl) rfl
theorem q1060 : (Jvm.Cond.static ({ cls := "java/util/TreeMap", name := "leftOf", desc := "(Ljava/util/TreeMap$Entry;)Ljava/util/TreeMap$Entry;" } : Jvm.MethodName)) ∈ lw_all := lw_g (lw_at lw_m4 239 rfl) rfl
theorem q1061 : (Jvm.Cond.code ({ cls := "java/util/TreeMap", name := "leftOf", desc := "(Ljava/util/TreeMap$Entry;)Ljava/util/TreeMap$Entry;" } : Jvm.MethodName) prog_94_method_79_code (1 : Nat) (Option.some (Jvm.ClassFile.FieldType.object "java/util/TreeMap$Entry"))) ∈ lw_all := lw_g (lw_at lw_m5 0 rfl) rfl
theorem q1062 : (Jvm.Cond.methodLink "java/util/TreeMap" (300 : Nat) ({ cls := "java/util/TreeMap", name := "rightOf", desc := "(Ljava/util/TreeMap$Entry;)Ljava/util/TreeMap$Entry;" } : Jvm.MethodName)) ∈ lw_all := lw_g (lw_at lw_m5 1 rfl) rfl
theorem q1063 : (Jvm.Cond.static ({ cls := "java/util/TreeMap", name := "rightOf", desc := "(Ljava/util/TreeMap$Entry;)Ljava/util/TreeMap$Entry;" } : Jvm.MethodName)) ∈ lw_all := lw_g (lw_at lw_m5 2 rfl) rfl
theorem q1064 : (Jvm.Cond.code ({ cls := "java/util/TreeMap", name := "rightOf", desc := "(Ljava/util/TreeMap$Entry;)Ljava/util/TreeMap$Entry;" } : Jvm.MethodName) prog_94_method_80_code (1 : Nat) (Option.some (Jvm.ClassFile.FieldType.object "java/util/TreeMap$Entry"))) ∈ lw_all := lw_g (lw_at lw_m5 3 rfl) rfl
theorem q1065 : (Jvm.Cond.methodLink "java/util/TreeMap" (303 : Nat) ({ cls := "java/util/TreeMap", name := "colorOf", desc := "(Ljava/util/TreeMap$Entry;)Z" } : Jvm.MethodName)) ∈ lw_all := lw_g (lw_at lw_m5 4 rfl) rfl
theorem q1066 : (Jvm.Cond.static ({ cls := "java/util/TreeMap", name := "colorOf", desc := "(Ljava/util/TreeMap$Entry;)Z" } : Jvm.MethodName)) ∈ lw_all := lw_g (lw_at lw_m5 5 rfl) rfl
theorem q1067 : (Jvm.Cond.code ({ cls := "java/util/TreeMap", name := "colorOf", desc := "(Ljava/util/TreeMap$Entry;)Z" } : Jvm.MethodName) prog_94_method_76_code (1 : Nat) (Option.some Jvm.ClassFile.FieldType.boolean)) ∈ lw_all := lw_g (lw_at lw_m5 6 rfl) rfl
theorem q1068 : (Jvm.Cond.methodLink "java/util/TreeMap" (307 : Nat) ({ cls := "java/util/TreeMap", name := "setColor", desc := "(Ljava/util/TreeMap$Entry;Z)V" } : Jvm.MethodName)) ∈ lw_all := lw_g (lw_at lw_m5 7 rfl) rfl
theorem q1069 : (Jvm.Cond.static ({ cls := "java/util/TreeMap", name := "setColor", desc := "(Ljava/util/TreeMap$Entry;Z)V" } : Jvm.MethodName)) ∈ lw_all := lw_g (lw_at lw_m5 8 rfl) rfl
theorem q1070 : (Jvm.Cond.code ({ cls := "java/util/TreeMap", name := "setColor", desc := "(Ljava/util/TreeMap$Entry;Z)V" } : Jvm.MethodName) prog_94_method_78_code (2 : Nat) (Option.none : Option Jvm.ClassFile.FieldType)) ∈ lw_all := lw_g (lw_at lw_m5 9 rfl) rfl
theorem q1071 : (Jvm.Cond.methodLink "java/util/TreeMap" (311 : Nat) ({ cls := "java/util/TreeMap", name := "rotateLeft", desc := "(Ljava/util/TreeMap$Entry;)V" } : Jvm.MethodName)) ∈ lw_all := lw_g (lw_at lw_m5 10 rfl) rfl
theorem q1072 : (Jvm.Cond.privateMethod ({ cls := "java/util/TreeMap", name := "rotateLeft", desc := "(Ljava/util/TreeMap$Entry;)V" } : Jvm.MethodName)) ∈ lw_tbl := lw_at lw_m5 11 rfl
theorem q1073 : (Jvm.Cond.instanceMethod ({ cls := "java/util/TreeMap", name := "rotateLeft", desc := "(Ljava/util/TreeMap$Entry;)V" } : Jvm.MethodName)) ∈ lw_all := lw_g (lw_at lw_m5 12 rfl) rfl
theorem q1074 : (Jvm.Cond.code ({ cls := "java/util/TreeMap", name := "rotateLeft", desc := "(Ljava/util/TreeMap$Entry;)V" } : Jvm.MethodName) prog_94_method_81_code (3 : Nat) (Option.none : Option Jvm.ClassFile.FieldType)) ∈ lw_all := lw_g (lw_at lw_m5 13 rfl) rfl
theorem q1075 : (Jvm.Cond.methodLink "java/util/TreeMap" (314 : Nat) ({ cls := "java/util/TreeMap", name := "rotateRight", desc := "(Ljava/util/TreeMap$Entry;)V" } : Jvm.MethodName)) ∈ lw_all := lw_g (lw_at lw_m5 14 rfl) rfl
theorem q1076 : (Jvm.Cond.privateMethod ({ cls := "java/util/TreeMap", name := "rotateRight", desc := "(Ljava/util/TreeMap$Entry;)V" } : Jvm.MethodName)) ∈ lw_tbl := lw_at lw_m5 15 rfl
theorem q1077 : (Jvm.Cond.instanceMethod ({ cls := "java/util/TreeMap", name := "rotateRight", desc := "(Ljava/util/TreeMap$Entry;)V" } : Jvm.MethodName)) ∈ lw_all := lw_g (lw_at lw_m5 16 rfl) rfl
theorem q1078 : (Jvm.Cond.code ({ cls := "java/util/TreeMap", name := "rotateRight", desc := "(Ljava/util/TreeMap$Entry;)V" } : Jvm.MethodName) prog_94_method_82_code (3 : Nat) (Option.none : Option Jvm.ClassFile.FieldType)) ∈ lw_all := lw_g (lw_at lw_m5 17 rfl) rfl
theorem q1084 : (Jvm.Cond.instanceMethod ({ cls := "java/util/TreeMap", name := "remove", desc := "(Ljava/lang/Object;)Ljava/lang/Object;" } : Jvm.MethodName)) ∈ lw_all := lw_g (lw_at lw_m5 23 rfl) rfl
theorem q1085 : (Jvm.Cond.selects "java/util/TreeMap" ({ cls := "java/util/TreeMap", name := "remove", desc := "(Ljava/lang/Object;)Ljava/lang/Object;" } : Jvm.MethodName) ({ cls := "java/util/TreeMap", name := "remove", desc := "(Ljava/lang/Object;)Ljava/lang/Object;" } : Jvm.MethodName)) ∈ lw_all := lw_g (lw_at lw_m5 24 rfl) rfl
theorem q1086 : (Jvm.Cond.code ({ cls := "java/util/TreeMap", name := "remove", desc := "(Ljava/lang/Object;)Ljava/lang/Object;" } : Jvm.MethodName) prog_94_method_34_code (4 : Nat) (Option.some (Jvm.ClassFile.FieldType.object "java/lang/Object"))) ∈ lw_all := lw_g (lw_at lw_m5 25 rfl) rfl
theorem q1087 : (Jvm.Cond.methodLink "java/util/TreeMap" (174 : Nat) ({ cls := "java/util/TreeMap", name := "deleteEntry", desc := "(Ljava/util/TreeMap$Entry;)V" } : Jvm.MethodName)) ∈ lw_all := lw_g (lw_at lw_m5 26 rfl) rfl
theorem q1088 : (Jvm.Cond.privateMethod ({ cls := "java/util/TreeMap", name := "deleteEntry", desc := "(Ljava/util/TreeMap$Entry;)V" } : Jvm.MethodName)) ∈ lw_tbl := lw_at lw_m5 27 rfl
theorem q1089 : (Jvm.Cond.instanceMethod ({ cls := "java/util/TreeMap", name := "deleteEntry", desc := "(Ljava/util/TreeMap$Entry;)V" } : Jvm.MethodName)) ∈ lw_all := lw_g (lw_at lw_m5 28 rfl) rfl
theorem q1090 : (Jvm.Cond.code ({ cls := "java/util/TreeMap", name := "deleteEntry", desc := "(Ljava/util/TreeMap$Entry;)V" } : Jvm.MethodName) prog_94_method_84_code (3 : Nat) (Option.none : Option Jvm.ClassFile.FieldType)) ∈ lw_all := lw_g (lw_at lw_m5 29 rfl) rfl
theorem q1091 : (Jvm.Cond.methodLink "java/util/TreeMap" (68 : Nat) ({ cls := "java/util/TreeMap", name := "successor", desc := "(Ljava/util/TreeMap$Entry;)Ljava/util/TreeMap$Entry;" } : Jvm.MethodName)) ∈ lw_all := lw_g (lw_at lw_m5 30 rfl) rfl
theorem q1092 : (Jvm.Cond.static ({ cls := "java/util/TreeMap", name := "successor", desc := "(Ljava/util/TreeMap$Entry;)Ljava/util/TreeMap$Entry;" } : Jvm.MethodName)) ∈ lw_all := lw_g (lw_at lw_m5 31 rfl) rfl
theorem q1093 : (Jvm.Cond.code ({ cls := "java/util/TreeMap", name := "successor", desc := "(Ljava/util/TreeMap$Entry;)Ljava/util/TreeMap$Entry;" } : Jvm.MethodName) prog_94_method_74_code (3 : Nat) (Option.some (Jvm.ClassFile.FieldType.object "java/util/TreeMap$Entry"))) ∈ lw_all := lw_g (lw_at lw_m5 32 rfl) rfl
theorem q1094 : (Jvm.Cond.methodLink "java/util/TreeMap" (317 : Nat) ({ cls := "java/util/TreeMap", name := "fixAfterDeletion", desc := "(Ljava/util/TreeMap$Entry;)V" } : Jvm.MethodName)) ∈ lw_all := lw_g (lw_at lw_m5 33 rfl) rfl
theorem q1095 : (Jvm.Cond.privateMethod ({ cls := "java/util/TreeMap", name := "fixAfterDeletion", desc := "(Ljava/util/TreeMap$Entry;)V" } : Jvm.MethodName)) ∈ lw_tbl := lw_at lw_m5 34 rfl
theorem q1096 : (Jvm.Cond.instanceMethod ({ cls := "java/util/TreeMap", name := "fixAfterDeletion", desc := "(Ljava/util/TreeMap$Entry;)V" } : Jvm.MethodName)) ∈ lw_all := lw_g (lw_at lw_m5 35 rfl) rfl
theorem q1097 : (Jvm.Cond.code ({ cls := "java/util/TreeMap", name := "fixAfterDeletion", desc := "(Ljava/util/TreeMap$Entry;)V" } : Jvm.MethodName) prog_94_method_85_code (3 : Nat) (Option.none : Option Jvm.ClassFile.FieldType)) ∈ lw_all := lw_g (lw_at lw_m5 36 rfl) rfl
theorem q2241 : (Jvm.Cond.instanceMethod ({ cls := "java/util/TreeMap", name := "get", desc := "(Ljava/lang/Object;)Ljava/lang/Object;" } : Jvm.MethodName)) ∈ lw_all := lw_g (lw_at lw_m9 220 rfl) rfl
theorem q2242 : (Jvm.Cond.selects "java/util/TreeMap" ({ cls := "java/util/TreeMap", name := "get", desc := "(Ljava/lang/Object;)Ljava/lang/Object;" } : Jvm.MethodName) ({ cls := "java/util/TreeMap", name := "get", desc := "(Ljava/lang/Object;)Ljava/lang/Object;" } : Jvm.MethodName)) ∈ lw_all := lw_g (lw_at lw_m9 221 rfl) rfl
theorem q2243 : (Jvm.Cond.code ({ cls := "java/util/TreeMap", name := "get", desc := "(Ljava/lang/Object;)Ljava/lang/Object;" } : Jvm.MethodName) prog_94_method_8_code (3 : Nat) (Option.some (Jvm.ClassFile.FieldType.object "java/lang/Object"))) ∈ lw_all := lw_g (lw_at lw_m9 222 rfl) rfl
theorem q2311 : (Jvm.Cond.castable "java/util/TreeMap" "java/util/NavigableMap") ∈ lw_tbl := lw_at lw_m10 50 rfl
theorem q2312 : (Jvm.Cond.selects "java/util/TreeMap" ({ cls := "java/util/Map", name := "size", desc := "()I" } : Jvm.MethodName) ({ cls := "java/util/TreeMap", name := "size", desc := "()I" } : Jvm.MethodName)) ∈ lw_all := lw_g (lw_at lw_m10 51 rfl) rfl
theorem q2313 : (Jvm.Cond.unhidden "java/util/TreeMap" "size" "()I") ∈ lw_tbl := lw_at lw_m10 52 rfl
theorem q2314 : (Jvm.Cond.publicMethod ({ cls := "java/util/TreeMap", name := "size", desc := "()I" } : Jvm.MethodName)) ∈ lw_tbl := lw_at lw_m10 53 rfl
theorem q2478 : (Jvm.Cond.instanceMethod ({ cls := "java/util/TreeMap", name := "keySet", desc := "()Ljava/util/Set;" } : Jvm.MethodName)) ∈ lw_all := lw_g (lw_at lw_m10 217 rfl) rfl
theorem q2479 : (Jvm.Cond.selects "java/util/TreeMap" ({ cls := "java/util/TreeMap", name := "keySet", desc := "()Ljava/util/Set;" } : Jvm.MethodName) ({ cls := "java/util/TreeMap", name := "keySet", desc := "()Ljava/util/Set;" } : Jvm.MethodName)) ∈ lw_all := lw_g (lw_at lw_m10 218 rfl) rfl
theorem q2480 : (Jvm.Cond.code ({ cls := "java/util/TreeMap", name := "keySet", desc := "()Ljava/util/Set;" } : Jvm.MethodName) prog_94_method_49_code (1 : Nat) (Option.some (Jvm.ClassFile.FieldType.object "java/util/Set"))) ∈ lw_all := lw_g (lw_at lw_m10 219 rfl) rfl
theorem q2481 : (Jvm.Cond.methodLink "java/util/TreeMap" (219 : Nat) ({ cls := "java/util/TreeMap", name := "navigableKeySet", desc := "()Ljava/util/NavigableSet;" } : Jvm.MethodName)) ∈ lw_all := lw_g (lw_at lw_m10 220 rfl) rfl
theorem q2482 : (Jvm.Cond.instanceMethod ({ cls := "java/util/TreeMap", name := "navigableKeySet", desc := "()Ljava/util/NavigableSet;" } : Jvm.MethodName)) ∈ lw_all := lw_g (lw_at lw_m10 221 rfl) rfl
theorem q2483 : (Jvm.Cond.selects "java/util/TreeMap" ({ cls := "java/util/TreeMap", name := "navigableKeySet", desc := "()Ljava/util/NavigableSet;" } : Jvm.MethodName) ({ cls := "java/util/TreeMap", name := "navigableKeySet", desc := "()Ljava/util/NavigableSet;" } : Jvm.MethodName)) ∈ lw_all := lw_g (lw_at lw_m10 222 rfl) rfl
theorem q2484 : (Jvm.Cond.code ({ cls := "java/util/TreeMap", name := "navigableKeySet", desc := "()Ljava/util/NavigableSet;" } : Jvm.MethodName) prog_94_method_50_code (2 : Nat) (Option.some (Jvm.ClassFile.FieldType.object "java/util/NavigableSet"))) ∈ lw_all := lw_g (lw_at lw_m10 223 rfl) rfl
theorem q2485 : (Jvm.Cond.classLink "java/util/TreeMap" (222 : Nat) "java/util/TreeMap$KeySet") ∈ lw_all := lw_g (lw_at lw_m10 224 rfl) rfl
theorem q2487 : (Jvm.Cond.methodLink "java/util/TreeMap" (224 : Nat) ({ cls := "java/util/TreeMap$KeySet", name := "<init>", desc := "(Ljava/util/NavigableMap;)V" } : Jvm.MethodName)) ∈ lw_all := lw_g (lw_at lw_m10 226 rfl) rfl
theorem q2510 : (Jvm.Cond.instanceMethod ({ cls := "java/util/TreeMap", name := "keyIterator", desc := "()Ljava/util/Iterator;" } : Jvm.MethodName)) ∈ lw_all := lw_g (lw_at lw_m11 9 rfl) rfl
theorem q2511 : (Jvm.Cond.selects "java/util/TreeMap" ({ cls := "java/util/TreeMap", name := "keyIterator", desc := "()Ljava/util/Iterator;" } : Jvm.MethodName) ({ cls := "java/util/TreeMap", name := "keyIterator", desc := "()Ljava/util/Iterator;" } : Jvm.MethodName)) ∈ lw_all := lw_g (lw_at lw_m11 10 rfl) rfl
theorem q2512 : (Jvm.Cond.code ({ cls := "java/util/TreeMap", name := "keyIterator", desc := "()Ljava/util/Iterator;" } : Jvm.MethodName) prog_94_method_65_code (1 : Nat) (Option.some (Jvm.ClassFile.FieldType.object "java/util/Iterator"))) ∈ lw_all := lw_g (lw_at lw_m11 11 rfl) rfl
theorem q2513 : (Jvm.Cond.classLink "java/util/TreeMap" (269 : Nat) "java/util/TreeMap$KeyIterator") ∈ lw_all := lw_g (lw_at lw_m11 12 rfl) rfl
theorem q2515 : (Jvm.Cond.methodLink "java/util/TreeMap" (54 : Nat) ({ cls := "java/util/TreeMap", name := "getFirstEntry", desc := "()Ljava/util/TreeMap$Entry;" } : Jvm.MethodName)) ∈ lw_all := lw_g (lw_at lw_m11 14 rfl) rfl
theorem q2516 : (Jvm.Cond.instanceMethod ({ cls := "java/util/TreeMap", name := "getFirstEntry", desc := "()Ljava/util/TreeMap$Entry;" } : Jvm.MethodName)) ∈ lw_all := lw_g (lw_at lw_m11 15 rfl) rfl
theorem q2517 : (Jvm.Cond.selects "java/util/TreeMap" ({ cls := "java/util/TreeMap", name := "getFirstEntry", desc := "()Ljava/util/TreeMap$Entry;" } : Jvm.MethodName) ({ cls := "java/util/TreeMap", name := "getFirstEntry", desc := "()Ljava/util/TreeMap$Entry;" } : Jvm.MethodName)) ∈ lw_all := lw_g (lw_at lw_m11 16 rfl) rfl
theorem q2518 : (Jvm.Cond.code ({ cls := "java/util/TreeMap", name := "getFirstEntry", desc := "()Ljava/util/TreeMap$Entry;" } : Jvm.MethodName) prog_94_method_72_code (2 : Nat) (Option.some (Jvm.ClassFile.FieldType.object "java/util/TreeMap$Entry"))) ∈ lw_all := lw_g (lw_at lw_m11 17 rfl) rfl
theorem q2519 : (Jvm.Cond.methodLink "java/util/TreeMap" (271 : Nat) ({ cls := "java/util/TreeMap$KeyIterator", name := "<init>", desc := "(Ljava/util/TreeMap;Ljava/util/TreeMap$Entry;)V" } : Jvm.MethodName)) ∈ lw_all := lw_g (lw_at lw_m11 18 rfl) rfl
theorem q2668 : (Jvm.Cond.instanceMethod ({ cls := "java/util/TreeMap", name := "higherKey", desc := "(Ljava/lang/Object;)Ljava/lang/Object;" } : Jvm.MethodName)) ∈ lw_all := lw_g (lw_at lw_m11 167 rfl) rfl
theorem q2669 : (Jvm.Cond.selects "java/util/TreeMap" ({ cls := "java/util/TreeMap", name := "higherKey", desc := "(Ljava/lang/Object;)Ljava/lang/Object;" } : Jvm.MethodName) ({ cls := "java/util/TreeMap", name := "higherKey", desc := "(Ljava/lang/Object;)Ljava/lang/Object;" } : Jvm.MethodName)) ∈ lw_all := lw_g (lw_at lw_m11 168 rfl) rfl
theorem q2670 : (Jvm.Cond.code ({ cls := "java/util/TreeMap", name := "higherKey", desc := "(Ljava/lang/Object;)Ljava/lang/Object;" } : Jvm.MethodName) prog_94_method_48_code (2 : Nat) (Option.some (Jvm.ClassFile.FieldType.object "java/lang/Object"))) ∈ lw_all := lw_g (lw_at lw_m11 169 rfl) rfl
theorem q2671 : (Jvm.Cond.methodLink "java/util/TreeMap" (216 : Nat) ({ cls := "java/util/TreeMap", name := "getHigherEntry", desc := "(Ljava/lang/Object;)Ljava/util/TreeMap$Entry;" } : Jvm.MethodName)) ∈ lw_all := lw_g (lw_at lw_m11 170 rfl) rfl
theorem q2672 : (Jvm.Cond.instanceMethod ({ cls := "java/util/TreeMap", name := "getHigherEntry", desc := "(Ljava/lang/Object;)Ljava/util/TreeMap$Entry;" } : Jvm.MethodName)) ∈ lw_all := lw_g (lw_at lw_m11 171 rfl) rfl
theorem q2673 : (Jvm.Cond.selects "java/util/TreeMap" ({ cls := "java/util/TreeMap", name := "getHigherEntry", desc := "(Ljava/lang/Object;)Ljava/util/TreeMap$Entry;" } : Jvm.MethodName) ({ cls := "java/util/TreeMap", name := "getHigherEntry", desc := "(Ljava/lang/Object;)Ljava/util/TreeMap$Entry;" } : Jvm.MethodName)) ∈ lw_all := lw_g (lw_at lw_m11 172 rfl) rfl
theorem q2674 : (Jvm.Cond.code ({ cls := "java/util/TreeMap", name := "getHigherEntry", desc := "(Ljava/lang/Object;)Ljava/util/TreeMap$Entry;" } : Jvm.MethodName) prog_94_method_19_code (6 : Nat) (Option.some (Jvm.ClassFile.FieldType.object "java/util/TreeMap$Entry"))) ∈ lw_all := lw_g (lw_at lw_m11 173 rfl) rfl
theorem q2675 : (Jvm.Cond.methodLink "java/util/TreeMap" (207 : Nat) ({ cls := "java/util/TreeMap", name := "keyOrNull", desc := "(Ljava/util/TreeMap$Entry;)Ljava/lang/Object;" } : Jvm.MethodName)) ∈ lw_all := lw_g (lw_at lw_m11 174 rfl) rfl
theorem q2676 : (Jvm.Cond.static ({ cls := "java/util/TreeMap", name := "keyOrNull", desc := "(Ljava/util/TreeMap$Entry;)Ljava/lang/Object;" } : Jvm.MethodName)) ∈ lw_all := lw_g (lw_at lw_m11 175 rfl) rfl
theorem q2677 : (Jvm.Cond.code ({ cls := "java/util/TreeMap", name := "keyOrNull", desc := "(Ljava/util/TreeMap$Entry;)Ljava/lang/Object;" } : Jvm.MethodName) prog_94_method_70_code (1 : Nat) (Option.some (Jvm.ClassFile.FieldType.object "java/lang/Object"))) ∈ lw_all := lw_g (lw_at lw_m11 176 rfl) rfl
theorem q2685 : (Jvm.Cond.instanceMethod ({ cls := "java/util/TreeMap", name := "lowerKey", desc := "(Ljava/lang/Object;)Ljava/lang/Object;" } : Jvm.MethodName)) ∈ lw_all := lw_g (lw_at lw_m11 184 rfl) rfl
theorem q2686 : (Jvm.Cond.selects "java/util/TreeMap" ({ cls := "java/util/TreeMap", name := "lowerKey", desc := "(Ljava/lang/Object;)Ljava/lang/Object;" } : Jvm.MethodName) ({ cls := "java/util/TreeMap", name := "lowerKey", desc := "(Ljava/lang/Object;)Ljava/lang/Object;" } : Jvm.MethodName)) ∈ lw_all := lw_g (lw_at lw_m11 185 rfl) rfl
theorem q2687 : (Jvm.Cond.code ({ cls := "java/util/TreeMap", name := "lowerKey", desc := "(Ljava/lang/Object;)Ljava/lang/Object;" } : Jvm.MethodName) prog_94_method_42_code (2 : Nat) (Option.some (Jvm.ClassFile.FieldType.object "java/lang/Object"))) ∈ lw_all := lw_g (lw_at lw_m11 186 rfl) rfl
theorem q2688 : (Jvm.Cond.methodLink "java/util/TreeMap" (204 : Nat) ({ cls := "java/util/TreeMap", name := "getLowerEntry", desc := "(Ljava/lang/Object;)Ljava/util/TreeMap$Entry;" } : Jvm.MethodName)) ∈ lw_all := lw_g (lw_at lw_m11 187 rfl) rfl
theorem q2689 : (Jvm.Cond.instanceMethod ({ cls := "java/util/TreeMap", name := "getLowerEntry", desc := "(Ljava/lang/Object;)Ljava/util/TreeMap$Entry;" } : Jvm.MethodName)) ∈ lw_all := lw_g (lw_at lw_m11 188 rfl) rfl
theorem q2690 : (Jvm.Cond.selects "java/util/TreeMap" ({ cls := "java/util/TreeMap", name := "getLowerEntry", desc := "(Ljava/lang/Object;)Ljava/util/TreeMap$Entry;" } : Jvm.MethodName) ({ cls := "java/util/TreeMap", name := "getLowerEntry", desc := "(Ljava/lang/Object;)Ljava/util/TreeMap$Entry;" } : Jvm.MethodName)) ∈ lw_all := lw_g (lw_at lw_m11 189 rfl) rfl
theorem q2691 : (Jvm.Cond.code ({ cls := "java/util/TreeMap", name := "getLowerEntry", desc := "(Ljava/lang/Object;)Ljava/util/TreeMap$Entry;" } : Jvm.MethodName) prog_94_method_20_code (6 : Nat) (Option.some (Jvm.ClassFile.FieldType.object "java/util/TreeMap$Entry"))) ∈ lw_all := lw_g (lw_at lw_m11 190 rfl) rfl
theorem q3424 : (Jvm.Cond.castable "java/util/TreeMap" "java/lang/Object") ∈ lw_tbl := lw_at lw_m14 203 rfl
theorem in_J9 : ∀ w ∈ wsJ90, w ∈ lw_all := lw_in wsJ90 [362, 364, 348, 350, 352, 354, 356, 358, 360] (by decide +kernel) (by decide +kernel)

/-! java/lang/Number -/
set_option maxRecDepth 100000
def RJ10 : String := "java/lang/Number"
abbrev cJ10_init : ByteArray := prog_44_method_1_code
def yJ10_init : MethodName := ⟨RJ10, "<init>", "()V"⟩
theorem dJ10_init_0 : decode cJ10_init 0 = .ok (.aload_n 0, 1) := by decide +kernel
theorem dJ10_init_1 : decode cJ10_init 1 = .ok (.invokespecial 1, 3) := by decide +kernel
theorem dJ10_init_4 : decode cJ10_init 4 = .ok (.return_, 1) := by decide +kernel
theorem q122 : (Jvm.Cond.initialized "java/lang/Number") ∈ lw_all := lw_g (lw_at lw_m1 21 rfl) rfl
theorem q583 : (Jvm.Cond.instanceMethod ({ cls := "java/lang/Number", name := "<init>", desc := "()V" } : Jvm.MethodName)) ∈ lw_all := lw_g (lw_at lw_m3 2 rfl) rfl
theorem q584 : (Jvm.Cond.code ({ cls := "java/lang/Number", name := "<init>", desc := "()V" } : Jvm.MethodName) prog_44_method_1_code (1 : Nat) (Option.none : Option Jvm.ClassFile.FieldType)) ∈ lw_all := lw_g (lw_at lw_m3 3 rfl) rfl
theorem q585 : (Jvm.Cond.methodLink "java/lang/Number" (1 : Nat) ({ cls := "java/lang/Object", name := "<init>", desc := "()V" } : Jvm.MethodName)) ∈ lw_all := lw_g (lw_at lw_m3 4 rfl) rfl

/-! java/lang/Integer -/
set_option maxRecDepth 100000
def RJ11 : String := "java/lang/Integer"
def TJ11 : u_T := fun k => match k with
  | _ => ("java/lang/Integer", "value", "I", true)
def tyJ11 : Nat → FieldType := fun k => match k with
  | _ => .int
abbrev wsJ110 : List Cond := u_ws RJ11 TJ11 1
theorem nmJ11 : ∀ a, a < 1 → ∀ b, b < 1 → a ≠ b → (TJ11 a).2.1 ≠ (TJ11 b).2.1 := by decide +kernel
theorem tyJ11_ok : ∀ k, k < 1 → parseFieldDescriptor (TJ11 k).2.2.1 = some (tyJ11 k) := by decide +kernel
abbrev cJ11_valueOf : ByteArray := prog_39_method_22_code
def yJ11_valueOf : MethodName := ⟨RJ11, "valueOf", "(I)Ljava/lang/Integer;"⟩
def dkwJ11_valueOf_1 : List UInt8 := [187, 0, 1, 89, 26, 183, 0, 199, 176]
abbrev dktJ11_valueOf_1 : List UInt8 := dkwJ11_valueOf_1 ++ []
def dkwJ11_valueOf_0 : List UInt8 := [26, 16, 128, 161, 0, 20, 26, 178, 0, 191, 163, 0, 13, 178, 0, 195, 26, 17, 0, 128, 96, 50, 176]
abbrev dktJ11_valueOf_0 : List UInt8 := dkwJ11_valueOf_0 ++ dktJ11_valueOf_1
theorem dksJ11_valueOf_0 : cJ11_valueOf.data.toList.drop 0 = dktJ11_valueOf_0 := by decide +kernel
theorem dksJ11_valueOf_1 : cJ11_valueOf.data.toList.drop 23 = dktJ11_valueOf_1 := dk_seg dksJ11_valueOf_0 23 rfl rfl
theorem dJ11_valueOf_0 : decode cJ11_valueOf 0 = .ok (.iload_n 0, 1) := dk_26 (dk_at dksJ11_valueOf_0 0 rfl rfl)
theorem dJ11_valueOf_1 : decode cJ11_valueOf 1 = .ok (.bipush (-128), 2) := dk_16 128 (dk_at dksJ11_valueOf_0 1 rfl rfl)
theorem dJ11_valueOf_3 : decode cJ11_valueOf 3 = .ok (.if_icmp .lt 20, 3) := dk_161 0 20 (dk_at dksJ11_valueOf_0 3 rfl rfl)
theorem dJ11_valueOf_6 : decode cJ11_valueOf 6 = .ok (.iload_n 0, 1) := dk_26 (dk_at dksJ11_valueOf_0 6 rfl rfl)
theorem dJ11_valueOf_7 : decode cJ11_valueOf 7 = .ok (.getstatic 191, 3) := dk_178 0 191 (dk_at dksJ11_valueOf_0 7 rfl rfl)
theorem dJ11_valueOf_10 : decode cJ11_valueOf 10 = .ok (.if_icmp .gt 13, 3) := dk_163 0 13 (dk_at dksJ11_valueOf_0 10 rfl rfl)
theorem dJ11_valueOf_13 : decode cJ11_valueOf 13 = .ok (.getstatic 195, 3) := dk_178 0 195 (dk_at dksJ11_valueOf_0 13 rfl rfl)
theorem dJ11_valueOf_16 : decode cJ11_valueOf 16 = .ok (.iload_n 0, 1) := dk_26 (dk_at dksJ11_valueOf_0 16 rfl rfl)
theorem dJ11_valueOf_17 : decode cJ11_valueOf 17 = .ok (.sipush 128, 3) := dk_17 0 128 (dk_at dksJ11_valueOf_0 17 rfl rfl)
theorem dJ11_valueOf_20 : decode cJ11_valueOf 20 = .ok (.iadd, 1) := dk_96 (dk_at dksJ11_valueOf_0 20 rfl rfl)
theorem dJ11_valueOf_21 : decode cJ11_valueOf 21 = .ok (.aaload, 1) := dk_50 (dk_at dksJ11_valueOf_0 21 rfl rfl)
theorem dJ11_valueOf_22 : decode cJ11_valueOf 22 = .ok (.areturn, 1) := dk_176 (dk_at dksJ11_valueOf_0 22 rfl rfl)
theorem dJ11_valueOf_23 : decode cJ11_valueOf 23 = .ok (.new 1, 3) := dk_187 0 1 (dk_at dksJ11_valueOf_1 0 rfl rfl)
theorem dJ11_valueOf_26 : decode cJ11_valueOf 26 = .ok (.dup, 1) := dk_89 (dk_at dksJ11_valueOf_1 3 rfl rfl)
theorem dJ11_valueOf_27 : decode cJ11_valueOf 27 = .ok (.iload_n 0, 1) := dk_26 (dk_at dksJ11_valueOf_1 4 rfl rfl)
theorem dJ11_valueOf_28 : decode cJ11_valueOf 28 = .ok (.invokespecial 199, 3) := dk_183 0 199 (dk_at dksJ11_valueOf_1 5 rfl rfl)
theorem dJ11_valueOf_31 : decode cJ11_valueOf 31 = .ok (.areturn, 1) := dk_176 (dk_at dksJ11_valueOf_1 8 rfl rfl)
abbrev cJ11_init : ByteArray := prog_39_method_23_code
def yJ11_init : MethodName := ⟨RJ11, "<init>", "(I)V"⟩
def dkwJ11_init_0 : List UInt8 := [42, 183, 0, 202, 42, 27, 181, 0, 205, 177]
abbrev dktJ11_init_0 : List UInt8 := dkwJ11_init_0 ++ []
theorem dksJ11_init_0 : cJ11_init.data.toList.drop 0 = dktJ11_init_0 := by decide +kernel
theorem dJ11_init_0 : decode cJ11_init 0 = .ok (.aload_n 0, 1) := dk_42 (dk_at dksJ11_init_0 0 rfl rfl)
theorem dJ11_init_1 : decode cJ11_init 1 = .ok (.invokespecial 202, 3) := dk_183 0 202 (dk_at dksJ11_init_0 1 rfl rfl)
theorem dJ11_init_4 : decode cJ11_init 4 = .ok (.aload_n 0, 1) := dk_42 (dk_at dksJ11_init_0 4 rfl rfl)
theorem dJ11_init_5 : decode cJ11_init 5 = .ok (.iload_n 1, 1) := dk_27 (dk_at dksJ11_init_0 5 rfl rfl)
theorem dJ11_init_6 : decode cJ11_init 6 = .ok (.putfield 205, 3) := dk_181 0 205 (dk_at dksJ11_init_0 6 rfl rfl)
theorem dJ11_init_9 : decode cJ11_init 9 = .ok (.return_, 1) := dk_177 (dk_at dksJ11_init_0 9 rfl rfl)
abbrev cJ11_intValue : ByteArray := prog_39_method_27_code
def yJ11_intValue : MethodName := ⟨RJ11, "intValue", "()I"⟩
theorem dJ11_intValue_0 : decode cJ11_intValue 0 = .ok (.aload_n 0, 1) := by decide +kernel
theorem dJ11_intValue_1 : decode cJ11_intValue 1 = .ok (.getfield 205, 3) := by decide +kernel
theorem dJ11_intValue_4 : decode cJ11_intValue 4 = .ok (.ireturn, 1) := by decide +kernel
abbrev cJ11_compare : ByteArray := prog_39_method_40_code
def yJ11_compare : MethodName := ⟨RJ11, "compare", "(II)I"⟩
def dkwJ11_compare_0 : List UInt8 := [26, 27, 162, 0, 7, 2, 167, 0, 13, 26, 27, 160, 0, 7, 3, 167, 0, 4, 4, 172]
abbrev dktJ11_compare_0 : List UInt8 := dkwJ11_compare_0 ++ []
theorem dksJ11_compare_0 : cJ11_compare.data.toList.drop 0 = dktJ11_compare_0 := by decide +kernel
theorem dJ11_compare_0 : decode cJ11_compare 0 = .ok (.iload_n 0, 1) := dk_26 (dk_at dksJ11_compare_0 0 rfl rfl)
theorem dJ11_compare_1 : decode cJ11_compare 1 = .ok (.iload_n 1, 1) := dk_27 (dk_at dksJ11_compare_0 1 rfl rfl)
theorem dJ11_compare_2 : decode cJ11_compare 2 = .ok (.if_icmp .ge 7, 3) := dk_162 0 7 (dk_at dksJ11_compare_0 2 rfl rfl)
theorem dJ11_compare_5 : decode cJ11_compare 5 = .ok (.iconst (-1), 1) := dk_2 (dk_at dksJ11_compare_0 5 rfl rfl)
theorem dJ11_compare_6 : decode cJ11_compare 6 = .ok (.goto 13, 3) := dk_167 0 13 (dk_at dksJ11_compare_0 6 rfl rfl)
theorem dJ11_compare_9 : decode cJ11_compare 9 = .ok (.iload_n 0, 1) := dk_26 (dk_at dksJ11_compare_0 9 rfl rfl)
theorem dJ11_compare_10 : decode cJ11_compare 10 = .ok (.iload_n 1, 1) := dk_27 (dk_at dksJ11_compare_0 10 rfl rfl)
theorem dJ11_compare_11 : decode cJ11_compare 11 = .ok (.if_icmp .ne 7, 3) := dk_160 0 7 (dk_at dksJ11_compare_0 11 rfl rfl)
theorem dJ11_compare_14 : decode cJ11_compare 14 = .ok (.iconst 0, 1) := dk_3 (dk_at dksJ11_compare_0 14 rfl rfl)
theorem dJ11_compare_15 : decode cJ11_compare 15 = .ok (.goto 4, 3) := dk_167 0 4 (dk_at dksJ11_compare_0 15 rfl rfl)
theorem dJ11_compare_18 : decode cJ11_compare 18 = .ok (.iconst 1, 1) := dk_4 (dk_at dksJ11_compare_0 18 rfl rfl)
theorem dJ11_compare_19 : decode cJ11_compare 19 = .ok (.ireturn, 1) := dk_172 (dk_at dksJ11_compare_0 19 rfl rfl)
abbrev cJ11_compareTo : ByteArray := prog_39_method_63_code
def yJ11_compareTo : MethodName := ⟨RJ11, "compareTo", "(Ljava/lang/Object;)I"⟩
def dkwJ11_compareTo_0 : List UInt8 := [42, 43, 192, 0, 1, 182, 1, 28, 172]
abbrev dktJ11_compareTo_0 : List UInt8 := dkwJ11_compareTo_0 ++ []
theorem dksJ11_compareTo_0 : cJ11_compareTo.data.toList.drop 0 = dktJ11_compareTo_0 := by decide +kernel
theorem dJ11_compareTo_0 : decode cJ11_compareTo 0 = .ok (.aload_n 0, 1) := dk_42 (dk_at dksJ11_compareTo_0 0 rfl rfl)
theorem dJ11_compareTo_1 : decode cJ11_compareTo 1 = .ok (.aload_n 1, 1) := dk_43 (dk_at dksJ11_compareTo_0 1 rfl rfl)
theorem dJ11_compareTo_2 : decode cJ11_compareTo 2 = .ok (.checkcast 1, 3) := dk_192 0 1 (dk_at dksJ11_compareTo_0 2 rfl rfl)
theorem dJ11_compareTo_5 : decode cJ11_compareTo 5 = .ok (.invokevirtual 284, 3) := dk_182 1 28 (dk_at dksJ11_compareTo_0 5 rfl rfl)
theorem dJ11_compareTo_8 : decode cJ11_compareTo 8 = .ok (.ireturn, 1) := dk_172 (dk_at dksJ11_compareTo_0 8 rfl rfl)
abbrev cJ11_compareTo_2 : ByteArray := prog_39_method_39_code
def yJ11_compareTo_2 : MethodName := ⟨RJ11, "compareTo", "(Ljava/lang/Integer;)I"⟩
def dkwJ11_compareTo_2_0 : List UInt8 := [42, 180, 0, 205, 43, 180, 0, 205, 184, 1, 3, 172]
abbrev dktJ11_compareTo_2_0 : List UInt8 := dkwJ11_compareTo_2_0 ++ []
theorem dksJ11_compareTo_2_0 : cJ11_compareTo_2.data.toList.drop 0 = dktJ11_compareTo_2_0 := by decide +kernel
theorem dJ11_compareTo_2_0 : decode cJ11_compareTo_2 0 = .ok (.aload_n 0, 1) := dk_42 (dk_at dksJ11_compareTo_2_0 0 rfl rfl)
theorem dJ11_compareTo_2_1 : decode cJ11_compareTo_2 1 = .ok (.getfield 205, 3) := dk_180 0 205 (dk_at dksJ11_compareTo_2_0 1 rfl rfl)
theorem dJ11_compareTo_2_4 : decode cJ11_compareTo_2 4 = .ok (.aload_n 1, 1) := dk_43 (dk_at dksJ11_compareTo_2_0 4 rfl rfl)
theorem dJ11_compareTo_2_5 : decode cJ11_compareTo_2 5 = .ok (.getfield 205, 3) := dk_180 0 205 (dk_at dksJ11_compareTo_2_0 5 rfl rfl)
theorem dJ11_compareTo_2_8 : decode cJ11_compareTo_2 8 = .ok (.invokestatic 259, 3) := dk_184 1 3 (dk_at dksJ11_compareTo_2_0 8 rfl rfl)
theorem dJ11_compareTo_2_11 : decode cJ11_compareTo_2 11 = .ok (.ireturn, 1) := dk_172 (dk_at dksJ11_compareTo_2_0 11 rfl rfl)
abbrev cJ11_numberOfLeadingZeros : ByteArray := prog_39_method_47_code
def yJ11_numberOfLeadingZeros : MethodName := ⟨RJ11, "numberOfLeadingZeros", "(I)I"⟩
def dkwJ11_numberOfLeadingZeros_3 : List UInt8 := [5, 124, 59, 27, 26, 4, 124, 100, 172]
abbrev dktJ11_numberOfLeadingZeros_3 : List UInt8 := dkwJ11_numberOfLeadingZeros_3 ++ []
def dkwJ11_numberOfLeadingZeros_2 : List UInt8 := [124, 59, 26, 16, 16, 161, 0, 10, 132, 1, 252, 26, 7, 124, 59, 26, 7, 161, 0, 10, 132, 1, 254, 26]
abbrev dktJ11_numberOfLeadingZeros_2 : List UInt8 := dkwJ11_numberOfLeadingZeros_2 ++ dktJ11_numberOfLeadingZeros_3
def dkwJ11_numberOfLeadingZeros_1 : List UInt8 := [161, 0, 11, 132, 1, 240, 26, 16, 16, 124, 59, 26, 17, 1, 0, 161, 0, 11, 132, 1, 248, 26, 16, 8]
abbrev dktJ11_numberOfLeadingZeros_1 : List UInt8 := dkwJ11_numberOfLeadingZeros_1 ++ dktJ11_numberOfLeadingZeros_2
def dkwJ11_numberOfLeadingZeros_0 : List UInt8 := [26, 157, 0, 14, 26, 154, 0, 8, 16, 32, 167, 0, 4, 3, 172, 16, 31, 60, 26, 19, 1, 8]
abbrev dktJ11_numberOfLeadingZeros_0 : List UInt8 := dkwJ11_numberOfLeadingZeros_0 ++ dktJ11_numberOfLeadingZeros_1
theorem dksJ11_numberOfLeadingZeros_0 : cJ11_numberOfLeadingZeros.data.toList.drop 0 = dktJ11_numberOfLeadingZeros_0 := by decide +kernel
theorem dksJ11_numberOfLeadingZeros_1 : cJ11_numberOfLeadingZeros.data.toList.drop 22 = dktJ11_numberOfLeadingZeros_1 := dk_seg dksJ11_numberOfLeadingZeros_0 22 rfl rfl
theorem dksJ11_numberOfLeadingZeros_2 : cJ11_numberOfLeadingZeros.data.toList.drop 46 = dktJ11_numberOfLeadingZeros_2 := dk_seg dksJ11_numberOfLeadingZeros_1 24 rfl rfl
theorem dksJ11_numberOfLeadingZeros_3 : cJ11_numberOfLeadingZeros.data.toList.drop 70 = dktJ11_numberOfLeadingZeros_3 := dk_seg dksJ11_numberOfLeadingZeros_2 24 rfl rfl
theorem dJ11_numberOfLeadingZeros_0 : decode cJ11_numberOfLeadingZeros 0 = .ok (.iload_n 0, 1) := dk_26 (dk_at dksJ11_numberOfLeadingZeros_0 0 rfl rfl)
theorem dJ11_numberOfLeadingZeros_1 : decode cJ11_numberOfLeadingZeros 1 = .ok (.ifCond .gt 14, 3) := dk_157 0 14 (dk_at dksJ11_numberOfLeadingZeros_0 1 rfl rfl)
theorem dJ11_numberOfLeadingZeros_4 : decode cJ11_numberOfLeadingZeros 4 = .ok (.iload_n 0, 1) := dk_26 (dk_at dksJ11_numberOfLeadingZeros_0 4 rfl rfl)
theorem dJ11_numberOfLeadingZeros_5 : decode cJ11_numberOfLeadingZeros 5 = .ok (.ifCond .ne 8, 3) := dk_154 0 8 (dk_at dksJ11_numberOfLeadingZeros_0 5 rfl rfl)
theorem dJ11_numberOfLeadingZeros_8 : decode cJ11_numberOfLeadingZeros 8 = .ok (.bipush 32, 2) := dk_16 32 (dk_at dksJ11_numberOfLeadingZeros_0 8 rfl rfl)
theorem dJ11_numberOfLeadingZeros_10 : decode cJ11_numberOfLeadingZeros 10 = .ok (.goto 4, 3) := dk_167 0 4 (dk_at dksJ11_numberOfLeadingZeros_0 10 rfl rfl)
theorem dJ11_numberOfLeadingZeros_13 : decode cJ11_numberOfLeadingZeros 13 = .ok (.iconst 0, 1) := dk_3 (dk_at dksJ11_numberOfLeadingZeros_0 13 rfl rfl)
theorem dJ11_numberOfLeadingZeros_14 : decode cJ11_numberOfLeadingZeros 14 = .ok (.ireturn, 1) := dk_172 (dk_at dksJ11_numberOfLeadingZeros_0 14 rfl rfl)
theorem dJ11_numberOfLeadingZeros_15 : decode cJ11_numberOfLeadingZeros 15 = .ok (.bipush 31, 2) := dk_16 31 (dk_at dksJ11_numberOfLeadingZeros_0 15 rfl rfl)
theorem dJ11_numberOfLeadingZeros_17 : decode cJ11_numberOfLeadingZeros 17 = .ok (.istore_n 1, 1) := dk_60 (dk_at dksJ11_numberOfLeadingZeros_0 17 rfl rfl)
theorem dJ11_numberOfLeadingZeros_18 : decode cJ11_numberOfLeadingZeros 18 = .ok (.iload_n 0, 1) := dk_26 (dk_at dksJ11_numberOfLeadingZeros_0 18 rfl rfl)
theorem dJ11_numberOfLeadingZeros_19 : decode cJ11_numberOfLeadingZeros 19 = .ok (.ldc_w 264, 3) := dk_19 1 8 (dk_at dksJ11_numberOfLeadingZeros_0 19 rfl rfl)
theorem dJ11_numberOfLeadingZeros_22 : decode cJ11_numberOfLeadingZeros 22 = .ok (.if_icmp .lt 11, 3) := dk_161 0 11 (dk_at dksJ11_numberOfLeadingZeros_1 0 rfl rfl)
theorem dJ11_numberOfLeadingZeros_25 : decode cJ11_numberOfLeadingZeros 25 = .ok (.iinc 1 (-16), 3) := dk_132 1 240 (dk_at dksJ11_numberOfLeadingZeros_1 3 rfl rfl)
theorem dJ11_numberOfLeadingZeros_28 : decode cJ11_numberOfLeadingZeros 28 = .ok (.iload_n 0, 1) := dk_26 (dk_at dksJ11_numberOfLeadingZeros_1 6 rfl rfl)
theorem dJ11_numberOfLeadingZeros_29 : decode cJ11_numberOfLeadingZeros 29 = .ok (.bipush 16, 2) := dk_16 16 (dk_at dksJ11_numberOfLeadingZeros_1 7 rfl rfl)
theorem dJ11_numberOfLeadingZeros_31 : decode cJ11_numberOfLeadingZeros 31 = .ok (.iushr, 1) := dk_124 (dk_at dksJ11_numberOfLeadingZeros_1 9 rfl rfl)
theorem dJ11_numberOfLeadingZeros_32 : decode cJ11_numberOfLeadingZeros 32 = .ok (.istore_n 0, 1) := dk_59 (dk_at dksJ11_numberOfLeadingZeros_1 10 rfl rfl)
theorem dJ11_numberOfLeadingZeros_33 : decode cJ11_numberOfLeadingZeros 33 = .ok (.iload_n 0, 1) := dk_26 (dk_at dksJ11_numberOfLeadingZeros_1 11 rfl rfl)
theorem dJ11_numberOfLeadingZeros_34 : decode cJ11_numberOfLeadingZeros 34 = .ok (.sipush 256, 3) := dk_17 1 0 (dk_at dksJ11_numberOfLeadingZeros_1 12 rfl rfl)
theorem dJ11_numberOfLeadingZeros_37 : decode cJ11_numberOfLeadingZeros 37 = .ok (.if_icmp .lt 11, 3) := dk_161 0 11 (dk_at dksJ11_numberOfLeadingZeros_1 15 rfl rfl)
theorem dJ11_numberOfLeadingZeros_40 : decode cJ11_numberOfLeadingZeros 40 = .ok (.iinc 1 (-8), 3) := dk_132 1 248 (dk_at dksJ11_numberOfLeadingZeros_1 18 rfl rfl)
theorem dJ11_numberOfLeadingZeros_43 : decode cJ11_numberOfLeadingZeros 43 = .ok (.iload_n 0, 1) := dk_26 (dk_at dksJ11_numberOfLeadingZeros_1 21 rfl rfl)
theorem dJ11_numberOfLeadingZeros_44 : decode cJ11_numberOfLeadingZeros 44 = .ok (.bipush 8, 2) := dk_16 8 (dk_at dksJ11_numberOfLeadingZeros_1 22 rfl rfl)
theorem dJ11_numberOfLeadingZeros_46 : decode cJ11_numberOfLeadingZeros 46 = .ok (.iushr, 1) := dk_124 (dk_at dksJ11_numberOfLeadingZeros_2 0 rfl rfl)
theorem dJ11_numberOfLeadingZeros_47 : decode cJ11_numberOfLeadingZeros 47 = .ok (.istore_n 0, 1) := dk_59 (dk_at dksJ11_numberOfLeadingZeros_2 1 rfl rfl)
theorem dJ11_numberOfLeadingZeros_48 : decode cJ11_numberOfLeadingZeros 48 = .ok (.iload_n 0, 1) := dk_26 (dk_at dksJ11_numberOfLeadingZeros_2 2 rfl rfl)
theorem dJ11_numberOfLeadingZeros_49 : decode cJ11_numberOfLeadingZeros 49 = .ok (.bipush 16, 2) := dk_16 16 (dk_at dksJ11_numberOfLeadingZeros_2 3 rfl rfl)
theorem dJ11_numberOfLeadingZeros_51 : decode cJ11_numberOfLeadingZeros 51 = .ok (.if_icmp .lt 10, 3) := dk_161 0 10 (dk_at dksJ11_numberOfLeadingZeros_2 5 rfl rfl)
theorem dJ11_numberOfLeadingZeros_54 : decode cJ11_numberOfLeadingZeros 54 = .ok (.iinc 1 (-4), 3) := dk_132 1 252 (dk_at dksJ11_numberOfLeadingZeros_2 8 rfl rfl)
theorem dJ11_numberOfLeadingZeros_57 : decode cJ11_numberOfLeadingZeros 57 = .ok (.iload_n 0, 1) := dk_26 (dk_at dksJ11_numberOfLeadingZeros_2 11 rfl rfl)
theorem dJ11_numberOfLeadingZeros_58 : decode cJ11_numberOfLeadingZeros 58 = .ok (.iconst 4, 1) := dk_7 (dk_at dksJ11_numberOfLeadingZeros_2 12 rfl rfl)
theorem dJ11_numberOfLeadingZeros_59 : decode cJ11_numberOfLeadingZeros 59 = .ok (.iushr, 1) := dk_124 (dk_at dksJ11_numberOfLeadingZeros_2 13 rfl rfl)
theorem dJ11_numberOfLeadingZeros_60 : decode cJ11_numberOfLeadingZeros 60 = .ok (.istore_n 0, 1) := dk_59 (dk_at dksJ11_numberOfLeadingZeros_2 14 rfl rfl)
theorem dJ11_numberOfLeadingZeros_61 : decode cJ11_numberOfLeadingZeros 61 = .ok (.iload_n 0, 1) := dk_26 (dk_at dksJ11_numberOfLeadingZeros_2 15 rfl rfl)
theorem dJ11_numberOfLeadingZeros_62 : decode cJ11_numberOfLeadingZeros 62 = .ok (.iconst 4, 1) := dk_7 (dk_at dksJ11_numberOfLeadingZeros_2 16 rfl rfl)
theorem dJ11_numberOfLeadingZeros_63 : decode cJ11_numberOfLeadingZeros 63 = .ok (.if_icmp .lt 10, 3) := dk_161 0 10 (dk_at dksJ11_numberOfLeadingZeros_2 17 rfl rfl)
theorem dJ11_numberOfLeadingZeros_66 : decode cJ11_numberOfLeadingZeros 66 = .ok (.iinc 1 (-2), 3) := dk_132 1 254 (dk_at dksJ11_numberOfLeadingZeros_2 20 rfl rfl)
theorem dJ11_numberOfLeadingZeros_69 : decode cJ11_numberOfLeadingZeros 69 = .ok (.iload_n 0, 1) := dk_26 (dk_at dksJ11_numberOfLeadingZeros_2 23 rfl rfl)
theorem dJ11_numberOfLeadingZeros_70 : decode cJ11_numberOfLeadingZeros 70 = .ok (.iconst 2, 1) := dk_5 (dk_at dksJ11_numberOfLeadingZeros_3 0 rfl rfl)
theorem dJ11_numberOfLeadingZeros_71 : decode cJ11_numberOfLeadingZeros 71 = .ok (.iushr, 1) := dk_124 (dk_at dksJ11_numberOfLeadingZeros_3 1 rfl rfl)
theorem dJ11_numberOfLeadingZeros_72 : decode cJ11_numberOfLeadingZeros 72 = .ok (.istore_n 0, 1) := dk_59 (dk_at dksJ11_numberOfLeadingZeros_3 2 rfl rfl)
theorem dJ11_numberOfLeadingZeros_73 : decode cJ11_numberOfLeadingZeros 73 = .ok (.iload_n 1, 1) := dk_27 (dk_at dksJ11_numberOfLeadingZeros_3 3 rfl rfl)
theorem dJ11_numberOfLeadingZeros_74 : decode cJ11_numberOfLeadingZeros 74 = .ok (.iload_n 0, 1) := dk_26 (dk_at dksJ11_numberOfLeadingZeros_3 4 rfl rfl)
theorem dJ11_numberOfLeadingZeros_75 : decode cJ11_numberOfLeadingZeros 75 = .ok (.iconst 1, 1) := dk_4 (dk_at dksJ11_numberOfLeadingZeros_3 5 rfl rfl)
theorem dJ11_numberOfLeadingZeros_76 : decode cJ11_numberOfLeadingZeros 76 = .ok (.iushr, 1) := dk_124 (dk_at dksJ11_numberOfLeadingZeros_3 6 rfl rfl)
theorem dJ11_numberOfLeadingZeros_77 : decode cJ11_numberOfLeadingZeros 77 = .ok (.isub, 1) := dk_100 (dk_at dksJ11_numberOfLeadingZeros_3 7 rfl rfl)
theorem dJ11_numberOfLeadingZeros_78 : decode cJ11_numberOfLeadingZeros 78 = .ok (.ireturn, 1) := dk_172 (dk_at dksJ11_numberOfLeadingZeros_3 8 rfl rfl)
abbrev cJ11_numberOfTrailingZeros : ByteArray := prog_39_method_48_code
def yJ11_numberOfTrailingZeros : MethodName := ⟨RJ11, "numberOfTrailingZeros", "(I)I"⟩
def dkwJ11_numberOfTrailingZeros_3 : List UInt8 := [5, 124, 59, 27, 26, 4, 124, 96, 172]
abbrev dktJ11_numberOfTrailingZeros_3 : List UInt8 := dkwJ11_numberOfTrailingZeros_3 ++ []
def dkwJ11_numberOfTrailingZeros_2 : List UInt8 := [124, 59, 26, 16, 16, 164, 0, 10, 132, 1, 4, 26, 7, 124, 59, 26, 7, 164, 0, 10, 132, 1, 2, 26]
abbrev dktJ11_numberOfTrailingZeros_2 : List UInt8 := dkwJ11_numberOfTrailingZeros_2 ++ dktJ11_numberOfTrailingZeros_3
def dkwJ11_numberOfTrailingZeros_1 : List UInt8 := [164, 0, 11, 132, 1, 16, 26, 16, 16, 124, 59, 26, 17, 1, 0, 164, 0, 11, 132, 1, 8, 26, 16, 8]
abbrev dktJ11_numberOfTrailingZeros_1 : List UInt8 := dkwJ11_numberOfTrailingZeros_1 ++ dktJ11_numberOfTrailingZeros_2
def dkwJ11_numberOfTrailingZeros_0 : List UInt8 := [26, 2, 130, 26, 4, 100, 126, 59, 26, 157, 0, 8, 26, 16, 32, 126, 172, 4, 60, 26, 19, 1, 8]
abbrev dktJ11_numberOfTrailingZeros_0 : List UInt8 := dkwJ11_numberOfTrailingZeros_0 ++ dktJ11_numberOfTrailingZeros_1
theorem dksJ11_numberOfTrailingZeros_0 : cJ11_numberOfTrailingZeros.data.toList.drop 0 = dktJ11_numberOfTrailingZeros_0 := by decide +kernel
theorem dksJ11_numberOfTrailingZeros_1 : cJ11_numberOfTrailingZeros.data.toList.drop 23 = dktJ11_numberOfTrailingZeros_1 := dk_seg dksJ11_numberOfTrailingZeros_0 23 rfl rfl
theorem dksJ11_numberOfTrailingZeros_2 : cJ11_numberOfTrailingZeros.data.toList.drop 47 = dktJ11_numberOfTrailingZeros_2 := dk_seg dksJ11_numberOfTrailingZeros_1 24 rfl rfl
theorem dksJ11_numberOfTrailingZeros_3 : cJ11_numberOfTrailingZeros.data.toList.drop 71 = dktJ11_numberOfTrailingZeros_3 := dk_seg dksJ11_numberOfTrailingZeros_2 24 rfl rfl
theorem dJ11_numberOfTrailingZeros_0 : decode cJ11_numberOfTrailingZeros 0 = .ok (.iload_n 0, 1) := dk_26 (dk_at dksJ11_numberOfTrailingZeros_0 0 rfl rfl)
theorem dJ11_numberOfTrailingZeros_1 : decode cJ11_numberOfTrailingZeros 1 = .ok (.iconst (-1), 1) := dk_2 (dk_at dksJ11_numberOfTrailingZeros_0 1 rfl rfl)
theorem dJ11_numberOfTrailingZeros_2 : decode cJ11_numberOfTrailingZeros 2 = .ok (.ixor, 1) := dk_130 (dk_at dksJ11_numberOfTrailingZeros_0 2 rfl rfl)
theorem dJ11_numberOfTrailingZeros_3 : decode cJ11_numberOfTrailingZeros 3 = .ok (.iload_n 0, 1) := dk_26 (dk_at dksJ11_numberOfTrailingZeros_0 3 rfl rfl)
theorem dJ11_numberOfTrailingZeros_4 : decode cJ11_numberOfTrailingZeros 4 = .ok (.iconst 1, 1) := dk_4 (dk_at dksJ11_numberOfTrailingZeros_0 4 rfl rfl)
theorem dJ11_numberOfTrailingZeros_5 : decode cJ11_numberOfTrailingZeros 5 = .ok (.isub, 1) := dk_100 (dk_at dksJ11_numberOfTrailingZeros_0 5 rfl rfl)
theorem dJ11_numberOfTrailingZeros_6 : decode cJ11_numberOfTrailingZeros 6 = .ok (.iand, 1) := dk_126 (dk_at dksJ11_numberOfTrailingZeros_0 6 rfl rfl)
theorem dJ11_numberOfTrailingZeros_7 : decode cJ11_numberOfTrailingZeros 7 = .ok (.istore_n 0, 1) := dk_59 (dk_at dksJ11_numberOfTrailingZeros_0 7 rfl rfl)
theorem dJ11_numberOfTrailingZeros_8 : decode cJ11_numberOfTrailingZeros 8 = .ok (.iload_n 0, 1) := dk_26 (dk_at dksJ11_numberOfTrailingZeros_0 8 rfl rfl)
theorem dJ11_numberOfTrailingZeros_9 : decode cJ11_numberOfTrailingZeros 9 = .ok (.ifCond .gt 8, 3) := dk_157 0 8 (dk_at dksJ11_numberOfTrailingZeros_0 9 rfl rfl)
theorem dJ11_numberOfTrailingZeros_12 : decode cJ11_numberOfTrailingZeros 12 = .ok (.iload_n 0, 1) := dk_26 (dk_at dksJ11_numberOfTrailingZeros_0 12 rfl rfl)
theorem dJ11_numberOfTrailingZeros_13 : decode cJ11_numberOfTrailingZeros 13 = .ok (.bipush 32, 2) := dk_16 32 (dk_at dksJ11_numberOfTrailingZeros_0 13 rfl rfl)
theorem dJ11_numberOfTrailingZeros_15 : decode cJ11_numberOfTrailingZeros 15 = .ok (.iand, 1) := dk_126 (dk_at dksJ11_numberOfTrailingZeros_0 15 rfl rfl)
theorem dJ11_numberOfTrailingZeros_16 : decode cJ11_numberOfTrailingZeros 16 = .ok (.ireturn, 1) := dk_172 (dk_at dksJ11_numberOfTrailingZeros_0 16 rfl rfl)
theorem dJ11_numberOfTrailingZeros_17 : decode cJ11_numberOfTrailingZeros 17 = .ok (.iconst 1, 1) := dk_4 (dk_at dksJ11_numberOfTrailingZeros_0 17 rfl rfl)
theorem dJ11_numberOfTrailingZeros_18 : decode cJ11_numberOfTrailingZeros 18 = .ok (.istore_n 1, 1) := dk_60 (dk_at dksJ11_numberOfTrailingZeros_0 18 rfl rfl)
theorem dJ11_numberOfTrailingZeros_19 : decode cJ11_numberOfTrailingZeros 19 = .ok (.iload_n 0, 1) := dk_26 (dk_at dksJ11_numberOfTrailingZeros_0 19 rfl rfl)
theorem dJ11_numberOfTrailingZeros_20 : decode cJ11_numberOfTrailingZeros 20 = .ok (.ldc_w 264, 3) := dk_19 1 8 (dk_at dksJ11_numberOfTrailingZeros_0 20 rfl rfl)
theorem dJ11_numberOfTrailingZeros_23 : decode cJ11_numberOfTrailingZeros 23 = .ok (.if_icmp .le 11, 3) := dk_164 0 11 (dk_at dksJ11_numberOfTrailingZeros_1 0 rfl rfl)
theorem dJ11_numberOfTrailingZeros_26 : decode cJ11_numberOfTrailingZeros 26 = .ok (.iinc 1 16, 3) := dk_132 1 16 (dk_at dksJ11_numberOfTrailingZeros_1 3 rfl rfl)
theorem dJ11_numberOfTrailingZeros_29 : decode cJ11_numberOfTrailingZeros 29 = .ok (.iload_n 0, 1) := dk_26 (dk_at dksJ11_numberOfTrailingZeros_1 6 rfl rfl)
theorem dJ11_numberOfTrailingZeros_30 : decode cJ11_numberOfTrailingZeros 30 = .ok (.bipush 16, 2) := dk_16 16 (dk_at dksJ11_numberOfTrailingZeros_1 7 rfl rfl)
theorem dJ11_numberOfTrailingZeros_32 : decode cJ11_numberOfTrailingZeros 32 = .ok (.iushr, 1) := dk_124 (dk_at dksJ11_numberOfTrailingZeros_1 9 rfl rfl)
theorem dJ11_numberOfTrailingZeros_33 : decode cJ11_numberOfTrailingZeros 33 = .ok (.istore_n 0, 1) := dk_59 (dk_at dksJ11_numberOfTrailingZeros_1 10 rfl rfl)
theorem dJ11_numberOfTrailingZeros_34 : decode cJ11_numberOfTrailingZeros 34 = .ok (.iload_n 0, 1) := dk_26 (dk_at dksJ11_numberOfTrailingZeros_1 11 rfl rfl)
theorem dJ11_numberOfTrailingZeros_35 : decode cJ11_numberOfTrailingZeros 35 = .ok (.sipush 256, 3) := dk_17 1 0 (dk_at dksJ11_numberOfTrailingZeros_1 12 rfl rfl)
theorem dJ11_numberOfTrailingZeros_38 : decode cJ11_numberOfTrailingZeros 38 = .ok (.if_icmp .le 11, 3) := dk_164 0 11 (dk_at dksJ11_numberOfTrailingZeros_1 15 rfl rfl)
theorem dJ11_numberOfTrailingZeros_41 : decode cJ11_numberOfTrailingZeros 41 = .ok (.iinc 1 8, 3) := dk_132 1 8 (dk_at dksJ11_numberOfTrailingZeros_1 18 rfl rfl)
theorem dJ11_numberOfTrailingZeros_44 : decode cJ11_numberOfTrailingZeros 44 = .ok (.iload_n 0, 1) := dk_26 (dk_at dksJ11_numberOfTrailingZeros_1 21 rfl rfl)
theorem dJ11_numberOfTrailingZeros_45 : decode cJ11_numberOfTrailingZeros 45 = .ok (.bipush 8, 2) := dk_16 8 (dk_at dksJ11_numberOfTrailingZeros_1 22 rfl rfl)
theorem dJ11_numberOfTrailingZeros_47 : decode cJ11_numberOfTrailingZeros 47 = .ok (.iushr, 1) := dk_124 (dk_at dksJ11_numberOfTrailingZeros_2 0 rfl rfl)
theorem dJ11_numberOfTrailingZeros_48 : decode cJ11_numberOfTrailingZeros 48 = .ok (.istore_n 0, 1) := dk_59 (dk_at dksJ11_numberOfTrailingZeros_2 1 rfl rfl)
theorem dJ11_numberOfTrailingZeros_49 : decode cJ11_numberOfTrailingZeros 49 = .ok (.iload_n 0, 1) := dk_26 (dk_at dksJ11_numberOfTrailingZeros_2 2 rfl rfl)
theorem dJ11_numberOfTrailingZeros_50 : decode cJ11_numberOfTrailingZeros 50 = .ok (.bipush 16, 2) := dk_16 16 (dk_at dksJ11_numberOfTrailingZeros_2 3 rfl rfl)
theorem dJ11_numberOfTrailingZeros_52 : decode cJ11_numberOfTrailingZeros 52 = .ok (.if_icmp .le 10, 3) := dk_164 0 10 (dk_at dksJ11_numberOfTrailingZeros_2 5 rfl rfl)
theorem dJ11_numberOfTrailingZeros_55 : decode cJ11_numberOfTrailingZeros 55 = .ok (.iinc 1 4, 3) := dk_132 1 4 (dk_at dksJ11_numberOfTrailingZeros_2 8 rfl rfl)
theorem dJ11_numberOfTrailingZeros_58 : decode cJ11_numberOfTrailingZeros 58 = .ok (.iload_n 0, 1) := dk_26 (dk_at dksJ11_numberOfTrailingZeros_2 11 rfl rfl)
theorem dJ11_numberOfTrailingZeros_59 : decode cJ11_numberOfTrailingZeros 59 = .ok (.iconst 4, 1) := dk_7 (dk_at dksJ11_numberOfTrailingZeros_2 12 rfl rfl)
theorem dJ11_numberOfTrailingZeros_60 : decode cJ11_numberOfTrailingZeros 60 = .ok (.iushr, 1) := dk_124 (dk_at dksJ11_numberOfTrailingZeros_2 13 rfl rfl)
theorem dJ11_numberOfTrailingZeros_61 : decode cJ11_numberOfTrailingZeros 61 = .ok (.istore_n 0, 1) := dk_59 (dk_at dksJ11_numberOfTrailingZeros_2 14 rfl rfl)
theorem dJ11_numberOfTrailingZeros_62 : decode cJ11_numberOfTrailingZeros 62 = .ok (.iload_n 0, 1) := dk_26 (dk_at dksJ11_numberOfTrailingZeros_2 15 rfl rfl)
theorem dJ11_numberOfTrailingZeros_63 : decode cJ11_numberOfTrailingZeros 63 = .ok (.iconst 4, 1) := dk_7 (dk_at dksJ11_numberOfTrailingZeros_2 16 rfl rfl)
theorem dJ11_numberOfTrailingZeros_64 : decode cJ11_numberOfTrailingZeros 64 = .ok (.if_icmp .le 10, 3) := dk_164 0 10 (dk_at dksJ11_numberOfTrailingZeros_2 17 rfl rfl)
theorem dJ11_numberOfTrailingZeros_67 : decode cJ11_numberOfTrailingZeros 67 = .ok (.iinc 1 2, 3) := dk_132 1 2 (dk_at dksJ11_numberOfTrailingZeros_2 20 rfl rfl)
theorem dJ11_numberOfTrailingZeros_70 : decode cJ11_numberOfTrailingZeros 70 = .ok (.iload_n 0, 1) := dk_26 (dk_at dksJ11_numberOfTrailingZeros_2 23 rfl rfl)
theorem dJ11_numberOfTrailingZeros_71 : decode cJ11_numberOfTrailingZeros 71 = .ok (.iconst 2, 1) := dk_5 (dk_at dksJ11_numberOfTrailingZeros_3 0 rfl rfl)
theorem dJ11_numberOfTrailingZeros_72 : decode cJ11_numberOfTrailingZeros 72 = .ok (.iushr, 1) := dk_124 (dk_at dksJ11_numberOfTrailingZeros_3 1 rfl rfl)
theorem dJ11_numberOfTrailingZeros_73 : decode cJ11_numberOfTrailingZeros 73 = .ok (.istore_n 0, 1) := dk_59 (dk_at dksJ11_numberOfTrailingZeros_3 2 rfl rfl)
theorem dJ11_numberOfTrailingZeros_74 : decode cJ11_numberOfTrailingZeros 74 = .ok (.iload_n 1, 1) := dk_27 (dk_at dksJ11_numberOfTrailingZeros_3 3 rfl rfl)
theorem dJ11_numberOfTrailingZeros_75 : decode cJ11_numberOfTrailingZeros 75 = .ok (.iload_n 0, 1) := dk_26 (dk_at dksJ11_numberOfTrailingZeros_3 4 rfl rfl)
theorem dJ11_numberOfTrailingZeros_76 : decode cJ11_numberOfTrailingZeros 76 = .ok (.iconst 1, 1) := dk_4 (dk_at dksJ11_numberOfTrailingZeros_3 5 rfl rfl)
theorem dJ11_numberOfTrailingZeros_77 : decode cJ11_numberOfTrailingZeros 77 = .ok (.iushr, 1) := dk_124 (dk_at dksJ11_numberOfTrailingZeros_3 6 rfl rfl)
theorem dJ11_numberOfTrailingZeros_78 : decode cJ11_numberOfTrailingZeros 78 = .ok (.iadd, 1) := dk_96 (dk_at dksJ11_numberOfTrailingZeros_3 7 rfl rfl)
theorem dJ11_numberOfTrailingZeros_79 : decode cJ11_numberOfTrailingZeros 79 = .ok (.ireturn, 1) := dk_172 (dk_at dksJ11_numberOfTrailingZeros_3 8 rfl rfl)
theorem q123 : (Jvm.Cond.initialized "java/lang/Integer") ∈ lw_all := lw_g (lw_at lw_m1 22 rfl) rfl
theorem q571 : (Jvm.Cond.static ({ cls := "java/lang/Integer", name := "valueOf", desc := "(I)Ljava/lang/Integer;" } : Jvm.MethodName)) ∈ lw_all := lw_g (lw_at lw_m2 230 rfl) rfl
theorem q572 : (Jvm.Cond.code ({ cls := "java/lang/Integer", name := "valueOf", desc := "(I)Ljava/lang/Integer;" } : Jvm.MethodName) prog_39_method_22_code (1 : Nat) (Option.some (Jvm.ClassFile.FieldType.object "java/lang/Integer"))) ∈ lw_all := lw_g (lw_at lw_m2 231 rfl) rfl
theorem q573 : (Jvm.Cond.fieldLink "java/lang/Integer" (191 : Nat) "java/lang/Integer$IntegerCache" "high" "I") ∈ lw_all := lw_g (lw_at lw_m2 232 rfl) rfl
theorem q575 : (Jvm.Cond.fieldLink "java/lang/Integer" (195 : Nat) "java/lang/Integer$IntegerCache" "cache" "[Ljava/lang/Integer;") ∈ lw_all := lw_g (lw_at lw_m2 234 rfl) rfl
theorem q577 : (Jvm.Cond.classLink "java/lang/Integer" (1 : Nat) "java/lang/Integer") ∈ lw_all := lw_g (lw_at lw_m2 236 rfl) rfl
theorem q578 : (Jvm.Cond.instantiable "java/lang/Integer" (1 : Nat)) ∈ lw_all := lw_g (lw_at lw_m2 237 rfl) rfl
theorem q579 : (Jvm.Cond.methodLink "java/lang/Integer" (199 : Nat) ({ cls := "java/lang/Integer", name := "<init>", desc := "(I)V" } : Jvm.MethodName)) ∈ lw_all := lw_g (lw_at lw_m2 238 rfl) rfl
theorem q580 : (Jvm.Cond.instanceMethod ({ cls := "java/lang/Integer", name := "<init>", desc := "(I)V" } : Jvm.MethodName)) ∈ lw_all := lw_g (lw_at lw_m2 239 rfl) rfl
theorem q581 : (Jvm.Cond.code ({ cls := "java/lang/Integer", name := "<init>", desc := "(I)V" } : Jvm.MethodName) prog_39_method_23_code (2 : Nat) (Option.none : Option Jvm.ClassFile.FieldType)) ∈ lw_all := lw_g (lw_at lw_m3 0 rfl) rfl
theorem q582 : (Jvm.Cond.methodLink "java/lang/Integer" (202 : Nat) ({ cls := "java/lang/Number", name := "<init>", desc := "()V" } : Jvm.MethodName)) ∈ lw_all := lw_g (lw_at lw_m3 1 rfl) rfl
theorem q586 : (Jvm.Cond.fieldLink "java/lang/Integer" (205 : Nat) "java/lang/Integer" "value" "I") ∈ lw_all := lw_g (lw_at lw_m3 5 rfl) rfl
theorem q587 : (Jvm.Cond.laysFinal "java/lang/Integer" "java/lang/Integer" "value" "I") ∈ lw_all := lw_g (lw_at lw_m3 6 rfl) rfl
theorem q588 : (Jvm.Cond.soleField "java/lang/Integer" "value") ∈ lw_all := lw_g (lw_at lw_m3 7 rfl) rfl
theorem q589 : (Jvm.Cond.superclass "java/lang/Integer" "java/lang/Number") ∈ lw_all := lw_g (lw_at lw_m3 8 rfl) rfl
theorem q618 : (Jvm.Cond.instanceMethod ({ cls := "java/lang/Integer", name := "intValue", desc := "()I" } : Jvm.MethodName)) ∈ lw_all := lw_g (lw_at lw_m3 37 rfl) rfl
theorem q619 : (Jvm.Cond.selects "java/lang/Integer" ({ cls := "java/lang/Integer", name := "intValue", desc := "()I" } : Jvm.MethodName) ({ cls := "java/lang/Integer", name := "intValue", desc := "()I" } : Jvm.MethodName)) ∈ lw_all := lw_g (lw_at lw_m3 38 rfl) rfl
theorem q620 : (Jvm.Cond.code ({ cls := "java/lang/Integer", name := "intValue", desc := "()I" } : Jvm.MethodName) prog_39_method_27_code (1 : Nat) (Option.some Jvm.ClassFile.FieldType.int)) ∈ lw_all := lw_g (lw_at lw_m3 39 rfl) rfl
theorem q622 : (Jvm.Cond.static ({ cls := "java/lang/Integer", name := "compare", desc := "(II)I" } : Jvm.MethodName)) ∈ lw_all := lw_g (lw_at lw_m3 41 rfl) rfl
theorem q623 : (Jvm.Cond.code ({ cls := "java/lang/Integer", name := "compare", desc := "(II)I" } : Jvm.MethodName) prog_39_method_40_code (2 : Nat) (Option.some Jvm.ClassFile.FieldType.int)) ∈ lw_all := lw_g (lw_at lw_m3 42 rfl) rfl
theorem q700 : (Jvm.Cond.selects "java/lang/Integer" ({ cls := "java/lang/Object", name := "getClass", desc := "()Ljava/lang/Class;" } : Jvm.MethodName) ({ cls := "java/lang/Object", name := "getClass", desc := "()Ljava/lang/Class;" } : Jvm.MethodName)) ∈ lw_all := lw_g (lw_at lw_m3 119 rfl) rfl
theorem q763 : (Jvm.Cond.castable "java/lang/Integer" "java/lang/Comparable") ∈ lw_tbl := lw_at lw_m3 182 rfl
theorem q764 : (Jvm.Cond.selects "java/lang/Integer" ({ cls := "java/lang/Comparable", name := "compareTo", desc := "(Ljava/lang/Object;)I" } : Jvm.MethodName) ({ cls := "java/lang/Integer", name := "compareTo", desc := "(Ljava/lang/Object;)I" } : Jvm.MethodName)) ∈ lw_all := lw_g (lw_at lw_m3 183 rfl) rfl
theorem q765 : (Jvm.Cond.unhidden "java/lang/Integer" "compareTo" "(Ljava/lang/Object;)I") ∈ lw_tbl := lw_at lw_m3 184 rfl
theorem q766 : (Jvm.Cond.instanceMethod ({ cls := "java/lang/Integer", name := "compareTo", desc := "(Ljava/lang/Object;)I" } : Jvm.MethodName)) ∈ lw_all := lw_g (lw_at lw_m3 185 rfl) rfl
theorem q767 : (Jvm.Cond.publicMethod ({ cls := "java/lang/Integer", name := "compareTo", desc := "(Ljava/lang/Object;)I" } : Jvm.MethodName)) ∈ lw_tbl := lw_at lw_m3 186 rfl
theorem q768 : (Jvm.Cond.code ({ cls := "java/lang/Integer", name := "compareTo", desc := "(Ljava/lang/Object;)I" } : Jvm.MethodName) prog_39_method_63_code (2 : Nat) (Option.some Jvm.ClassFile.FieldType.int)) ∈ lw_all := lw_g (lw_at lw_m3 187 rfl) rfl
theorem q769 : (Jvm.Cond.methodLink "java/lang/Integer" (284 : Nat) ({ cls := "java/lang/Integer", name := "compareTo", desc := "(Ljava/lang/Integer;)I" } : Jvm.MethodName)) ∈ lw_all := lw_g (lw_at lw_m3 188 rfl) rfl
theorem q770 : (Jvm.Cond.instanceMethod ({ cls := "java/lang/Integer", name := "compareTo", desc := "(Ljava/lang/Integer;)I" } : Jvm.MethodName)) ∈ lw_all := lw_g (lw_at lw_m3 189 rfl) rfl
theorem q771 : (Jvm.Cond.selects "java/lang/Integer" ({ cls := "java/lang/Integer", name := "compareTo", desc := "(Ljava/lang/Integer;)I" } : Jvm.MethodName) ({ cls := "java/lang/Integer", name := "compareTo", desc := "(Ljava/lang/Integer;)I" } : Jvm.MethodName)) ∈ lw_all := lw_g (lw_at lw_m3 190 rfl) rfl
theorem q772 : (Jvm.Cond.code ({ cls := "java/lang/Integer", name := "compareTo", desc := "(Ljava/lang/Integer;)I" } : Jvm.MethodName) prog_39_method_39_code (2 : Nat) (Option.some Jvm.ClassFile.FieldType.int)) ∈ lw_all := lw_g (lw_at lw_m3 191 rfl) rfl
theorem q773 : (Jvm.Cond.methodLink "java/lang/Integer" (259 : Nat) ({ cls := "java/lang/Integer", name := "compare", desc := "(II)I" } : Jvm.MethodName)) ∈ lw_all := lw_g (lw_at lw_m3 192 rfl) rfl
theorem q872 : (Jvm.Cond.static ({ cls := "java/lang/Integer", name := "numberOfLeadingZeros", desc := "(I)I" } : Jvm.MethodName)) ∈ lw_all := lw_g (lw_at lw_m4 51 rfl) rfl
theorem q873 : (Jvm.Cond.code ({ cls := "java/lang/Integer", name := "numberOfLeadingZeros", desc := "(I)I" } : Jvm.MethodName) prog_39_method_47_code (2 : Nat) (Option.some Jvm.ClassFile.FieldType.int)) ∈ lw_all := lw_g (lw_at lw_m4 52 rfl) rfl
theorem q874 : (Jvm.Cond.constant "java/lang/Integer" (264 : Nat) (65536 : Int32)) ∈ lw_all := lw_g (lw_at lw_m4 53 rfl) rfl
theorem q881 : (Jvm.Cond.static ({ cls := "java/lang/Integer", name := "numberOfTrailingZeros", desc := "(I)I" } : Jvm.MethodName)) ∈ lw_all := lw_g (lw_at lw_m4 60 rfl) rfl
theorem q882 : (Jvm.Cond.code ({ cls := "java/lang/Integer", name := "numberOfTrailingZeros", desc := "(I)I" } : Jvm.MethodName) prog_39_method_48_code (2 : Nat) (Option.some Jvm.ClassFile.FieldType.int)) ∈ lw_all := lw_g (lw_at lw_m4 61 rfl) rfl
theorem q3428 : (Jvm.Cond.castable "java/lang/Integer" "java/lang/Object") ∈ lw_tbl := lw_at lw_m14 207 rfl
theorem in_J11 : ∀ w ∈ wsJ110, w ∈ lw_all := lw_in wsJ110 [587] (by decide +kernel) (by decide +kernel)

/-! java/util/Objects -/
set_option maxRecDepth 100000
def RJ12 : String := "java/util/Objects"
abbrev cJ12_requireNonNull : ByteArray := prog_83_method_10_code
def yJ12_requireNonNull : MethodName := ⟨RJ12, "requireNonNull", "(Ljava/lang/Object;)Ljava/lang/Object;"⟩
def dkwJ12_requireNonNull_0 : List UInt8 := [42, 199, 0, 11, 187, 0, 84, 89, 183, 0, 86, 191, 42, 176]
abbrev dktJ12_requireNonNull_0 : List UInt8 := dkwJ12_requireNonNull_0 ++ []
theorem dksJ12_requireNonNull_0 : cJ12_requireNonNull.data.toList.drop 0 = dktJ12_requireNonNull_0 := by decide +kernel
theorem dJ12_requireNonNull_0 : decode cJ12_requireNonNull 0 = .ok (.aload_n 0, 1) := dk_42 (dk_at dksJ12_requireNonNull_0 0 rfl rfl)
theorem dJ12_requireNonNull_1 : decode cJ12_requireNonNull 1 = .ok (.ifnonnull 11, 3) := dk_199 0 11 (dk_at dksJ12_requireNonNull_0 1 rfl rfl)
theorem dJ12_requireNonNull_4 : decode cJ12_requireNonNull 4 = .ok (.new 84, 3) := dk_187 0 84 (dk_at dksJ12_requireNonNull_0 4 rfl rfl)
theorem dJ12_requireNonNull_7 : decode cJ12_requireNonNull 7 = .ok (.dup, 1) := dk_89 (dk_at dksJ12_requireNonNull_0 7 rfl rfl)
theorem dJ12_requireNonNull_8 : decode cJ12_requireNonNull 8 = .ok (.invokespecial 86, 3) := dk_183 0 86 (dk_at dksJ12_requireNonNull_0 8 rfl rfl)
theorem dJ12_requireNonNull_11 : decode cJ12_requireNonNull 11 = .ok (.athrow, 1) := dk_191 (dk_at dksJ12_requireNonNull_0 11 rfl rfl)
theorem dJ12_requireNonNull_12 : decode cJ12_requireNonNull 12 = .ok (.aload_n 0, 1) := dk_42 (dk_at dksJ12_requireNonNull_0 12 rfl rfl)
theorem dJ12_requireNonNull_13 : decode cJ12_requireNonNull 13 = .ok (.areturn, 1) := dk_176 (dk_at dksJ12_requireNonNull_0 13 rfl rfl)
abbrev cJ12_checkIndex : ByteArray := prog_83_method_17_code
def yJ12_checkIndex : MethodName := ⟨RJ12, "checkIndex", "(II)I"⟩
def dkwJ12_checkIndex_0 : List UInt8 := [26, 27, 1, 184, 0, 105, 172]
abbrev dktJ12_checkIndex_0 : List UInt8 := dkwJ12_checkIndex_0 ++ []
theorem dksJ12_checkIndex_0 : cJ12_checkIndex.data.toList.drop 0 = dktJ12_checkIndex_0 := by decide +kernel
theorem dJ12_checkIndex_0 : decode cJ12_checkIndex 0 = .ok (.iload_n 0, 1) := dk_26 (dk_at dksJ12_checkIndex_0 0 rfl rfl)
theorem dJ12_checkIndex_1 : decode cJ12_checkIndex 1 = .ok (.iload_n 1, 1) := dk_27 (dk_at dksJ12_checkIndex_0 1 rfl rfl)
theorem dJ12_checkIndex_2 : decode cJ12_checkIndex 2 = .ok (.aconst_null, 1) := dk_1 (dk_at dksJ12_checkIndex_0 2 rfl rfl)
theorem dJ12_checkIndex_3 : decode cJ12_checkIndex 3 = .ok (.invokestatic 105, 3) := dk_184 0 105 (dk_at dksJ12_checkIndex_0 3 rfl rfl)
theorem dJ12_checkIndex_6 : decode cJ12_checkIndex 6 = .ok (.ireturn, 1) := dk_172 (dk_at dksJ12_checkIndex_0 6 rfl rfl)
theorem q125 : (Jvm.Cond.initialized "java/util/Objects") ∈ lw_all := lw_g (lw_at lw_m1 24 rfl) rfl
theorem q625 : (Jvm.Cond.static ({ cls := "java/util/Objects", name := "requireNonNull", desc := "(Ljava/lang/Object;)Ljava/lang/Object;" } : Jvm.MethodName)) ∈ lw_all := lw_g (lw_at lw_m3 44 rfl) rfl
theorem q626 : (Jvm.Cond.code ({ cls := "java/util/Objects", name := "requireNonNull", desc := "(Ljava/lang/Object;)Ljava/lang/Object;" } : Jvm.MethodName) prog_83_method_10_code (1 : Nat) (Option.some (Jvm.ClassFile.FieldType.object "java/lang/Object"))) ∈ lw_all := lw_g (lw_at lw_m3 45 rfl) rfl
theorem q1399 : (Jvm.Cond.static ({ cls := "java/util/Objects", name := "checkIndex", desc := "(II)I" } : Jvm.MethodName)) ∈ lw_all := lw_g (lw_at lw_m6 98 rfl) rfl
theorem q1400 : (Jvm.Cond.code ({ cls := "java/util/Objects", name := "checkIndex", desc := "(II)I" } : Jvm.MethodName) prog_83_method_17_code (2 : Nat) (Option.some Jvm.ClassFile.FieldType.int)) ∈ lw_all := lw_g (lw_at lw_m6 99 rfl) rfl
theorem q1401 : (Jvm.Cond.methodLink "java/util/Objects" (105 : Nat) ({ cls := "jdk/internal/util/Preconditions", name := "checkIndex", desc := "(IILjava/util/function/BiFunction;)I" } : Jvm.MethodName)) ∈ lw_all := lw_g (lw_at lw_m6 100 rfl) rfl

/-! java/lang/Math -/
set_option maxRecDepth 100000
def RJ15 : String := "java/lang/Math"
abbrev cJ15_min : ByteArray := prog_43_method_69_code
def yJ15_min : MethodName := ⟨RJ15, "min", "(II)I"⟩
def dkwJ15_min_0 : List UInt8 := [26, 27, 163, 0, 7, 26, 167, 0, 4, 27, 172]
abbrev dktJ15_min_0 : List UInt8 := dkwJ15_min_0 ++ []
theorem dksJ15_min_0 : cJ15_min.data.toList.drop 0 = dktJ15_min_0 := by decide +kernel
theorem dJ15_min_0 : decode cJ15_min 0 = .ok (.iload_n 0, 1) := dk_26 (dk_at dksJ15_min_0 0 rfl rfl)
theorem dJ15_min_1 : decode cJ15_min 1 = .ok (.iload_n 1, 1) := dk_27 (dk_at dksJ15_min_0 1 rfl rfl)
theorem dJ15_min_2 : decode cJ15_min 2 = .ok (.if_icmp .gt 7, 3) := dk_163 0 7 (dk_at dksJ15_min_0 2 rfl rfl)
theorem dJ15_min_5 : decode cJ15_min 5 = .ok (.iload_n 0, 1) := dk_26 (dk_at dksJ15_min_0 5 rfl rfl)
theorem dJ15_min_6 : decode cJ15_min 6 = .ok (.goto 4, 3) := dk_167 0 4 (dk_at dksJ15_min_0 6 rfl rfl)
theorem dJ15_min_9 : decode cJ15_min 9 = .ok (.iload_n 1, 1) := dk_27 (dk_at dksJ15_min_0 9 rfl rfl)
theorem dJ15_min_10 : decode cJ15_min 10 = .ok (.ireturn, 1) := dk_172 (dk_at dksJ15_min_0 10 rfl rfl)
abbrev cJ15_max : ByteArray := prog_43_method_65_code
def yJ15_max : MethodName := ⟨RJ15, "max", "(II)I"⟩
def dkwJ15_max_0 : List UInt8 := [26, 27, 161, 0, 7, 26, 167, 0, 4, 27, 172]
abbrev dktJ15_max_0 : List UInt8 := dkwJ15_max_0 ++ []
theorem dksJ15_max_0 : cJ15_max.data.toList.drop 0 = dktJ15_max_0 := by decide +kernel
theorem dJ15_max_0 : decode cJ15_max 0 = .ok (.iload_n 0, 1) := dk_26 (dk_at dksJ15_max_0 0 rfl rfl)
theorem dJ15_max_1 : decode cJ15_max 1 = .ok (.iload_n 1, 1) := dk_27 (dk_at dksJ15_max_0 1 rfl rfl)
theorem dJ15_max_2 : decode cJ15_max 2 = .ok (.if_icmp .lt 7, 3) := dk_161 0 7 (dk_at dksJ15_max_0 2 rfl rfl)
theorem dJ15_max_5 : decode cJ15_max 5 = .ok (.iload_n 0, 1) := dk_26 (dk_at dksJ15_max_0 5 rfl rfl)
theorem dJ15_max_6 : decode cJ15_max 6 = .ok (.goto 4, 3) := dk_167 0 4 (dk_at dksJ15_max_0 6 rfl rfl)
theorem dJ15_max_9 : decode cJ15_max 9 = .ok (.iload_n 1, 1) := dk_27 (dk_at dksJ15_max_0 9 rfl rfl)
theorem dJ15_max_10 : decode cJ15_max 10 = .ok (.ireturn, 1) := dk_172 (dk_at dksJ15_max_0 10 rfl rfl)
theorem q128 : (Jvm.Cond.initialized "java/lang/Math") ∈ lw_all := lw_g (lw_at lw_m1 27 rfl) rfl
theorem q798 : (Jvm.Cond.static ({ cls := "java/lang/Math", name := "min", desc := "(II)I" } : Jvm.MethodName)) ∈ lw_all := lw_g (lw_at lw_m3 217 rfl) rfl
theorem q799 : (Jvm.Cond.code ({ cls := "java/lang/Math", name := "min", desc := "(II)I" } : Jvm.MethodName) prog_43_method_69_code (2 : Nat) (Option.some Jvm.ClassFile.FieldType.int)) ∈ lw_all := lw_g (lw_at lw_m3 218 rfl) rfl
theorem q1187 : (Jvm.Cond.static ({ cls := "java/lang/Math", name := "max", desc := "(II)I" } : Jvm.MethodName)) ∈ lw_all := lw_g (lw_at lw_m5 126 rfl) rfl
theorem q1188 : (Jvm.Cond.code ({ cls := "java/lang/Math", name := "max", desc := "(II)I" } : Jvm.MethodName) prog_43_method_65_code (2 : Nat) (Option.some Jvm.ClassFile.FieldType.int)) ∈ lw_all := lw_g (lw_at lw_m5 127 rfl) rfl

/-! java/util/TreeMap$Entry -/
set_option maxRecDepth 100000
def RJ21 : String := "java/util/TreeMap$Entry"
def TJ21 : u_T := fun k => match k with
  | 0 => ("java/util/TreeMap$Entry", "key", "Ljava/lang/Object;", false)
  | 1 => ("java/util/TreeMap$Entry", "value", "Ljava/lang/Object;", false)
  | 2 => ("java/util/TreeMap$Entry", "left", "Ljava/util/TreeMap$Entry;", false)
  | 3 => ("java/util/TreeMap$Entry", "right", "Ljava/util/TreeMap$Entry;", false)
  | 4 => ("java/util/TreeMap$Entry", "parent", "Ljava/util/TreeMap$Entry;", false)
  | _ => ("java/util/TreeMap$Entry", "color", "Z", false)
def tyJ21 : Nat → FieldType := fun k => match k with
  | 0 => .object "java/lang/Object"
  | 1 => .object "java/lang/Object"
  | 2 => .object "java/util/TreeMap$Entry"
  | 3 => .object "java/util/TreeMap$Entry"
  | 4 => .object "java/util/TreeMap$Entry"
  | _ => .boolean
abbrev wsJ210 : List Cond := u_ws RJ21 TJ21 6
theorem nmJ21 : ∀ a, a < 6 → ∀ b, b < 6 → a ≠ b → (TJ21 a).2.1 ≠ (TJ21 b).2.1 := by decide +kernel
theorem tyJ21_ok : ∀ k, k < 6 → parseFieldDescriptor (TJ21 k).2.2.1 = some (tyJ21 k) := by decide +kernel
abbrev cJ21_init : ByteArray := prog_95_method_1_code
def yJ21_init : MethodName := ⟨RJ21, "<init>", "(Ljava/lang/Object;Ljava/lang/Object;Ljava/util/TreeMap$Entry;)V"⟩
def dkwJ21_init_1 : List UInt8 := [177]
abbrev dktJ21_init_1 : List UInt8 := dkwJ21_init_1 ++ []
def dkwJ21_init_0 : List UInt8 := [42, 183, 0, 3, 42, 4, 181, 0, 9, 42, 43, 181, 0, 15, 42, 44, 181, 0, 19, 42, 45, 181, 0, 22]
abbrev dktJ21_init_0 : List UInt8 := dkwJ21_init_0 ++ dktJ21_init_1
theorem dksJ21_init_0 : cJ21_init.data.toList.drop 0 = dktJ21_init_0 := by decide +kernel
theorem dksJ21_init_1 : cJ21_init.data.toList.drop 24 = dktJ21_init_1 := dk_seg dksJ21_init_0 24 rfl rfl
theorem dJ21_init_0 : decode cJ21_init 0 = .ok (.aload_n 0, 1) := dk_42 (dk_at dksJ21_init_0 0 rfl rfl)
theorem dJ21_init_1 : decode cJ21_init 1 = .ok (.invokespecial 3, 3) := dk_183 0 3 (dk_at dksJ21_init_0 1 rfl rfl)
theorem dJ21_init_4 : decode cJ21_init 4 = .ok (.aload_n 0, 1) := dk_42 (dk_at dksJ21_init_0 4 rfl rfl)
theorem dJ21_init_5 : decode cJ21_init 5 = .ok (.iconst 1, 1) := dk_4 (dk_at dksJ21_init_0 5 rfl rfl)
theorem dJ21_init_6 : decode cJ21_init 6 = .ok (.putfield 9, 3) := dk_181 0 9 (dk_at dksJ21_init_0 6 rfl rfl)
theorem dJ21_init_9 : decode cJ21_init 9 = .ok (.aload_n 0, 1) := dk_42 (dk_at dksJ21_init_0 9 rfl rfl)
theorem dJ21_init_10 : decode cJ21_init 10 = .ok (.aload_n 1, 1) := dk_43 (dk_at dksJ21_init_0 10 rfl rfl)
theorem dJ21_init_11 : decode cJ21_init 11 = .ok (.putfield 15, 3) := dk_181 0 15 (dk_at dksJ21_init_0 11 rfl rfl)
theorem dJ21_init_14 : decode cJ21_init 14 = .ok (.aload_n 0, 1) := dk_42 (dk_at dksJ21_init_0 14 rfl rfl)
theorem dJ21_init_15 : decode cJ21_init 15 = .ok (.aload_n 2, 1) := dk_44 (dk_at dksJ21_init_0 15 rfl rfl)
theorem dJ21_init_16 : decode cJ21_init 16 = .ok (.putfield 19, 3) := dk_181 0 19 (dk_at dksJ21_init_0 16 rfl rfl)
theorem dJ21_init_19 : decode cJ21_init 19 = .ok (.aload_n 0, 1) := dk_42 (dk_at dksJ21_init_0 19 rfl rfl)
theorem dJ21_init_20 : decode cJ21_init 20 = .ok (.aload_n 3, 1) := dk_45 (dk_at dksJ21_init_0 20 rfl rfl)
theorem dJ21_init_21 : decode cJ21_init 21 = .ok (.putfield 22, 3) := dk_181 0 22 (dk_at dksJ21_init_0 21 rfl rfl)
theorem dJ21_init_24 : decode cJ21_init 24 = .ok (.return_, 1) := dk_177 (dk_at dksJ21_init_1 0 rfl rfl)
theorem q136 : (Jvm.Cond.initialized "java/util/TreeMap$Entry") ∈ lw_all := lw_g (lw_at lw_m1 35 rfl) rfl
theorem q717 : (Jvm.Cond.selects "java/util/TreeMap$Entry" ({ cls := "java/lang/Object", name := "getClass", desc := "()Ljava/lang/Class;" } : Jvm.MethodName) ({ cls := "java/lang/Object", name := "getClass", desc := "()Ljava/lang/Class;" } : Jvm.MethodName)) ∈ lw_all := lw_g (lw_at lw_m3 136 rfl) rfl
theorem q1017 : (Jvm.Cond.instantiable "java/util/TreeMap$Entry" (6 : Nat)) ∈ lw_all := lw_g (lw_at lw_m4 196 rfl) rfl
theorem q1019 : (Jvm.Cond.instanceMethod ({ cls := "java/util/TreeMap$Entry", name := "<init>", desc := "(Ljava/lang/Object;Ljava/lang/Object;Ljava/util/TreeMap$Entry;)V" } : Jvm.MethodName)) ∈ lw_all := lw_g (lw_at lw_m4 198 rfl) rfl
theorem q1020 : (Jvm.Cond.code ({ cls := "java/util/TreeMap$Entry", name := "<init>", desc := "(Ljava/lang/Object;Ljava/lang/Object;Ljava/util/TreeMap$Entry;)V" } : Jvm.MethodName) prog_95_method_1_code (4 : Nat) (Option.none : Option Jvm.ClassFile.FieldType)) ∈ lw_all := lw_g (lw_at lw_m4 199 rfl) rfl
theorem q1021 : (Jvm.Cond.methodLink "java/util/TreeMap$Entry" (3 : Nat) ({ cls := "java/lang/Object", name := "<init>", desc := "()V" } : Jvm.MethodName)) ∈ lw_all := lw_g (lw_at lw_m4 200 rfl) rfl
theorem q1022 : (Jvm.Cond.fieldLink "java/util/TreeMap$Entry" (15 : Nat) "java/util/TreeMap$Entry" "key" "Ljava/lang/Object;") ∈ lw_all := lw_g (lw_at lw_m4 201 rfl) rfl
theorem q1025 : (Jvm.Cond.fieldLink "java/util/TreeMap$Entry" (19 : Nat) "java/util/TreeMap$Entry" "value" "Ljava/lang/Object;") ∈ lw_all := lw_g (lw_at lw_m4 204 rfl) rfl
theorem q1031 : (Jvm.Cond.fieldLink "java/util/TreeMap$Entry" (22 : Nat) "java/util/TreeMap$Entry" "parent" "Ljava/util/TreeMap$Entry;") ∈ lw_all := lw_g (lw_at lw_m4 210 rfl) rfl
theorem q1033 : (Jvm.Cond.fieldLink "java/util/TreeMap$Entry" (9 : Nat) "java/util/TreeMap$Entry" "color" "Z") ∈ lw_all := lw_g (lw_at lw_m4 212 rfl) rfl
theorem q1035 : (Jvm.Cond.lays "java/util/TreeMap$Entry" "java/util/TreeMap$Entry" "key" "Ljava/lang/Object;") ∈ lw_all := lw_g (lw_at lw_m4 214 rfl) rfl
theorem q1036 : (Jvm.Cond.soleField "java/util/TreeMap$Entry" "key") ∈ lw_all := lw_g (lw_at lw_m4 215 rfl) rfl
theorem q1037 : (Jvm.Cond.lays "java/util/TreeMap$Entry" "java/util/TreeMap$Entry" "value" "Ljava/lang/Object;") ∈ lw_all := lw_g (lw_at lw_m4 216 rfl) rfl
theorem q1038 : (Jvm.Cond.soleField "java/util/TreeMap$Entry" "value") ∈ lw_all := lw_g (lw_at lw_m4 217 rfl) rfl
theorem q1039 : (Jvm.Cond.lays "java/util/TreeMap$Entry" "java/util/TreeMap$Entry" "left" "Ljava/util/TreeMap$Entry;") ∈ lw_all := lw_g (lw_at lw_m4 218 rfl) rfl
theorem q1040 : (Jvm.Cond.soleField "java/util/TreeMap$Entry" "left") ∈ lw_all := lw_g (lw_at lw_m4 219 rfl) rfl
theorem q1041 : (Jvm.Cond.lays "java/util/TreeMap$Entry" "java/util/TreeMap$Entry" "right" "Ljava/util/TreeMap$Entry;") ∈ lw_all := lw_g (lw_at lw_m4 220 rfl) rfl
theorem q1042 : (Jvm.Cond.soleField "java/util/TreeMap$Entry" "right") ∈ lw_all := lw_g (lw_at lw_m4 221 rfl) rfl
theorem q1043 : (Jvm.Cond.lays "java/util/TreeMap$Entry" "java/util/TreeMap$Entry" "parent" "Ljava/util/TreeMap$Entry;") ∈ lw_all := lw_g (lw_at lw_m4 222 rfl) rfl
theorem q1044 : (Jvm.Cond.soleField "java/util/TreeMap$Entry" "parent") ∈ lw_all := lw_g (lw_at lw_m4 223 rfl) rfl
theorem q1045 : (Jvm.Cond.lays "java/util/TreeMap$Entry" "java/util/TreeMap$Entry" "color" "Z") ∈ lw_all := lw_g (lw_at lw_m4 224 rfl) rfl
theorem q1046 : (Jvm.Cond.soleField "java/util/TreeMap$Entry" "color") ∈ lw_all := lw_g (lw_at lw_m4 225 rfl) rfl
theorem q1047 : (Jvm.Cond.superclass "java/util/TreeMap$Entry" "java/lang/Object") ∈ lw_all := lw_g (lw_at lw_m4 226 rfl) rfl
theorem q3430 : (Jvm.Cond.castable "java/util/TreeMap$Entry" "java/lang/Object") ∈ lw_tbl := lw_at lw_m14 209 rfl
theorem in_J21 : ∀ w ∈ wsJ210, w ∈ lw_all := lw_in wsJ210 [1035, 1037, 1039, 1041, 1043, 1045] (by decide +kernel) (by decide +kernel)

/-! java/util/PriorityQueue$Itr -/
set_option maxRecDepth 100000
def RJ23 : String := "java/util/PriorityQueue$Itr"
def TJ23 : u_T := fun k => match k with
  | 0 => ("java/util/PriorityQueue$Itr", "cursor", "I", false)
  | 1 => ("java/util/PriorityQueue$Itr", "lastRet", "I", false)
  | 2 => ("java/util/PriorityQueue$Itr", "forgetMeNot", "Ljava/util/ArrayDeque;", false)
  | 3 => ("java/util/PriorityQueue$Itr", "lastRetElt", "Ljava/lang/Object;", false)
  | 4 => ("java/util/PriorityQueue$Itr", "expectedModCount", "I", false)
  | _ => ("java/util/PriorityQueue$Itr", "this$0", "Ljava/util/PriorityQueue;", true)
def tyJ23 : Nat → FieldType := fun k => match k with
  | 0 => .int
  | 1 => .int
  | 2 => .object "java/util/ArrayDeque"
  | 3 => .object "java/lang/Object"
  | 4 => .int
  | _ => .object "java/util/PriorityQueue"
abbrev wsJ230 : List Cond := u_ws RJ23 TJ23 6
theorem nmJ23 : ∀ a, a < 6 → ∀ b, b < 6 → a ≠ b → (TJ23 a).2.1 ≠ (TJ23 b).2.1 := by decide +kernel
theorem tyJ23_ok : ∀ k, k < 6 → parseFieldDescriptor (TJ23 k).2.2.1 = some (tyJ23 k) := by decide +kernel
abbrev cJ23_init : ByteArray := prog_85_method_1_code
def yJ23_init : MethodName := ⟨RJ23, "<init>", "(Ljava/util/PriorityQueue;)V"⟩
def dkwJ23_init_1 : List UInt8 := [181, 0, 22, 177]
abbrev dktJ23_init_1 : List UInt8 := dkwJ23_init_1 ++ []
def dkwJ23_init_0 : List UInt8 := [42, 43, 181, 0, 1, 42, 183, 0, 7, 42, 2, 181, 0, 13, 42, 42, 180, 0, 1, 180, 0, 17]
abbrev dktJ23_init_0 : List UInt8 := dkwJ23_init_0 ++ dktJ23_init_1
theorem dksJ23_init_0 : cJ23_init.data.toList.drop 0 = dktJ23_init_0 := by decide +kernel
theorem dksJ23_init_1 : cJ23_init.data.toList.drop 22 = dktJ23_init_1 := dk_seg dksJ23_init_0 22 rfl rfl
theorem dJ23_init_0 : decode cJ23_init 0 = .ok (.aload_n 0, 1) := dk_42 (dk_at dksJ23_init_0 0 rfl rfl)
theorem dJ23_init_1 : decode cJ23_init 1 = .ok (.aload_n 1, 1) := dk_43 (dk_at dksJ23_init_0 1 rfl rfl)
theorem dJ23_init_2 : decode cJ23_init 2 = .ok (.putfield 1, 3) := dk_181 0 1 (dk_at dksJ23_init_0 2 rfl rfl)
theorem dJ23_init_5 : decode cJ23_init 5 = .ok (.aload_n 0, 1) := dk_42 (dk_at dksJ23_init_0 5 rfl rfl)
theorem dJ23_init_6 : decode cJ23_init 6 = .ok (.invokespecial 7, 3) := dk_183 0 7 (dk_at dksJ23_init_0 6 rfl rfl)
theorem dJ23_init_9 : decode cJ23_init 9 = .ok (.aload_n 0, 1) := dk_42 (dk_at dksJ23_init_0 9 rfl rfl)
theorem dJ23_init_10 : decode cJ23_init 10 = .ok (.iconst (-1), 1) := dk_2 (dk_at dksJ23_init_0 10 rfl rfl)
theorem dJ23_init_11 : decode cJ23_init 11 = .ok (.putfield 13, 3) := dk_181 0 13 (dk_at dksJ23_init_0 11 rfl rfl)
theorem dJ23_init_14 : decode cJ23_init 14 = .ok (.aload_n 0, 1) := dk_42 (dk_at dksJ23_init_0 14 rfl rfl)
theorem dJ23_init_15 : decode cJ23_init 15 = .ok (.aload_n 0, 1) := dk_42 (dk_at dksJ23_init_0 15 rfl rfl)
theorem dJ23_init_16 : decode cJ23_init 16 = .ok (.getfield 1, 3) := dk_180 0 1 (dk_at dksJ23_init_0 16 rfl rfl)
theorem dJ23_init_19 : decode cJ23_init 19 = .ok (.getfield 17, 3) := dk_180 0 17 (dk_at dksJ23_init_0 19 rfl rfl)
theorem dJ23_init_22 : decode cJ23_init 22 = .ok (.putfield 22, 3) := dk_181 0 22 (dk_at dksJ23_init_1 0 rfl rfl)
theorem dJ23_init_25 : decode cJ23_init 25 = .ok (.return_, 1) := dk_177 (dk_at dksJ23_init_1 3 rfl rfl)
abbrev cJ23_hasNext : ByteArray := prog_85_method_2_code
def yJ23_hasNext : MethodName := ⟨RJ23, "hasNext", "()Z"⟩
def dkwJ23_hasNext_1 : List UInt8 := [180, 0, 31, 182, 0, 35, 154, 0, 7, 4, 167, 0, 4, 3, 172]
abbrev dktJ23_hasNext_1 : List UInt8 := dkwJ23_hasNext_1 ++ []
def dkwJ23_hasNext_0 : List UInt8 := [42, 180, 0, 25, 42, 180, 0, 1, 180, 0, 28, 161, 0, 20, 42, 180, 0, 31, 198, 0, 17, 42]
abbrev dktJ23_hasNext_0 : List UInt8 := dkwJ23_hasNext_0 ++ dktJ23_hasNext_1
theorem dksJ23_hasNext_0 : cJ23_hasNext.data.toList.drop 0 = dktJ23_hasNext_0 := by decide +kernel
theorem dksJ23_hasNext_1 : cJ23_hasNext.data.toList.drop 22 = dktJ23_hasNext_1 := dk_seg dksJ23_hasNext_0 22 rfl rfl
theorem dJ23_hasNext_0 : decode cJ23_hasNext 0 = .ok (.aload_n 0, 1) := dk_42 (dk_at dksJ23_hasNext_0 0 rfl rfl)
theorem dJ23_hasNext_1 : decode cJ23_hasNext 1 = .ok (.getfield 25, 3) := dk_180 0 25 (dk_at dksJ23_hasNext_0 1 rfl rfl)
theorem dJ23_hasNext_4 : decode cJ23_hasNext 4 = .ok (.aload_n 0, 1) := dk_42 (dk_at dksJ23_hasNext_0 4 rfl rfl)
theorem dJ23_hasNext_5 : decode cJ23_hasNext 5 = .ok (.getfield 1, 3) := dk_180 0 1 (dk_at dksJ23_hasNext_0 5 rfl rfl)
theorem dJ23_hasNext_8 : decode cJ23_hasNext 8 = .ok (.getfield 28, 3) := dk_180 0 28 (dk_at dksJ23_hasNext_0 8 rfl rfl)
theorem dJ23_hasNext_11 : decode cJ23_hasNext 11 = .ok (.if_icmp .lt 20, 3) := dk_161 0 20 (dk_at dksJ23_hasNext_0 11 rfl rfl)
theorem dJ23_hasNext_14 : decode cJ23_hasNext 14 = .ok (.aload_n 0, 1) := dk_42 (dk_at dksJ23_hasNext_0 14 rfl rfl)
theorem dJ23_hasNext_15 : decode cJ23_hasNext 15 = .ok (.getfield 31, 3) := dk_180 0 31 (dk_at dksJ23_hasNext_0 15 rfl rfl)
theorem dJ23_hasNext_18 : decode cJ23_hasNext 18 = .ok (.ifnull 17, 3) := dk_198 0 17 (dk_at dksJ23_hasNext_0 18 rfl rfl)
theorem dJ23_hasNext_21 : decode cJ23_hasNext 21 = .ok (.aload_n 0, 1) := dk_42 (dk_at dksJ23_hasNext_0 21 rfl rfl)
theorem dJ23_hasNext_22 : decode cJ23_hasNext 22 = .ok (.getfield 31, 3) := dk_180 0 31 (dk_at dksJ23_hasNext_1 0 rfl rfl)
theorem dJ23_hasNext_25 : decode cJ23_hasNext 25 = .ok (.invokevirtual 35, 3) := dk_182 0 35 (dk_at dksJ23_hasNext_1 3 rfl rfl)
theorem dJ23_hasNext_28 : decode cJ23_hasNext 28 = .ok (.ifCond .ne 7, 3) := dk_154 0 7 (dk_at dksJ23_hasNext_1 6 rfl rfl)
theorem dJ23_hasNext_31 : decode cJ23_hasNext 31 = .ok (.iconst 1, 1) := dk_4 (dk_at dksJ23_hasNext_1 9 rfl rfl)
theorem dJ23_hasNext_32 : decode cJ23_hasNext 32 = .ok (.goto 4, 3) := dk_167 0 4 (dk_at dksJ23_hasNext_1 10 rfl rfl)
theorem dJ23_hasNext_35 : decode cJ23_hasNext 35 = .ok (.iconst 0, 1) := dk_3 (dk_at dksJ23_hasNext_1 13 rfl rfl)
theorem dJ23_hasNext_36 : decode cJ23_hasNext 36 = .ok (.ireturn, 1) := dk_172 (dk_at dksJ23_hasNext_1 14 rfl rfl)
abbrev cJ23_next : ByteArray := prog_85_method_3_code
def yJ23_next : MethodName := ⟨RJ23, "next", "()Ljava/lang/Object;"⟩
def dkwJ23_next_4 : List UInt8 := [180, 0, 52, 176, 187, 0, 56, 89, 183, 0, 58, 191]
abbrev dktJ23_next_4 : List UInt8 := dkwJ23_next_4 ++ []
def dkwJ23_next_3 : List UInt8 := [181, 0, 13, 42, 42, 180, 0, 31, 182, 0, 48, 181, 0, 52, 42, 180, 0, 52, 198, 0, 8, 42]
abbrev dktJ23_next_3 : List UInt8 := dkwJ23_next_3 ++ dktJ23_next_4
def dkwJ23_next_2 : List UInt8 := [180, 0, 25, 90, 4, 96, 181, 0, 25, 90, 181, 0, 13, 50, 176, 42, 180, 0, 31, 198, 0, 31, 42, 2]
abbrev dktJ23_next_2 : List UInt8 := dkwJ23_next_2 ++ dktJ23_next_3
def dkwJ23_next_1 : List UInt8 := [180, 0, 25, 42, 180, 0, 1, 180, 0, 28, 162, 0, 28, 42, 180, 0, 1, 180, 0, 44, 42, 42, 89]
abbrev dktJ23_next_1 : List UInt8 := dkwJ23_next_1 ++ dktJ23_next_2
def dkwJ23_next_0 : List UInt8 := [42, 180, 0, 22, 42, 180, 0, 1, 180, 0, 17, 159, 0, 11, 187, 0, 41, 89, 183, 0, 43, 191, 42]
abbrev dktJ23_next_0 : List UInt8 := dkwJ23_next_0 ++ dktJ23_next_1
theorem dksJ23_next_0 : cJ23_next.data.toList.drop 0 = dktJ23_next_0 := by decide +kernel
theorem dksJ23_next_1 : cJ23_next.data.toList.drop 23 = dktJ23_next_1 := dk_seg dksJ23_next_0 23 rfl rfl
theorem dksJ23_next_2 : cJ23_next.data.toList.drop 46 = dktJ23_next_2 := dk_seg dksJ23_next_1 23 rfl rfl
theorem dksJ23_next_3 : cJ23_next.data.toList.drop 70 = dktJ23_next_3 := dk_seg dksJ23_next_2 24 rfl rfl
theorem dksJ23_next_4 : cJ23_next.data.toList.drop 92 = dktJ23_next_4 := dk_seg dksJ23_next_3 22 rfl rfl
theorem dJ23_next_0 : decode cJ23_next 0 = .ok (.aload_n 0, 1) := dk_42 (dk_at dksJ23_next_0 0 rfl rfl)
theorem dJ23_next_1 : decode cJ23_next 1 = .ok (.getfield 22, 3) := dk_180 0 22 (dk_at dksJ23_next_0 1 rfl rfl)
theorem dJ23_next_4 : decode cJ23_next 4 = .ok (.aload_n 0, 1) := dk_42 (dk_at dksJ23_next_0 4 rfl rfl)
theorem dJ23_next_5 : decode cJ23_next 5 = .ok (.getfield 1, 3) := dk_180 0 1 (dk_at dksJ23_next_0 5 rfl rfl)
theorem dJ23_next_8 : decode cJ23_next 8 = .ok (.getfield 17, 3) := dk_180 0 17 (dk_at dksJ23_next_0 8 rfl rfl)
theorem dJ23_next_11 : decode cJ23_next 11 = .ok (.if_icmp .eq 11, 3) := dk_159 0 11 (dk_at dksJ23_next_0 11 rfl rfl)
theorem dJ23_next_14 : decode cJ23_next 14 = .ok (.new 41, 3) := dk_187 0 41 (dk_at dksJ23_next_0 14 rfl rfl)
theorem dJ23_next_17 : decode cJ23_next 17 = .ok (.dup, 1) := dk_89 (dk_at dksJ23_next_0 17 rfl rfl)
theorem dJ23_next_18 : decode cJ23_next 18 = .ok (.invokespecial 43, 3) := dk_183 0 43 (dk_at dksJ23_next_0 18 rfl rfl)
theorem dJ23_next_21 : decode cJ23_next 21 = .ok (.athrow, 1) := dk_191 (dk_at dksJ23_next_0 21 rfl rfl)
theorem dJ23_next_22 : decode cJ23_next 22 = .ok (.aload_n 0, 1) := dk_42 (dk_at dksJ23_next_0 22 rfl rfl)
theorem dJ23_next_23 : decode cJ23_next 23 = .ok (.getfield 25, 3) := dk_180 0 25 (dk_at dksJ23_next_1 0 rfl rfl)
theorem dJ23_next_26 : decode cJ23_next 26 = .ok (.aload_n 0, 1) := dk_42 (dk_at dksJ23_next_1 3 rfl rfl)
theorem dJ23_next_27 : decode cJ23_next 27 = .ok (.getfield 1, 3) := dk_180 0 1 (dk_at dksJ23_next_1 4 rfl rfl)
theorem dJ23_next_30 : decode cJ23_next 30 = .ok (.getfield 28, 3) := dk_180 0 28 (dk_at dksJ23_next_1 7 rfl rfl)
theorem dJ23_next_33 : decode cJ23_next 33 = .ok (.if_icmp .ge 28, 3) := dk_162 0 28 (dk_at dksJ23_next_1 10 rfl rfl)
theorem dJ23_next_36 : decode cJ23_next 36 = .ok (.aload_n 0, 1) := dk_42 (dk_at dksJ23_next_1 13 rfl rfl)
theorem dJ23_next_37 : decode cJ23_next 37 = .ok (.getfield 1, 3) := dk_180 0 1 (dk_at dksJ23_next_1 14 rfl rfl)
theorem dJ23_next_40 : decode cJ23_next 40 = .ok (.getfield 44, 3) := dk_180 0 44 (dk_at dksJ23_next_1 17 rfl rfl)
theorem dJ23_next_43 : decode cJ23_next 43 = .ok (.aload_n 0, 1) := dk_42 (dk_at dksJ23_next_1 20 rfl rfl)
theorem dJ23_next_44 : decode cJ23_next 44 = .ok (.aload_n 0, 1) := dk_42 (dk_at dksJ23_next_1 21 rfl rfl)
theorem dJ23_next_45 : decode cJ23_next 45 = .ok (.dup, 1) := dk_89 (dk_at dksJ23_next_1 22 rfl rfl)
theorem dJ23_next_46 : decode cJ23_next 46 = .ok (.getfield 25, 3) := dk_180 0 25 (dk_at dksJ23_next_2 0 rfl rfl)
theorem dJ23_next_49 : decode cJ23_next 49 = .ok (.dup_x1, 1) := dk_90 (dk_at dksJ23_next_2 3 rfl rfl)
theorem dJ23_next_50 : decode cJ23_next 50 = .ok (.iconst 1, 1) := dk_4 (dk_at dksJ23_next_2 4 rfl rfl)
theorem dJ23_next_51 : decode cJ23_next 51 = .ok (.iadd, 1) := dk_96 (dk_at dksJ23_next_2 5 rfl rfl)
theorem dJ23_next_52 : decode cJ23_next 52 = .ok (.putfield 25, 3) := dk_181 0 25 (dk_at dksJ23_next_2 6 rfl rfl)
theorem dJ23_next_55 : decode cJ23_next 55 = .ok (.dup_x1, 1) := dk_90 (dk_at dksJ23_next_2 9 rfl rfl)
theorem dJ23_next_56 : decode cJ23_next 56 = .ok (.putfield 13, 3) := dk_181 0 13 (dk_at dksJ23_next_2 10 rfl rfl)
theorem dJ23_next_59 : decode cJ23_next 59 = .ok (.aaload, 1) := dk_50 (dk_at dksJ23_next_2 13 rfl rfl)
theorem dJ23_next_60 : decode cJ23_next 60 = .ok (.areturn, 1) := dk_176 (dk_at dksJ23_next_2 14 rfl rfl)
theorem dJ23_next_61 : decode cJ23_next 61 = .ok (.aload_n 0, 1) := dk_42 (dk_at dksJ23_next_2 15 rfl rfl)
theorem dJ23_next_62 : decode cJ23_next 62 = .ok (.getfield 31, 3) := dk_180 0 31 (dk_at dksJ23_next_2 16 rfl rfl)
theorem dJ23_next_65 : decode cJ23_next 65 = .ok (.ifnull 31, 3) := dk_198 0 31 (dk_at dksJ23_next_2 19 rfl rfl)
theorem dJ23_next_68 : decode cJ23_next 68 = .ok (.aload_n 0, 1) := dk_42 (dk_at dksJ23_next_2 22 rfl rfl)
theorem dJ23_next_69 : decode cJ23_next 69 = .ok (.iconst (-1), 1) := dk_2 (dk_at dksJ23_next_2 23 rfl rfl)
theorem dJ23_next_70 : decode cJ23_next 70 = .ok (.putfield 13, 3) := dk_181 0 13 (dk_at dksJ23_next_3 0 rfl rfl)
theorem dJ23_next_73 : decode cJ23_next 73 = .ok (.aload_n 0, 1) := dk_42 (dk_at dksJ23_next_3 3 rfl rfl)
theorem dJ23_next_74 : decode cJ23_next 74 = .ok (.aload_n 0, 1) := dk_42 (dk_at dksJ23_next_3 4 rfl rfl)
theorem dJ23_next_75 : decode cJ23_next 75 = .ok (.getfield 31, 3) := dk_180 0 31 (dk_at dksJ23_next_3 5 rfl rfl)
theorem dJ23_next_78 : decode cJ23_next 78 = .ok (.invokevirtual 48, 3) := dk_182 0 48 (dk_at dksJ23_next_3 8 rfl rfl)
theorem dJ23_next_81 : decode cJ23_next 81 = .ok (.putfield 52, 3) := dk_181 0 52 (dk_at dksJ23_next_3 11 rfl rfl)
theorem dJ23_next_84 : decode cJ23_next 84 = .ok (.aload_n 0, 1) := dk_42 (dk_at dksJ23_next_3 14 rfl rfl)
theorem dJ23_next_85 : decode cJ23_next 85 = .ok (.getfield 52, 3) := dk_180 0 52 (dk_at dksJ23_next_3 15 rfl rfl)
theorem dJ23_next_88 : decode cJ23_next 88 = .ok (.ifnull 8, 3) := dk_198 0 8 (dk_at dksJ23_next_3 18 rfl rfl)
theorem dJ23_next_91 : decode cJ23_next 91 = .ok (.aload_n 0, 1) := dk_42 (dk_at dksJ23_next_3 21 rfl rfl)
theorem dJ23_next_92 : decode cJ23_next 92 = .ok (.getfield 52, 3) := dk_180 0 52 (dk_at dksJ23_next_4 0 rfl rfl)
theorem dJ23_next_95 : decode cJ23_next 95 = .ok (.areturn, 1) := dk_176 (dk_at dksJ23_next_4 3 rfl rfl)
theorem dJ23_next_96 : decode cJ23_next 96 = .ok (.new 56, 3) := dk_187 0 56 (dk_at dksJ23_next_4 4 rfl rfl)
theorem dJ23_next_99 : decode cJ23_next 99 = .ok (.dup, 1) := dk_89 (dk_at dksJ23_next_4 7 rfl rfl)
theorem dJ23_next_100 : decode cJ23_next 100 = .ok (.invokespecial 58, 3) := dk_183 0 58 (dk_at dksJ23_next_4 8 rfl rfl)
theorem dJ23_next_103 : decode cJ23_next 103 = .ok (.athrow, 1) := dk_191 (dk_at dksJ23_next_4 11 rfl rfl)
abbrev cJ23_remove : ByteArray := prog_85_method_4_code
def yJ23_remove : MethodName := ⟨RJ23, "remove", "()V"⟩
def dkwJ23_remove_5 : List UInt8 := [167, 0, 11, 187, 0, 72, 89, 183, 0, 74, 191, 42, 42, 180, 0, 1, 180, 0, 17, 181, 0, 22, 177]
abbrev dktJ23_remove_5 : List UInt8 := dkwJ23_remove_5 ++ []
def dkwJ23_remove_4 : List UInt8 := [180, 0, 52, 198, 0, 22, 42, 180, 0, 1, 42, 180, 0, 52, 182, 0, 68, 42, 1, 181, 0, 52]
abbrev dktJ23_remove_4 : List UInt8 := dkwJ23_remove_4 ++ dktJ23_remove_5
def dkwJ23_remove_3 : List UInt8 := [42, 187, 0, 36, 89, 183, 0, 63, 181, 0, 31, 42, 180, 0, 31, 43, 182, 0, 64, 87, 167, 0, 37, 42]
abbrev dktJ23_remove_3 : List UInt8 := dkwJ23_remove_3 ++ dktJ23_remove_4
def dkwJ23_remove_2 : List UInt8 := [43, 199, 0, 16, 42, 89, 180, 0, 25, 4, 100, 181, 0, 25, 167, 0, 30, 42, 180, 0, 31, 199, 0, 14]
abbrev dktJ23_remove_2 : List UInt8 := dkwJ23_remove_2 ++ dktJ23_remove_3
def dkwJ23_remove_1 : List UInt8 := [180, 0, 13, 2, 159, 0, 67, 42, 180, 0, 1, 42, 180, 0, 13, 182, 0, 59, 76, 42, 2, 181, 0, 13]
abbrev dktJ23_remove_1 : List UInt8 := dkwJ23_remove_1 ++ dktJ23_remove_2
def dkwJ23_remove_0 : List UInt8 := [42, 180, 0, 22, 42, 180, 0, 1, 180, 0, 17, 159, 0, 11, 187, 0, 41, 89, 183, 0, 43, 191, 42]
abbrev dktJ23_remove_0 : List UInt8 := dkwJ23_remove_0 ++ dktJ23_remove_1
theorem dksJ23_remove_0 : cJ23_remove.data.toList.drop 0 = dktJ23_remove_0 := by decide +kernel
theorem dksJ23_remove_1 : cJ23_remove.data.toList.drop 23 = dktJ23_remove_1 := dk_seg dksJ23_remove_0 23 rfl rfl
theorem dksJ23_remove_2 : cJ23_remove.data.toList.drop 47 = dktJ23_remove_2 := dk_seg dksJ23_remove_1 24 rfl rfl
theorem dksJ23_remove_3 : cJ23_remove.data.toList.drop 71 = dktJ23_remove_3 := dk_seg dksJ23_remove_2 24 rfl rfl
theorem dksJ23_remove_4 : cJ23_remove.data.toList.drop 95 = dktJ23_remove_4 := dk_seg dksJ23_remove_3 24 rfl rfl
theorem dksJ23_remove_5 : cJ23_remove.data.toList.drop 117 = dktJ23_remove_5 := dk_seg dksJ23_remove_4 22 rfl rfl
theorem dJ23_remove_0 : decode cJ23_remove 0 = .ok (.aload_n 0, 1) := dk_42 (dk_at dksJ23_remove_0 0 rfl rfl)
theorem dJ23_remove_1 : decode cJ23_remove 1 = .ok (.getfield 22, 3) := dk_180 0 22 (dk_at dksJ23_remove_0 1 rfl rfl)
theorem dJ23_remove_4 : decode cJ23_remove 4 = .ok (.aload_n 0, 1) := dk_42 (dk_at dksJ23_remove_0 4 rfl rfl)
theorem dJ23_remove_5 : decode cJ23_remove 5 = .ok (.getfield 1, 3) := dk_180 0 1 (dk_at dksJ23_remove_0 5 rfl rfl)
theorem dJ23_remove_8 : decode cJ23_remove 8 = .ok (.getfield 17, 3) := dk_180 0 17 (dk_at dksJ23_remove_0 8 rfl rfl)
theorem dJ23_remove_11 : decode cJ23_remove 11 = .ok (.if_icmp .eq 11, 3) := dk_159 0 11 (dk_at dksJ23_remove_0 11 rfl rfl)
theorem dJ23_remove_14 : decode cJ23_remove 14 = .ok (.new 41, 3) := dk_187 0 41 (dk_at dksJ23_remove_0 14 rfl rfl)
theorem dJ23_remove_17 : decode cJ23_remove 17 = .ok (.dup, 1) := dk_89 (dk_at dksJ23_remove_0 17 rfl rfl)
theorem dJ23_remove_18 : decode cJ23_remove 18 = .ok (.invokespecial 43, 3) := dk_183 0 43 (dk_at dksJ23_remove_0 18 rfl rfl)
theorem dJ23_remove_21 : decode cJ23_remove 21 = .ok (.athrow, 1) := dk_191 (dk_at dksJ23_remove_0 21 rfl rfl)
theorem dJ23_remove_22 : decode cJ23_remove 22 = .ok (.aload_n 0, 1) := dk_42 (dk_at dksJ23_remove_0 22 rfl rfl)
theorem dJ23_remove_23 : decode cJ23_remove 23 = .ok (.getfield 13, 3) := dk_180 0 13 (dk_at dksJ23_remove_1 0 rfl rfl)
theorem dJ23_remove_26 : decode cJ23_remove 26 = .ok (.iconst (-1), 1) := dk_2 (dk_at dksJ23_remove_1 3 rfl rfl)
theorem dJ23_remove_27 : decode cJ23_remove 27 = .ok (.if_icmp .eq 67, 3) := dk_159 0 67 (dk_at dksJ23_remove_1 4 rfl rfl)
theorem dJ23_remove_30 : decode cJ23_remove 30 = .ok (.aload_n 0, 1) := dk_42 (dk_at dksJ23_remove_1 7 rfl rfl)
theorem dJ23_remove_31 : decode cJ23_remove 31 = .ok (.getfield 1, 3) := dk_180 0 1 (dk_at dksJ23_remove_1 8 rfl rfl)
theorem dJ23_remove_34 : decode cJ23_remove 34 = .ok (.aload_n 0, 1) := dk_42 (dk_at dksJ23_remove_1 11 rfl rfl)
theorem dJ23_remove_35 : decode cJ23_remove 35 = .ok (.getfield 13, 3) := dk_180 0 13 (dk_at dksJ23_remove_1 12 rfl rfl)
theorem dJ23_remove_38 : decode cJ23_remove 38 = .ok (.invokevirtual 59, 3) := dk_182 0 59 (dk_at dksJ23_remove_1 15 rfl rfl)
theorem dJ23_remove_41 : decode cJ23_remove 41 = .ok (.astore_n 1, 1) := dk_76 (dk_at dksJ23_remove_1 18 rfl rfl)
theorem dJ23_remove_42 : decode cJ23_remove 42 = .ok (.aload_n 0, 1) := dk_42 (dk_at dksJ23_remove_1 19 rfl rfl)
theorem dJ23_remove_43 : decode cJ23_remove 43 = .ok (.iconst (-1), 1) := dk_2 (dk_at dksJ23_remove_1 20 rfl rfl)
theorem dJ23_remove_44 : decode cJ23_remove 44 = .ok (.putfield 13, 3) := dk_181 0 13 (dk_at dksJ23_remove_1 21 rfl rfl)
theorem dJ23_remove_47 : decode cJ23_remove 47 = .ok (.aload_n 1, 1) := dk_43 (dk_at dksJ23_remove_2 0 rfl rfl)
theorem dJ23_remove_48 : decode cJ23_remove 48 = .ok (.ifnonnull 16, 3) := dk_199 0 16 (dk_at dksJ23_remove_2 1 rfl rfl)
theorem dJ23_remove_51 : decode cJ23_remove 51 = .ok (.aload_n 0, 1) := dk_42 (dk_at dksJ23_remove_2 4 rfl rfl)
theorem dJ23_remove_52 : decode cJ23_remove 52 = .ok (.dup, 1) := dk_89 (dk_at dksJ23_remove_2 5 rfl rfl)
theorem dJ23_remove_53 : decode cJ23_remove 53 = .ok (.getfield 25, 3) := dk_180 0 25 (dk_at dksJ23_remove_2 6 rfl rfl)
theorem dJ23_remove_56 : decode cJ23_remove 56 = .ok (.iconst 1, 1) := dk_4 (dk_at dksJ23_remove_2 9 rfl rfl)
theorem dJ23_remove_57 : decode cJ23_remove 57 = .ok (.isub, 1) := dk_100 (dk_at dksJ23_remove_2 10 rfl rfl)
theorem dJ23_remove_58 : decode cJ23_remove 58 = .ok (.putfield 25, 3) := dk_181 0 25 (dk_at dksJ23_remove_2 11 rfl rfl)
theorem dJ23_remove_61 : decode cJ23_remove 61 = .ok (.goto 30, 3) := dk_167 0 30 (dk_at dksJ23_remove_2 14 rfl rfl)
theorem dJ23_remove_64 : decode cJ23_remove 64 = .ok (.aload_n 0, 1) := dk_42 (dk_at dksJ23_remove_2 17 rfl rfl)
theorem dJ23_remove_65 : decode cJ23_remove 65 = .ok (.getfield 31, 3) := dk_180 0 31 (dk_at dksJ23_remove_2 18 rfl rfl)
theorem dJ23_remove_68 : decode cJ23_remove 68 = .ok (.ifnonnull 14, 3) := dk_199 0 14 (dk_at dksJ23_remove_2 21 rfl rfl)
theorem dJ23_remove_71 : decode cJ23_remove 71 = .ok (.aload_n 0, 1) := dk_42 (dk_at dksJ23_remove_3 0 rfl rfl)
theorem dJ23_remove_72 : decode cJ23_remove 72 = .ok (.new 36, 3) := dk_187 0 36 (dk_at dksJ23_remove_3 1 rfl rfl)
theorem dJ23_remove_75 : decode cJ23_remove 75 = .ok (.dup, 1) := dk_89 (dk_at dksJ23_remove_3 4 rfl rfl)
theorem dJ23_remove_76 : decode cJ23_remove 76 = .ok (.invokespecial 63, 3) := dk_183 0 63 (dk_at dksJ23_remove_3 5 rfl rfl)
theorem dJ23_remove_79 : decode cJ23_remove 79 = .ok (.putfield 31, 3) := dk_181 0 31 (dk_at dksJ23_remove_3 8 rfl rfl)
theorem dJ23_remove_82 : decode cJ23_remove 82 = .ok (.aload_n 0, 1) := dk_42 (dk_at dksJ23_remove_3 11 rfl rfl)
theorem dJ23_remove_83 : decode cJ23_remove 83 = .ok (.getfield 31, 3) := dk_180 0 31 (dk_at dksJ23_remove_3 12 rfl rfl)
theorem dJ23_remove_86 : decode cJ23_remove 86 = .ok (.aload_n 1, 1) := dk_43 (dk_at dksJ23_remove_3 15 rfl rfl)
theorem dJ23_remove_87 : decode cJ23_remove 87 = .ok (.invokevirtual 64, 3) := dk_182 0 64 (dk_at dksJ23_remove_3 16 rfl rfl)
theorem dJ23_remove_90 : decode cJ23_remove 90 = .ok (.pop, 1) := dk_87 (dk_at dksJ23_remove_3 19 rfl rfl)
theorem dJ23_remove_91 : decode cJ23_remove 91 = .ok (.goto 37, 3) := dk_167 0 37 (dk_at dksJ23_remove_3 20 rfl rfl)
theorem dJ23_remove_94 : decode cJ23_remove 94 = .ok (.aload_n 0, 1) := dk_42 (dk_at dksJ23_remove_3 23 rfl rfl)
theorem dJ23_remove_95 : decode cJ23_remove 95 = .ok (.getfield 52, 3) := dk_180 0 52 (dk_at dksJ23_remove_4 0 rfl rfl)
theorem dJ23_remove_98 : decode cJ23_remove 98 = .ok (.ifnull 22, 3) := dk_198 0 22 (dk_at dksJ23_remove_4 3 rfl rfl)
theorem dJ23_remove_101 : decode cJ23_remove 101 = .ok (.aload_n 0, 1) := dk_42 (dk_at dksJ23_remove_4 6 rfl rfl)
theorem dJ23_remove_102 : decode cJ23_remove 102 = .ok (.getfield 1, 3) := dk_180 0 1 (dk_at dksJ23_remove_4 7 rfl rfl)
theorem dJ23_remove_105 : decode cJ23_remove 105 = .ok (.aload_n 0, 1) := dk_42 (dk_at dksJ23_remove_4 10 rfl rfl)
theorem dJ23_remove_106 : decode cJ23_remove 106 = .ok (.getfield 52, 3) := dk_180 0 52 (dk_at dksJ23_remove_4 11 rfl rfl)
theorem dJ23_remove_109 : decode cJ23_remove 109 = .ok (.invokevirtual 68, 3) := dk_182 0 68 (dk_at dksJ23_remove_4 14 rfl rfl)
theorem dJ23_remove_112 : decode cJ23_remove 112 = .ok (.aload_n 0, 1) := dk_42 (dk_at dksJ23_remove_4 17 rfl rfl)
theorem dJ23_remove_113 : decode cJ23_remove 113 = .ok (.aconst_null, 1) := dk_1 (dk_at dksJ23_remove_4 18 rfl rfl)
theorem dJ23_remove_114 : decode cJ23_remove 114 = .ok (.putfield 52, 3) := dk_181 0 52 (dk_at dksJ23_remove_4 19 rfl rfl)
theorem dJ23_remove_117 : decode cJ23_remove 117 = .ok (.goto 11, 3) := dk_167 0 11 (dk_at dksJ23_remove_5 0 rfl rfl)
theorem dJ23_remove_120 : decode cJ23_remove 120 = .ok (.new 72, 3) := dk_187 0 72 (dk_at dksJ23_remove_5 3 rfl rfl)
theorem dJ23_remove_123 : decode cJ23_remove 123 = .ok (.dup, 1) := dk_89 (dk_at dksJ23_remove_5 6 rfl rfl)
theorem dJ23_remove_124 : decode cJ23_remove 124 = .ok (.invokespecial 74, 3) := dk_183 0 74 (dk_at dksJ23_remove_5 7 rfl rfl)
theorem dJ23_remove_127 : decode cJ23_remove 127 = .ok (.athrow, 1) := dk_191 (dk_at dksJ23_remove_5 10 rfl rfl)
theorem dJ23_remove_128 : decode cJ23_remove 128 = .ok (.aload_n 0, 1) := dk_42 (dk_at dksJ23_remove_5 11 rfl rfl)
theorem dJ23_remove_129 : decode cJ23_remove 129 = .ok (.aload_n 0, 1) := dk_42 (dk_at dksJ23_remove_5 12 rfl rfl)
theorem dJ23_remove_130 : decode cJ23_remove 130 = .ok (.getfield 1, 3) := dk_180 0 1 (dk_at dksJ23_remove_5 13 rfl rfl)
theorem dJ23_remove_133 : decode cJ23_remove 133 = .ok (.getfield 17, 3) := dk_180 0 17 (dk_at dksJ23_remove_5 16 rfl rfl)
theorem dJ23_remove_136 : decode cJ23_remove 136 = .ok (.putfield 22, 3) := dk_181 0 22 (dk_at dksJ23_remove_5 19 rfl rfl)
theorem dJ23_remove_139 : decode cJ23_remove 139 = .ok (.return_, 1) := dk_177 (dk_at dksJ23_remove_5 22 rfl rfl)
theorem q139 : (Jvm.Cond.initialized "java/util/PriorityQueue$Itr") ∈ lw_all := lw_g (lw_at lw_m1 38 rfl) rfl
theorem q290 : (Jvm.Cond.fieldLink "java/util/PriorityQueue$Itr" (44 : Nat) "java/util/PriorityQueue" "queue" "[Ljava/lang/Object;") ∈ lw_all := lw_g (lw_at lw_m1 189 rfl) rfl
theorem q292 : (Jvm.Cond.fieldLink "java/util/PriorityQueue$Itr" (28 : Nat) "java/util/PriorityQueue" "size" "I") ∈ lw_all := lw_g (lw_at lw_m1 191 rfl) rfl
theorem q295 : (Jvm.Cond.fieldLink "java/util/PriorityQueue$Itr" (17 : Nat) "java/util/PriorityQueue" "modCount" "I") ∈ lw_all := lw_g (lw_at lw_m1 194 rfl) rfl
theorem q715 : (Jvm.Cond.selects "java/util/PriorityQueue$Itr" ({ cls := "java/lang/Object", name := "getClass", desc := "()Ljava/lang/Class;" } : Jvm.MethodName) ({ cls := "java/lang/Object", name := "getClass", desc := "()Ljava/lang/Class;" } : Jvm.MethodName)) ∈ lw_all := lw_g (lw_at lw_m3 134 rfl) rfl
theorem q1235 : (Jvm.Cond.instantiable "java/util/PriorityQueue$Itr" (6 : Nat)) ∈ lw_all := lw_g (lw_at lw_m5 174 rfl) rfl
theorem q1237 : (Jvm.Cond.instanceMethod ({ cls := "java/util/PriorityQueue$Itr", name := "<init>", desc := "(Ljava/util/PriorityQueue;)V" } : Jvm.MethodName)) ∈ lw_all := lw_g (lw_at lw_m5 176 rfl) rfl
theorem q1238 : (Jvm.Cond.code ({ cls := "java/util/PriorityQueue$Itr", name := "<init>", desc := "(Ljava/util/PriorityQueue;)V" } : Jvm.MethodName) prog_85_method_1_code (2 : Nat) (Option.none : Option Jvm.ClassFile.FieldType)) ∈ lw_all := lw_g (lw_at lw_m5 177 rfl) rfl
theorem q1239 : (Jvm.Cond.methodLink "java/util/PriorityQueue$Itr" (7 : Nat) ({ cls := "java/lang/Object", name := "<init>", desc := "()V" } : Jvm.MethodName)) ∈ lw_all := lw_g (lw_at lw_m5 178 rfl) rfl
theorem q1240 : (Jvm.Cond.fieldLink "java/util/PriorityQueue$Itr" (25 : Nat) "java/util/PriorityQueue$Itr" "cursor" "I") ∈ lw_all := lw_g (lw_at lw_m5 179 rfl) rfl
theorem q1241 : (Jvm.Cond.fieldLink "java/util/PriorityQueue$Itr" (13 : Nat) "java/util/PriorityQueue$Itr" "lastRet" "I") ∈ lw_all := lw_g (lw_at lw_m5 180 rfl) rfl
theorem q1242 : (Jvm.Cond.fieldLink "java/util/PriorityQueue$Itr" (31 : Nat) "java/util/PriorityQueue$Itr" "forgetMeNot" "Ljava/util/ArrayDeque;") ∈ lw_all := lw_g (lw_at lw_m5 181 rfl) rfl
theorem q1243 : (Jvm.Cond.fieldLink "java/util/PriorityQueue$Itr" (52 : Nat) "java/util/PriorityQueue$Itr" "lastRetElt" "Ljava/lang/Object;") ∈ lw_all := lw_g (lw_at lw_m5 182 rfl) rfl
theorem q1244 : (Jvm.Cond.fieldLink "java/util/PriorityQueue$Itr" (22 : Nat) "java/util/PriorityQueue$Itr" "expectedModCount" "I") ∈ lw_all := lw_g (lw_at lw_m5 183 rfl) rfl
theorem q1245 : (Jvm.Cond.fieldLink "java/util/PriorityQueue$Itr" (1 : Nat) "java/util/PriorityQueue$Itr" "this$0" "Ljava/util/PriorityQueue;") ∈ lw_all := lw_g (lw_at lw_m5 184 rfl) rfl
theorem q1246 : (Jvm.Cond.lays "java/util/PriorityQueue$Itr" "java/util/PriorityQueue$Itr" "cursor" "I") ∈ lw_all := lw_g (lw_at lw_m5 185 rfl) rfl
theorem q1247 : (Jvm.Cond.soleField "java/util/PriorityQueue$Itr" "cursor") ∈ lw_all := lw_g (lw_at lw_m5 186 rfl) rfl
theorem q1248 : (Jvm.Cond.lays "java/util/PriorityQueue$Itr" "java/util/PriorityQueue$Itr" "lastRet" "I") ∈ lw_all := lw_g (lw_at lw_m5 187 rfl) rfl
theorem q1249 : (Jvm.Cond.soleField "java/util/PriorityQueue$Itr" "lastRet") ∈ lw_all := lw_g (lw_at lw_m5 188 rfl) rfl
theorem q1250 : (Jvm.Cond.lays "java/util/PriorityQueue$Itr" "java/util/PriorityQueue$Itr" "forgetMeNot" "Ljava/util/ArrayDeque;") ∈ lw_all := lw_g (lw_at lw_m5 189 rfl) rfl
theorem q1251 : (Jvm.Cond.soleField "java/util/PriorityQueue$Itr" "forgetMeNot") ∈ lw_all := lw_g (lw_at lw_m5 190 rfl) rfl
theorem q1252 : (Jvm.Cond.lays "java/util/PriorityQueue$Itr" "java/util/PriorityQueue$Itr" "lastRetElt" "Ljava/lang/Object;") ∈ lw_all := lw_g (lw_at lw_m5 191 rfl) rfl
theorem q1253 : (Jvm.Cond.soleField "java/util/PriorityQueue$Itr" "lastRetElt") ∈ lw_all := lw_g (lw_at lw_m5 192 rfl) rfl
theorem q1254 : (Jvm.Cond.lays "java/util/PriorityQueue$Itr" "java/util/PriorityQueue$Itr" "expectedModCount" "I") ∈ lw_all := lw_g (lw_at lw_m5 193 rfl) rfl
theorem q1255 : (Jvm.Cond.soleField "java/util/PriorityQueue$Itr" "expectedModCount") ∈ lw_all := lw_g (lw_at lw_m5 194 rfl) rfl
theorem q1256 : (Jvm.Cond.laysFinal "java/util/PriorityQueue$Itr" "java/util/PriorityQueue$Itr" "this$0" "Ljava/util/PriorityQueue;") ∈ lw_all := lw_g (lw_at lw_m5 195 rfl) rfl
theorem q1257 : (Jvm.Cond.soleField "java/util/PriorityQueue$Itr" "this$0") ∈ lw_all := lw_g (lw_at lw_m5 196 rfl) rfl
theorem q1258 : (Jvm.Cond.superclass "java/util/PriorityQueue$Itr" "java/lang/Object") ∈ lw_all := lw_g (lw_at lw_m5 197 rfl) rfl
theorem q1324 : (Jvm.Cond.castable "java/util/PriorityQueue$Itr" "java/util/Iterator") ∈ lw_tbl := lw_at lw_m6 23 rfl
theorem q1325 : (Jvm.Cond.selects "java/util/PriorityQueue$Itr" ({ cls := "java/util/Iterator", name := "hasNext", desc := "()Z" } : Jvm.MethodName) ({ cls := "java/util/PriorityQueue$Itr", name := "hasNext", desc := "()Z" } : Jvm.MethodName)) ∈ lw_all := lw_g (lw_at lw_m6 24 rfl) rfl
theorem q1326 : (Jvm.Cond.unhidden "java/util/PriorityQueue$Itr" "hasNext" "()Z") ∈ lw_tbl := lw_at lw_m6 25 rfl
theorem q1327 : (Jvm.Cond.instanceMethod ({ cls := "java/util/PriorityQueue$Itr", name := "hasNext", desc := "()Z" } : Jvm.MethodName)) ∈ lw_all := lw_g (lw_at lw_m6 26 rfl) rfl
theorem q1328 : (Jvm.Cond.publicMethod ({ cls := "java/util/PriorityQueue$Itr", name := "hasNext", desc := "()Z" } : Jvm.MethodName)) ∈ lw_tbl := lw_at lw_m6 27 rfl
theorem q1329 : (Jvm.Cond.code ({ cls := "java/util/PriorityQueue$Itr", name := "hasNext", desc := "()Z" } : Jvm.MethodName) prog_85_method_2_code (1 : Nat) (Option.some Jvm.ClassFile.FieldType.boolean)) ∈ lw_all := lw_g (lw_at lw_m6 28 rfl) rfl
theorem q1330 : (Jvm.Cond.methodLink "java/util/PriorityQueue$Itr" (35 : Nat) ({ cls := "java/util/ArrayDeque", name := "isEmpty", desc := "()Z" } : Jvm.MethodName)) ∈ lw_all := lw_g (lw_at lw_m6 29 rfl) rfl
theorem q1716 : (Jvm.Cond.selects "java/util/PriorityQueue$Itr" ({ cls := "java/util/Iterator", name := "next", desc := "()Ljava/lang/Object;" } : Jvm.MethodName) ({ cls := "java/util/PriorityQueue$Itr", name := "next", desc := "()Ljava/lang/Object;" } : Jvm.MethodName)) ∈ lw_all := lw_g (lw_at lw_m7 175 rfl) rfl
theorem q1717 : (Jvm.Cond.unhidden "java/util/PriorityQueue$Itr" "next" "()Ljava/lang/Object;") ∈ lw_tbl := lw_at lw_m7 176 rfl
theorem q1718 : (Jvm.Cond.instanceMethod ({ cls := "java/util/PriorityQueue$Itr", name := "next", desc := "()Ljava/lang/Object;" } : Jvm.MethodName)) ∈ lw_all := lw_g (lw_at lw_m7 177 rfl) rfl
theorem q1719 : (Jvm.Cond.publicMethod ({ cls := "java/util/PriorityQueue$Itr", name := "next", desc := "()Ljava/lang/Object;" } : Jvm.MethodName)) ∈ lw_tbl := lw_at lw_m7 178 rfl
theorem q1720 : (Jvm.Cond.code ({ cls := "java/util/PriorityQueue$Itr", name := "next", desc := "()Ljava/lang/Object;" } : Jvm.MethodName) prog_85_method_3_code (1 : Nat) (Option.some (Jvm.ClassFile.FieldType.object "java/lang/Object"))) ∈ lw_all := lw_g (lw_at lw_m7 179 rfl) rfl
theorem q1721 : (Jvm.Cond.methodLink "java/util/PriorityQueue$Itr" (48 : Nat) ({ cls := "java/util/ArrayDeque", name := "poll", desc := "()Ljava/lang/Object;" } : Jvm.MethodName)) ∈ lw_all := lw_g (lw_at lw_m7 180 rfl) rfl
theorem q2070 : (Jvm.Cond.selects "java/util/PriorityQueue$Itr" ({ cls := "java/util/Iterator", name := "remove", desc := "()V" } : Jvm.MethodName) ({ cls := "java/util/PriorityQueue$Itr", name := "remove", desc := "()V" } : Jvm.MethodName)) ∈ lw_all := lw_g (lw_at lw_m9 49 rfl) rfl
theorem q2071 : (Jvm.Cond.unhidden "java/util/PriorityQueue$Itr" "remove" "()V") ∈ lw_tbl := lw_at lw_m9 50 rfl
theorem q2072 : (Jvm.Cond.instanceMethod ({ cls := "java/util/PriorityQueue$Itr", name := "remove", desc := "()V" } : Jvm.MethodName)) ∈ lw_all := lw_g (lw_at lw_m9 51 rfl) rfl
theorem q2073 : (Jvm.Cond.publicMethod ({ cls := "java/util/PriorityQueue$Itr", name := "remove", desc := "()V" } : Jvm.MethodName)) ∈ lw_tbl := lw_at lw_m9 52 rfl
theorem q2074 : (Jvm.Cond.code ({ cls := "java/util/PriorityQueue$Itr", name := "remove", desc := "()V" } : Jvm.MethodName) prog_85_method_4_code (2 : Nat) (Option.none : Option Jvm.ClassFile.FieldType)) ∈ lw_all := lw_g (lw_at lw_m9 53 rfl) rfl
theorem q2075 : (Jvm.Cond.methodLink "java/util/PriorityQueue$Itr" (59 : Nat) ({ cls := "java/util/PriorityQueue", name := "removeAt", desc := "(I)Ljava/lang/Object;" } : Jvm.MethodName)) ∈ lw_all := lw_g (lw_at lw_m9 54 rfl) rfl
theorem q2089 : (Jvm.Cond.classLink "java/util/PriorityQueue$Itr" (36 : Nat) "java/util/ArrayDeque") ∈ lw_all := lw_g (lw_at lw_m9 68 rfl) rfl
theorem q2090 : (Jvm.Cond.methodLink "java/util/PriorityQueue$Itr" (63 : Nat) ({ cls := "java/util/ArrayDeque", name := "<init>", desc := "()V" } : Jvm.MethodName)) ∈ lw_all := lw_g (lw_at lw_m9 69 rfl) rfl
theorem q2093 : (Jvm.Cond.methodLink "java/util/PriorityQueue$Itr" (64 : Nat) ({ cls := "java/util/ArrayDeque", name := "add", desc := "(Ljava/lang/Object;)Z" } : Jvm.MethodName)) ∈ lw_all := lw_g (lw_at lw_m9 72 rfl) rfl
theorem q2111 : (Jvm.Cond.methodLink "java/util/PriorityQueue$Itr" (68 : Nat) ({ cls := "java/util/PriorityQueue", name := "removeEq", desc := "(Ljava/lang/Object;)V" } : Jvm.MethodName)) ∈ lw_all := lw_g (lw_at lw_m9 90 rfl) rfl
theorem q3434 : (Jvm.Cond.castable "java/util/PriorityQueue$Itr" "java/lang/Object") ∈ lw_tbl := lw_at lw_m14 213 rfl
theorem in_J23 : ∀ w ∈ wsJ230, w ∈ lw_all := lw_in wsJ230 [1246, 1248, 1250, 1252, 1254, 1256] (by decide +kernel) (by decide +kernel)

/-! java/lang/Throwable -/
set_option maxRecDepth 100000
def RJ24 : String := "java/lang/Throwable"
def TJ24 : u_T := fun k => match k with
  | 0 => ("java/lang/Throwable", "cause", "Ljava/lang/Throwable;", false)
  | 1 => ("java/lang/Throwable", "stackTrace", "[Ljava/lang/StackTraceElement;", false)
  | 2 => ("java/lang/Throwable", "suppressedExceptions", "Ljava/util/List;", false)
  | 3 => ("java/lang/Throwable", "detailMessage", "Ljava/lang/String;", false)
  | _ => ("java/lang/Throwable", "backtrace", "Ljava/lang/Object;", false)
def tyJ24 : Nat → FieldType := fun k => match k with
  | 0 => .object "java/lang/Throwable"
  | 1 => .array (.object "java/lang/StackTraceElement")
  | 2 => .object "java/util/List"
  | 3 => .object "java/lang/String"
  | _ => .object "java/lang/Object"
abbrev wsJ240 : List Cond := u_ws RJ24 TJ24 5
theorem nmJ24 : ∀ a, a < 5 → ∀ b, b < 5 → a ≠ b → (TJ24 a).2.1 ≠ (TJ24 b).2.1 := by decide +kernel
theorem tyJ24_ok : ∀ k, k < 5 → parseFieldDescriptor (TJ24 k).2.2.1 = some (tyJ24 k) := by decide +kernel
abbrev cJ24_init : ByteArray := prog_51_method_1_code
def yJ24_init : MethodName := ⟨RJ24, "<init>", "()V"⟩
def dkwJ24_init_1 : List UInt8 := [182, 0, 27, 87, 177]
abbrev dktJ24_init_1 : List UInt8 := dkwJ24_init_1 ++ []
def dkwJ24_init_0 : List UInt8 := [42, 183, 0, 1, 42, 42, 181, 0, 7, 42, 178, 0, 13, 181, 0, 17, 42, 178, 0, 20, 181, 0, 24, 42]
abbrev dktJ24_init_0 : List UInt8 := dkwJ24_init_0 ++ dktJ24_init_1
theorem dksJ24_init_0 : cJ24_init.data.toList.drop 0 = dktJ24_init_0 := by decide +kernel
theorem dksJ24_init_1 : cJ24_init.data.toList.drop 24 = dktJ24_init_1 := dk_seg dksJ24_init_0 24 rfl rfl
theorem dJ24_init_0 : decode cJ24_init 0 = .ok (.aload_n 0, 1) := dk_42 (dk_at dksJ24_init_0 0 rfl rfl)
theorem dJ24_init_1 : decode cJ24_init 1 = .ok (.invokespecial 1, 3) := dk_183 0 1 (dk_at dksJ24_init_0 1 rfl rfl)
theorem dJ24_init_4 : decode cJ24_init 4 = .ok (.aload_n 0, 1) := dk_42 (dk_at dksJ24_init_0 4 rfl rfl)
theorem dJ24_init_5 : decode cJ24_init 5 = .ok (.aload_n 0, 1) := dk_42 (dk_at dksJ24_init_0 5 rfl rfl)
theorem dJ24_init_6 : decode cJ24_init 6 = .ok (.putfield 7, 3) := dk_181 0 7 (dk_at dksJ24_init_0 6 rfl rfl)
theorem dJ24_init_9 : decode cJ24_init 9 = .ok (.aload_n 0, 1) := dk_42 (dk_at dksJ24_init_0 9 rfl rfl)
theorem dJ24_init_10 : decode cJ24_init 10 = .ok (.getstatic 13, 3) := dk_178 0 13 (dk_at dksJ24_init_0 10 rfl rfl)
theorem dJ24_init_13 : decode cJ24_init 13 = .ok (.putfield 17, 3) := dk_181 0 17 (dk_at dksJ24_init_0 13 rfl rfl)
theorem dJ24_init_16 : decode cJ24_init 16 = .ok (.aload_n 0, 1) := dk_42 (dk_at dksJ24_init_0 16 rfl rfl)
theorem dJ24_init_17 : decode cJ24_init 17 = .ok (.getstatic 20, 3) := dk_178 0 20 (dk_at dksJ24_init_0 17 rfl rfl)
theorem dJ24_init_20 : decode cJ24_init 20 = .ok (.putfield 24, 3) := dk_181 0 24 (dk_at dksJ24_init_0 20 rfl rfl)
theorem dJ24_init_23 : decode cJ24_init 23 = .ok (.aload_n 0, 1) := dk_42 (dk_at dksJ24_init_0 23 rfl rfl)
theorem dJ24_init_24 : decode cJ24_init 24 = .ok (.invokevirtual 27, 3) := dk_182 0 27 (dk_at dksJ24_init_1 0 rfl rfl)
theorem dJ24_init_27 : decode cJ24_init 27 = .ok (.pop, 1) := dk_87 (dk_at dksJ24_init_1 3 rfl rfl)
theorem dJ24_init_28 : decode cJ24_init 28 = .ok (.return_, 1) := dk_177 (dk_at dksJ24_init_1 4 rfl rfl)
abbrev cJ24_init_2 : ByteArray := prog_51_method_4_code
def yJ24_init_2 : MethodName := ⟨RJ24, "<init>", "(Ljava/lang/Throwable;)V"⟩
def dkwJ24_init_2_2 : List UInt8 := [181, 0, 7, 177]
abbrev dktJ24_init_2_2 : List UInt8 := dkwJ24_init_2_2 ++ []
def dkwJ24_init_2_1 : List UInt8 := [182, 0, 27, 87, 42, 43, 199, 0, 7, 1, 167, 0, 7, 43, 182, 0, 35, 181, 0, 31, 42, 43]
abbrev dktJ24_init_2_1 : List UInt8 := dkwJ24_init_2_1 ++ dktJ24_init_2_2
def dkwJ24_init_2_0 : List UInt8 := [42, 183, 0, 1, 42, 42, 181, 0, 7, 42, 178, 0, 13, 181, 0, 17, 42, 178, 0, 20, 181, 0, 24, 42]
abbrev dktJ24_init_2_0 : List UInt8 := dkwJ24_init_2_0 ++ dktJ24_init_2_1
theorem dksJ24_init_2_0 : cJ24_init_2.data.toList.drop 0 = dktJ24_init_2_0 := by decide +kernel
theorem dksJ24_init_2_1 : cJ24_init_2.data.toList.drop 24 = dktJ24_init_2_1 := dk_seg dksJ24_init_2_0 24 rfl rfl
theorem dksJ24_init_2_2 : cJ24_init_2.data.toList.drop 46 = dktJ24_init_2_2 := dk_seg dksJ24_init_2_1 22 rfl rfl
theorem dJ24_init_2_0 : decode cJ24_init_2 0 = .ok (.aload_n 0, 1) := dk_42 (dk_at dksJ24_init_2_0 0 rfl rfl)
theorem dJ24_init_2_1 : decode cJ24_init_2 1 = .ok (.invokespecial 1, 3) := dk_183 0 1 (dk_at dksJ24_init_2_0 1 rfl rfl)
theorem dJ24_init_2_4 : decode cJ24_init_2 4 = .ok (.aload_n 0, 1) := dk_42 (dk_at dksJ24_init_2_0 4 rfl rfl)
theorem dJ24_init_2_5 : decode cJ24_init_2 5 = .ok (.aload_n 0, 1) := dk_42 (dk_at dksJ24_init_2_0 5 rfl rfl)
theorem dJ24_init_2_6 : decode cJ24_init_2 6 = .ok (.putfield 7, 3) := dk_181 0 7 (dk_at dksJ24_init_2_0 6 rfl rfl)
theorem dJ24_init_2_9 : decode cJ24_init_2 9 = .ok (.aload_n 0, 1) := dk_42 (dk_at dksJ24_init_2_0 9 rfl rfl)
theorem dJ24_init_2_10 : decode cJ24_init_2 10 = .ok (.getstatic 13, 3) := dk_178 0 13 (dk_at dksJ24_init_2_0 10 rfl rfl)
theorem dJ24_init_2_13 : decode cJ24_init_2 13 = .ok (.putfield 17, 3) := dk_181 0 17 (dk_at dksJ24_init_2_0 13 rfl rfl)
theorem dJ24_init_2_16 : decode cJ24_init_2 16 = .ok (.aload_n 0, 1) := dk_42 (dk_at dksJ24_init_2_0 16 rfl rfl)
theorem dJ24_init_2_17 : decode cJ24_init_2 17 = .ok (.getstatic 20, 3) := dk_178 0 20 (dk_at dksJ24_init_2_0 17 rfl rfl)
theorem dJ24_init_2_20 : decode cJ24_init_2 20 = .ok (.putfield 24, 3) := dk_181 0 24 (dk_at dksJ24_init_2_0 20 rfl rfl)
theorem dJ24_init_2_23 : decode cJ24_init_2 23 = .ok (.aload_n 0, 1) := dk_42 (dk_at dksJ24_init_2_0 23 rfl rfl)
theorem dJ24_init_2_24 : decode cJ24_init_2 24 = .ok (.invokevirtual 27, 3) := dk_182 0 27 (dk_at dksJ24_init_2_1 0 rfl rfl)
theorem dJ24_init_2_27 : decode cJ24_init_2 27 = .ok (.pop, 1) := dk_87 (dk_at dksJ24_init_2_1 3 rfl rfl)
theorem dJ24_init_2_28 : decode cJ24_init_2 28 = .ok (.aload_n 0, 1) := dk_42 (dk_at dksJ24_init_2_1 4 rfl rfl)
theorem dJ24_init_2_29 : decode cJ24_init_2 29 = .ok (.aload_n 1, 1) := dk_43 (dk_at dksJ24_init_2_1 5 rfl rfl)
theorem dJ24_init_2_30 : decode cJ24_init_2 30 = .ok (.ifnonnull 7, 3) := dk_199 0 7 (dk_at dksJ24_init_2_1 6 rfl rfl)
theorem dJ24_init_2_33 : decode cJ24_init_2 33 = .ok (.aconst_null, 1) := dk_1 (dk_at dksJ24_init_2_1 9 rfl rfl)
theorem dJ24_init_2_34 : decode cJ24_init_2 34 = .ok (.goto 7, 3) := dk_167 0 7 (dk_at dksJ24_init_2_1 10 rfl rfl)
theorem dJ24_init_2_37 : decode cJ24_init_2 37 = .ok (.aload_n 1, 1) := dk_43 (dk_at dksJ24_init_2_1 13 rfl rfl)
theorem dJ24_init_2_38 : decode cJ24_init_2 38 = .ok (.invokevirtual 35, 3) := dk_182 0 35 (dk_at dksJ24_init_2_1 14 rfl rfl)
theorem dJ24_init_2_41 : decode cJ24_init_2 41 = .ok (.putfield 31, 3) := dk_181 0 31 (dk_at dksJ24_init_2_1 17 rfl rfl)
theorem dJ24_init_2_44 : decode cJ24_init_2 44 = .ok (.aload_n 0, 1) := dk_42 (dk_at dksJ24_init_2_1 20 rfl rfl)
theorem dJ24_init_2_45 : decode cJ24_init_2 45 = .ok (.aload_n 1, 1) := dk_43 (dk_at dksJ24_init_2_1 21 rfl rfl)
theorem dJ24_init_2_46 : decode cJ24_init_2 46 = .ok (.putfield 7, 3) := dk_181 0 7 (dk_at dksJ24_init_2_2 0 rfl rfl)
theorem dJ24_init_2_49 : decode cJ24_init_2 49 = .ok (.return_, 1) := dk_177 (dk_at dksJ24_init_2_2 3 rfl rfl)
abbrev cJ24_toString : ByteArray := prog_51_method_11_code
def yJ24_toString : MethodName := ⟨RJ24, "toString", "()Ljava/lang/String;"⟩
def dkwJ24_toString_1 : List UInt8 := [43, 182, 0, 49, 18, 81, 182, 0, 49, 44, 182, 0, 49, 182, 0, 60, 167, 0, 4, 43, 176]
abbrev dktJ24_toString_1 : List UInt8 := dkwJ24_toString_1 ++ []
def dkwJ24_toString_0 : List UInt8 := [42, 182, 0, 69, 182, 0, 73, 76, 42, 182, 0, 78, 77, 44, 198, 0, 29, 187, 0, 44, 89, 183, 0, 46]
abbrev dktJ24_toString_0 : List UInt8 := dkwJ24_toString_0 ++ dktJ24_toString_1
theorem dksJ24_toString_0 : cJ24_toString.data.toList.drop 0 = dktJ24_toString_0 := by decide +kernel
theorem dksJ24_toString_1 : cJ24_toString.data.toList.drop 24 = dktJ24_toString_1 := dk_seg dksJ24_toString_0 24 rfl rfl
theorem dJ24_toString_0 : decode cJ24_toString 0 = .ok (.aload_n 0, 1) := dk_42 (dk_at dksJ24_toString_0 0 rfl rfl)
theorem dJ24_toString_1 : decode cJ24_toString 1 = .ok (.invokevirtual 69, 3) := dk_182 0 69 (dk_at dksJ24_toString_0 1 rfl rfl)
theorem dJ24_toString_4 : decode cJ24_toString 4 = .ok (.invokevirtual 73, 3) := dk_182 0 73 (dk_at dksJ24_toString_0 4 rfl rfl)
theorem dJ24_toString_7 : decode cJ24_toString 7 = .ok (.astore_n 1, 1) := dk_76 (dk_at dksJ24_toString_0 7 rfl rfl)
theorem dJ24_toString_8 : decode cJ24_toString 8 = .ok (.aload_n 0, 1) := dk_42 (dk_at dksJ24_toString_0 8 rfl rfl)
theorem dJ24_toString_9 : decode cJ24_toString 9 = .ok (.invokevirtual 78, 3) := dk_182 0 78 (dk_at dksJ24_toString_0 9 rfl rfl)
theorem dJ24_toString_12 : decode cJ24_toString 12 = .ok (.astore_n 2, 1) := dk_77 (dk_at dksJ24_toString_0 12 rfl rfl)
theorem dJ24_toString_13 : decode cJ24_toString 13 = .ok (.aload_n 2, 1) := dk_44 (dk_at dksJ24_toString_0 13 rfl rfl)
theorem dJ24_toString_14 : decode cJ24_toString 14 = .ok (.ifnull 29, 3) := dk_198 0 29 (dk_at dksJ24_toString_0 14 rfl rfl)
theorem dJ24_toString_17 : decode cJ24_toString 17 = .ok (.new 44, 3) := dk_187 0 44 (dk_at dksJ24_toString_0 17 rfl rfl)
theorem dJ24_toString_20 : decode cJ24_toString 20 = .ok (.dup, 1) := dk_89 (dk_at dksJ24_toString_0 20 rfl rfl)
theorem dJ24_toString_21 : decode cJ24_toString 21 = .ok (.invokespecial 46, 3) := dk_183 0 46 (dk_at dksJ24_toString_0 21 rfl rfl)
theorem dJ24_toString_24 : decode cJ24_toString 24 = .ok (.aload_n 1, 1) := dk_43 (dk_at dksJ24_toString_1 0 rfl rfl)
theorem dJ24_toString_25 : decode cJ24_toString 25 = .ok (.invokevirtual 49, 3) := dk_182 0 49 (dk_at dksJ24_toString_1 1 rfl rfl)
theorem dJ24_toString_28 : decode cJ24_toString 28 = .ok (.ldc 81, 2) := dk_18 81 (dk_at dksJ24_toString_1 4 rfl rfl)
theorem dJ24_toString_30 : decode cJ24_toString 30 = .ok (.invokevirtual 49, 3) := dk_182 0 49 (dk_at dksJ24_toString_1 6 rfl rfl)
theorem dJ24_toString_33 : decode cJ24_toString 33 = .ok (.aload_n 2, 1) := dk_44 (dk_at dksJ24_toString_1 9 rfl rfl)
theorem dJ24_toString_34 : decode cJ24_toString 34 = .ok (.invokevirtual 49, 3) := dk_182 0 49 (dk_at dksJ24_toString_1 10 rfl rfl)
theorem dJ24_toString_37 : decode cJ24_toString 37 = .ok (.invokevirtual 60, 3) := dk_182 0 60 (dk_at dksJ24_toString_1 13 rfl rfl)
theorem dJ24_toString_40 : decode cJ24_toString 40 = .ok (.goto 4, 3) := dk_167 0 4 (dk_at dksJ24_toString_1 16 rfl rfl)
theorem dJ24_toString_43 : decode cJ24_toString 43 = .ok (.aload_n 1, 1) := dk_43 (dk_at dksJ24_toString_1 19 rfl rfl)
theorem dJ24_toString_44 : decode cJ24_toString 44 = .ok (.areturn, 1) := dk_176 (dk_at dksJ24_toString_1 20 rfl rfl)
abbrev cJ24_getLocalizedMessage : ByteArray := prog_51_method_7_code
def yJ24_getLocalizedMessage : MethodName := ⟨RJ24, "getLocalizedMessage", "()Ljava/lang/String;"⟩
theorem dJ24_getLocalizedMessage_0 : decode cJ24_getLocalizedMessage 0 = .ok (.aload_n 0, 1) := by decide +kernel
theorem dJ24_getLocalizedMessage_1 : decode cJ24_getLocalizedMessage 1 = .ok (.invokevirtual 39, 3) := by decide +kernel
theorem dJ24_getLocalizedMessage_4 : decode cJ24_getLocalizedMessage 4 = .ok (.areturn, 1) := by decide +kernel
abbrev cJ24_getMessage : ByteArray := prog_51_method_6_code
def yJ24_getMessage : MethodName := ⟨RJ24, "getMessage", "()Ljava/lang/String;"⟩
theorem dJ24_getMessage_0 : decode cJ24_getMessage 0 = .ok (.aload_n 0, 1) := by decide +kernel
theorem dJ24_getMessage_1 : decode cJ24_getMessage 1 = .ok (.getfield 31, 3) := by decide +kernel
theorem dJ24_getMessage_4 : decode cJ24_getMessage 4 = .ok (.areturn, 1) := by decide +kernel
abbrev cJ24_init_3 : ByteArray := prog_51_method_5_code
def yJ24_init_3 : MethodName := ⟨RJ24, "<init>", "(Ljava/lang/String;Ljava/lang/Throwable;ZZ)V"⟩
def dkwJ24_init_3_2 : List UInt8 := [44, 181, 0, 7, 29, 154, 0, 8, 42, 1, 181, 0, 24, 177]
abbrev dktJ24_init_3_2 : List UInt8 := dkwJ24_init_3_2 ++ []
def dkwJ24_init_3_1 : List UInt8 := [21, 4, 153, 0, 11, 42, 182, 0, 27, 87, 167, 0, 8, 42, 1, 181, 0, 17, 42, 43, 181, 0, 31, 42]
abbrev dktJ24_init_3_1 : List UInt8 := dkwJ24_init_3_1 ++ dktJ24_init_3_2
def dkwJ24_init_3_0 : List UInt8 := [42, 183, 0, 1, 42, 42, 181, 0, 7, 42, 178, 0, 13, 181, 0, 17, 42, 178, 0, 20, 181, 0, 24]
abbrev dktJ24_init_3_0 : List UInt8 := dkwJ24_init_3_0 ++ dktJ24_init_3_1
theorem dksJ24_init_3_0 : cJ24_init_3.data.toList.drop 0 = dktJ24_init_3_0 := by decide +kernel
theorem dksJ24_init_3_1 : cJ24_init_3.data.toList.drop 23 = dktJ24_init_3_1 := dk_seg dksJ24_init_3_0 23 rfl rfl
theorem dksJ24_init_3_2 : cJ24_init_3.data.toList.drop 47 = dktJ24_init_3_2 := dk_seg dksJ24_init_3_1 24 rfl rfl
theorem dJ24_init_3_0 : decode cJ24_init_3 0 = .ok (.aload_n 0, 1) := dk_42 (dk_at dksJ24_init_3_0 0 rfl rfl)
theorem dJ24_init_3_1 : decode cJ24_init_3 1 = .ok (.invokespecial 1, 3) := dk_183 0 1 (dk_at dksJ24_init_3_0 1 rfl rfl)
theorem dJ24_init_3_4 : decode cJ24_init_3 4 = .ok (.aload_n 0, 1) := dk_42 (dk_at dksJ24_init_3_0 4 rfl rfl)
theorem dJ24_init_3_5 : decode cJ24_init_3 5 = .ok (.aload_n 0, 1) := dk_42 (dk_at dksJ24_init_3_0 5 rfl rfl)
theorem dJ24_init_3_6 : decode cJ24_init_3 6 = .ok (.putfield 7, 3) := dk_181 0 7 (dk_at dksJ24_init_3_0 6 rfl rfl)
theorem dJ24_init_3_9 : decode cJ24_init_3 9 = .ok (.aload_n 0, 1) := dk_42 (dk_at dksJ24_init_3_0 9 rfl rfl)
theorem dJ24_init_3_10 : decode cJ24_init_3 10 = .ok (.getstatic 13, 3) := dk_178 0 13 (dk_at dksJ24_init_3_0 10 rfl rfl)
theorem dJ24_init_3_13 : decode cJ24_init_3 13 = .ok (.putfield 17, 3) := dk_181 0 17 (dk_at dksJ24_init_3_0 13 rfl rfl)
theorem dJ24_init_3_16 : decode cJ24_init_3 16 = .ok (.aload_n 0, 1) := dk_42 (dk_at dksJ24_init_3_0 16 rfl rfl)
theorem dJ24_init_3_17 : decode cJ24_init_3 17 = .ok (.getstatic 20, 3) := dk_178 0 20 (dk_at dksJ24_init_3_0 17 rfl rfl)
theorem dJ24_init_3_20 : decode cJ24_init_3 20 = .ok (.putfield 24, 3) := dk_181 0 24 (dk_at dksJ24_init_3_0 20 rfl rfl)
theorem dJ24_init_3_23 : decode cJ24_init_3 23 = .ok (.iload 4, 2) := dk_21 4 (dk_at dksJ24_init_3_1 0 rfl rfl)
theorem dJ24_init_3_25 : decode cJ24_init_3 25 = .ok (.ifCond .eq 11, 3) := dk_153 0 11 (dk_at dksJ24_init_3_1 2 rfl rfl)
theorem dJ24_init_3_28 : decode cJ24_init_3 28 = .ok (.aload_n 0, 1) := dk_42 (dk_at dksJ24_init_3_1 5 rfl rfl)
theorem dJ24_init_3_29 : decode cJ24_init_3 29 = .ok (.invokevirtual 27, 3) := dk_182 0 27 (dk_at dksJ24_init_3_1 6 rfl rfl)
theorem dJ24_init_3_32 : decode cJ24_init_3 32 = .ok (.pop, 1) := dk_87 (dk_at dksJ24_init_3_1 9 rfl rfl)
theorem dJ24_init_3_33 : decode cJ24_init_3 33 = .ok (.goto 8, 3) := dk_167 0 8 (dk_at dksJ24_init_3_1 10 rfl rfl)
theorem dJ24_init_3_36 : decode cJ24_init_3 36 = .ok (.aload_n 0, 1) := dk_42 (dk_at dksJ24_init_3_1 13 rfl rfl)
theorem dJ24_init_3_37 : decode cJ24_init_3 37 = .ok (.aconst_null, 1) := dk_1 (dk_at dksJ24_init_3_1 14 rfl rfl)
theorem dJ24_init_3_38 : decode cJ24_init_3 38 = .ok (.putfield 17, 3) := dk_181 0 17 (dk_at dksJ24_init_3_1 15 rfl rfl)
theorem dJ24_init_3_41 : decode cJ24_init_3 41 = .ok (.aload_n 0, 1) := dk_42 (dk_at dksJ24_init_3_1 18 rfl rfl)
theorem dJ24_init_3_42 : decode cJ24_init_3 42 = .ok (.aload_n 1, 1) := dk_43 (dk_at dksJ24_init_3_1 19 rfl rfl)
theorem dJ24_init_3_43 : decode cJ24_init_3 43 = .ok (.putfield 31, 3) := dk_181 0 31 (dk_at dksJ24_init_3_1 20 rfl rfl)
theorem dJ24_init_3_46 : decode cJ24_init_3 46 = .ok (.aload_n 0, 1) := dk_42 (dk_at dksJ24_init_3_1 23 rfl rfl)
theorem dJ24_init_3_47 : decode cJ24_init_3 47 = .ok (.aload_n 2, 1) := dk_44 (dk_at dksJ24_init_3_2 0 rfl rfl)
theorem dJ24_init_3_48 : decode cJ24_init_3 48 = .ok (.putfield 7, 3) := dk_181 0 7 (dk_at dksJ24_init_3_2 1 rfl rfl)
theorem dJ24_init_3_51 : decode cJ24_init_3 51 = .ok (.iload_n 3, 1) := dk_29 (dk_at dksJ24_init_3_2 4 rfl rfl)
theorem dJ24_init_3_52 : decode cJ24_init_3 52 = .ok (.ifCond .ne 8, 3) := dk_154 0 8 (dk_at dksJ24_init_3_2 5 rfl rfl)
theorem dJ24_init_3_55 : decode cJ24_init_3 55 = .ok (.aload_n 0, 1) := dk_42 (dk_at dksJ24_init_3_2 8 rfl rfl)
theorem dJ24_init_3_56 : decode cJ24_init_3 56 = .ok (.aconst_null, 1) := dk_1 (dk_at dksJ24_init_3_2 9 rfl rfl)
theorem dJ24_init_3_57 : decode cJ24_init_3 57 = .ok (.putfield 24, 3) := dk_181 0 24 (dk_at dksJ24_init_3_2 10 rfl rfl)
theorem dJ24_init_3_60 : decode cJ24_init_3 60 = .ok (.return_, 1) := dk_177 (dk_at dksJ24_init_3_2 13 rfl rfl)
theorem q140 : (Jvm.Cond.initialized "java/lang/Throwable") ∈ lw_all := lw_g (lw_at lw_m1 39 rfl) rfl
theorem q1430 : (Jvm.Cond.declares ({ cls := "java/lang/Throwable", name := "<init>", desc := "()V" } : Jvm.MethodName)) ∈ lw_tbl := lw_at lw_m6 129 rfl
theorem q1431 : (Jvm.Cond.declares ({ cls := "java/lang/Throwable", name := "<init>", desc := "(Ljava/lang/String;)V" } : Jvm.MethodName)) ∈ lw_tbl := lw_at lw_m6 130 rfl
theorem q1435 : (Jvm.Cond.lays "java/lang/Throwable" "java/lang/Throwable" "cause" "Ljava/lang/Throwable;") ∈ lw_all := lw_g (lw_at lw_m6 134 rfl) rfl
theorem q1437 : (Jvm.Cond.lays "java/lang/Throwable" "java/lang/Throwable" "stackTrace" "[Ljava/lang/StackTraceElement;") ∈ lw_all := lw_g (lw_at lw_m6 136 rfl) rfl
theorem q1439 : (Jvm.Cond.lays "java/lang/Throwable" "java/lang/Throwable" "suppressedExceptions" "Ljava/util/List;") ∈ lw_all := lw_g (lw_at lw_m6 138 rfl) rfl
theorem q1441 : (Jvm.Cond.lays "java/lang/Throwable" "java/lang/Throwable" "detailMessage" "Ljava/lang/String;") ∈ lw_all := lw_g (lw_at lw_m6 140 rfl) rfl
theorem q1443 : (Jvm.Cond.lays "java/lang/Throwable" "java/lang/Throwable" "backtrace" "Ljava/lang/Object;") ∈ lw_all := lw_g (lw_at lw_m6 142 rfl) rfl
theorem q1444 : (Jvm.Cond.fieldLink "java/lang/Throwable" (198 : Nat) "java/lang/Throwable" "backtrace" "Ljava/lang/Object;") ∈ lw_all := lw_g (lw_at lw_m6 143 rfl) rfl
theorem q1445 : (Jvm.Cond.superclass "java/lang/Throwable" "java/lang/Object") ∈ lw_all := lw_g (lw_at lw_m6 144 rfl) rfl
theorem q1446 : (Jvm.Cond.instanceMethod ({ cls := "java/lang/Throwable", name := "<init>", desc := "()V" } : Jvm.MethodName)) ∈ lw_all := lw_g (lw_at lw_m6 145 rfl) rfl
theorem q1447 : (Jvm.Cond.code ({ cls := "java/lang/Throwable", name := "<init>", desc := "()V" } : Jvm.MethodName) prog_51_method_1_code (1 : Nat) (Option.none : Option Jvm.ClassFile.FieldType)) ∈ lw_all := lw_g (lw_at lw_m6 146 rfl) rfl
theorem q1448 : (Jvm.Cond.methodLink "java/lang/Throwable" (1 : Nat) ({ cls := "java/lang/Object", name := "<init>", desc := "()V" } : Jvm.MethodName)) ∈ lw_all := lw_g (lw_at lw_m6 147 rfl) rfl
theorem q1449 : (Jvm.Cond.fieldLink "java/lang/Throwable" (13 : Nat) "java/lang/Throwable" "UNASSIGNED_STACK" "[Ljava/lang/StackTraceElement;") ∈ lw_all := lw_g (lw_at lw_m6 148 rfl) rfl
theorem q1450 : (Jvm.Cond.laysStatic "java/lang/Throwable" "UNASSIGNED_STACK" "[Ljava/lang/StackTraceElement;") ∈ lw_tbl := lw_at lw_m6 149 rfl
theorem q1451 : (Jvm.Cond.fieldLink "java/lang/Throwable" (20 : Nat) "java/lang/Throwable" "SUPPRESSED_SENTINEL" "Ljava/util/List;") ∈ lw_all := lw_g (lw_at lw_m6 150 rfl) rfl
theorem q1452 : (Jvm.Cond.laysStatic "java/lang/Throwable" "SUPPRESSED_SENTINEL" "Ljava/util/List;") ∈ lw_tbl := lw_at lw_m6 151 rfl
theorem q1453 : (Jvm.Cond.methodLink "java/lang/Throwable" (27 : Nat) ({ cls := "java/lang/Throwable", name := "fillInStackTrace", desc := "()Ljava/lang/Throwable;" } : Jvm.MethodName)) ∈ lw_all := lw_g (lw_at lw_m6 152 rfl) rfl
theorem q1454 : (Jvm.Cond.instanceMethod ({ cls := "java/lang/Throwable", name := "fillInStackTrace", desc := "()Ljava/lang/Throwable;" } : Jvm.MethodName)) ∈ lw_all := lw_g (lw_at lw_m6 153 rfl) rfl
theorem q1455 : (Jvm.Cond.sameMethod "java/lang/Throwable" "java/lang/Throwable" "fillInStackTrace" "()Ljava/lang/Throwable;") ∈ lw_all := lw_g (lw_at lw_m6 154 rfl) rfl
theorem q1459 : (Jvm.Cond.codeSync ({ cls := "java/lang/Throwable", name := "fillInStackTrace", desc := "()Ljava/lang/Throwable;" } : Jvm.MethodName) prog_51_method_18_code (1 : Nat) (Option.some (Jvm.ClassFile.FieldType.object "java/lang/Throwable"))) ∈ lw_all := lw_g (lw_at lw_m6 158 rfl) rfl
theorem q1460 : (Jvm.Cond.methodLink "java/lang/Throwable" (202 : Nat) ({ cls := "java/lang/Throwable", name := "fillInStackTrace", desc := "(I)Ljava/lang/Throwable;" } : Jvm.MethodName)) ∈ lw_all := lw_g (lw_at lw_m6 159 rfl) rfl
theorem q1461 : (Jvm.Cond.privateMethod ({ cls := "java/lang/Throwable", name := "fillInStackTrace", desc := "(I)Ljava/lang/Throwable;" } : Jvm.MethodName)) ∈ lw_tbl := lw_at lw_m6 160 rfl
theorem q1462 : (Jvm.Cond.instanceMethod ({ cls := "java/lang/Throwable", name := "fillInStackTrace", desc := "(I)Ljava/lang/Throwable;" } : Jvm.MethodName)) ∈ lw_all := lw_g (lw_at lw_m6 161 rfl) rfl
theorem q1463 : (Jvm.Cond.instantiable "java/lang/Throwable" (6 : Nat)) ∈ lw_all := lw_g (lw_at lw_m6 162 rfl) rfl
theorem q1464 : (Jvm.Cond.native ({ cls := "java/lang/Throwable", name := "fillInStackTrace", desc := "(I)Ljava/lang/Throwable;" } : Jvm.MethodName)) ∈ lw_all := lw_g (lw_at lw_m6 163 rfl) rfl
theorem q1475 : (Jvm.Cond.instanceMethod ({ cls := "java/lang/Throwable", name := "<init>", desc := "(Ljava/lang/Throwable;)V" } : Jvm.MethodName)) ∈ lw_all := lw_g (lw_at lw_m6 174 rfl) rfl
theorem q1476 : (Jvm.Cond.code ({ cls := "java/lang/Throwable", name := "<init>", desc := "(Ljava/lang/Throwable;)V" } : Jvm.MethodName) prog_51_method_4_code (2 : Nat) (Option.none : Option Jvm.ClassFile.FieldType)) ∈ lw_all := lw_g (lw_at lw_m6 175 rfl) rfl
theorem q1477 : (Jvm.Cond.methodLink "java/lang/Throwable" (35 : Nat) ({ cls := "java/lang/Throwable", name := "toString", desc := "()Ljava/lang/String;" } : Jvm.MethodName)) ∈ lw_all := lw_g (lw_at lw_m6 176 rfl) rfl
theorem q1478 : (Jvm.Cond.instanceMethod ({ cls := "java/lang/Throwable", name := "toString", desc := "()Ljava/lang/String;" } : Jvm.MethodName)) ∈ lw_all := lw_g (lw_at lw_m6 177 rfl) rfl
theorem q1479 : (Jvm.Cond.sameMethod "java/lang/Throwable" "java/lang/Throwable" "toString" "()Ljava/lang/String;") ∈ lw_all := lw_g (lw_at lw_m6 178 rfl) rfl
theorem q1484 : (Jvm.Cond.code ({ cls := "java/lang/Throwable", name := "toString", desc := "()Ljava/lang/String;" } : Jvm.MethodName) prog_51_method_11_code (3 : Nat) (Option.some (Jvm.ClassFile.FieldType.object "java/lang/String"))) ∈ lw_all := lw_g (lw_at lw_m6 183 rfl) rfl
theorem q1485 : (Jvm.Cond.methodLink "java/lang/Throwable" (69 : Nat) ({ cls := "java/lang/Object", name := "getClass", desc := "()Ljava/lang/Class;" } : Jvm.MethodName)) ∈ lw_all := lw_g (lw_at lw_m6 184 rfl) rfl
theorem q1486 : (Jvm.Cond.methodLink "java/lang/Throwable" (78 : Nat) ({ cls := "java/lang/Throwable", name := "getLocalizedMessage", desc := "()Ljava/lang/String;" } : Jvm.MethodName)) ∈ lw_all := lw_g (lw_at lw_m6 185 rfl) rfl
theorem q1487 : (Jvm.Cond.instanceMethod ({ cls := "java/lang/Throwable", name := "getLocalizedMessage", desc := "()Ljava/lang/String;" } : Jvm.MethodName)) ∈ lw_all := lw_g (lw_at lw_m6 186 rfl) rfl
theorem q1488 : (Jvm.Cond.sameMethod "java/lang/Throwable" "java/lang/Throwable" "getLocalizedMessage" "()Ljava/lang/String;") ∈ lw_all := lw_g (lw_at lw_m6 187 rfl) rfl
theorem q1493 : (Jvm.Cond.code ({ cls := "java/lang/Throwable", name := "getLocalizedMessage", desc := "()Ljava/lang/String;" } : Jvm.MethodName) prog_51_method_7_code (1 : Nat) (Option.some (Jvm.ClassFile.FieldType.object "java/lang/String"))) ∈ lw_all := lw_g (lw_at lw_m6 192 rfl) rfl
theorem q1494 : (Jvm.Cond.methodLink "java/lang/Throwable" (39 : Nat) ({ cls := "java/lang/Throwable", name := "getMessage", desc := "()Ljava/lang/String;" } : Jvm.MethodName)) ∈ lw_all := lw_g (lw_at lw_m6 193 rfl) rfl
theorem q1495 : (Jvm.Cond.instanceMethod ({ cls := "java/lang/Throwable", name := "getMessage", desc := "()Ljava/lang/String;" } : Jvm.MethodName)) ∈ lw_all := lw_g (lw_at lw_m6 194 rfl) rfl
theorem q1496 : (Jvm.Cond.sameMethod "java/lang/Throwable" "java/lang/Throwable" "getMessage" "()Ljava/lang/String;") ∈ lw_all := lw_g (lw_at lw_m6 195 rfl) rfl
theorem q1501 : (Jvm.Cond.code ({ cls := "java/lang/Throwable", name := "getMessage", desc := "()Ljava/lang/String;" } : Jvm.MethodName) prog_51_method_6_code (1 : Nat) (Option.some (Jvm.ClassFile.FieldType.object "java/lang/String"))) ∈ lw_all := lw_g (lw_at lw_m6 200 rfl) rfl
theorem q1502 : (Jvm.Cond.classLink "java/lang/Throwable" (44 : Nat) "java/lang/StringBuilder") ∈ lw_all := lw_g (lw_at lw_m6 201 rfl) rfl
theorem q1504 : (Jvm.Cond.methodLink "java/lang/Throwable" (46 : Nat) ({ cls := "java/lang/StringBuilder", name := "<init>", desc := "()V" } : Jvm.MethodName)) ∈ lw_all := lw_g (lw_at lw_m6 203 rfl) rfl
theorem q1530 : (Jvm.Cond.methodLink "java/lang/Throwable" (49 : Nat) ({ cls := "java/lang/StringBuilder", name := "append", desc := "(Ljava/lang/String;)Ljava/lang/StringBuilder;" } : Jvm.MethodName)) ∈ lw_all := lw_g (lw_at lw_m6 229 rfl) rfl
theorem q1611 : (Jvm.Cond.stringRef "java/lang/Throwable" (81 : Nat) ": ") ∈ lw_tbl := lw_at lw_m7 70 rfl
theorem q1612 : (Jvm.Cond.methodLink "java/lang/Throwable" (60 : Nat) ({ cls := "java/lang/StringBuilder", name := "toString", desc := "()Ljava/lang/String;" } : Jvm.MethodName)) ∈ lw_all := lw_g (lw_at lw_m7 71 rfl) rfl
theorem q1669 : (Jvm.Cond.fieldLink "java/lang/Throwable" (198 : Nat) "java/lang/Throwable" "backtrace" "Ljava/lang/Object;") ∈ lw_all := lw_g (lw_at lw_m7 128 rfl) rfl
theorem q1670 : (Jvm.Cond.fieldLink "java/lang/Throwable" (31 : Nat) "java/lang/Throwable" "detailMessage" "Ljava/lang/String;") ∈ lw_all := lw_g (lw_at lw_m7 129 rfl) rfl
theorem q1671 : (Jvm.Cond.fieldLink "java/lang/Throwable" (7 : Nat) "java/lang/Throwable" "cause" "Ljava/lang/Throwable;") ∈ lw_all := lw_g (lw_at lw_m7 130 rfl) rfl
theorem q1672 : (Jvm.Cond.fieldLink "java/lang/Throwable" (17 : Nat) "java/lang/Throwable" "stackTrace" "[Ljava/lang/StackTraceElement;") ∈ lw_all := lw_g (lw_at lw_m7 131 rfl) rfl
theorem q1673 : (Jvm.Cond.fieldLink "java/lang/Throwable" (24 : Nat) "java/lang/Throwable" "suppressedExceptions" "Ljava/util/List;") ∈ lw_all := lw_g (lw_at lw_m7 132 rfl) rfl
theorem q1674 : (Jvm.Cond.soleField "java/lang/Throwable" "backtrace") ∈ lw_all := lw_g (lw_at lw_m7 133 rfl) rfl
theorem q1675 : (Jvm.Cond.soleField "java/lang/Throwable" "detailMessage") ∈ lw_all := lw_g (lw_at lw_m7 134 rfl) rfl
theorem q1676 : (Jvm.Cond.soleField "java/lang/Throwable" "cause") ∈ lw_all := lw_g (lw_at lw_m7 135 rfl) rfl
theorem q1677 : (Jvm.Cond.soleField "java/lang/Throwable" "stackTrace") ∈ lw_all := lw_g (lw_at lw_m7 136 rfl) rfl
theorem q1679 : (Jvm.Cond.soleField "java/lang/Throwable" "depth") ∈ lw_all := lw_g (lw_at lw_m7 138 rfl) rfl
theorem q1680 : (Jvm.Cond.soleField "java/lang/Throwable" "suppressedExceptions") ∈ lw_all := lw_g (lw_at lw_m7 139 rfl) rfl
theorem q2796 : (Jvm.Cond.instanceMethod ({ cls := "java/lang/Throwable", name := "<init>", desc := "(Ljava/lang/String;Ljava/lang/Throwable;ZZ)V" } : Jvm.MethodName)) ∈ lw_all := lw_g (lw_at lw_m12 55 rfl) rfl
theorem q2797 : (Jvm.Cond.code ({ cls := "java/lang/Throwable", name := "<init>", desc := "(Ljava/lang/String;Ljava/lang/Throwable;ZZ)V" } : Jvm.MethodName) prog_51_method_5_code (5 : Nat) (Option.none : Option Jvm.ClassFile.FieldType)) ∈ lw_all := lw_g (lw_at lw_m12 56 rfl) rfl
theorem q3389 : (Jvm.Cond.sameMethod "java/lang/Throwable" "java/lang/Throwable" "fillInStackTrace" "(I)Ljava/lang/Throwable;") ∈ lw_all := lw_g (lw_at lw_m14 168 rfl) rfl
theorem q3465 : (Jvm.Cond.castable "java/lang/Throwable" "java/lang/Object") ∈ lw_tbl := lw_at lw_m15 4 rfl
theorem in_J24 : ∀ w ∈ wsJ240, w ∈ lw_all := lw_in wsJ240 [1435, 1437, 1439, 1441, 1443] (by decide +kernel) (by decide +kernel)

/-! java/lang/Exception -/
set_option maxRecDepth 100000
def RJ25 : String := "java/lang/Exception"
abbrev cJ25_init : ByteArray := prog_37_method_4_code
def yJ25_init : MethodName := ⟨RJ25, "<init>", "(Ljava/lang/Throwable;)V"⟩
def dkwJ25_init_0 : List UInt8 := [42, 43, 183, 0, 13, 177]
abbrev dktJ25_init_0 : List UInt8 := dkwJ25_init_0 ++ []
theorem dksJ25_init_0 : cJ25_init.data.toList.drop 0 = dktJ25_init_0 := by decide +kernel
theorem dJ25_init_0 : decode cJ25_init 0 = .ok (.aload_n 0, 1) := dk_42 (dk_at dksJ25_init_0 0 rfl rfl)
theorem dJ25_init_1 : decode cJ25_init 1 = .ok (.aload_n 1, 1) := dk_43 (dk_at dksJ25_init_0 1 rfl rfl)
theorem dJ25_init_2 : decode cJ25_init 2 = .ok (.invokespecial 13, 3) := dk_183 0 13 (dk_at dksJ25_init_0 2 rfl rfl)
theorem dJ25_init_5 : decode cJ25_init 5 = .ok (.return_, 1) := dk_177 (dk_at dksJ25_init_0 5 rfl rfl)
abbrev cJ25_init_2 : ByteArray := prog_37_method_1_code
def yJ25_init_2 : MethodName := ⟨RJ25, "<init>", "()V"⟩
theorem dJ25_init_2_0 : decode cJ25_init_2 0 = .ok (.aload_n 0, 1) := by decide +kernel
theorem dJ25_init_2_1 : decode cJ25_init_2 1 = .ok (.invokespecial 1, 3) := by decide +kernel
theorem dJ25_init_2_4 : decode cJ25_init_2 4 = .ok (.return_, 1) := by decide +kernel
abbrev cJ25_init_3 : ByteArray := prog_37_method_5_code
def yJ25_init_3 : MethodName := ⟨RJ25, "<init>", "(Ljava/lang/String;Ljava/lang/Throwable;ZZ)V"⟩
def dkwJ25_init_3_0 : List UInt8 := [42, 43, 44, 29, 21, 4, 183, 0, 16, 177]
abbrev dktJ25_init_3_0 : List UInt8 := dkwJ25_init_3_0 ++ []
theorem dksJ25_init_3_0 : cJ25_init_3.data.toList.drop 0 = dktJ25_init_3_0 := by decide +kernel
theorem dJ25_init_3_0 : decode cJ25_init_3 0 = .ok (.aload_n 0, 1) := dk_42 (dk_at dksJ25_init_3_0 0 rfl rfl)
theorem dJ25_init_3_1 : decode cJ25_init_3 1 = .ok (.aload_n 1, 1) := dk_43 (dk_at dksJ25_init_3_0 1 rfl rfl)
theorem dJ25_init_3_2 : decode cJ25_init_3 2 = .ok (.aload_n 2, 1) := dk_44 (dk_at dksJ25_init_3_0 2 rfl rfl)
theorem dJ25_init_3_3 : decode cJ25_init_3 3 = .ok (.iload_n 3, 1) := dk_29 (dk_at dksJ25_init_3_0 3 rfl rfl)
theorem dJ25_init_3_4 : decode cJ25_init_3 4 = .ok (.iload 4, 2) := dk_21 4 (dk_at dksJ25_init_3_0 4 rfl rfl)
theorem dJ25_init_3_6 : decode cJ25_init_3 6 = .ok (.invokespecial 16, 3) := dk_183 0 16 (dk_at dksJ25_init_3_0 6 rfl rfl)
theorem dJ25_init_3_9 : decode cJ25_init_3 9 = .ok (.return_, 1) := dk_177 (dk_at dksJ25_init_3_0 9 rfl rfl)
theorem q141 : (Jvm.Cond.initialized "java/lang/Exception") ∈ lw_all := lw_g (lw_at lw_m1 40 rfl) rfl
theorem q1428 : (Jvm.Cond.declares ({ cls := "java/lang/Exception", name := "<init>", desc := "()V" } : Jvm.MethodName)) ∈ lw_tbl := lw_at lw_m6 127 rfl
theorem q1429 : (Jvm.Cond.declares ({ cls := "java/lang/Exception", name := "<init>", desc := "(Ljava/lang/String;)V" } : Jvm.MethodName)) ∈ lw_tbl := lw_at lw_m6 128 rfl
theorem q1472 : (Jvm.Cond.instanceMethod ({ cls := "java/lang/Exception", name := "<init>", desc := "(Ljava/lang/Throwable;)V" } : Jvm.MethodName)) ∈ lw_all := lw_g (lw_at lw_m6 171 rfl) rfl
theorem q1473 : (Jvm.Cond.code ({ cls := "java/lang/Exception", name := "<init>", desc := "(Ljava/lang/Throwable;)V" } : Jvm.MethodName) prog_37_method_4_code (2 : Nat) (Option.none : Option Jvm.ClassFile.FieldType)) ∈ lw_all := lw_g (lw_at lw_m6 172 rfl) rfl
theorem q1474 : (Jvm.Cond.methodLink "java/lang/Exception" (13 : Nat) ({ cls := "java/lang/Throwable", name := "<init>", desc := "(Ljava/lang/Throwable;)V" } : Jvm.MethodName)) ∈ lw_all := lw_g (lw_at lw_m6 173 rfl) rfl
theorem q1994 : (Jvm.Cond.instanceMethod ({ cls := "java/lang/Exception", name := "<init>", desc := "()V" } : Jvm.MethodName)) ∈ lw_all := lw_g (lw_at lw_m8 213 rfl) rfl
theorem q1995 : (Jvm.Cond.code ({ cls := "java/lang/Exception", name := "<init>", desc := "()V" } : Jvm.MethodName) prog_37_method_1_code (1 : Nat) (Option.none : Option Jvm.ClassFile.FieldType)) ∈ lw_all := lw_g (lw_at lw_m8 214 rfl) rfl
theorem q1996 : (Jvm.Cond.methodLink "java/lang/Exception" (1 : Nat) ({ cls := "java/lang/Throwable", name := "<init>", desc := "()V" } : Jvm.MethodName)) ∈ lw_all := lw_g (lw_at lw_m8 215 rfl) rfl
theorem q2793 : (Jvm.Cond.instanceMethod ({ cls := "java/lang/Exception", name := "<init>", desc := "(Ljava/lang/String;Ljava/lang/Throwable;ZZ)V" } : Jvm.MethodName)) ∈ lw_all := lw_g (lw_at lw_m12 52 rfl) rfl
theorem q2794 : (Jvm.Cond.code ({ cls := "java/lang/Exception", name := "<init>", desc := "(Ljava/lang/String;Ljava/lang/Throwable;ZZ)V" } : Jvm.MethodName) prog_37_method_5_code (5 : Nat) (Option.none : Option Jvm.ClassFile.FieldType)) ∈ lw_all := lw_g (lw_at lw_m12 53 rfl) rfl
theorem q2795 : (Jvm.Cond.methodLink "java/lang/Exception" (16 : Nat) ({ cls := "java/lang/Throwable", name := "<init>", desc := "(Ljava/lang/String;Ljava/lang/Throwable;ZZ)V" } : Jvm.MethodName)) ∈ lw_all := lw_g (lw_at lw_m12 54 rfl) rfl

/-! java/util/LinkedList$Node -/
set_option maxRecDepth 100000
def RJ30 : String := "java/util/LinkedList$Node"
def TJ30 : u_T := fun k => match k with
  | 0 => ("java/util/LinkedList$Node", "item", "Ljava/lang/Object;", false)
  | 1 => ("java/util/LinkedList$Node", "next", "Ljava/util/LinkedList$Node;", false)
  | _ => ("java/util/LinkedList$Node", "prev", "Ljava/util/LinkedList$Node;", false)
def tyJ30 : Nat → FieldType := fun k => match k with
  | 0 => .object "java/lang/Object"
  | 1 => .object "java/util/LinkedList$Node"
  | _ => .object "java/util/LinkedList$Node"
abbrev wsJ300 : List Cond := u_ws RJ30 TJ30 3
theorem nmJ30 : ∀ a, a < 3 → ∀ b, b < 3 → a ≠ b → (TJ30 a).2.1 ≠ (TJ30 b).2.1 := by decide +kernel
theorem tyJ30_ok : ∀ k, k < 3 → parseFieldDescriptor (TJ30 k).2.2.1 = some (tyJ30 k) := by decide +kernel
abbrev cJ30_init : ByteArray := prog_75_method_1_code
def yJ30_init : MethodName := ⟨RJ30, "<init>", "(Ljava/util/LinkedList$Node;Ljava/lang/Object;Ljava/util/LinkedList$Node;)V"⟩
def dkwJ30_init_0 : List UInt8 := [42, 183, 0, 1, 42, 44, 181, 0, 7, 42, 45, 181, 0, 13, 42, 43, 181, 0, 17, 177]
abbrev dktJ30_init_0 : List UInt8 := dkwJ30_init_0 ++ []
theorem dksJ30_init_0 : cJ30_init.data.toList.drop 0 = dktJ30_init_0 := by decide +kernel
theorem dJ30_init_0 : decode cJ30_init 0 = .ok (.aload_n 0, 1) := dk_42 (dk_at dksJ30_init_0 0 rfl rfl)
theorem dJ30_init_1 : decode cJ30_init 1 = .ok (.invokespecial 1, 3) := dk_183 0 1 (dk_at dksJ30_init_0 1 rfl rfl)
theorem dJ30_init_4 : decode cJ30_init 4 = .ok (.aload_n 0, 1) := dk_42 (dk_at dksJ30_init_0 4 rfl rfl)
theorem dJ30_init_5 : decode cJ30_init 5 = .ok (.aload_n 2, 1) := dk_44 (dk_at dksJ30_init_0 5 rfl rfl)
theorem dJ30_init_6 : decode cJ30_init 6 = .ok (.putfield 7, 3) := dk_181 0 7 (dk_at dksJ30_init_0 6 rfl rfl)
theorem dJ30_init_9 : decode cJ30_init 9 = .ok (.aload_n 0, 1) := dk_42 (dk_at dksJ30_init_0 9 rfl rfl)
theorem dJ30_init_10 : decode cJ30_init 10 = .ok (.aload_n 3, 1) := dk_45 (dk_at dksJ30_init_0 10 rfl rfl)
theorem dJ30_init_11 : decode cJ30_init 11 = .ok (.putfield 13, 3) := dk_181 0 13 (dk_at dksJ30_init_0 11 rfl rfl)
theorem dJ30_init_14 : decode cJ30_init 14 = .ok (.aload_n 0, 1) := dk_42 (dk_at dksJ30_init_0 14 rfl rfl)
theorem dJ30_init_15 : decode cJ30_init 15 = .ok (.aload_n 1, 1) := dk_43 (dk_at dksJ30_init_0 15 rfl rfl)
theorem dJ30_init_16 : decode cJ30_init 16 = .ok (.putfield 17, 3) := dk_181 0 17 (dk_at dksJ30_init_0 16 rfl rfl)
theorem dJ30_init_19 : decode cJ30_init 19 = .ok (.return_, 1) := dk_177 (dk_at dksJ30_init_0 19 rfl rfl)
theorem q147 : (Jvm.Cond.initialized "java/util/LinkedList$Node") ∈ lw_all := lw_g (lw_at lw_m1 46 rfl) rfl
theorem q712 : (Jvm.Cond.selects "java/util/LinkedList$Node" ({ cls := "java/lang/Object", name := "getClass", desc := "()Ljava/lang/Class;" } : Jvm.MethodName) ({ cls := "java/lang/Object", name := "getClass", desc := "()Ljava/lang/Class;" } : Jvm.MethodName)) ∈ lw_all := lw_g (lw_at lw_m3 131 rfl) rfl
theorem q1782 : (Jvm.Cond.instantiable "java/util/LinkedList$Node" (3 : Nat)) ∈ lw_all := lw_g (lw_at lw_m8 1 rfl) rfl
theorem q1784 : (Jvm.Cond.instanceMethod ({ cls := "java/util/LinkedList$Node", name := "<init>", desc := "(Ljava/util/LinkedList$Node;Ljava/lang/Object;Ljava/util/LinkedList$Node;)V" } : Jvm.MethodName)) ∈ lw_all := lw_g (lw_at lw_m8 3 rfl) rfl
theorem q1785 : (Jvm.Cond.code ({ cls := "java/util/LinkedList$Node", name := "<init>", desc := "(Ljava/util/LinkedList$Node;Ljava/lang/Object;Ljava/util/LinkedList$Node;)V" } : Jvm.MethodName) prog_75_method_1_code (4 : Nat) (Option.none : Option Jvm.ClassFile.FieldType)) ∈ lw_all := lw_g (lw_at lw_m8 4 rfl) rfl
theorem q1786 : (Jvm.Cond.methodLink "java/util/LinkedList$Node" (1 : Nat) ({ cls := "java/lang/Object", name := "<init>", desc := "()V" } : Jvm.MethodName)) ∈ lw_all := lw_g (lw_at lw_m8 5 rfl) rfl
theorem q1787 : (Jvm.Cond.fieldLink "java/util/LinkedList$Node" (7 : Nat) "java/util/LinkedList$Node" "item" "Ljava/lang/Object;") ∈ lw_all := lw_g (lw_at lw_m8 6 rfl) rfl
theorem q1790 : (Jvm.Cond.fieldLink "java/util/LinkedList$Node" (13 : Nat) "java/util/LinkedList$Node" "next" "Ljava/util/LinkedList$Node;") ∈ lw_all := lw_g (lw_at lw_m8 9 rfl) rfl
theorem q1793 : (Jvm.Cond.fieldLink "java/util/LinkedList$Node" (17 : Nat) "java/util/LinkedList$Node" "prev" "Ljava/util/LinkedList$Node;") ∈ lw_all := lw_g (lw_at lw_m8 12 rfl) rfl
theorem q1795 : (Jvm.Cond.lays "java/util/LinkedList$Node" "java/util/LinkedList$Node" "item" "Ljava/lang/Object;") ∈ lw_all := lw_g (lw_at lw_m8 14 rfl) rfl
theorem q1796 : (Jvm.Cond.soleField "java/util/LinkedList$Node" "item") ∈ lw_all := lw_g (lw_at lw_m8 15 rfl) rfl
theorem q1797 : (Jvm.Cond.lays "java/util/LinkedList$Node" "java/util/LinkedList$Node" "next" "Ljava/util/LinkedList$Node;") ∈ lw_all := lw_g (lw_at lw_m8 16 rfl) rfl
theorem q1798 : (Jvm.Cond.soleField "java/util/LinkedList$Node" "next") ∈ lw_all := lw_g (lw_at lw_m8 17 rfl) rfl
theorem q1799 : (Jvm.Cond.lays "java/util/LinkedList$Node" "java/util/LinkedList$Node" "prev" "Ljava/util/LinkedList$Node;") ∈ lw_all := lw_g (lw_at lw_m8 18 rfl) rfl
theorem q1800 : (Jvm.Cond.soleField "java/util/LinkedList$Node" "prev") ∈ lw_all := lw_g (lw_at lw_m8 19 rfl) rfl
theorem q1801 : (Jvm.Cond.superclass "java/util/LinkedList$Node" "java/lang/Object") ∈ lw_all := lw_g (lw_at lw_m8 20 rfl) rfl
theorem q3437 : (Jvm.Cond.castable "java/util/LinkedList$Node" "java/lang/Object") ∈ lw_tbl := lw_at lw_m14 216 rfl
theorem in_J30 : ∀ w ∈ wsJ300, w ∈ lw_all := lw_in wsJ300 [1795, 1797, 1799] (by decide +kernel) (by decide +kernel)

/-! java/util/ArrayList$Itr -/
set_option maxRecDepth 100000
def RJ32 : String := "java/util/ArrayList$Itr"
def TJ32 : u_T := fun k => match k with
  | 0 => ("java/util/ArrayList$Itr", "cursor", "I", false)
  | 1 => ("java/util/ArrayList$Itr", "lastRet", "I", false)
  | 2 => ("java/util/ArrayList$Itr", "expectedModCount", "I", false)
  | _ => ("java/util/ArrayList$Itr", "this$0", "Ljava/util/ArrayList;", true)
def tyJ32 : Nat → FieldType := fun k => match k with
  | 0 => .int
  | 1 => .int
  | 2 => .int
  | _ => .object "java/util/ArrayList"
abbrev wsJ320 : List Cond := u_ws RJ32 TJ32 4
theorem nmJ32 : ∀ a, a < 4 → ∀ b, b < 4 → a ≠ b → (TJ32 a).2.1 ≠ (TJ32 b).2.1 := by decide +kernel
theorem tyJ32_ok : ∀ k, k < 4 → parseFieldDescriptor (TJ32 k).2.2.1 = some (tyJ32 k) := by decide +kernel
abbrev cJ32_hasNext : ByteArray := prog_65_method_2_code
def yJ32_hasNext : MethodName := ⟨RJ32, "hasNext", "()Z"⟩
def dkwJ32_hasNext_0 : List UInt8 := [42, 180, 0, 25, 42, 180, 0, 1, 180, 0, 28, 159, 0, 7, 4, 167, 0, 4, 3, 172]
abbrev dktJ32_hasNext_0 : List UInt8 := dkwJ32_hasNext_0 ++ []
theorem dksJ32_hasNext_0 : cJ32_hasNext.data.toList.drop 0 = dktJ32_hasNext_0 := by decide +kernel
theorem dJ32_hasNext_0 : decode cJ32_hasNext 0 = .ok (.aload_n 0, 1) := dk_42 (dk_at dksJ32_hasNext_0 0 rfl rfl)
theorem dJ32_hasNext_1 : decode cJ32_hasNext 1 = .ok (.getfield 25, 3) := dk_180 0 25 (dk_at dksJ32_hasNext_0 1 rfl rfl)
theorem dJ32_hasNext_4 : decode cJ32_hasNext 4 = .ok (.aload_n 0, 1) := dk_42 (dk_at dksJ32_hasNext_0 4 rfl rfl)
theorem dJ32_hasNext_5 : decode cJ32_hasNext 5 = .ok (.getfield 1, 3) := dk_180 0 1 (dk_at dksJ32_hasNext_0 5 rfl rfl)
theorem dJ32_hasNext_8 : decode cJ32_hasNext 8 = .ok (.getfield 28, 3) := dk_180 0 28 (dk_at dksJ32_hasNext_0 8 rfl rfl)
theorem dJ32_hasNext_11 : decode cJ32_hasNext 11 = .ok (.if_icmp .eq 7, 3) := dk_159 0 7 (dk_at dksJ32_hasNext_0 11 rfl rfl)
theorem dJ32_hasNext_14 : decode cJ32_hasNext 14 = .ok (.iconst 1, 1) := dk_4 (dk_at dksJ32_hasNext_0 14 rfl rfl)
theorem dJ32_hasNext_15 : decode cJ32_hasNext 15 = .ok (.goto 4, 3) := dk_167 0 4 (dk_at dksJ32_hasNext_0 15 rfl rfl)
theorem dJ32_hasNext_18 : decode cJ32_hasNext 18 = .ok (.iconst 0, 1) := dk_3 (dk_at dksJ32_hasNext_0 18 rfl rfl)
theorem dJ32_hasNext_19 : decode cJ32_hasNext 19 = .ok (.ireturn, 1) := dk_172 (dk_at dksJ32_hasNext_0 19 rfl rfl)
abbrev cJ32_next : ByteArray := prog_65_method_3_code
def yJ32_next : MethodName := ⟨RJ32, "next", "()Ljava/lang/Object;"⟩
def dkwJ32_next_2 : List UInt8 := [183, 0, 43, 191, 42, 27, 4, 96, 181, 0, 25, 44, 42, 27, 90, 181, 0, 13, 50, 176]
abbrev dktJ32_next_2 : List UInt8 := dkwJ32_next_2 ++ []
def dkwJ32_next_1 : List UInt8 := [183, 0, 36, 191, 42, 180, 0, 1, 180, 0, 37, 77, 27, 44, 190, 161, 0, 11, 187, 0, 41, 89]
abbrev dktJ32_next_1 : List UInt8 := dkwJ32_next_1 ++ dktJ32_next_2
def dkwJ32_next_0 : List UInt8 := [42, 182, 0, 31, 42, 180, 0, 25, 60, 27, 42, 180, 0, 1, 180, 0, 28, 161, 0, 11, 187, 0, 34, 89]
abbrev dktJ32_next_0 : List UInt8 := dkwJ32_next_0 ++ dktJ32_next_1
theorem dksJ32_next_0 : cJ32_next.data.toList.drop 0 = dktJ32_next_0 := by decide +kernel
theorem dksJ32_next_1 : cJ32_next.data.toList.drop 24 = dktJ32_next_1 := dk_seg dksJ32_next_0 24 rfl rfl
theorem dksJ32_next_2 : cJ32_next.data.toList.drop 46 = dktJ32_next_2 := dk_seg dksJ32_next_1 22 rfl rfl
theorem dJ32_next_0 : decode cJ32_next 0 = .ok (.aload_n 0, 1) := dk_42 (dk_at dksJ32_next_0 0 rfl rfl)
theorem dJ32_next_1 : decode cJ32_next 1 = .ok (.invokevirtual 31, 3) := dk_182 0 31 (dk_at dksJ32_next_0 1 rfl rfl)
theorem dJ32_next_4 : decode cJ32_next 4 = .ok (.aload_n 0, 1) := dk_42 (dk_at dksJ32_next_0 4 rfl rfl)
theorem dJ32_next_5 : decode cJ32_next 5 = .ok (.getfield 25, 3) := dk_180 0 25 (dk_at dksJ32_next_0 5 rfl rfl)
theorem dJ32_next_8 : decode cJ32_next 8 = .ok (.istore_n 1, 1) := dk_60 (dk_at dksJ32_next_0 8 rfl rfl)
theorem dJ32_next_9 : decode cJ32_next 9 = .ok (.iload_n 1, 1) := dk_27 (dk_at dksJ32_next_0 9 rfl rfl)
theorem dJ32_next_10 : decode cJ32_next 10 = .ok (.aload_n 0, 1) := dk_42 (dk_at dksJ32_next_0 10 rfl rfl)
theorem dJ32_next_11 : decode cJ32_next 11 = .ok (.getfield 1, 3) := dk_180 0 1 (dk_at dksJ32_next_0 11 rfl rfl)
theorem dJ32_next_14 : decode cJ32_next 14 = .ok (.getfield 28, 3) := dk_180 0 28 (dk_at dksJ32_next_0 14 rfl rfl)
theorem dJ32_next_17 : decode cJ32_next 17 = .ok (.if_icmp .lt 11, 3) := dk_161 0 11 (dk_at dksJ32_next_0 17 rfl rfl)
theorem dJ32_next_20 : decode cJ32_next 20 = .ok (.new 34, 3) := dk_187 0 34 (dk_at dksJ32_next_0 20 rfl rfl)
theorem dJ32_next_23 : decode cJ32_next 23 = .ok (.dup, 1) := dk_89 (dk_at dksJ32_next_0 23 rfl rfl)
theorem dJ32_next_24 : decode cJ32_next 24 = .ok (.invokespecial 36, 3) := dk_183 0 36 (dk_at dksJ32_next_1 0 rfl rfl)
theorem dJ32_next_27 : decode cJ32_next 27 = .ok (.athrow, 1) := dk_191 (dk_at dksJ32_next_1 3 rfl rfl)
theorem dJ32_next_28 : decode cJ32_next 28 = .ok (.aload_n 0, 1) := dk_42 (dk_at dksJ32_next_1 4 rfl rfl)
theorem dJ32_next_29 : decode cJ32_next 29 = .ok (.getfield 1, 3) := dk_180 0 1 (dk_at dksJ32_next_1 5 rfl rfl)
theorem dJ32_next_32 : decode cJ32_next 32 = .ok (.getfield 37, 3) := dk_180 0 37 (dk_at dksJ32_next_1 8 rfl rfl)
theorem dJ32_next_35 : decode cJ32_next 35 = .ok (.astore_n 2, 1) := dk_77 (dk_at dksJ32_next_1 11 rfl rfl)
theorem dJ32_next_36 : decode cJ32_next 36 = .ok (.iload_n 1, 1) := dk_27 (dk_at dksJ32_next_1 12 rfl rfl)
theorem dJ32_next_37 : decode cJ32_next 37 = .ok (.aload_n 2, 1) := dk_44 (dk_at dksJ32_next_1 13 rfl rfl)
theorem dJ32_next_38 : decode cJ32_next 38 = .ok (.arraylength, 1) := dk_190 (dk_at dksJ32_next_1 14 rfl rfl)
theorem dJ32_next_39 : decode cJ32_next 39 = .ok (.if_icmp .lt 11, 3) := dk_161 0 11 (dk_at dksJ32_next_1 15 rfl rfl)
theorem dJ32_next_42 : decode cJ32_next 42 = .ok (.new 41, 3) := dk_187 0 41 (dk_at dksJ32_next_1 18 rfl rfl)
theorem dJ32_next_45 : decode cJ32_next 45 = .ok (.dup, 1) := dk_89 (dk_at dksJ32_next_1 21 rfl rfl)
theorem dJ32_next_46 : decode cJ32_next 46 = .ok (.invokespecial 43, 3) := dk_183 0 43 (dk_at dksJ32_next_2 0 rfl rfl)
theorem dJ32_next_49 : decode cJ32_next 49 = .ok (.athrow, 1) := dk_191 (dk_at dksJ32_next_2 3 rfl rfl)
theorem dJ32_next_50 : decode cJ32_next 50 = .ok (.aload_n 0, 1) := dk_42 (dk_at dksJ32_next_2 4 rfl rfl)
theorem dJ32_next_51 : decode cJ32_next 51 = .ok (.iload_n 1, 1) := dk_27 (dk_at dksJ32_next_2 5 rfl rfl)
theorem dJ32_next_52 : decode cJ32_next 52 = .ok (.iconst 1, 1) := dk_4 (dk_at dksJ32_next_2 6 rfl rfl)
theorem dJ32_next_53 : decode cJ32_next 53 = .ok (.iadd, 1) := dk_96 (dk_at dksJ32_next_2 7 rfl rfl)
theorem dJ32_next_54 : decode cJ32_next 54 = .ok (.putfield 25, 3) := dk_181 0 25 (dk_at dksJ32_next_2 8 rfl rfl)
theorem dJ32_next_57 : decode cJ32_next 57 = .ok (.aload_n 2, 1) := dk_44 (dk_at dksJ32_next_2 11 rfl rfl)
theorem dJ32_next_58 : decode cJ32_next 58 = .ok (.aload_n 0, 1) := dk_42 (dk_at dksJ32_next_2 12 rfl rfl)
theorem dJ32_next_59 : decode cJ32_next 59 = .ok (.iload_n 1, 1) := dk_27 (dk_at dksJ32_next_2 13 rfl rfl)
theorem dJ32_next_60 : decode cJ32_next 60 = .ok (.dup_x1, 1) := dk_90 (dk_at dksJ32_next_2 14 rfl rfl)
theorem dJ32_next_61 : decode cJ32_next 61 = .ok (.putfield 13, 3) := dk_181 0 13 (dk_at dksJ32_next_2 15 rfl rfl)
theorem dJ32_next_64 : decode cJ32_next 64 = .ok (.aaload, 1) := dk_50 (dk_at dksJ32_next_2 18 rfl rfl)
theorem dJ32_next_65 : decode cJ32_next 65 = .ok (.areturn, 1) := dk_176 (dk_at dksJ32_next_2 19 rfl rfl)
abbrev cJ32_checkForComodification : ByteArray := prog_65_method_6_code
def yJ32_checkForComodification : MethodName := ⟨RJ32, "checkForComodification", "()V"⟩
def dkwJ32_checkForComodification_0 : List UInt8 := [42, 180, 0, 1, 180, 0, 17, 42, 180, 0, 22, 159, 0, 11, 187, 0, 41, 89, 183, 0, 43, 191, 177]
abbrev dktJ32_checkForComodification_0 : List UInt8 := dkwJ32_checkForComodification_0 ++ []
theorem dksJ32_checkForComodification_0 : cJ32_checkForComodification.data.toList.drop 0 = dktJ32_checkForComodification_0 := by decide +kernel
theorem dJ32_checkForComodification_0 : decode cJ32_checkForComodification 0 = .ok (.aload_n 0, 1) := dk_42 (dk_at dksJ32_checkForComodification_0 0 rfl rfl)
theorem dJ32_checkForComodification_1 : decode cJ32_checkForComodification 1 = .ok (.getfield 1, 3) := dk_180 0 1 (dk_at dksJ32_checkForComodification_0 1 rfl rfl)
theorem dJ32_checkForComodification_4 : decode cJ32_checkForComodification 4 = .ok (.getfield 17, 3) := dk_180 0 17 (dk_at dksJ32_checkForComodification_0 4 rfl rfl)
theorem dJ32_checkForComodification_7 : decode cJ32_checkForComodification 7 = .ok (.aload_n 0, 1) := dk_42 (dk_at dksJ32_checkForComodification_0 7 rfl rfl)
theorem dJ32_checkForComodification_8 : decode cJ32_checkForComodification 8 = .ok (.getfield 22, 3) := dk_180 0 22 (dk_at dksJ32_checkForComodification_0 8 rfl rfl)
theorem dJ32_checkForComodification_11 : decode cJ32_checkForComodification 11 = .ok (.if_icmp .eq 11, 3) := dk_159 0 11 (dk_at dksJ32_checkForComodification_0 11 rfl rfl)
theorem dJ32_checkForComodification_14 : decode cJ32_checkForComodification 14 = .ok (.new 41, 3) := dk_187 0 41 (dk_at dksJ32_checkForComodification_0 14 rfl rfl)
theorem dJ32_checkForComodification_17 : decode cJ32_checkForComodification 17 = .ok (.dup, 1) := dk_89 (dk_at dksJ32_checkForComodification_0 17 rfl rfl)
theorem dJ32_checkForComodification_18 : decode cJ32_checkForComodification 18 = .ok (.invokespecial 43, 3) := dk_183 0 43 (dk_at dksJ32_checkForComodification_0 18 rfl rfl)
theorem dJ32_checkForComodification_21 : decode cJ32_checkForComodification 21 = .ok (.athrow, 1) := dk_191 (dk_at dksJ32_checkForComodification_0 21 rfl rfl)
theorem dJ32_checkForComodification_22 : decode cJ32_checkForComodification 22 = .ok (.return_, 1) := dk_177 (dk_at dksJ32_checkForComodification_0 22 rfl rfl)
abbrev cJ32_init : ByteArray := prog_65_method_1_code
def yJ32_init : MethodName := ⟨RJ32, "<init>", "(Ljava/util/ArrayList;)V"⟩
def dkwJ32_init_1 : List UInt8 := [181, 0, 22, 177]
abbrev dktJ32_init_1 : List UInt8 := dkwJ32_init_1 ++ []
def dkwJ32_init_0 : List UInt8 := [42, 43, 181, 0, 1, 42, 183, 0, 7, 42, 2, 181, 0, 13, 42, 42, 180, 0, 1, 180, 0, 17]
abbrev dktJ32_init_0 : List UInt8 := dkwJ32_init_0 ++ dktJ32_init_1
theorem dksJ32_init_0 : cJ32_init.data.toList.drop 0 = dktJ32_init_0 := by decide +kernel
theorem dksJ32_init_1 : cJ32_init.data.toList.drop 22 = dktJ32_init_1 := dk_seg dksJ32_init_0 22 rfl rfl
theorem dJ32_init_0 : decode cJ32_init 0 = .ok (.aload_n 0, 1) := dk_42 (dk_at dksJ32_init_0 0 rfl rfl)
theorem dJ32_init_1 : decode cJ32_init 1 = .ok (.aload_n 1, 1) := dk_43 (dk_at dksJ32_init_0 1 rfl rfl)
theorem dJ32_init_2 : decode cJ32_init 2 = .ok (.putfield 1, 3) := dk_181 0 1 (dk_at dksJ32_init_0 2 rfl rfl)
theorem dJ32_init_5 : decode cJ32_init 5 = .ok (.aload_n 0, 1) := dk_42 (dk_at dksJ32_init_0 5 rfl rfl)
theorem dJ32_init_6 : decode cJ32_init 6 = .ok (.invokespecial 7, 3) := dk_183 0 7 (dk_at dksJ32_init_0 6 rfl rfl)
theorem dJ32_init_9 : decode cJ32_init 9 = .ok (.aload_n 0, 1) := dk_42 (dk_at dksJ32_init_0 9 rfl rfl)
theorem dJ32_init_10 : decode cJ32_init 10 = .ok (.iconst (-1), 1) := dk_2 (dk_at dksJ32_init_0 10 rfl rfl)
theorem dJ32_init_11 : decode cJ32_init 11 = .ok (.putfield 13, 3) := dk_181 0 13 (dk_at dksJ32_init_0 11 rfl rfl)
theorem dJ32_init_14 : decode cJ32_init 14 = .ok (.aload_n 0, 1) := dk_42 (dk_at dksJ32_init_0 14 rfl rfl)
theorem dJ32_init_15 : decode cJ32_init 15 = .ok (.aload_n 0, 1) := dk_42 (dk_at dksJ32_init_0 15 rfl rfl)
theorem dJ32_init_16 : decode cJ32_init 16 = .ok (.getfield 1, 3) := dk_180 0 1 (dk_at dksJ32_init_0 16 rfl rfl)
theorem dJ32_init_19 : decode cJ32_init 19 = .ok (.getfield 17, 3) := dk_180 0 17 (dk_at dksJ32_init_0 19 rfl rfl)
theorem dJ32_init_22 : decode cJ32_init 22 = .ok (.putfield 22, 3) := dk_181 0 22 (dk_at dksJ32_init_1 0 rfl rfl)
theorem dJ32_init_25 : decode cJ32_init 25 = .ok (.return_, 1) := dk_177 (dk_at dksJ32_init_1 3 rfl rfl)
abbrev cJ32_remove : ByteArray := prog_65_method_4_code
def yJ32_remove : MethodName := ⟨RJ32, "remove", "()V"⟩
def dkwJ32_remove_2 : List UInt8 := [180, 0, 1, 180, 0, 17, 181, 0, 22, 167, 0, 12, 76, 187, 0, 41, 89, 183, 0, 43, 191, 177]
abbrev dktJ32_remove_2 : List UInt8 := dkwJ32_remove_2 ++ []
def dkwJ32_remove_1 : List UInt8 := [180, 0, 13, 182, 0, 47, 87, 42, 42, 180, 0, 13, 181, 0, 25, 42, 2, 181, 0, 13, 42, 42]
abbrev dktJ32_remove_1 : List UInt8 := dkwJ32_remove_1 ++ dktJ32_remove_2
def dkwJ32_remove_0 : List UInt8 := [42, 180, 0, 13, 156, 0, 11, 187, 0, 44, 89, 183, 0, 46, 191, 42, 182, 0, 31, 42, 180, 0, 1, 42]
abbrev dktJ32_remove_0 : List UInt8 := dkwJ32_remove_0 ++ dktJ32_remove_1
theorem dksJ32_remove_0 : cJ32_remove.data.toList.drop 0 = dktJ32_remove_0 := by decide +kernel
theorem dksJ32_remove_1 : cJ32_remove.data.toList.drop 24 = dktJ32_remove_1 := dk_seg dksJ32_remove_0 24 rfl rfl
theorem dksJ32_remove_2 : cJ32_remove.data.toList.drop 46 = dktJ32_remove_2 := dk_seg dksJ32_remove_1 22 rfl rfl
theorem dJ32_remove_0 : decode cJ32_remove 0 = .ok (.aload_n 0, 1) := dk_42 (dk_at dksJ32_remove_0 0 rfl rfl)
theorem dJ32_remove_1 : decode cJ32_remove 1 = .ok (.getfield 13, 3) := dk_180 0 13 (dk_at dksJ32_remove_0 1 rfl rfl)
theorem dJ32_remove_4 : decode cJ32_remove 4 = .ok (.ifCond .ge 11, 3) := dk_156 0 11 (dk_at dksJ32_remove_0 4 rfl rfl)
theorem dJ32_remove_7 : decode cJ32_remove 7 = .ok (.new 44, 3) := dk_187 0 44 (dk_at dksJ32_remove_0 7 rfl rfl)
theorem dJ32_remove_10 : decode cJ32_remove 10 = .ok (.dup, 1) := dk_89 (dk_at dksJ32_remove_0 10 rfl rfl)
theorem dJ32_remove_11 : decode cJ32_remove 11 = .ok (.invokespecial 46, 3) := dk_183 0 46 (dk_at dksJ32_remove_0 11 rfl rfl)
theorem dJ32_remove_14 : decode cJ32_remove 14 = .ok (.athrow, 1) := dk_191 (dk_at dksJ32_remove_0 14 rfl rfl)
theorem dJ32_remove_15 : decode cJ32_remove 15 = .ok (.aload_n 0, 1) := dk_42 (dk_at dksJ32_remove_0 15 rfl rfl)
theorem dJ32_remove_16 : decode cJ32_remove 16 = .ok (.invokevirtual 31, 3) := dk_182 0 31 (dk_at dksJ32_remove_0 16 rfl rfl)
theorem dJ32_remove_19 : decode cJ32_remove 19 = .ok (.aload_n 0, 1) := dk_42 (dk_at dksJ32_remove_0 19 rfl rfl)
theorem dJ32_remove_20 : decode cJ32_remove 20 = .ok (.getfield 1, 3) := dk_180 0 1 (dk_at dksJ32_remove_0 20 rfl rfl)
theorem dJ32_remove_23 : decode cJ32_remove 23 = .ok (.aload_n 0, 1) := dk_42 (dk_at dksJ32_remove_0 23 rfl rfl)
theorem dJ32_remove_24 : decode cJ32_remove 24 = .ok (.getfield 13, 3) := dk_180 0 13 (dk_at dksJ32_remove_1 0 rfl rfl)
theorem dJ32_remove_27 : decode cJ32_remove 27 = .ok (.invokevirtual 47, 3) := dk_182 0 47 (dk_at dksJ32_remove_1 3 rfl rfl)
theorem dJ32_remove_30 : decode cJ32_remove 30 = .ok (.pop, 1) := dk_87 (dk_at dksJ32_remove_1 6 rfl rfl)
theorem dJ32_remove_31 : decode cJ32_remove 31 = .ok (.aload_n 0, 1) := dk_42 (dk_at dksJ32_remove_1 7 rfl rfl)
theorem dJ32_remove_32 : decode cJ32_remove 32 = .ok (.aload_n 0, 1) := dk_42 (dk_at dksJ32_remove_1 8 rfl rfl)
theorem dJ32_remove_33 : decode cJ32_remove 33 = .ok (.getfield 13, 3) := dk_180 0 13 (dk_at dksJ32_remove_1 9 rfl rfl)
theorem dJ32_remove_36 : decode cJ32_remove 36 = .ok (.putfield 25, 3) := dk_181 0 25 (dk_at dksJ32_remove_1 12 rfl rfl)
theorem dJ32_remove_39 : decode cJ32_remove 39 = .ok (.aload_n 0, 1) := dk_42 (dk_at dksJ32_remove_1 15 rfl rfl)
theorem dJ32_remove_40 : decode cJ32_remove 40 = .ok (.iconst (-1), 1) := dk_2 (dk_at dksJ32_remove_1 16 rfl rfl)
theorem dJ32_remove_41 : decode cJ32_remove 41 = .ok (.putfield 13, 3) := dk_181 0 13 (dk_at dksJ32_remove_1 17 rfl rfl)
theorem dJ32_remove_44 : decode cJ32_remove 44 = .ok (.aload_n 0, 1) := dk_42 (dk_at dksJ32_remove_1 20 rfl rfl)
theorem dJ32_remove_45 : decode cJ32_remove 45 = .ok (.aload_n 0, 1) := dk_42 (dk_at dksJ32_remove_1 21 rfl rfl)
theorem dJ32_remove_46 : decode cJ32_remove 46 = .ok (.getfield 1, 3) := dk_180 0 1 (dk_at dksJ32_remove_2 0 rfl rfl)
theorem dJ32_remove_49 : decode cJ32_remove 49 = .ok (.getfield 17, 3) := dk_180 0 17 (dk_at dksJ32_remove_2 3 rfl rfl)
theorem dJ32_remove_52 : decode cJ32_remove 52 = .ok (.putfield 22, 3) := dk_181 0 22 (dk_at dksJ32_remove_2 6 rfl rfl)
theorem dJ32_remove_55 : decode cJ32_remove 55 = .ok (.goto 12, 3) := dk_167 0 12 (dk_at dksJ32_remove_2 9 rfl rfl)
theorem dJ32_remove_58 : decode cJ32_remove 58 = .ok (.astore_n 1, 1) := dk_76 (dk_at dksJ32_remove_2 12 rfl rfl)
theorem dJ32_remove_59 : decode cJ32_remove 59 = .ok (.new 41, 3) := dk_187 0 41 (dk_at dksJ32_remove_2 13 rfl rfl)
theorem dJ32_remove_62 : decode cJ32_remove 62 = .ok (.dup, 1) := dk_89 (dk_at dksJ32_remove_2 16 rfl rfl)
theorem dJ32_remove_63 : decode cJ32_remove 63 = .ok (.invokespecial 43, 3) := dk_183 0 43 (dk_at dksJ32_remove_2 17 rfl rfl)
theorem dJ32_remove_66 : decode cJ32_remove 66 = .ok (.athrow, 1) := dk_191 (dk_at dksJ32_remove_2 20 rfl rfl)
theorem dJ32_remove_67 : decode cJ32_remove 67 = .ok (.return_, 1) := dk_177 (dk_at dksJ32_remove_2 21 rfl rfl)
theorem q150 : (Jvm.Cond.initialized "java/util/ArrayList$Itr") ∈ lw_all := lw_g (lw_at lw_m1 49 rfl) rfl
theorem q208 : (Jvm.Cond.fieldLink "java/util/ArrayList$Itr" (17 : Nat) "java/util/ArrayList" "modCount" "I") ∈ lw_all := lw_g (lw_at lw_m1 107 rfl) rfl
theorem q707 : (Jvm.Cond.selects "java/util/ArrayList$Itr" ({ cls := "java/lang/Object", name := "getClass", desc := "()Ljava/lang/Class;" } : Jvm.MethodName) ({ cls := "java/lang/Object", name := "getClass", desc := "()Ljava/lang/Class;" } : Jvm.MethodName)) ∈ lw_all := lw_g (lw_at lw_m3 126 rfl) rfl
theorem q1309 : (Jvm.Cond.castable "java/util/ArrayList$Itr" "java/util/Iterator") ∈ lw_tbl := lw_at lw_m6 8 rfl
theorem q1310 : (Jvm.Cond.selects "java/util/ArrayList$Itr" ({ cls := "java/util/Iterator", name := "hasNext", desc := "()Z" } : Jvm.MethodName) ({ cls := "java/util/ArrayList$Itr", name := "hasNext", desc := "()Z" } : Jvm.MethodName)) ∈ lw_all := lw_g (lw_at lw_m6 9 rfl) rfl
theorem q1311 : (Jvm.Cond.unhidden "java/util/ArrayList$Itr" "hasNext" "()Z") ∈ lw_tbl := lw_at lw_m6 10 rfl
theorem q1312 : (Jvm.Cond.instanceMethod ({ cls := "java/util/ArrayList$Itr", name := "hasNext", desc := "()Z" } : Jvm.MethodName)) ∈ lw_all := lw_g (lw_at lw_m6 11 rfl) rfl
theorem q1313 : (Jvm.Cond.publicMethod ({ cls := "java/util/ArrayList$Itr", name := "hasNext", desc := "()Z" } : Jvm.MethodName)) ∈ lw_tbl := lw_at lw_m6 12 rfl
theorem q1314 : (Jvm.Cond.code ({ cls := "java/util/ArrayList$Itr", name := "hasNext", desc := "()Z" } : Jvm.MethodName) prog_65_method_2_code (1 : Nat) (Option.some Jvm.ClassFile.FieldType.boolean)) ∈ lw_all := lw_g (lw_at lw_m6 13 rfl) rfl
theorem q1693 : (Jvm.Cond.selects "java/util/ArrayList$Itr" ({ cls := "java/util/Iterator", name := "next", desc := "()Ljava/lang/Object;" } : Jvm.MethodName) ({ cls := "java/util/ArrayList$Itr", name := "next", desc := "()Ljava/lang/Object;" } : Jvm.MethodName)) ∈ lw_all := lw_g (lw_at lw_m7 152 rfl) rfl
theorem q1694 : (Jvm.Cond.unhidden "java/util/ArrayList$Itr" "next" "()Ljava/lang/Object;") ∈ lw_tbl := lw_at lw_m7 153 rfl
theorem q1695 : (Jvm.Cond.instanceMethod ({ cls := "java/util/ArrayList$Itr", name := "next", desc := "()Ljava/lang/Object;" } : Jvm.MethodName)) ∈ lw_all := lw_g (lw_at lw_m7 154 rfl) rfl
theorem q1696 : (Jvm.Cond.publicMethod ({ cls := "java/util/ArrayList$Itr", name := "next", desc := "()Ljava/lang/Object;" } : Jvm.MethodName)) ∈ lw_tbl := lw_at lw_m7 155 rfl
theorem q1697 : (Jvm.Cond.code ({ cls := "java/util/ArrayList$Itr", name := "next", desc := "()Ljava/lang/Object;" } : Jvm.MethodName) prog_65_method_3_code (3 : Nat) (Option.some (Jvm.ClassFile.FieldType.object "java/lang/Object"))) ∈ lw_all := lw_g (lw_at lw_m7 156 rfl) rfl
theorem q1698 : (Jvm.Cond.methodLink "java/util/ArrayList$Itr" (31 : Nat) ({ cls := "java/util/ArrayList$Itr", name := "checkForComodification", desc := "()V" } : Jvm.MethodName)) ∈ lw_all := lw_g (lw_at lw_m7 157 rfl) rfl
theorem q1699 : (Jvm.Cond.instanceMethod ({ cls := "java/util/ArrayList$Itr", name := "checkForComodification", desc := "()V" } : Jvm.MethodName)) ∈ lw_all := lw_g (lw_at lw_m7 158 rfl) rfl
theorem q1700 : (Jvm.Cond.selects "java/util/ArrayList$Itr" ({ cls := "java/util/ArrayList$Itr", name := "checkForComodification", desc := "()V" } : Jvm.MethodName) ({ cls := "java/util/ArrayList$Itr", name := "checkForComodification", desc := "()V" } : Jvm.MethodName)) ∈ lw_all := lw_g (lw_at lw_m7 159 rfl) rfl
theorem q1701 : (Jvm.Cond.sameMethod "java/util/ArrayList$Itr" "java/util/ArrayList$Itr" "checkForComodification" "()V") ∈ lw_all := lw_g (lw_at lw_m7 160 rfl) rfl
theorem q1703 : (Jvm.Cond.code ({ cls := "java/util/ArrayList$Itr", name := "checkForComodification", desc := "()V" } : Jvm.MethodName) prog_65_method_6_code (1 : Nat) (Option.none : Option Jvm.ClassFile.FieldType)) ∈ lw_all := lw_g (lw_at lw_m7 162 rfl) rfl
theorem q1904 : (Jvm.Cond.instanceMethod ({ cls := "java/util/ArrayList$Itr", name := "<init>", desc := "(Ljava/util/ArrayList;)V" } : Jvm.MethodName)) ∈ lw_all := lw_g (lw_at lw_m8 123 rfl) rfl
theorem q1905 : (Jvm.Cond.code ({ cls := "java/util/ArrayList$Itr", name := "<init>", desc := "(Ljava/util/ArrayList;)V" } : Jvm.MethodName) prog_65_method_1_code (2 : Nat) (Option.none : Option Jvm.ClassFile.FieldType)) ∈ lw_all := lw_g (lw_at lw_m8 124 rfl) rfl
theorem q1906 : (Jvm.Cond.methodLink "java/util/ArrayList$Itr" (7 : Nat) ({ cls := "java/lang/Object", name := "<init>", desc := "()V" } : Jvm.MethodName)) ∈ lw_all := lw_g (lw_at lw_m8 125 rfl) rfl
theorem q1910 : (Jvm.Cond.fieldLink "java/util/ArrayList$Itr" (25 : Nat) "java/util/ArrayList$Itr" "cursor" "I") ∈ lw_all := lw_g (lw_at lw_m8 129 rfl) rfl
theorem q1911 : (Jvm.Cond.fieldLink "java/util/ArrayList$Itr" (13 : Nat) "java/util/ArrayList$Itr" "lastRet" "I") ∈ lw_all := lw_g (lw_at lw_m8 130 rfl) rfl
theorem q1912 : (Jvm.Cond.fieldLink "java/util/ArrayList$Itr" (22 : Nat) "java/util/ArrayList$Itr" "expectedModCount" "I") ∈ lw_all := lw_g (lw_at lw_m8 131 rfl) rfl
theorem q1913 : (Jvm.Cond.fieldLink "java/util/ArrayList$Itr" (1 : Nat) "java/util/ArrayList$Itr" "this$0" "Ljava/util/ArrayList;") ∈ lw_all := lw_g (lw_at lw_m8 132 rfl) rfl
theorem q1917 : (Jvm.Cond.soleField "java/util/ArrayList$Itr" "cursor") ∈ lw_all := lw_g (lw_at lw_m8 136 rfl) rfl
theorem q1919 : (Jvm.Cond.soleField "java/util/ArrayList$Itr" "lastRet") ∈ lw_all := lw_g (lw_at lw_m8 138 rfl) rfl
theorem q1921 : (Jvm.Cond.soleField "java/util/ArrayList$Itr" "expectedModCount") ∈ lw_all := lw_g (lw_at lw_m8 140 rfl) rfl
theorem q1923 : (Jvm.Cond.soleField "java/util/ArrayList$Itr" "this$0") ∈ lw_all := lw_g (lw_at lw_m8 142 rfl) rfl
theorem q2052 : (Jvm.Cond.selects "java/util/ArrayList$Itr" ({ cls := "java/util/Iterator", name := "remove", desc := "()V" } : Jvm.MethodName) ({ cls := "java/util/ArrayList$Itr", name := "remove", desc := "()V" } : Jvm.MethodName)) ∈ lw_all := lw_g (lw_at lw_m9 31 rfl) rfl
theorem q2053 : (Jvm.Cond.unhidden "java/util/ArrayList$Itr" "remove" "()V") ∈ lw_tbl := lw_at lw_m9 32 rfl
theorem q2054 : (Jvm.Cond.instanceMethod ({ cls := "java/util/ArrayList$Itr", name := "remove", desc := "()V" } : Jvm.MethodName)) ∈ lw_all := lw_g (lw_at lw_m9 33 rfl) rfl
theorem q2055 : (Jvm.Cond.publicMethod ({ cls := "java/util/ArrayList$Itr", name := "remove", desc := "()V" } : Jvm.MethodName)) ∈ lw_tbl := lw_at lw_m9 34 rfl
theorem q2056 : (Jvm.Cond.codeWith ({ cls := "java/util/ArrayList$Itr", name := "remove", desc := "()V" } : Jvm.MethodName) prog_65_method_4_code (2 : Nat) (Option.none : Option Jvm.ClassFile.FieldType) [((19 : Nat), (55 : Nat), (58 : Nat), (51 : Nat))]) ∈ lw_all := lw_g (lw_at lw_m9 35 rfl) rfl
theorem q2057 : (Jvm.Cond.classLink "java/util/ArrayList$Itr" (44 : Nat) "java/lang/IllegalStateException") ∈ lw_all := lw_g (lw_at lw_m9 36 rfl) rfl
theorem q2058 : (Jvm.Cond.methodLink "java/util/ArrayList$Itr" (46 : Nat) ({ cls := "java/lang/IllegalStateException", name := "<init>", desc := "()V" } : Jvm.MethodName)) ∈ lw_all := lw_g (lw_at lw_m9 37 rfl) rfl
theorem q2059 : (Jvm.Cond.methodLink "java/util/ArrayList$Itr" (47 : Nat) ({ cls := "java/util/ArrayList", name := "remove", desc := "(I)Ljava/lang/Object;" } : Jvm.MethodName)) ∈ lw_all := lw_g (lw_at lw_m9 38 rfl) rfl
theorem q2060 : (Jvm.Cond.classLink "java/util/ArrayList$Itr" (41 : Nat) "java/util/ConcurrentModificationException") ∈ lw_all := lw_g (lw_at lw_m9 39 rfl) rfl
theorem q2061 : (Jvm.Cond.methodLink "java/util/ArrayList$Itr" (43 : Nat) ({ cls := "java/util/ConcurrentModificationException", name := "<init>", desc := "()V" } : Jvm.MethodName)) ∈ lw_all := lw_g (lw_at lw_m9 40 rfl) rfl
theorem q2753 : (Jvm.Cond.fieldLink "java/util/ArrayList$Itr" (37 : Nat) "java/util/ArrayList" "elementData" "[Ljava/lang/Object;") ∈ lw_all := lw_g (lw_at lw_m12 12 rfl) rfl
theorem q2754 : (Jvm.Cond.fieldLinkNest "java/util/ArrayList$Itr" (28 : Nat) "java/util/ArrayList" "size" "I" "java/util/ArrayList") ∈ lw_tbl := lw_at lw_m12 13 rfl
theorem q2884 : (Jvm.Cond.instantiable "java/util/ArrayList$Itr" (4 : Nat)) ∈ lw_all := lw_g (lw_at lw_m12 143 rfl) rfl
theorem q2886 : (Jvm.Cond.lays "java/util/ArrayList$Itr" "java/util/ArrayList$Itr" "cursor" "I") ∈ lw_all := lw_g (lw_at lw_m12 145 rfl) rfl
theorem q2887 : (Jvm.Cond.lays "java/util/ArrayList$Itr" "java/util/ArrayList$Itr" "lastRet" "I") ∈ lw_all := lw_g (lw_at lw_m12 146 rfl) rfl
theorem q2888 : (Jvm.Cond.lays "java/util/ArrayList$Itr" "java/util/ArrayList$Itr" "expectedModCount" "I") ∈ lw_all := lw_g (lw_at lw_m12 147 rfl) rfl
theorem q2889 : (Jvm.Cond.laysFinal "java/util/ArrayList$Itr" "java/util/ArrayList$Itr" "this$0" "Ljava/util/ArrayList;") ∈ lw_all := lw_g (lw_at lw_m12 148 rfl) rfl
theorem q2890 : (Jvm.Cond.superclass "java/util/ArrayList$Itr" "java/lang/Object") ∈ lw_all := lw_g (lw_at lw_m12 149 rfl) rfl
theorem q3461 : (Jvm.Cond.castable "java/util/ArrayList$Itr" "java/lang/Object") ∈ lw_tbl := lw_at lw_m15 0 rfl
theorem in_J32 : ∀ w ∈ wsJ320, w ∈ lw_all := lw_in wsJ320 [2886, 2887, 2888, 2889] (by decide +kernel) (by decide +kernel)

/-! java/util/LinkedList$ListItr -/
set_option maxRecDepth 100000
def RJ34 : String := "java/util/LinkedList$ListItr"
def TJ34 : u_T := fun k => match k with
  | 0 => ("java/util/LinkedList$ListItr", "lastReturned", "Ljava/util/LinkedList$Node;", false)
  | 1 => ("java/util/LinkedList$ListItr", "next", "Ljava/util/LinkedList$Node;", false)
  | 2 => ("java/util/LinkedList$ListItr", "nextIndex", "I", false)
  | 3 => ("java/util/LinkedList$ListItr", "expectedModCount", "I", false)
  | _ => ("java/util/LinkedList$ListItr", "this$0", "Ljava/util/LinkedList;", true)
def tyJ34 : Nat → FieldType := fun k => match k with
  | 0 => .object "java/util/LinkedList$Node"
  | 1 => .object "java/util/LinkedList$Node"
  | 2 => .int
  | 3 => .int
  | _ => .object "java/util/LinkedList"
abbrev wsJ340 : List Cond := u_ws RJ34 TJ34 5
theorem nmJ34 : ∀ a, a < 5 → ∀ b, b < 5 → a ≠ b → (TJ34 a).2.1 ≠ (TJ34 b).2.1 := by decide +kernel
theorem tyJ34_ok : ∀ k, k < 5 → parseFieldDescriptor (TJ34 k).2.2.1 = some (tyJ34 k) := by decide +kernel
abbrev cJ34_hasNext : ByteArray := prog_74_method_2_code
def yJ34_hasNext : MethodName := ⟨RJ34, "hasNext", "()Z"⟩
def dkwJ34_hasNext_0 : List UInt8 := [42, 180, 0, 33, 42, 180, 0, 1, 180, 0, 22, 162, 0, 7, 4, 167, 0, 4, 3, 172]
abbrev dktJ34_hasNext_0 : List UInt8 := dkwJ34_hasNext_0 ++ []
theorem dksJ34_hasNext_0 : cJ34_hasNext.data.toList.drop 0 = dktJ34_hasNext_0 := by decide +kernel
theorem dJ34_hasNext_0 : decode cJ34_hasNext 0 = .ok (.aload_n 0, 1) := dk_42 (dk_at dksJ34_hasNext_0 0 rfl rfl)
theorem dJ34_hasNext_1 : decode cJ34_hasNext 1 = .ok (.getfield 33, 3) := dk_180 0 33 (dk_at dksJ34_hasNext_0 1 rfl rfl)
theorem dJ34_hasNext_4 : decode cJ34_hasNext 4 = .ok (.aload_n 0, 1) := dk_42 (dk_at dksJ34_hasNext_0 4 rfl rfl)
theorem dJ34_hasNext_5 : decode cJ34_hasNext 5 = .ok (.getfield 1, 3) := dk_180 0 1 (dk_at dksJ34_hasNext_0 5 rfl rfl)
theorem dJ34_hasNext_8 : decode cJ34_hasNext 8 = .ok (.getfield 22, 3) := dk_180 0 22 (dk_at dksJ34_hasNext_0 8 rfl rfl)
theorem dJ34_hasNext_11 : decode cJ34_hasNext 11 = .ok (.if_icmp .ge 7, 3) := dk_162 0 7 (dk_at dksJ34_hasNext_0 11 rfl rfl)
theorem dJ34_hasNext_14 : decode cJ34_hasNext 14 = .ok (.iconst 1, 1) := dk_4 (dk_at dksJ34_hasNext_0 14 rfl rfl)
theorem dJ34_hasNext_15 : decode cJ34_hasNext 15 = .ok (.goto 4, 3) := dk_167 0 4 (dk_at dksJ34_hasNext_0 15 rfl rfl)
theorem dJ34_hasNext_18 : decode cJ34_hasNext 18 = .ok (.iconst 0, 1) := dk_3 (dk_at dksJ34_hasNext_0 18 rfl rfl)
theorem dJ34_hasNext_19 : decode cJ34_hasNext 19 = .ok (.ireturn, 1) := dk_172 (dk_at dksJ34_hasNext_0 19 rfl rfl)
abbrev cJ34_next : ByteArray := prog_74_method_3_code
def yJ34_next : MethodName := ⟨RJ34, "next", "()Ljava/lang/Object;"⟩
def dkwJ34_next_2 : List UInt8 := [42, 180, 0, 46, 180, 0, 52, 176]
abbrev dktJ34_next_2 : List UInt8 := dkwJ34_next_2 ++ []
def dkwJ34_next_1 : List UInt8 := [181, 0, 46, 42, 42, 180, 0, 29, 180, 0, 49, 181, 0, 29, 42, 89, 180, 0, 33, 4, 96, 181, 0, 33]
abbrev dktJ34_next_1 : List UInt8 := dkwJ34_next_1 ++ dktJ34_next_2
def dkwJ34_next_0 : List UInt8 := [42, 182, 0, 36, 42, 182, 0, 39, 154, 0, 11, 187, 0, 43, 89, 183, 0, 45, 191, 42, 42, 180, 0, 29]
abbrev dktJ34_next_0 : List UInt8 := dkwJ34_next_0 ++ dktJ34_next_1
theorem dksJ34_next_0 : cJ34_next.data.toList.drop 0 = dktJ34_next_0 := by decide +kernel
theorem dksJ34_next_1 : cJ34_next.data.toList.drop 24 = dktJ34_next_1 := dk_seg dksJ34_next_0 24 rfl rfl
theorem dksJ34_next_2 : cJ34_next.data.toList.drop 48 = dktJ34_next_2 := dk_seg dksJ34_next_1 24 rfl rfl
theorem dJ34_next_0 : decode cJ34_next 0 = .ok (.aload_n 0, 1) := dk_42 (dk_at dksJ34_next_0 0 rfl rfl)
theorem dJ34_next_1 : decode cJ34_next 1 = .ok (.invokevirtual 36, 3) := dk_182 0 36 (dk_at dksJ34_next_0 1 rfl rfl)
theorem dJ34_next_4 : decode cJ34_next 4 = .ok (.aload_n 0, 1) := dk_42 (dk_at dksJ34_next_0 4 rfl rfl)
theorem dJ34_next_5 : decode cJ34_next 5 = .ok (.invokevirtual 39, 3) := dk_182 0 39 (dk_at dksJ34_next_0 5 rfl rfl)
theorem dJ34_next_8 : decode cJ34_next 8 = .ok (.ifCond .ne 11, 3) := dk_154 0 11 (dk_at dksJ34_next_0 8 rfl rfl)
theorem dJ34_next_11 : decode cJ34_next 11 = .ok (.new 43, 3) := dk_187 0 43 (dk_at dksJ34_next_0 11 rfl rfl)
theorem dJ34_next_14 : decode cJ34_next 14 = .ok (.dup, 1) := dk_89 (dk_at dksJ34_next_0 14 rfl rfl)
theorem dJ34_next_15 : decode cJ34_next 15 = .ok (.invokespecial 45, 3) := dk_183 0 45 (dk_at dksJ34_next_0 15 rfl rfl)
theorem dJ34_next_18 : decode cJ34_next 18 = .ok (.athrow, 1) := dk_191 (dk_at dksJ34_next_0 18 rfl rfl)
theorem dJ34_next_19 : decode cJ34_next 19 = .ok (.aload_n 0, 1) := dk_42 (dk_at dksJ34_next_0 19 rfl rfl)
theorem dJ34_next_20 : decode cJ34_next 20 = .ok (.aload_n 0, 1) := dk_42 (dk_at dksJ34_next_0 20 rfl rfl)
theorem dJ34_next_21 : decode cJ34_next 21 = .ok (.getfield 29, 3) := dk_180 0 29 (dk_at dksJ34_next_0 21 rfl rfl)
theorem dJ34_next_24 : decode cJ34_next 24 = .ok (.putfield 46, 3) := dk_181 0 46 (dk_at dksJ34_next_1 0 rfl rfl)
theorem dJ34_next_27 : decode cJ34_next 27 = .ok (.aload_n 0, 1) := dk_42 (dk_at dksJ34_next_1 3 rfl rfl)
theorem dJ34_next_28 : decode cJ34_next 28 = .ok (.aload_n 0, 1) := dk_42 (dk_at dksJ34_next_1 4 rfl rfl)
theorem dJ34_next_29 : decode cJ34_next 29 = .ok (.getfield 29, 3) := dk_180 0 29 (dk_at dksJ34_next_1 5 rfl rfl)
theorem dJ34_next_32 : decode cJ34_next 32 = .ok (.getfield 49, 3) := dk_180 0 49 (dk_at dksJ34_next_1 8 rfl rfl)
theorem dJ34_next_35 : decode cJ34_next 35 = .ok (.putfield 29, 3) := dk_181 0 29 (dk_at dksJ34_next_1 11 rfl rfl)
theorem dJ34_next_38 : decode cJ34_next 38 = .ok (.aload_n 0, 1) := dk_42 (dk_at dksJ34_next_1 14 rfl rfl)
theorem dJ34_next_39 : decode cJ34_next 39 = .ok (.dup, 1) := dk_89 (dk_at dksJ34_next_1 15 rfl rfl)
theorem dJ34_next_40 : decode cJ34_next 40 = .ok (.getfield 33, 3) := dk_180 0 33 (dk_at dksJ34_next_1 16 rfl rfl)
theorem dJ34_next_43 : decode cJ34_next 43 = .ok (.iconst 1, 1) := dk_4 (dk_at dksJ34_next_1 19 rfl rfl)
theorem dJ34_next_44 : decode cJ34_next 44 = .ok (.iadd, 1) := dk_96 (dk_at dksJ34_next_1 20 rfl rfl)
theorem dJ34_next_45 : decode cJ34_next 45 = .ok (.putfield 33, 3) := dk_181 0 33 (dk_at dksJ34_next_1 21 rfl rfl)
theorem dJ34_next_48 : decode cJ34_next 48 = .ok (.aload_n 0, 1) := dk_42 (dk_at dksJ34_next_2 0 rfl rfl)
theorem dJ34_next_49 : decode cJ34_next 49 = .ok (.getfield 46, 3) := dk_180 0 46 (dk_at dksJ34_next_2 1 rfl rfl)
theorem dJ34_next_52 : decode cJ34_next 52 = .ok (.getfield 52, 3) := dk_180 0 52 (dk_at dksJ34_next_2 4 rfl rfl)
theorem dJ34_next_55 : decode cJ34_next 55 = .ok (.areturn, 1) := dk_176 (dk_at dksJ34_next_2 7 rfl rfl)
abbrev cJ34_checkForComodification : ByteArray := prog_74_method_12_code
def yJ34_checkForComodification : MethodName := ⟨RJ34, "checkForComodification", "()V"⟩
def dkwJ34_checkForComodification_0 : List UInt8 := [42, 180, 0, 1, 180, 0, 13, 42, 180, 0, 19, 159, 0, 11, 187, 0, 91, 89, 183, 0, 93, 191, 177]
abbrev dktJ34_checkForComodification_0 : List UInt8 := dkwJ34_checkForComodification_0 ++ []
theorem dksJ34_checkForComodification_0 : cJ34_checkForComodification.data.toList.drop 0 = dktJ34_checkForComodification_0 := by decide +kernel
theorem dJ34_checkForComodification_0 : decode cJ34_checkForComodification 0 = .ok (.aload_n 0, 1) := dk_42 (dk_at dksJ34_checkForComodification_0 0 rfl rfl)
theorem dJ34_checkForComodification_1 : decode cJ34_checkForComodification 1 = .ok (.getfield 1, 3) := dk_180 0 1 (dk_at dksJ34_checkForComodification_0 1 rfl rfl)
theorem dJ34_checkForComodification_4 : decode cJ34_checkForComodification 4 = .ok (.getfield 13, 3) := dk_180 0 13 (dk_at dksJ34_checkForComodification_0 4 rfl rfl)
theorem dJ34_checkForComodification_7 : decode cJ34_checkForComodification 7 = .ok (.aload_n 0, 1) := dk_42 (dk_at dksJ34_checkForComodification_0 7 rfl rfl)
theorem dJ34_checkForComodification_8 : decode cJ34_checkForComodification 8 = .ok (.getfield 19, 3) := dk_180 0 19 (dk_at dksJ34_checkForComodification_0 8 rfl rfl)
theorem dJ34_checkForComodification_11 : decode cJ34_checkForComodification 11 = .ok (.if_icmp .eq 11, 3) := dk_159 0 11 (dk_at dksJ34_checkForComodification_0 11 rfl rfl)
theorem dJ34_checkForComodification_14 : decode cJ34_checkForComodification 14 = .ok (.new 91, 3) := dk_187 0 91 (dk_at dksJ34_checkForComodification_0 14 rfl rfl)
theorem dJ34_checkForComodification_17 : decode cJ34_checkForComodification 17 = .ok (.dup, 1) := dk_89 (dk_at dksJ34_checkForComodification_0 17 rfl rfl)
theorem dJ34_checkForComodification_18 : decode cJ34_checkForComodification 18 = .ok (.invokespecial 93, 3) := dk_183 0 93 (dk_at dksJ34_checkForComodification_0 18 rfl rfl)
theorem dJ34_checkForComodification_21 : decode cJ34_checkForComodification 21 = .ok (.athrow, 1) := dk_191 (dk_at dksJ34_checkForComodification_0 21 rfl rfl)
theorem dJ34_checkForComodification_22 : decode cJ34_checkForComodification 22 = .ok (.return_, 1) := dk_177 (dk_at dksJ34_checkForComodification_0 22 rfl rfl)
abbrev cJ34_init : ByteArray := prog_74_method_1_code
def yJ34_init : MethodName := ⟨RJ34, "<init>", "(Ljava/util/LinkedList;I)V"⟩
def dkwJ34_init_1 : List UInt8 := [180, 0, 22, 160, 0, 7, 1, 167, 0, 8, 43, 28, 182, 0, 25, 181, 0, 29, 42, 28, 181, 0, 33, 177]
abbrev dktJ34_init_1 : List UInt8 := dkwJ34_init_1 ++ []
def dkwJ34_init_0 : List UInt8 := [42, 43, 181, 0, 1, 42, 183, 0, 7, 42, 42, 180, 0, 1, 180, 0, 13, 181, 0, 19, 42, 28, 43]
abbrev dktJ34_init_0 : List UInt8 := dkwJ34_init_0 ++ dktJ34_init_1
theorem dksJ34_init_0 : cJ34_init.data.toList.drop 0 = dktJ34_init_0 := by decide +kernel
theorem dksJ34_init_1 : cJ34_init.data.toList.drop 23 = dktJ34_init_1 := dk_seg dksJ34_init_0 23 rfl rfl
theorem dJ34_init_0 : decode cJ34_init 0 = .ok (.aload_n 0, 1) := dk_42 (dk_at dksJ34_init_0 0 rfl rfl)
theorem dJ34_init_1 : decode cJ34_init 1 = .ok (.aload_n 1, 1) := dk_43 (dk_at dksJ34_init_0 1 rfl rfl)
theorem dJ34_init_2 : decode cJ34_init 2 = .ok (.putfield 1, 3) := dk_181 0 1 (dk_at dksJ34_init_0 2 rfl rfl)
theorem dJ34_init_5 : decode cJ34_init 5 = .ok (.aload_n 0, 1) := dk_42 (dk_at dksJ34_init_0 5 rfl rfl)
theorem dJ34_init_6 : decode cJ34_init 6 = .ok (.invokespecial 7, 3) := dk_183 0 7 (dk_at dksJ34_init_0 6 rfl rfl)
theorem dJ34_init_9 : decode cJ34_init 9 = .ok (.aload_n 0, 1) := dk_42 (dk_at dksJ34_init_0 9 rfl rfl)
theorem dJ34_init_10 : decode cJ34_init 10 = .ok (.aload_n 0, 1) := dk_42 (dk_at dksJ34_init_0 10 rfl rfl)
theorem dJ34_init_11 : decode cJ34_init 11 = .ok (.getfield 1, 3) := dk_180 0 1 (dk_at dksJ34_init_0 11 rfl rfl)
theorem dJ34_init_14 : decode cJ34_init 14 = .ok (.getfield 13, 3) := dk_180 0 13 (dk_at dksJ34_init_0 14 rfl rfl)
theorem dJ34_init_17 : decode cJ34_init 17 = .ok (.putfield 19, 3) := dk_181 0 19 (dk_at dksJ34_init_0 17 rfl rfl)
theorem dJ34_init_20 : decode cJ34_init 20 = .ok (.aload_n 0, 1) := dk_42 (dk_at dksJ34_init_0 20 rfl rfl)
theorem dJ34_init_21 : decode cJ34_init 21 = .ok (.iload_n 2, 1) := dk_28 (dk_at dksJ34_init_0 21 rfl rfl)
theorem dJ34_init_22 : decode cJ34_init 22 = .ok (.aload_n 1, 1) := dk_43 (dk_at dksJ34_init_0 22 rfl rfl)
theorem dJ34_init_23 : decode cJ34_init 23 = .ok (.getfield 22, 3) := dk_180 0 22 (dk_at dksJ34_init_1 0 rfl rfl)
theorem dJ34_init_26 : decode cJ34_init 26 = .ok (.if_icmp .ne 7, 3) := dk_160 0 7 (dk_at dksJ34_init_1 3 rfl rfl)
theorem dJ34_init_29 : decode cJ34_init 29 = .ok (.aconst_null, 1) := dk_1 (dk_at dksJ34_init_1 6 rfl rfl)
theorem dJ34_init_30 : decode cJ34_init 30 = .ok (.goto 8, 3) := dk_167 0 8 (dk_at dksJ34_init_1 7 rfl rfl)
theorem dJ34_init_33 : decode cJ34_init 33 = .ok (.aload_n 1, 1) := dk_43 (dk_at dksJ34_init_1 10 rfl rfl)
theorem dJ34_init_34 : decode cJ34_init 34 = .ok (.iload_n 2, 1) := dk_28 (dk_at dksJ34_init_1 11 rfl rfl)
theorem dJ34_init_35 : decode cJ34_init 35 = .ok (.invokevirtual 25, 3) := dk_182 0 25 (dk_at dksJ34_init_1 12 rfl rfl)
theorem dJ34_init_38 : decode cJ34_init 38 = .ok (.putfield 29, 3) := dk_181 0 29 (dk_at dksJ34_init_1 15 rfl rfl)
theorem dJ34_init_41 : decode cJ34_init 41 = .ok (.aload_n 0, 1) := dk_42 (dk_at dksJ34_init_1 18 rfl rfl)
theorem dJ34_init_42 : decode cJ34_init 42 = .ok (.iload_n 2, 1) := dk_28 (dk_at dksJ34_init_1 19 rfl rfl)
theorem dJ34_init_43 : decode cJ34_init 43 = .ok (.putfield 33, 3) := dk_181 0 33 (dk_at dksJ34_init_1 20 rfl rfl)
theorem dJ34_init_46 : decode cJ34_init 46 = .ok (.return_, 1) := dk_177 (dk_at dksJ34_init_1 23 rfl rfl)
abbrev cJ34_remove : ByteArray := prog_74_method_8_code
def yJ34_remove : MethodName := ⟨RJ34, "remove", "()V"⟩
def dkwJ34_remove_3 : List UInt8 := [181, 0, 46, 42, 89, 180, 0, 19, 4, 96, 181, 0, 19, 177]
abbrev dktJ34_remove_3 : List UInt8 := dkwJ34_remove_3 ++ []
def dkwJ34_remove_2 : List UInt8 := [166, 0, 11, 42, 43, 181, 0, 29, 167, 0, 13, 42, 89, 180, 0, 33, 4, 100, 181, 0, 33, 42, 1]
abbrev dktJ34_remove_2 : List UInt8 := dkwJ34_remove_2 ++ dktJ34_remove_3
def dkwJ34_remove_1 : List UInt8 := [180, 0, 49, 76, 42, 180, 0, 1, 42, 180, 0, 46, 182, 0, 68, 87, 42, 180, 0, 29, 42, 180, 0, 46]
abbrev dktJ34_remove_1 : List UInt8 := dkwJ34_remove_1 ++ dktJ34_remove_2
def dkwJ34_remove_0 : List UInt8 := [42, 182, 0, 36, 42, 180, 0, 46, 199, 0, 11, 187, 0, 65, 89, 183, 0, 67, 191, 42, 180, 0, 46]
abbrev dktJ34_remove_0 : List UInt8 := dkwJ34_remove_0 ++ dktJ34_remove_1
theorem dksJ34_remove_0 : cJ34_remove.data.toList.drop 0 = dktJ34_remove_0 := by decide +kernel
theorem dksJ34_remove_1 : cJ34_remove.data.toList.drop 23 = dktJ34_remove_1 := dk_seg dksJ34_remove_0 23 rfl rfl
theorem dksJ34_remove_2 : cJ34_remove.data.toList.drop 47 = dktJ34_remove_2 := dk_seg dksJ34_remove_1 24 rfl rfl
theorem dksJ34_remove_3 : cJ34_remove.data.toList.drop 70 = dktJ34_remove_3 := dk_seg dksJ34_remove_2 23 rfl rfl
theorem dJ34_remove_0 : decode cJ34_remove 0 = .ok (.aload_n 0, 1) := dk_42 (dk_at dksJ34_remove_0 0 rfl rfl)
theorem dJ34_remove_1 : decode cJ34_remove 1 = .ok (.invokevirtual 36, 3) := dk_182 0 36 (dk_at dksJ34_remove_0 1 rfl rfl)
theorem dJ34_remove_4 : decode cJ34_remove 4 = .ok (.aload_n 0, 1) := dk_42 (dk_at dksJ34_remove_0 4 rfl rfl)
theorem dJ34_remove_5 : decode cJ34_remove 5 = .ok (.getfield 46, 3) := dk_180 0 46 (dk_at dksJ34_remove_0 5 rfl rfl)
theorem dJ34_remove_8 : decode cJ34_remove 8 = .ok (.ifnonnull 11, 3) := dk_199 0 11 (dk_at dksJ34_remove_0 8 rfl rfl)
theorem dJ34_remove_11 : decode cJ34_remove 11 = .ok (.new 65, 3) := dk_187 0 65 (dk_at dksJ34_remove_0 11 rfl rfl)
theorem dJ34_remove_14 : decode cJ34_remove 14 = .ok (.dup, 1) := dk_89 (dk_at dksJ34_remove_0 14 rfl rfl)
theorem dJ34_remove_15 : decode cJ34_remove 15 = .ok (.invokespecial 67, 3) := dk_183 0 67 (dk_at dksJ34_remove_0 15 rfl rfl)
theorem dJ34_remove_18 : decode cJ34_remove 18 = .ok (.athrow, 1) := dk_191 (dk_at dksJ34_remove_0 18 rfl rfl)
theorem dJ34_remove_19 : decode cJ34_remove 19 = .ok (.aload_n 0, 1) := dk_42 (dk_at dksJ34_remove_0 19 rfl rfl)
theorem dJ34_remove_20 : decode cJ34_remove 20 = .ok (.getfield 46, 3) := dk_180 0 46 (dk_at dksJ34_remove_0 20 rfl rfl)
theorem dJ34_remove_23 : decode cJ34_remove 23 = .ok (.getfield 49, 3) := dk_180 0 49 (dk_at dksJ34_remove_1 0 rfl rfl)
theorem dJ34_remove_26 : decode cJ34_remove 26 = .ok (.astore_n 1, 1) := dk_76 (dk_at dksJ34_remove_1 3 rfl rfl)
theorem dJ34_remove_27 : decode cJ34_remove 27 = .ok (.aload_n 0, 1) := dk_42 (dk_at dksJ34_remove_1 4 rfl rfl)
theorem dJ34_remove_28 : decode cJ34_remove 28 = .ok (.getfield 1, 3) := dk_180 0 1 (dk_at dksJ34_remove_1 5 rfl rfl)
theorem dJ34_remove_31 : decode cJ34_remove 31 = .ok (.aload_n 0, 1) := dk_42 (dk_at dksJ34_remove_1 8 rfl rfl)
theorem dJ34_remove_32 : decode cJ34_remove 32 = .ok (.getfield 46, 3) := dk_180 0 46 (dk_at dksJ34_remove_1 9 rfl rfl)
theorem dJ34_remove_35 : decode cJ34_remove 35 = .ok (.invokevirtual 68, 3) := dk_182 0 68 (dk_at dksJ34_remove_1 12 rfl rfl)
theorem dJ34_remove_38 : decode cJ34_remove 38 = .ok (.pop, 1) := dk_87 (dk_at dksJ34_remove_1 15 rfl rfl)
theorem dJ34_remove_39 : decode cJ34_remove 39 = .ok (.aload_n 0, 1) := dk_42 (dk_at dksJ34_remove_1 16 rfl rfl)
theorem dJ34_remove_40 : decode cJ34_remove 40 = .ok (.getfield 29, 3) := dk_180 0 29 (dk_at dksJ34_remove_1 17 rfl rfl)
theorem dJ34_remove_43 : decode cJ34_remove 43 = .ok (.aload_n 0, 1) := dk_42 (dk_at dksJ34_remove_1 20 rfl rfl)
theorem dJ34_remove_44 : decode cJ34_remove 44 = .ok (.getfield 46, 3) := dk_180 0 46 (dk_at dksJ34_remove_1 21 rfl rfl)
theorem dJ34_remove_47 : decode cJ34_remove 47 = .ok (.if_acmp .ne 11, 3) := dk_166 0 11 (dk_at dksJ34_remove_2 0 rfl rfl)
theorem dJ34_remove_50 : decode cJ34_remove 50 = .ok (.aload_n 0, 1) := dk_42 (dk_at dksJ34_remove_2 3 rfl rfl)
theorem dJ34_remove_51 : decode cJ34_remove 51 = .ok (.aload_n 1, 1) := dk_43 (dk_at dksJ34_remove_2 4 rfl rfl)
theorem dJ34_remove_52 : decode cJ34_remove 52 = .ok (.putfield 29, 3) := dk_181 0 29 (dk_at dksJ34_remove_2 5 rfl rfl)
theorem dJ34_remove_55 : decode cJ34_remove 55 = .ok (.goto 13, 3) := dk_167 0 13 (dk_at dksJ34_remove_2 8 rfl rfl)
theorem dJ34_remove_58 : decode cJ34_remove 58 = .ok (.aload_n 0, 1) := dk_42 (dk_at dksJ34_remove_2 11 rfl rfl)
theorem dJ34_remove_59 : decode cJ34_remove 59 = .ok (.dup, 1) := dk_89 (dk_at dksJ34_remove_2 12 rfl rfl)
theorem dJ34_remove_60 : decode cJ34_remove 60 = .ok (.getfield 33, 3) := dk_180 0 33 (dk_at dksJ34_remove_2 13 rfl rfl)
theorem dJ34_remove_63 : decode cJ34_remove 63 = .ok (.iconst 1, 1) := dk_4 (dk_at dksJ34_remove_2 16 rfl rfl)
theorem dJ34_remove_64 : decode cJ34_remove 64 = .ok (.isub, 1) := dk_100 (dk_at dksJ34_remove_2 17 rfl rfl)
theorem dJ34_remove_65 : decode cJ34_remove 65 = .ok (.putfield 33, 3) := dk_181 0 33 (dk_at dksJ34_remove_2 18 rfl rfl)
theorem dJ34_remove_68 : decode cJ34_remove 68 = .ok (.aload_n 0, 1) := dk_42 (dk_at dksJ34_remove_2 21 rfl rfl)
theorem dJ34_remove_69 : decode cJ34_remove 69 = .ok (.aconst_null, 1) := dk_1 (dk_at dksJ34_remove_2 22 rfl rfl)
theorem dJ34_remove_70 : decode cJ34_remove 70 = .ok (.putfield 46, 3) := dk_181 0 46 (dk_at dksJ34_remove_3 0 rfl rfl)
theorem dJ34_remove_73 : decode cJ34_remove 73 = .ok (.aload_n 0, 1) := dk_42 (dk_at dksJ34_remove_3 3 rfl rfl)
theorem dJ34_remove_74 : decode cJ34_remove 74 = .ok (.dup, 1) := dk_89 (dk_at dksJ34_remove_3 4 rfl rfl)
theorem dJ34_remove_75 : decode cJ34_remove 75 = .ok (.getfield 19, 3) := dk_180 0 19 (dk_at dksJ34_remove_3 5 rfl rfl)
theorem dJ34_remove_78 : decode cJ34_remove 78 = .ok (.iconst 1, 1) := dk_4 (dk_at dksJ34_remove_3 8 rfl rfl)
theorem dJ34_remove_79 : decode cJ34_remove 79 = .ok (.iadd, 1) := dk_96 (dk_at dksJ34_remove_3 9 rfl rfl)
theorem dJ34_remove_80 : decode cJ34_remove 80 = .ok (.putfield 19, 3) := dk_181 0 19 (dk_at dksJ34_remove_3 10 rfl rfl)
theorem dJ34_remove_83 : decode cJ34_remove 83 = .ok (.return_, 1) := dk_177 (dk_at dksJ34_remove_3 13 rfl rfl)
theorem q152 : (Jvm.Cond.initialized "java/util/LinkedList$ListItr") ∈ lw_all := lw_g (lw_at lw_m1 51 rfl) rfl
theorem q202 : (Jvm.Cond.fieldLink "java/util/LinkedList$ListItr" (22 : Nat) "java/util/LinkedList" "size" "I") ∈ lw_all := lw_g (lw_at lw_m1 101 rfl) rfl
theorem q206 : (Jvm.Cond.fieldLink "java/util/LinkedList$ListItr" (13 : Nat) "java/util/LinkedList" "modCount" "I") ∈ lw_all := lw_g (lw_at lw_m1 105 rfl) rfl
theorem q711 : (Jvm.Cond.selects "java/util/LinkedList$ListItr" ({ cls := "java/lang/Object", name := "getClass", desc := "()Ljava/lang/Class;" } : Jvm.MethodName) ({ cls := "java/lang/Object", name := "getClass", desc := "()Ljava/lang/Class;" } : Jvm.MethodName)) ∈ lw_all := lw_g (lw_at lw_m3 130 rfl) rfl
theorem q1318 : (Jvm.Cond.castable "java/util/LinkedList$ListItr" "java/util/Iterator") ∈ lw_tbl := lw_at lw_m6 17 rfl
theorem q1319 : (Jvm.Cond.selects "java/util/LinkedList$ListItr" ({ cls := "java/util/Iterator", name := "hasNext", desc := "()Z" } : Jvm.MethodName) ({ cls := "java/util/LinkedList$ListItr", name := "hasNext", desc := "()Z" } : Jvm.MethodName)) ∈ lw_all := lw_g (lw_at lw_m6 18 rfl) rfl
theorem q1320 : (Jvm.Cond.unhidden "java/util/LinkedList$ListItr" "hasNext" "()Z") ∈ lw_tbl := lw_at lw_m6 19 rfl
theorem q1321 : (Jvm.Cond.instanceMethod ({ cls := "java/util/LinkedList$ListItr", name := "hasNext", desc := "()Z" } : Jvm.MethodName)) ∈ lw_all := lw_g (lw_at lw_m6 20 rfl) rfl
theorem q1322 : (Jvm.Cond.publicMethod ({ cls := "java/util/LinkedList$ListItr", name := "hasNext", desc := "()Z" } : Jvm.MethodName)) ∈ lw_tbl := lw_at lw_m6 21 rfl
theorem q1323 : (Jvm.Cond.code ({ cls := "java/util/LinkedList$ListItr", name := "hasNext", desc := "()Z" } : Jvm.MethodName) prog_74_method_2_code (1 : Nat) (Option.some Jvm.ClassFile.FieldType.boolean)) ∈ lw_all := lw_g (lw_at lw_m6 22 rfl) rfl
theorem q1706 : (Jvm.Cond.selects "java/util/LinkedList$ListItr" ({ cls := "java/util/Iterator", name := "next", desc := "()Ljava/lang/Object;" } : Jvm.MethodName) ({ cls := "java/util/LinkedList$ListItr", name := "next", desc := "()Ljava/lang/Object;" } : Jvm.MethodName)) ∈ lw_all := lw_g (lw_at lw_m7 165 rfl) rfl
theorem q1707 : (Jvm.Cond.unhidden "java/util/LinkedList$ListItr" "next" "()Ljava/lang/Object;") ∈ lw_tbl := lw_at lw_m7 166 rfl
theorem q1708 : (Jvm.Cond.instanceMethod ({ cls := "java/util/LinkedList$ListItr", name := "next", desc := "()Ljava/lang/Object;" } : Jvm.MethodName)) ∈ lw_all := lw_g (lw_at lw_m7 167 rfl) rfl
theorem q1709 : (Jvm.Cond.publicMethod ({ cls := "java/util/LinkedList$ListItr", name := "next", desc := "()Ljava/lang/Object;" } : Jvm.MethodName)) ∈ lw_tbl := lw_at lw_m7 168 rfl
theorem q1710 : (Jvm.Cond.code ({ cls := "java/util/LinkedList$ListItr", name := "next", desc := "()Ljava/lang/Object;" } : Jvm.MethodName) prog_74_method_3_code (1 : Nat) (Option.some (Jvm.ClassFile.FieldType.object "java/lang/Object"))) ∈ lw_all := lw_g (lw_at lw_m7 169 rfl) rfl
theorem q1711 : (Jvm.Cond.methodLink "java/util/LinkedList$ListItr" (36 : Nat) ({ cls := "java/util/LinkedList$ListItr", name := "checkForComodification", desc := "()V" } : Jvm.MethodName)) ∈ lw_all := lw_g (lw_at lw_m7 170 rfl) rfl
theorem q1712 : (Jvm.Cond.instanceMethod ({ cls := "java/util/LinkedList$ListItr", name := "checkForComodification", desc := "()V" } : Jvm.MethodName)) ∈ lw_all := lw_g (lw_at lw_m7 171 rfl) rfl
theorem q1713 : (Jvm.Cond.selects "java/util/LinkedList$ListItr" ({ cls := "java/util/LinkedList$ListItr", name := "checkForComodification", desc := "()V" } : Jvm.MethodName) ({ cls := "java/util/LinkedList$ListItr", name := "checkForComodification", desc := "()V" } : Jvm.MethodName)) ∈ lw_all := lw_g (lw_at lw_m7 172 rfl) rfl
theorem q1714 : (Jvm.Cond.code ({ cls := "java/util/LinkedList$ListItr", name := "checkForComodification", desc := "()V" } : Jvm.MethodName) prog_74_method_12_code (1 : Nat) (Option.none : Option Jvm.ClassFile.FieldType)) ∈ lw_all := lw_g (lw_at lw_m7 173 rfl) rfl
theorem q1715 : (Jvm.Cond.methodLink "java/util/LinkedList$ListItr" (39 : Nat) ({ cls := "java/util/LinkedList$ListItr", name := "hasNext", desc := "()Z" } : Jvm.MethodName)) ∈ lw_all := lw_g (lw_at lw_m7 174 rfl) rfl
theorem q1788 : (Jvm.Cond.fieldLink "java/util/LinkedList$ListItr" (52 : Nat) "java/util/LinkedList$Node" "item" "Ljava/lang/Object;") ∈ lw_all := lw_g (lw_at lw_m8 7 rfl) rfl
theorem q1791 : (Jvm.Cond.fieldLink "java/util/LinkedList$ListItr" (49 : Nat) "java/util/LinkedList$Node" "next" "Ljava/util/LinkedList$Node;") ∈ lw_all := lw_g (lw_at lw_m8 10 rfl) rfl
theorem q1937 : (Jvm.Cond.instantiable "java/util/LinkedList$ListItr" (5 : Nat)) ∈ lw_all := lw_g (lw_at lw_m8 156 rfl) rfl
theorem q1939 : (Jvm.Cond.instanceMethod ({ cls := "java/util/LinkedList$ListItr", name := "<init>", desc := "(Ljava/util/LinkedList;I)V" } : Jvm.MethodName)) ∈ lw_all := lw_g (lw_at lw_m8 158 rfl) rfl
theorem q1940 : (Jvm.Cond.code ({ cls := "java/util/LinkedList$ListItr", name := "<init>", desc := "(Ljava/util/LinkedList;I)V" } : Jvm.MethodName) prog_74_method_1_code (3 : Nat) (Option.none : Option Jvm.ClassFile.FieldType)) ∈ lw_all := lw_g (lw_at lw_m8 159 rfl) rfl
theorem q1941 : (Jvm.Cond.methodLink "java/util/LinkedList$ListItr" (7 : Nat) ({ cls := "java/lang/Object", name := "<init>", desc := "()V" } : Jvm.MethodName)) ∈ lw_all := lw_g (lw_at lw_m8 160 rfl) rfl
theorem q1942 : (Jvm.Cond.methodLink "java/util/LinkedList$ListItr" (25 : Nat) ({ cls := "java/util/LinkedList", name := "node", desc := "(I)Ljava/util/LinkedList$Node;" } : Jvm.MethodName)) ∈ lw_all := lw_g (lw_at lw_m8 161 rfl) rfl
theorem q1943 : (Jvm.Cond.fieldLink "java/util/LinkedList$ListItr" (46 : Nat) "java/util/LinkedList$ListItr" "lastReturned" "Ljava/util/LinkedList$Node;") ∈ lw_all := lw_g (lw_at lw_m8 162 rfl) rfl
theorem q1944 : (Jvm.Cond.fieldLink "java/util/LinkedList$ListItr" (29 : Nat) "java/util/LinkedList$ListItr" "next" "Ljava/util/LinkedList$Node;") ∈ lw_all := lw_g (lw_at lw_m8 163 rfl) rfl
theorem q1945 : (Jvm.Cond.fieldLink "java/util/LinkedList$ListItr" (33 : Nat) "java/util/LinkedList$ListItr" "nextIndex" "I") ∈ lw_all := lw_g (lw_at lw_m8 164 rfl) rfl
theorem q1946 : (Jvm.Cond.fieldLink "java/util/LinkedList$ListItr" (19 : Nat) "java/util/LinkedList$ListItr" "expectedModCount" "I") ∈ lw_all := lw_g (lw_at lw_m8 165 rfl) rfl
theorem q1947 : (Jvm.Cond.fieldLink "java/util/LinkedList$ListItr" (1 : Nat) "java/util/LinkedList$ListItr" "this$0" "Ljava/util/LinkedList;") ∈ lw_all := lw_g (lw_at lw_m8 166 rfl) rfl
theorem q1948 : (Jvm.Cond.lays "java/util/LinkedList$ListItr" "java/util/LinkedList$ListItr" "lastReturned" "Ljava/util/LinkedList$Node;") ∈ lw_all := lw_g (lw_at lw_m8 167 rfl) rfl
theorem q1949 : (Jvm.Cond.soleField "java/util/LinkedList$ListItr" "lastReturned") ∈ lw_all := lw_g (lw_at lw_m8 168 rfl) rfl
theorem q1950 : (Jvm.Cond.lays "java/util/LinkedList$ListItr" "java/util/LinkedList$ListItr" "next" "Ljava/util/LinkedList$Node;") ∈ lw_all := lw_g (lw_at lw_m8 169 rfl) rfl
theorem q1951 : (Jvm.Cond.soleField "java/util/LinkedList$ListItr" "next") ∈ lw_all := lw_g (lw_at lw_m8 170 rfl) rfl
theorem q1952 : (Jvm.Cond.lays "java/util/LinkedList$ListItr" "java/util/LinkedList$ListItr" "nextIndex" "I") ∈ lw_all := lw_g (lw_at lw_m8 171 rfl) rfl
theorem q1953 : (Jvm.Cond.soleField "java/util/LinkedList$ListItr" "nextIndex") ∈ lw_all := lw_g (lw_at lw_m8 172 rfl) rfl
theorem q1954 : (Jvm.Cond.lays "java/util/LinkedList$ListItr" "java/util/LinkedList$ListItr" "expectedModCount" "I") ∈ lw_all := lw_g (lw_at lw_m8 173 rfl) rfl
theorem q1955 : (Jvm.Cond.soleField "java/util/LinkedList$ListItr" "expectedModCount") ∈ lw_all := lw_g (lw_at lw_m8 174 rfl) rfl
theorem q1956 : (Jvm.Cond.laysFinal "java/util/LinkedList$ListItr" "java/util/LinkedList$ListItr" "this$0" "Ljava/util/LinkedList;") ∈ lw_all := lw_g (lw_at lw_m8 175 rfl) rfl
theorem q1957 : (Jvm.Cond.soleField "java/util/LinkedList$ListItr" "this$0") ∈ lw_all := lw_g (lw_at lw_m8 176 rfl) rfl
theorem q1958 : (Jvm.Cond.superclass "java/util/LinkedList$ListItr" "java/lang/Object") ∈ lw_all := lw_g (lw_at lw_m8 177 rfl) rfl
theorem q2064 : (Jvm.Cond.selects "java/util/LinkedList$ListItr" ({ cls := "java/util/Iterator", name := "remove", desc := "()V" } : Jvm.MethodName) ({ cls := "java/util/LinkedList$ListItr", name := "remove", desc := "()V" } : Jvm.MethodName)) ∈ lw_all := lw_g (lw_at lw_m9 43 rfl) rfl
theorem q2065 : (Jvm.Cond.unhidden "java/util/LinkedList$ListItr" "remove" "()V") ∈ lw_tbl := lw_at lw_m9 44 rfl
theorem q2066 : (Jvm.Cond.instanceMethod ({ cls := "java/util/LinkedList$ListItr", name := "remove", desc := "()V" } : Jvm.MethodName)) ∈ lw_all := lw_g (lw_at lw_m9 45 rfl) rfl
theorem q2067 : (Jvm.Cond.publicMethod ({ cls := "java/util/LinkedList$ListItr", name := "remove", desc := "()V" } : Jvm.MethodName)) ∈ lw_tbl := lw_at lw_m9 46 rfl
theorem q2068 : (Jvm.Cond.code ({ cls := "java/util/LinkedList$ListItr", name := "remove", desc := "()V" } : Jvm.MethodName) prog_74_method_8_code (2 : Nat) (Option.none : Option Jvm.ClassFile.FieldType)) ∈ lw_all := lw_g (lw_at lw_m9 47 rfl) rfl
theorem q2069 : (Jvm.Cond.methodLink "java/util/LinkedList$ListItr" (68 : Nat) ({ cls := "java/util/LinkedList", name := "unlink", desc := "(Ljava/util/LinkedList$Node;)Ljava/lang/Object;" } : Jvm.MethodName)) ∈ lw_all := lw_g (lw_at lw_m9 48 rfl) rfl
theorem q3397 : (Jvm.Cond.selects "java/util/LinkedList$ListItr" ({ cls := "java/util/LinkedList$ListItr", name := "hasNext", desc := "()Z" } : Jvm.MethodName) ({ cls := "java/util/LinkedList$ListItr", name := "hasNext", desc := "()Z" } : Jvm.MethodName)) ∈ lw_all := lw_g (lw_at lw_m14 176 rfl) rfl
theorem q3439 : (Jvm.Cond.castable "java/util/LinkedList$ListItr" "java/lang/Object") ∈ lw_tbl := lw_at lw_m14 218 rfl
theorem in_J34 : ∀ w ∈ wsJ340, w ∈ lw_all := lw_in wsJ340 [1948, 1950, 1952, 1954, 1956] (by decide +kernel) (by decide +kernel)

/-! java/util/ArrayDeque$DeqIterator -/
set_option maxRecDepth 100000
def RJ37 : String := "java/util/ArrayDeque$DeqIterator"
def TJ37 : u_T := fun k => match k with
  | 0 => ("java/util/ArrayDeque$DeqIterator", "cursor", "I", false)
  | 1 => ("java/util/ArrayDeque$DeqIterator", "remaining", "I", false)
  | 2 => ("java/util/ArrayDeque$DeqIterator", "lastRet", "I", false)
  | _ => ("java/util/ArrayDeque$DeqIterator", "this$0", "Ljava/util/ArrayDeque;", true)
def tyJ37 : Nat → FieldType := fun k => match k with
  | 0 => .int
  | 1 => .int
  | 2 => .int
  | _ => .object "java/util/ArrayDeque"
abbrev wsJ370 : List Cond := u_ws RJ37 TJ37 4
theorem nmJ37 : ∀ a, a < 4 → ∀ b, b < 4 → a ≠ b → (TJ37 a).2.1 ≠ (TJ37 b).2.1 := by decide +kernel
theorem tyJ37_ok : ∀ k, k < 4 → parseFieldDescriptor (TJ37 k).2.2.1 = some (tyJ37 k) := by decide +kernel
abbrev cJ37_hasNext : ByteArray := prog_63_method_2_code
def yJ37_hasNext : MethodName := ⟨RJ37, "hasNext", "()Z"⟩
def dkwJ37_hasNext_0 : List UInt8 := [42, 180, 0, 19, 158, 0, 7, 4, 167, 0, 4, 3, 172]
abbrev dktJ37_hasNext_0 : List UInt8 := dkwJ37_hasNext_0 ++ []
theorem dksJ37_hasNext_0 : cJ37_hasNext.data.toList.drop 0 = dktJ37_hasNext_0 := by decide +kernel
theorem dJ37_hasNext_0 : decode cJ37_hasNext 0 = .ok (.aload_n 0, 1) := dk_42 (dk_at dksJ37_hasNext_0 0 rfl rfl)
theorem dJ37_hasNext_1 : decode cJ37_hasNext 1 = .ok (.getfield 19, 3) := dk_180 0 19 (dk_at dksJ37_hasNext_0 1 rfl rfl)
theorem dJ37_hasNext_4 : decode cJ37_hasNext 4 = .ok (.ifCond .le 7, 3) := dk_158 0 7 (dk_at dksJ37_hasNext_0 4 rfl rfl)
theorem dJ37_hasNext_7 : decode cJ37_hasNext 7 = .ok (.iconst 1, 1) := dk_4 (dk_at dksJ37_hasNext_0 7 rfl rfl)
theorem dJ37_hasNext_8 : decode cJ37_hasNext 8 = .ok (.goto 4, 3) := dk_167 0 4 (dk_at dksJ37_hasNext_0 8 rfl rfl)
theorem dJ37_hasNext_11 : decode cJ37_hasNext 11 = .ok (.iconst 0, 1) := dk_3 (dk_at dksJ37_hasNext_0 11 rfl rfl)
theorem dJ37_hasNext_12 : decode cJ37_hasNext 12 = .ok (.ireturn, 1) := dk_172 (dk_at dksJ37_hasNext_0 12 rfl rfl)
abbrev cJ37_next : ByteArray := prog_63_method_3_code
def yJ37_next : MethodName := ⟨RJ37, "next", "()Ljava/lang/Object;"⟩
def dkwJ37_next_2 : List UInt8 := [181, 0, 29, 42, 89, 180, 0, 19, 4, 100, 181, 0, 19, 44, 176]
abbrev dktJ37_next_2 : List UInt8 := dkwJ37_next_2 ++ []
def dkwJ37_next_1 : List UInt8 := [42, 180, 0, 29, 184, 0, 39, 77, 42, 42, 42, 180, 0, 29, 90, 181, 0, 23, 43, 190, 184, 0, 43]
abbrev dktJ37_next_1 : List UInt8 := dkwJ37_next_1 ++ dktJ37_next_2
def dkwJ37_next_0 : List UInt8 := [42, 180, 0, 19, 157, 0, 11, 187, 0, 32, 89, 183, 0, 34, 191, 42, 180, 0, 1, 180, 0, 35, 76, 43]
abbrev dktJ37_next_0 : List UInt8 := dkwJ37_next_0 ++ dktJ37_next_1
theorem dksJ37_next_0 : cJ37_next.data.toList.drop 0 = dktJ37_next_0 := by decide +kernel
theorem dksJ37_next_1 : cJ37_next.data.toList.drop 24 = dktJ37_next_1 := dk_seg dksJ37_next_0 24 rfl rfl
theorem dksJ37_next_2 : cJ37_next.data.toList.drop 47 = dktJ37_next_2 := dk_seg dksJ37_next_1 23 rfl rfl
theorem dJ37_next_0 : decode cJ37_next 0 = .ok (.aload_n 0, 1) := dk_42 (dk_at dksJ37_next_0 0 rfl rfl)
theorem dJ37_next_1 : decode cJ37_next 1 = .ok (.getfield 19, 3) := dk_180 0 19 (dk_at dksJ37_next_0 1 rfl rfl)
theorem dJ37_next_4 : decode cJ37_next 4 = .ok (.ifCond .gt 11, 3) := dk_157 0 11 (dk_at dksJ37_next_0 4 rfl rfl)
theorem dJ37_next_7 : decode cJ37_next 7 = .ok (.new 32, 3) := dk_187 0 32 (dk_at dksJ37_next_0 7 rfl rfl)
theorem dJ37_next_10 : decode cJ37_next 10 = .ok (.dup, 1) := dk_89 (dk_at dksJ37_next_0 10 rfl rfl)
theorem dJ37_next_11 : decode cJ37_next 11 = .ok (.invokespecial 34, 3) := dk_183 0 34 (dk_at dksJ37_next_0 11 rfl rfl)
theorem dJ37_next_14 : decode cJ37_next 14 = .ok (.athrow, 1) := dk_191 (dk_at dksJ37_next_0 14 rfl rfl)
theorem dJ37_next_15 : decode cJ37_next 15 = .ok (.aload_n 0, 1) := dk_42 (dk_at dksJ37_next_0 15 rfl rfl)
theorem dJ37_next_16 : decode cJ37_next 16 = .ok (.getfield 1, 3) := dk_180 0 1 (dk_at dksJ37_next_0 16 rfl rfl)
theorem dJ37_next_19 : decode cJ37_next 19 = .ok (.getfield 35, 3) := dk_180 0 35 (dk_at dksJ37_next_0 19 rfl rfl)
theorem dJ37_next_22 : decode cJ37_next 22 = .ok (.astore_n 1, 1) := dk_76 (dk_at dksJ37_next_0 22 rfl rfl)
theorem dJ37_next_23 : decode cJ37_next 23 = .ok (.aload_n 1, 1) := dk_43 (dk_at dksJ37_next_0 23 rfl rfl)
theorem dJ37_next_24 : decode cJ37_next 24 = .ok (.aload_n 0, 1) := dk_42 (dk_at dksJ37_next_1 0 rfl rfl)
theorem dJ37_next_25 : decode cJ37_next 25 = .ok (.getfield 29, 3) := dk_180 0 29 (dk_at dksJ37_next_1 1 rfl rfl)
theorem dJ37_next_28 : decode cJ37_next 28 = .ok (.invokestatic 39, 3) := dk_184 0 39 (dk_at dksJ37_next_1 4 rfl rfl)
theorem dJ37_next_31 : decode cJ37_next 31 = .ok (.astore_n 2, 1) := dk_77 (dk_at dksJ37_next_1 7 rfl rfl)
theorem dJ37_next_32 : decode cJ37_next 32 = .ok (.aload_n 0, 1) := dk_42 (dk_at dksJ37_next_1 8 rfl rfl)
theorem dJ37_next_33 : decode cJ37_next 33 = .ok (.aload_n 0, 1) := dk_42 (dk_at dksJ37_next_1 9 rfl rfl)
theorem dJ37_next_34 : decode cJ37_next 34 = .ok (.aload_n 0, 1) := dk_42 (dk_at dksJ37_next_1 10 rfl rfl)
theorem dJ37_next_35 : decode cJ37_next 35 = .ok (.getfield 29, 3) := dk_180 0 29 (dk_at dksJ37_next_1 11 rfl rfl)
theorem dJ37_next_38 : decode cJ37_next 38 = .ok (.dup_x1, 1) := dk_90 (dk_at dksJ37_next_1 14 rfl rfl)
theorem dJ37_next_39 : decode cJ37_next 39 = .ok (.putfield 23, 3) := dk_181 0 23 (dk_at dksJ37_next_1 15 rfl rfl)
theorem dJ37_next_42 : decode cJ37_next 42 = .ok (.aload_n 1, 1) := dk_43 (dk_at dksJ37_next_1 18 rfl rfl)
theorem dJ37_next_43 : decode cJ37_next 43 = .ok (.arraylength, 1) := dk_190 (dk_at dksJ37_next_1 19 rfl rfl)
theorem dJ37_next_44 : decode cJ37_next 44 = .ok (.invokestatic 43, 3) := dk_184 0 43 (dk_at dksJ37_next_1 20 rfl rfl)
theorem dJ37_next_47 : decode cJ37_next 47 = .ok (.putfield 29, 3) := dk_181 0 29 (dk_at dksJ37_next_2 0 rfl rfl)
theorem dJ37_next_50 : decode cJ37_next 50 = .ok (.aload_n 0, 1) := dk_42 (dk_at dksJ37_next_2 3 rfl rfl)
theorem dJ37_next_51 : decode cJ37_next 51 = .ok (.dup, 1) := dk_89 (dk_at dksJ37_next_2 4 rfl rfl)
theorem dJ37_next_52 : decode cJ37_next 52 = .ok (.getfield 19, 3) := dk_180 0 19 (dk_at dksJ37_next_2 5 rfl rfl)
theorem dJ37_next_55 : decode cJ37_next 55 = .ok (.iconst 1, 1) := dk_4 (dk_at dksJ37_next_2 8 rfl rfl)
theorem dJ37_next_56 : decode cJ37_next 56 = .ok (.isub, 1) := dk_100 (dk_at dksJ37_next_2 9 rfl rfl)
theorem dJ37_next_57 : decode cJ37_next 57 = .ok (.putfield 19, 3) := dk_181 0 19 (dk_at dksJ37_next_2 10 rfl rfl)
theorem dJ37_next_60 : decode cJ37_next 60 = .ok (.aload_n 2, 1) := dk_44 (dk_at dksJ37_next_2 13 rfl rfl)
theorem dJ37_next_61 : decode cJ37_next 61 = .ok (.areturn, 1) := dk_176 (dk_at dksJ37_next_2 14 rfl rfl)
abbrev cJ37_remove : ByteArray := prog_63_method_5_code
def yJ37_remove : MethodName := ⟨RJ37, "remove", "()V"⟩
def dkwJ37_remove_1 : List UInt8 := [182, 0, 53, 182, 0, 57, 42, 2, 181, 0, 23, 177]
abbrev dktJ37_remove_1 : List UInt8 := dkwJ37_remove_1 ++ []
def dkwJ37_remove_0 : List UInt8 := [42, 180, 0, 23, 156, 0, 11, 187, 0, 50, 89, 183, 0, 52, 191, 42, 42, 180, 0, 1, 42, 180, 0, 23]
abbrev dktJ37_remove_0 : List UInt8 := dkwJ37_remove_0 ++ dktJ37_remove_1
theorem dksJ37_remove_0 : cJ37_remove.data.toList.drop 0 = dktJ37_remove_0 := by decide +kernel
theorem dksJ37_remove_1 : cJ37_remove.data.toList.drop 24 = dktJ37_remove_1 := dk_seg dksJ37_remove_0 24 rfl rfl
theorem dJ37_remove_0 : decode cJ37_remove 0 = .ok (.aload_n 0, 1) := dk_42 (dk_at dksJ37_remove_0 0 rfl rfl)
theorem dJ37_remove_1 : decode cJ37_remove 1 = .ok (.getfield 23, 3) := dk_180 0 23 (dk_at dksJ37_remove_0 1 rfl rfl)
theorem dJ37_remove_4 : decode cJ37_remove 4 = .ok (.ifCond .ge 11, 3) := dk_156 0 11 (dk_at dksJ37_remove_0 4 rfl rfl)
theorem dJ37_remove_7 : decode cJ37_remove 7 = .ok (.new 50, 3) := dk_187 0 50 (dk_at dksJ37_remove_0 7 rfl rfl)
theorem dJ37_remove_10 : decode cJ37_remove 10 = .ok (.dup, 1) := dk_89 (dk_at dksJ37_remove_0 10 rfl rfl)
theorem dJ37_remove_11 : decode cJ37_remove 11 = .ok (.invokespecial 52, 3) := dk_183 0 52 (dk_at dksJ37_remove_0 11 rfl rfl)
theorem dJ37_remove_14 : decode cJ37_remove 14 = .ok (.athrow, 1) := dk_191 (dk_at dksJ37_remove_0 14 rfl rfl)
theorem dJ37_remove_15 : decode cJ37_remove 15 = .ok (.aload_n 0, 1) := dk_42 (dk_at dksJ37_remove_0 15 rfl rfl)
theorem dJ37_remove_16 : decode cJ37_remove 16 = .ok (.aload_n 0, 1) := dk_42 (dk_at dksJ37_remove_0 16 rfl rfl)
theorem dJ37_remove_17 : decode cJ37_remove 17 = .ok (.getfield 1, 3) := dk_180 0 1 (dk_at dksJ37_remove_0 17 rfl rfl)
theorem dJ37_remove_20 : decode cJ37_remove 20 = .ok (.aload_n 0, 1) := dk_42 (dk_at dksJ37_remove_0 20 rfl rfl)
theorem dJ37_remove_21 : decode cJ37_remove 21 = .ok (.getfield 23, 3) := dk_180 0 23 (dk_at dksJ37_remove_0 21 rfl rfl)
theorem dJ37_remove_24 : decode cJ37_remove 24 = .ok (.invokevirtual 53, 3) := dk_182 0 53 (dk_at dksJ37_remove_1 0 rfl rfl)
theorem dJ37_remove_27 : decode cJ37_remove 27 = .ok (.invokevirtual 57, 3) := dk_182 0 57 (dk_at dksJ37_remove_1 3 rfl rfl)
theorem dJ37_remove_30 : decode cJ37_remove 30 = .ok (.aload_n 0, 1) := dk_42 (dk_at dksJ37_remove_1 6 rfl rfl)
theorem dJ37_remove_31 : decode cJ37_remove 31 = .ok (.iconst (-1), 1) := dk_2 (dk_at dksJ37_remove_1 7 rfl rfl)
theorem dJ37_remove_32 : decode cJ37_remove 32 = .ok (.putfield 23, 3) := dk_181 0 23 (dk_at dksJ37_remove_1 8 rfl rfl)
theorem dJ37_remove_35 : decode cJ37_remove 35 = .ok (.return_, 1) := dk_177 (dk_at dksJ37_remove_1 11 rfl rfl)
abbrev cJ37_postDelete : ByteArray := prog_63_method_4_code
def yJ37_postDelete : MethodName := ⟨RJ37, "postDelete", "(Z)V"⟩
def dkwJ37_postDelete_0 : List UInt8 := [27, 153, 0, 22, 42, 42, 180, 0, 29, 42, 180, 0, 1, 180, 0, 35, 190, 184, 0, 47, 181, 0, 29, 177]
abbrev dktJ37_postDelete_0 : List UInt8 := dkwJ37_postDelete_0 ++ []
theorem dksJ37_postDelete_0 : cJ37_postDelete.data.toList.drop 0 = dktJ37_postDelete_0 := by decide +kernel
theorem dJ37_postDelete_0 : decode cJ37_postDelete 0 = .ok (.iload_n 1, 1) := dk_27 (dk_at dksJ37_postDelete_0 0 rfl rfl)
theorem dJ37_postDelete_1 : decode cJ37_postDelete 1 = .ok (.ifCond .eq 22, 3) := dk_153 0 22 (dk_at dksJ37_postDelete_0 1 rfl rfl)
theorem dJ37_postDelete_4 : decode cJ37_postDelete 4 = .ok (.aload_n 0, 1) := dk_42 (dk_at dksJ37_postDelete_0 4 rfl rfl)
theorem dJ37_postDelete_5 : decode cJ37_postDelete 5 = .ok (.aload_n 0, 1) := dk_42 (dk_at dksJ37_postDelete_0 5 rfl rfl)
theorem dJ37_postDelete_6 : decode cJ37_postDelete 6 = .ok (.getfield 29, 3) := dk_180 0 29 (dk_at dksJ37_postDelete_0 6 rfl rfl)
theorem dJ37_postDelete_9 : decode cJ37_postDelete 9 = .ok (.aload_n 0, 1) := dk_42 (dk_at dksJ37_postDelete_0 9 rfl rfl)
theorem dJ37_postDelete_10 : decode cJ37_postDelete 10 = .ok (.getfield 1, 3) := dk_180 0 1 (dk_at dksJ37_postDelete_0 10 rfl rfl)
theorem dJ37_postDelete_13 : decode cJ37_postDelete 13 = .ok (.getfield 35, 3) := dk_180 0 35 (dk_at dksJ37_postDelete_0 13 rfl rfl)
theorem dJ37_postDelete_16 : decode cJ37_postDelete 16 = .ok (.arraylength, 1) := dk_190 (dk_at dksJ37_postDelete_0 16 rfl rfl)
theorem dJ37_postDelete_17 : decode cJ37_postDelete 17 = .ok (.invokestatic 47, 3) := dk_184 0 47 (dk_at dksJ37_postDelete_0 17 rfl rfl)
theorem dJ37_postDelete_20 : decode cJ37_postDelete 20 = .ok (.putfield 29, 3) := dk_181 0 29 (dk_at dksJ37_postDelete_0 20 rfl rfl)
theorem dJ37_postDelete_23 : decode cJ37_postDelete 23 = .ok (.return_, 1) := dk_177 (dk_at dksJ37_postDelete_0 23 rfl rfl)
abbrev cJ37_init : ByteArray := prog_63_method_1_code
def yJ37_init : MethodName := ⟨RJ37, "<init>", "(Ljava/util/ArrayDeque;)V"⟩
def dkwJ37_init_1 : List UInt8 := [181, 0, 23, 42, 43, 180, 0, 26, 181, 0, 29, 177]
abbrev dktJ37_init_1 : List UInt8 := dkwJ37_init_1 ++ []
def dkwJ37_init_0 : List UInt8 := [42, 43, 181, 0, 1, 42, 183, 0, 7, 42, 42, 180, 0, 1, 182, 0, 13, 181, 0, 19, 42, 2]
abbrev dktJ37_init_0 : List UInt8 := dkwJ37_init_0 ++ dktJ37_init_1
theorem dksJ37_init_0 : cJ37_init.data.toList.drop 0 = dktJ37_init_0 := by decide +kernel
theorem dksJ37_init_1 : cJ37_init.data.toList.drop 22 = dktJ37_init_1 := dk_seg dksJ37_init_0 22 rfl rfl
theorem dJ37_init_0 : decode cJ37_init 0 = .ok (.aload_n 0, 1) := dk_42 (dk_at dksJ37_init_0 0 rfl rfl)
theorem dJ37_init_1 : decode cJ37_init 1 = .ok (.aload_n 1, 1) := dk_43 (dk_at dksJ37_init_0 1 rfl rfl)
theorem dJ37_init_2 : decode cJ37_init 2 = .ok (.putfield 1, 3) := dk_181 0 1 (dk_at dksJ37_init_0 2 rfl rfl)
theorem dJ37_init_5 : decode cJ37_init 5 = .ok (.aload_n 0, 1) := dk_42 (dk_at dksJ37_init_0 5 rfl rfl)
theorem dJ37_init_6 : decode cJ37_init 6 = .ok (.invokespecial 7, 3) := dk_183 0 7 (dk_at dksJ37_init_0 6 rfl rfl)
theorem dJ37_init_9 : decode cJ37_init 9 = .ok (.aload_n 0, 1) := dk_42 (dk_at dksJ37_init_0 9 rfl rfl)
theorem dJ37_init_10 : decode cJ37_init 10 = .ok (.aload_n 0, 1) := dk_42 (dk_at dksJ37_init_0 10 rfl rfl)
theorem dJ37_init_11 : decode cJ37_init 11 = .ok (.getfield 1, 3) := dk_180 0 1 (dk_at dksJ37_init_0 11 rfl rfl)
theorem dJ37_init_14 : decode cJ37_init 14 = .ok (.invokevirtual 13, 3) := dk_182 0 13 (dk_at dksJ37_init_0 14 rfl rfl)
theorem dJ37_init_17 : decode cJ37_init 17 = .ok (.putfield 19, 3) := dk_181 0 19 (dk_at dksJ37_init_0 17 rfl rfl)
theorem dJ37_init_20 : decode cJ37_init 20 = .ok (.aload_n 0, 1) := dk_42 (dk_at dksJ37_init_0 20 rfl rfl)
theorem dJ37_init_21 : decode cJ37_init 21 = .ok (.iconst (-1), 1) := dk_2 (dk_at dksJ37_init_0 21 rfl rfl)
theorem dJ37_init_22 : decode cJ37_init 22 = .ok (.putfield 23, 3) := dk_181 0 23 (dk_at dksJ37_init_1 0 rfl rfl)
theorem dJ37_init_25 : decode cJ37_init 25 = .ok (.aload_n 0, 1) := dk_42 (dk_at dksJ37_init_1 3 rfl rfl)
theorem dJ37_init_26 : decode cJ37_init 26 = .ok (.aload_n 1, 1) := dk_43 (dk_at dksJ37_init_1 4 rfl rfl)
theorem dJ37_init_27 : decode cJ37_init 27 = .ok (.getfield 26, 3) := dk_180 0 26 (dk_at dksJ37_init_1 5 rfl rfl)
theorem dJ37_init_30 : decode cJ37_init 30 = .ok (.putfield 29, 3) := dk_181 0 29 (dk_at dksJ37_init_1 8 rfl rfl)
theorem dJ37_init_33 : decode cJ37_init 33 = .ok (.return_, 1) := dk_177 (dk_at dksJ37_init_1 11 rfl rfl)
theorem q158 : (Jvm.Cond.initialized "java/util/ArrayDeque$DeqIterator") ∈ lw_all := lw_g (lw_at lw_m1 57 rfl) rfl
theorem q315 : (Jvm.Cond.fieldLink "java/util/ArrayDeque$DeqIterator" (35 : Nat) "java/util/ArrayDeque" "elements" "[Ljava/lang/Object;") ∈ lw_all := lw_g (lw_at lw_m1 214 rfl) rfl
theorem q316 : (Jvm.Cond.fieldLink "java/util/ArrayDeque$DeqIterator" (26 : Nat) "java/util/ArrayDeque" "head" "I") ∈ lw_all := lw_g (lw_at lw_m1 215 rfl) rfl
theorem q705 : (Jvm.Cond.selects "java/util/ArrayDeque$DeqIterator" ({ cls := "java/lang/Object", name := "getClass", desc := "()Ljava/lang/Class;" } : Jvm.MethodName) ({ cls := "java/lang/Object", name := "getClass", desc := "()Ljava/lang/Class;" } : Jvm.MethodName)) ∈ lw_all := lw_g (lw_at lw_m3 124 rfl) rfl
theorem q1303 : (Jvm.Cond.castable "java/util/ArrayDeque$DeqIterator" "java/util/Iterator") ∈ lw_tbl := lw_at lw_m6 2 rfl
theorem q1304 : (Jvm.Cond.selects "java/util/ArrayDeque$DeqIterator" ({ cls := "java/util/Iterator", name := "hasNext", desc := "()Z" } : Jvm.MethodName) ({ cls := "java/util/ArrayDeque$DeqIterator", name := "hasNext", desc := "()Z" } : Jvm.MethodName)) ∈ lw_all := lw_g (lw_at lw_m6 3 rfl) rfl
theorem q1305 : (Jvm.Cond.unhidden "java/util/ArrayDeque$DeqIterator" "hasNext" "()Z") ∈ lw_tbl := lw_at lw_m6 4 rfl
theorem q1306 : (Jvm.Cond.instanceMethod ({ cls := "java/util/ArrayDeque$DeqIterator", name := "hasNext", desc := "()Z" } : Jvm.MethodName)) ∈ lw_all := lw_g (lw_at lw_m6 5 rfl) rfl
theorem q1307 : (Jvm.Cond.publicMethod ({ cls := "java/util/ArrayDeque$DeqIterator", name := "hasNext", desc := "()Z" } : Jvm.MethodName)) ∈ lw_tbl := lw_at lw_m6 6 rfl
theorem q1308 : (Jvm.Cond.code ({ cls := "java/util/ArrayDeque$DeqIterator", name := "hasNext", desc := "()Z" } : Jvm.MethodName) prog_63_method_2_code (1 : Nat) (Option.some Jvm.ClassFile.FieldType.boolean)) ∈ lw_all := lw_g (lw_at lw_m6 7 rfl) rfl
theorem q1682 : (Jvm.Cond.selects "java/util/ArrayDeque$DeqIterator" ({ cls := "java/util/Iterator", name := "next", desc := "()Ljava/lang/Object;" } : Jvm.MethodName) ({ cls := "java/util/ArrayDeque$DeqIterator", name := "next", desc := "()Ljava/lang/Object;" } : Jvm.MethodName)) ∈ lw_all := lw_g (lw_at lw_m7 141 rfl) rfl
theorem q1683 : (Jvm.Cond.unhidden "java/util/ArrayDeque$DeqIterator" "next" "()Ljava/lang/Object;") ∈ lw_tbl := lw_at lw_m7 142 rfl
theorem q1684 : (Jvm.Cond.instanceMethod ({ cls := "java/util/ArrayDeque$DeqIterator", name := "next", desc := "()Ljava/lang/Object;" } : Jvm.MethodName)) ∈ lw_all := lw_g (lw_at lw_m7 143 rfl) rfl
theorem q1685 : (Jvm.Cond.publicMethod ({ cls := "java/util/ArrayDeque$DeqIterator", name := "next", desc := "()Ljava/lang/Object;" } : Jvm.MethodName)) ∈ lw_tbl := lw_at lw_m7 144 rfl
theorem q1686 : (Jvm.Cond.code ({ cls := "java/util/ArrayDeque$DeqIterator", name := "next", desc := "()Ljava/lang/Object;" } : Jvm.MethodName) prog_63_method_3_code (3 : Nat) (Option.some (Jvm.ClassFile.FieldType.object "java/lang/Object"))) ∈ lw_all := lw_g (lw_at lw_m7 145 rfl) rfl
theorem q1687 : (Jvm.Cond.methodLink "java/util/ArrayDeque$DeqIterator" (39 : Nat) ({ cls := "java/util/ArrayDeque", name := "nonNullElementAt", desc := "([Ljava/lang/Object;I)Ljava/lang/Object;" } : Jvm.MethodName)) ∈ lw_all := lw_g (lw_at lw_m7 146 rfl) rfl
theorem q1690 : (Jvm.Cond.methodLink "java/util/ArrayDeque$DeqIterator" (43 : Nat) ({ cls := "java/util/ArrayDeque", name := "inc", desc := "(II)I" } : Jvm.MethodName)) ∈ lw_all := lw_g (lw_at lw_m7 149 rfl) rfl
theorem q2031 : (Jvm.Cond.selects "java/util/ArrayDeque$DeqIterator" ({ cls := "java/util/Iterator", name := "remove", desc := "()V" } : Jvm.MethodName) ({ cls := "java/util/ArrayDeque$DeqIterator", name := "remove", desc := "()V" } : Jvm.MethodName)) ∈ lw_all := lw_g (lw_at lw_m9 10 rfl) rfl
theorem q2032 : (Jvm.Cond.unhidden "java/util/ArrayDeque$DeqIterator" "remove" "()V") ∈ lw_tbl := lw_at lw_m9 11 rfl
theorem q2033 : (Jvm.Cond.instanceMethod ({ cls := "java/util/ArrayDeque$DeqIterator", name := "remove", desc := "()V" } : Jvm.MethodName)) ∈ lw_all := lw_g (lw_at lw_m9 12 rfl) rfl
theorem q2034 : (Jvm.Cond.publicMethod ({ cls := "java/util/ArrayDeque$DeqIterator", name := "remove", desc := "()V" } : Jvm.MethodName)) ∈ lw_tbl := lw_at lw_m9 13 rfl
theorem q2035 : (Jvm.Cond.code ({ cls := "java/util/ArrayDeque$DeqIterator", name := "remove", desc := "()V" } : Jvm.MethodName) prog_63_method_5_code (1 : Nat) (Option.none : Option Jvm.ClassFile.FieldType)) ∈ lw_all := lw_g (lw_at lw_m9 14 rfl) rfl
theorem q2036 : (Jvm.Cond.methodLink "java/util/ArrayDeque$DeqIterator" (53 : Nat) ({ cls := "java/util/ArrayDeque", name := "delete", desc := "(I)Z" } : Jvm.MethodName)) ∈ lw_all := lw_g (lw_at lw_m9 15 rfl) rfl
theorem q2047 : (Jvm.Cond.methodLink "java/util/ArrayDeque$DeqIterator" (57 : Nat) ({ cls := "java/util/ArrayDeque$DeqIterator", name := "postDelete", desc := "(Z)V" } : Jvm.MethodName)) ∈ lw_all := lw_g (lw_at lw_m9 26 rfl) rfl
theorem q2048 : (Jvm.Cond.instanceMethod ({ cls := "java/util/ArrayDeque$DeqIterator", name := "postDelete", desc := "(Z)V" } : Jvm.MethodName)) ∈ lw_all := lw_g (lw_at lw_m9 27 rfl) rfl
theorem q2049 : (Jvm.Cond.selects "java/util/ArrayDeque$DeqIterator" ({ cls := "java/util/ArrayDeque$DeqIterator", name := "postDelete", desc := "(Z)V" } : Jvm.MethodName) ({ cls := "java/util/ArrayDeque$DeqIterator", name := "postDelete", desc := "(Z)V" } : Jvm.MethodName)) ∈ lw_all := lw_g (lw_at lw_m9 28 rfl) rfl
theorem q2050 : (Jvm.Cond.code ({ cls := "java/util/ArrayDeque$DeqIterator", name := "postDelete", desc := "(Z)V" } : Jvm.MethodName) prog_63_method_4_code (2 : Nat) (Option.none : Option Jvm.ClassFile.FieldType)) ∈ lw_all := lw_g (lw_at lw_m9 29 rfl) rfl
theorem q2051 : (Jvm.Cond.methodLink "java/util/ArrayDeque$DeqIterator" (47 : Nat) ({ cls := "java/util/ArrayDeque", name := "dec", desc := "(II)I" } : Jvm.MethodName)) ∈ lw_all := lw_g (lw_at lw_m9 30 rfl) rfl
theorem q2411 : (Jvm.Cond.instantiable "java/util/ArrayDeque$DeqIterator" (4 : Nat)) ∈ lw_all := lw_g (lw_at lw_m10 150 rfl) rfl
theorem q2413 : (Jvm.Cond.instanceMethod ({ cls := "java/util/ArrayDeque$DeqIterator", name := "<init>", desc := "(Ljava/util/ArrayDeque;)V" } : Jvm.MethodName)) ∈ lw_all := lw_g (lw_at lw_m10 152 rfl) rfl
theorem q2414 : (Jvm.Cond.code ({ cls := "java/util/ArrayDeque$DeqIterator", name := "<init>", desc := "(Ljava/util/ArrayDeque;)V" } : Jvm.MethodName) prog_63_method_1_code (2 : Nat) (Option.none : Option Jvm.ClassFile.FieldType)) ∈ lw_all := lw_g (lw_at lw_m10 153 rfl) rfl
theorem q2415 : (Jvm.Cond.methodLink "java/util/ArrayDeque$DeqIterator" (7 : Nat) ({ cls := "java/lang/Object", name := "<init>", desc := "()V" } : Jvm.MethodName)) ∈ lw_all := lw_g (lw_at lw_m10 154 rfl) rfl
theorem q2416 : (Jvm.Cond.methodLink "java/util/ArrayDeque$DeqIterator" (13 : Nat) ({ cls := "java/util/ArrayDeque", name := "size", desc := "()I" } : Jvm.MethodName)) ∈ lw_all := lw_g (lw_at lw_m10 155 rfl) rfl
theorem q2417 : (Jvm.Cond.fieldLink "java/util/ArrayDeque$DeqIterator" (29 : Nat) "java/util/ArrayDeque$DeqIterator" "cursor" "I") ∈ lw_all := lw_g (lw_at lw_m10 156 rfl) rfl
theorem q2418 : (Jvm.Cond.fieldLink "java/util/ArrayDeque$DeqIterator" (19 : Nat) "java/util/ArrayDeque$DeqIterator" "remaining" "I") ∈ lw_all := lw_g (lw_at lw_m10 157 rfl) rfl
theorem q2419 : (Jvm.Cond.fieldLink "java/util/ArrayDeque$DeqIterator" (23 : Nat) "java/util/ArrayDeque$DeqIterator" "lastRet" "I") ∈ lw_all := lw_g (lw_at lw_m10 158 rfl) rfl
theorem q2420 : (Jvm.Cond.fieldLink "java/util/ArrayDeque$DeqIterator" (1 : Nat) "java/util/ArrayDeque$DeqIterator" "this$0" "Ljava/util/ArrayDeque;") ∈ lw_all := lw_g (lw_at lw_m10 159 rfl) rfl
theorem q2421 : (Jvm.Cond.lays "java/util/ArrayDeque$DeqIterator" "java/util/ArrayDeque$DeqIterator" "cursor" "I") ∈ lw_all := lw_g (lw_at lw_m10 160 rfl) rfl
theorem q2422 : (Jvm.Cond.soleField "java/util/ArrayDeque$DeqIterator" "cursor") ∈ lw_all := lw_g (lw_at lw_m10 161 rfl) rfl
theorem q2423 : (Jvm.Cond.lays "java/util/ArrayDeque$DeqIterator" "java/util/ArrayDeque$DeqIterator" "remaining" "I") ∈ lw_all := lw_g (lw_at lw_m10 162 rfl) rfl
theorem q2424 : (Jvm.Cond.soleField "java/util/ArrayDeque$DeqIterator" "remaining") ∈ lw_all := lw_g (lw_at lw_m10 163 rfl) rfl
theorem q2425 : (Jvm.Cond.lays "java/util/ArrayDeque$DeqIterator" "java/util/ArrayDeque$DeqIterator" "lastRet" "I") ∈ lw_all := lw_g (lw_at lw_m10 164 rfl) rfl
theorem q2426 : (Jvm.Cond.soleField "java/util/ArrayDeque$DeqIterator" "lastRet") ∈ lw_all := lw_g (lw_at lw_m10 165 rfl) rfl
theorem q2427 : (Jvm.Cond.laysFinal "java/util/ArrayDeque$DeqIterator" "java/util/ArrayDeque$DeqIterator" "this$0" "Ljava/util/ArrayDeque;") ∈ lw_all := lw_g (lw_at lw_m10 166 rfl) rfl
theorem q2428 : (Jvm.Cond.soleField "java/util/ArrayDeque$DeqIterator" "this$0") ∈ lw_all := lw_g (lw_at lw_m10 167 rfl) rfl
theorem q2429 : (Jvm.Cond.superclass "java/util/ArrayDeque$DeqIterator" "java/lang/Object") ∈ lw_all := lw_g (lw_at lw_m10 168 rfl) rfl
theorem q3451 : (Jvm.Cond.castable "java/util/ArrayDeque$DeqIterator" "java/lang/Object") ∈ lw_tbl := lw_at lw_m14 230 rfl
theorem in_J37 : ∀ w ∈ wsJ370, w ∈ lw_all := lw_in wsJ370 [2421, 2423, 2425, 2427] (by decide +kernel) (by decide +kernel)

/-! java/util/AbstractSet -/
set_option maxRecDepth 100000
def RJ38 : String := "java/util/AbstractSet"
abbrev cJ38_init : ByteArray := prog_61_method_1_code
def yJ38_init : MethodName := ⟨RJ38, "<init>", "()V"⟩
theorem dJ38_init_0 : decode cJ38_init 0 = .ok (.aload_n 0, 1) := by decide +kernel
theorem dJ38_init_1 : decode cJ38_init 1 = .ok (.invokespecial 1, 3) := by decide +kernel
theorem dJ38_init_4 : decode cJ38_init 4 = .ok (.return_, 1) := by decide +kernel
theorem q159 : (Jvm.Cond.initialized "java/util/AbstractSet") ∈ lw_all := lw_g (lw_at lw_m1 58 rfl) rfl
theorem q2491 : (Jvm.Cond.instanceMethod ({ cls := "java/util/AbstractSet", name := "<init>", desc := "()V" } : Jvm.MethodName)) ∈ lw_all := lw_g (lw_at lw_m10 230 rfl) rfl
theorem q2492 : (Jvm.Cond.code ({ cls := "java/util/AbstractSet", name := "<init>", desc := "()V" } : Jvm.MethodName) prog_61_method_1_code (1 : Nat) (Option.none : Option Jvm.ClassFile.FieldType)) ∈ lw_all := lw_g (lw_at lw_m10 231 rfl) rfl
theorem q2493 : (Jvm.Cond.methodLink "java/util/AbstractSet" (1 : Nat) ({ cls := "java/util/AbstractCollection", name := "<init>", desc := "()V" } : Jvm.MethodName)) ∈ lw_all := lw_g (lw_at lw_m10 232 rfl) rfl

/-! java/util/TreeMap$KeySet -/
set_option maxRecDepth 100000
def RJ39 : String := "java/util/TreeMap$KeySet"
def TJ39 : u_T := fun k => match k with
  | _ => ("java/util/TreeMap$KeySet", "m", "Ljava/util/NavigableMap;", true)
def tyJ39 : Nat → FieldType := fun k => match k with
  | _ => .object "java/util/NavigableMap"
abbrev wsJ390 : List Cond := u_ws RJ39 TJ39 1
theorem nmJ39 : ∀ a, a < 1 → ∀ b, b < 1 → a ≠ b → (TJ39 a).2.1 ≠ (TJ39 b).2.1 := by decide +kernel
theorem tyJ39_ok : ∀ k, k < 1 → parseFieldDescriptor (TJ39 k).2.2.1 = some (tyJ39 k) := by decide +kernel
abbrev cJ39_size : ByteArray := prog_97_method_4_code
def yJ39_size : MethodName := ⟨RJ39, "size", "()I"⟩
def dkwJ39_size_0 : List UInt8 := [42, 180, 0, 7, 185, 0, 26, 1, 0, 172]
abbrev dktJ39_size_0 : List UInt8 := dkwJ39_size_0 ++ []
theorem dksJ39_size_0 : cJ39_size.data.toList.drop 0 = dktJ39_size_0 := by decide +kernel
theorem dJ39_size_0 : decode cJ39_size 0 = .ok (.aload_n 0, 1) := dk_42 (dk_at dksJ39_size_0 0 rfl rfl)
theorem dJ39_size_1 : decode cJ39_size 1 = .ok (.getfield 7, 3) := dk_180 0 7 (dk_at dksJ39_size_0 1 rfl rfl)
theorem dJ39_size_4 : decode cJ39_size 4 = .ok (.invokeinterface 26 1, 5) := by decide +kernel
theorem dJ39_size_9 : decode cJ39_size 9 = .ok (.ireturn, 1) := dk_172 (dk_at dksJ39_size_0 9 rfl rfl)
abbrev cJ39_init : ByteArray := prog_97_method_1_code
def yJ39_init : MethodName := ⟨RJ39, "<init>", "(Ljava/util/NavigableMap;)V"⟩
def dkwJ39_init_0 : List UInt8 := [42, 183, 0, 1, 42, 43, 181, 0, 7, 177]
abbrev dktJ39_init_0 : List UInt8 := dkwJ39_init_0 ++ []
theorem dksJ39_init_0 : cJ39_init.data.toList.drop 0 = dktJ39_init_0 := by decide +kernel
theorem dJ39_init_0 : decode cJ39_init 0 = .ok (.aload_n 0, 1) := dk_42 (dk_at dksJ39_init_0 0 rfl rfl)
theorem dJ39_init_1 : decode cJ39_init 1 = .ok (.invokespecial 1, 3) := dk_183 0 1 (dk_at dksJ39_init_0 1 rfl rfl)
theorem dJ39_init_4 : decode cJ39_init 4 = .ok (.aload_n 0, 1) := dk_42 (dk_at dksJ39_init_0 4 rfl rfl)
theorem dJ39_init_5 : decode cJ39_init 5 = .ok (.aload_n 1, 1) := dk_43 (dk_at dksJ39_init_0 5 rfl rfl)
theorem dJ39_init_6 : decode cJ39_init 6 = .ok (.putfield 7, 3) := dk_181 0 7 (dk_at dksJ39_init_0 6 rfl rfl)
theorem dJ39_init_9 : decode cJ39_init 9 = .ok (.return_, 1) := dk_177 (dk_at dksJ39_init_0 9 rfl rfl)
abbrev cJ39_iterator : ByteArray := prog_97_method_2_code
def yJ39_iterator : MethodName := ⟨RJ39, "iterator", "()Ljava/util/Iterator;"⟩
def dkwJ39_iterator_1 : List UInt8 := [180, 0, 7, 192, 0, 19, 182, 0, 21, 176]
abbrev dktJ39_iterator_1 : List UInt8 := dkwJ39_iterator_1 ++ []
def dkwJ39_iterator_0 : List UInt8 := [42, 180, 0, 7, 193, 0, 13, 153, 0, 14, 42, 180, 0, 7, 192, 0, 13, 182, 0, 15, 176, 42]
abbrev dktJ39_iterator_0 : List UInt8 := dkwJ39_iterator_0 ++ dktJ39_iterator_1
theorem dksJ39_iterator_0 : cJ39_iterator.data.toList.drop 0 = dktJ39_iterator_0 := by decide +kernel
theorem dksJ39_iterator_1 : cJ39_iterator.data.toList.drop 22 = dktJ39_iterator_1 := dk_seg dksJ39_iterator_0 22 rfl rfl
theorem dJ39_iterator_0 : decode cJ39_iterator 0 = .ok (.aload_n 0, 1) := dk_42 (dk_at dksJ39_iterator_0 0 rfl rfl)
theorem dJ39_iterator_1 : decode cJ39_iterator 1 = .ok (.getfield 7, 3) := dk_180 0 7 (dk_at dksJ39_iterator_0 1 rfl rfl)
theorem dJ39_iterator_4 : decode cJ39_iterator 4 = .ok (.instanceof 13, 3) := dk_193 0 13 (dk_at dksJ39_iterator_0 4 rfl rfl)
theorem dJ39_iterator_7 : decode cJ39_iterator 7 = .ok (.ifCond .eq 14, 3) := dk_153 0 14 (dk_at dksJ39_iterator_0 7 rfl rfl)
theorem dJ39_iterator_10 : decode cJ39_iterator 10 = .ok (.aload_n 0, 1) := dk_42 (dk_at dksJ39_iterator_0 10 rfl rfl)
theorem dJ39_iterator_11 : decode cJ39_iterator 11 = .ok (.getfield 7, 3) := dk_180 0 7 (dk_at dksJ39_iterator_0 11 rfl rfl)
theorem dJ39_iterator_14 : decode cJ39_iterator 14 = .ok (.checkcast 13, 3) := dk_192 0 13 (dk_at dksJ39_iterator_0 14 rfl rfl)
theorem dJ39_iterator_17 : decode cJ39_iterator 17 = .ok (.invokevirtual 15, 3) := dk_182 0 15 (dk_at dksJ39_iterator_0 17 rfl rfl)
theorem dJ39_iterator_20 : decode cJ39_iterator 20 = .ok (.areturn, 1) := dk_176 (dk_at dksJ39_iterator_0 20 rfl rfl)
theorem dJ39_iterator_21 : decode cJ39_iterator 21 = .ok (.aload_n 0, 1) := dk_42 (dk_at dksJ39_iterator_0 21 rfl rfl)
theorem dJ39_iterator_22 : decode cJ39_iterator 22 = .ok (.getfield 7, 3) := dk_180 0 7 (dk_at dksJ39_iterator_1 0 rfl rfl)
theorem dJ39_iterator_25 : decode cJ39_iterator 25 = .ok (.checkcast 19, 3) := dk_192 0 19 (dk_at dksJ39_iterator_1 3 rfl rfl)
theorem dJ39_iterator_28 : decode cJ39_iterator 28 = .ok (.invokevirtual 21, 3) := dk_182 0 21 (dk_at dksJ39_iterator_1 6 rfl rfl)
theorem dJ39_iterator_31 : decode cJ39_iterator 31 = .ok (.areturn, 1) := dk_176 (dk_at dksJ39_iterator_1 9 rfl rfl)
theorem q160 : (Jvm.Cond.initialized "java/util/TreeMap$KeySet") ∈ lw_all := lw_g (lw_at lw_m1 59 rfl) rfl
theorem q719 : (Jvm.Cond.selects "java/util/TreeMap$KeySet" ({ cls := "java/lang/Object", name := "getClass", desc := "()Ljava/lang/Class;" } : Jvm.MethodName) ({ cls := "java/lang/Object", name := "getClass", desc := "()Ljava/lang/Class;" } : Jvm.MethodName)) ∈ lw_all := lw_g (lw_at lw_m3 138 rfl) rfl
theorem q2307 : (Jvm.Cond.instanceMethod ({ cls := "java/util/TreeMap$KeySet", name := "size", desc := "()I" } : Jvm.MethodName)) ∈ lw_all := lw_g (lw_at lw_m10 46 rfl) rfl
theorem q2308 : (Jvm.Cond.code ({ cls := "java/util/TreeMap$KeySet", name := "size", desc := "()I" } : Jvm.MethodName) prog_97_method_4_code (1 : Nat) (Option.some Jvm.ClassFile.FieldType.int)) ∈ lw_all := lw_g (lw_at lw_m10 47 rfl) rfl
theorem q2309 : (Jvm.Cond.interfaceEntry "java/util/TreeMap$KeySet" (26 : Nat)) ∈ lw_tbl := lw_at lw_m10 48 rfl
theorem q2486 : (Jvm.Cond.instantiable "java/util/TreeMap$KeySet" (1 : Nat)) ∈ lw_all := lw_g (lw_at lw_m10 225 rfl) rfl
theorem q2488 : (Jvm.Cond.instanceMethod ({ cls := "java/util/TreeMap$KeySet", name := "<init>", desc := "(Ljava/util/NavigableMap;)V" } : Jvm.MethodName)) ∈ lw_all := lw_g (lw_at lw_m10 227 rfl) rfl
theorem q2489 : (Jvm.Cond.code ({ cls := "java/util/TreeMap$KeySet", name := "<init>", desc := "(Ljava/util/NavigableMap;)V" } : Jvm.MethodName) prog_97_method_1_code (2 : Nat) (Option.none : Option Jvm.ClassFile.FieldType)) ∈ lw_all := lw_g (lw_at lw_m10 228 rfl) rfl
theorem q2490 : (Jvm.Cond.methodLink "java/util/TreeMap$KeySet" (1 : Nat) ({ cls := "java/util/AbstractSet", name := "<init>", desc := "()V" } : Jvm.MethodName)) ∈ lw_all := lw_g (lw_at lw_m10 229 rfl) rfl
theorem q2494 : (Jvm.Cond.fieldLink "java/util/TreeMap$KeySet" (7 : Nat) "java/util/TreeMap$KeySet" "m" "Ljava/util/NavigableMap;") ∈ lw_all := lw_g (lw_at lw_m10 233 rfl) rfl
theorem q2495 : (Jvm.Cond.laysFinal "java/util/TreeMap$KeySet" "java/util/TreeMap$KeySet" "m" "Ljava/util/NavigableMap;") ∈ lw_all := lw_g (lw_at lw_m10 234 rfl) rfl
theorem q2496 : (Jvm.Cond.soleField "java/util/TreeMap$KeySet" "m") ∈ lw_all := lw_g (lw_at lw_m10 235 rfl) rfl
theorem q2497 : (Jvm.Cond.superclass "java/util/TreeMap$KeySet" "java/util/AbstractSet") ∈ lw_all := lw_g (lw_at lw_m10 236 rfl) rfl
theorem q2502 : (Jvm.Cond.castable "java/util/TreeMap$KeySet" "java/util/Set") ∈ lw_tbl := lw_at lw_m11 1 rfl
theorem q2503 : (Jvm.Cond.selects "java/util/TreeMap$KeySet" ({ cls := "java/util/Set", name := "iterator", desc := "()Ljava/util/Iterator;" } : Jvm.MethodName) ({ cls := "java/util/TreeMap$KeySet", name := "iterator", desc := "()Ljava/util/Iterator;" } : Jvm.MethodName)) ∈ lw_all := lw_g (lw_at lw_m11 2 rfl) rfl
theorem q2504 : (Jvm.Cond.unhidden "java/util/TreeMap$KeySet" "iterator" "()Ljava/util/Iterator;") ∈ lw_tbl := lw_at lw_m11 3 rfl
theorem q2505 : (Jvm.Cond.instanceMethod ({ cls := "java/util/TreeMap$KeySet", name := "iterator", desc := "()Ljava/util/Iterator;" } : Jvm.MethodName)) ∈ lw_all := lw_g (lw_at lw_m11 4 rfl) rfl
theorem q2506 : (Jvm.Cond.publicMethod ({ cls := "java/util/TreeMap$KeySet", name := "iterator", desc := "()Ljava/util/Iterator;" } : Jvm.MethodName)) ∈ lw_tbl := lw_at lw_m11 5 rfl
theorem q2507 : (Jvm.Cond.code ({ cls := "java/util/TreeMap$KeySet", name := "iterator", desc := "()Ljava/util/Iterator;" } : Jvm.MethodName) prog_97_method_2_code (1 : Nat) (Option.some (Jvm.ClassFile.FieldType.object "java/util/Iterator"))) ∈ lw_all := lw_g (lw_at lw_m11 6 rfl) rfl
theorem q2508 : (Jvm.Cond.classLink "java/util/TreeMap$KeySet" (13 : Nat) "java/util/TreeMap") ∈ lw_all := lw_g (lw_at lw_m11 7 rfl) rfl
theorem q2509 : (Jvm.Cond.methodLink "java/util/TreeMap$KeySet" (15 : Nat) ({ cls := "java/util/TreeMap", name := "keyIterator", desc := "()Ljava/util/Iterator;" } : Jvm.MethodName)) ∈ lw_all := lw_g (lw_at lw_m11 8 rfl) rfl
theorem q2539 : (Jvm.Cond.classLink "java/util/TreeMap$KeySet" (19 : Nat) "java/util/TreeMap$NavigableSubMap") ∈ lw_all := lw_g (lw_at lw_m11 38 rfl) rfl
theorem q2540 : (Jvm.Cond.methodLink "java/util/TreeMap$KeySet" (21 : Nat) ({ cls := "java/util/TreeMap$NavigableSubMap", name := "keyIterator", desc := "()Ljava/util/Iterator;" } : Jvm.MethodName)) ∈ lw_all := lw_g (lw_at lw_m11 39 rfl) rfl
theorem q3405 : (Jvm.Cond.selects "java/util/TreeMap$KeySet" ({ cls := "java/util/AbstractCollection", name := "size", desc := "()I" } : Jvm.MethodName) ({ cls := "java/util/TreeMap$KeySet", name := "size", desc := "()I" } : Jvm.MethodName)) ∈ lw_all := lw_g (lw_at lw_m14 184 rfl) rfl
theorem q3452 : (Jvm.Cond.castable "java/util/TreeMap$KeySet" "java/lang/Object") ∈ lw_tbl := lw_at lw_m14 231 rfl
theorem in_J39 : ∀ w ∈ wsJ390, w ∈ lw_all := lw_in wsJ390 [2495] (by decide +kernel) (by decide +kernel)

/-! java/util/TreeMap$PrivateEntryIterator -/
set_option maxRecDepth 100000
def RJ40 : String := "java/util/TreeMap$PrivateEntryIterator"
abbrev cJ40_hasNext : ByteArray := prog_99_method_2_code
def yJ40_hasNext : MethodName := ⟨RJ40, "hasNext", "()Z"⟩
def dkwJ40_hasNext_0 : List UInt8 := [42, 180, 0, 26, 198, 0, 7, 4, 167, 0, 4, 3, 172]
abbrev dktJ40_hasNext_0 : List UInt8 := dkwJ40_hasNext_0 ++ []
theorem dksJ40_hasNext_0 : cJ40_hasNext.data.toList.drop 0 = dktJ40_hasNext_0 := by decide +kernel
theorem dJ40_hasNext_0 : decode cJ40_hasNext 0 = .ok (.aload_n 0, 1) := dk_42 (dk_at dksJ40_hasNext_0 0 rfl rfl)
theorem dJ40_hasNext_1 : decode cJ40_hasNext 1 = .ok (.getfield 26, 3) := dk_180 0 26 (dk_at dksJ40_hasNext_0 1 rfl rfl)
theorem dJ40_hasNext_4 : decode cJ40_hasNext 4 = .ok (.ifnull 7, 3) := dk_198 0 7 (dk_at dksJ40_hasNext_0 4 rfl rfl)
theorem dJ40_hasNext_7 : decode cJ40_hasNext 7 = .ok (.iconst 1, 1) := dk_4 (dk_at dksJ40_hasNext_0 7 rfl rfl)
theorem dJ40_hasNext_8 : decode cJ40_hasNext 8 = .ok (.goto 4, 3) := dk_167 0 4 (dk_at dksJ40_hasNext_0 8 rfl rfl)
theorem dJ40_hasNext_11 : decode cJ40_hasNext 11 = .ok (.iconst 0, 1) := dk_3 (dk_at dksJ40_hasNext_0 11 rfl rfl)
theorem dJ40_hasNext_12 : decode cJ40_hasNext 12 = .ok (.ireturn, 1) := dk_172 (dk_at dksJ40_hasNext_0 12 rfl rfl)
abbrev cJ40_nextEntry : ByteArray := prog_99_method_3_code
def yJ40_nextEntry : MethodName := ⟨RJ40, "nextEntry", "()Ljava/util/TreeMap$Entry;"⟩
def dkwJ40_nextEntry_2 : List UInt8 := [43, 181, 0, 22, 43, 176]
abbrev dktJ40_nextEntry_2 : List UInt8 := dkwJ40_nextEntry_2 ++ []
def dkwJ40_nextEntry_1 : List UInt8 := [42, 180, 0, 19, 159, 0, 11, 187, 0, 32, 89, 183, 0, 34, 191, 42, 43, 184, 0, 35, 181, 0, 26, 42]
abbrev dktJ40_nextEntry_1 : List UInt8 := dkwJ40_nextEntry_1 ++ dktJ40_nextEntry_2
def dkwJ40_nextEntry_0 : List UInt8 := [42, 180, 0, 26, 76, 43, 199, 0, 11, 187, 0, 29, 89, 183, 0, 31, 191, 42, 180, 0, 1, 180, 0, 13]
abbrev dktJ40_nextEntry_0 : List UInt8 := dkwJ40_nextEntry_0 ++ dktJ40_nextEntry_1
theorem dksJ40_nextEntry_0 : cJ40_nextEntry.data.toList.drop 0 = dktJ40_nextEntry_0 := by decide +kernel
theorem dksJ40_nextEntry_1 : cJ40_nextEntry.data.toList.drop 24 = dktJ40_nextEntry_1 := dk_seg dksJ40_nextEntry_0 24 rfl rfl
theorem dksJ40_nextEntry_2 : cJ40_nextEntry.data.toList.drop 48 = dktJ40_nextEntry_2 := dk_seg dksJ40_nextEntry_1 24 rfl rfl
theorem dJ40_nextEntry_0 : decode cJ40_nextEntry 0 = .ok (.aload_n 0, 1) := dk_42 (dk_at dksJ40_nextEntry_0 0 rfl rfl)
theorem dJ40_nextEntry_1 : decode cJ40_nextEntry 1 = .ok (.getfield 26, 3) := dk_180 0 26 (dk_at dksJ40_nextEntry_0 1 rfl rfl)
theorem dJ40_nextEntry_4 : decode cJ40_nextEntry 4 = .ok (.astore_n 1, 1) := dk_76 (dk_at dksJ40_nextEntry_0 4 rfl rfl)
theorem dJ40_nextEntry_5 : decode cJ40_nextEntry 5 = .ok (.aload_n 1, 1) := dk_43 (dk_at dksJ40_nextEntry_0 5 rfl rfl)
theorem dJ40_nextEntry_6 : decode cJ40_nextEntry 6 = .ok (.ifnonnull 11, 3) := dk_199 0 11 (dk_at dksJ40_nextEntry_0 6 rfl rfl)
theorem dJ40_nextEntry_9 : decode cJ40_nextEntry 9 = .ok (.new 29, 3) := dk_187 0 29 (dk_at dksJ40_nextEntry_0 9 rfl rfl)
theorem dJ40_nextEntry_12 : decode cJ40_nextEntry 12 = .ok (.dup, 1) := dk_89 (dk_at dksJ40_nextEntry_0 12 rfl rfl)
theorem dJ40_nextEntry_13 : decode cJ40_nextEntry 13 = .ok (.invokespecial 31, 3) := dk_183 0 31 (dk_at dksJ40_nextEntry_0 13 rfl rfl)
theorem dJ40_nextEntry_16 : decode cJ40_nextEntry 16 = .ok (.athrow, 1) := dk_191 (dk_at dksJ40_nextEntry_0 16 rfl rfl)
theorem dJ40_nextEntry_17 : decode cJ40_nextEntry 17 = .ok (.aload_n 0, 1) := dk_42 (dk_at dksJ40_nextEntry_0 17 rfl rfl)
theorem dJ40_nextEntry_18 : decode cJ40_nextEntry 18 = .ok (.getfield 1, 3) := dk_180 0 1 (dk_at dksJ40_nextEntry_0 18 rfl rfl)
theorem dJ40_nextEntry_21 : decode cJ40_nextEntry 21 = .ok (.getfield 13, 3) := dk_180 0 13 (dk_at dksJ40_nextEntry_0 21 rfl rfl)
theorem dJ40_nextEntry_24 : decode cJ40_nextEntry 24 = .ok (.aload_n 0, 1) := dk_42 (dk_at dksJ40_nextEntry_1 0 rfl rfl)
theorem dJ40_nextEntry_25 : decode cJ40_nextEntry 25 = .ok (.getfield 19, 3) := dk_180 0 19 (dk_at dksJ40_nextEntry_1 1 rfl rfl)
theorem dJ40_nextEntry_28 : decode cJ40_nextEntry 28 = .ok (.if_icmp .eq 11, 3) := dk_159 0 11 (dk_at dksJ40_nextEntry_1 4 rfl rfl)
theorem dJ40_nextEntry_31 : decode cJ40_nextEntry 31 = .ok (.new 32, 3) := dk_187 0 32 (dk_at dksJ40_nextEntry_1 7 rfl rfl)
theorem dJ40_nextEntry_34 : decode cJ40_nextEntry 34 = .ok (.dup, 1) := dk_89 (dk_at dksJ40_nextEntry_1 10 rfl rfl)
theorem dJ40_nextEntry_35 : decode cJ40_nextEntry 35 = .ok (.invokespecial 34, 3) := dk_183 0 34 (dk_at dksJ40_nextEntry_1 11 rfl rfl)
theorem dJ40_nextEntry_38 : decode cJ40_nextEntry 38 = .ok (.athrow, 1) := dk_191 (dk_at dksJ40_nextEntry_1 14 rfl rfl)
theorem dJ40_nextEntry_39 : decode cJ40_nextEntry 39 = .ok (.aload_n 0, 1) := dk_42 (dk_at dksJ40_nextEntry_1 15 rfl rfl)
theorem dJ40_nextEntry_40 : decode cJ40_nextEntry 40 = .ok (.aload_n 1, 1) := dk_43 (dk_at dksJ40_nextEntry_1 16 rfl rfl)
theorem dJ40_nextEntry_41 : decode cJ40_nextEntry 41 = .ok (.invokestatic 35, 3) := dk_184 0 35 (dk_at dksJ40_nextEntry_1 17 rfl rfl)
theorem dJ40_nextEntry_44 : decode cJ40_nextEntry 44 = .ok (.putfield 26, 3) := dk_181 0 26 (dk_at dksJ40_nextEntry_1 20 rfl rfl)
theorem dJ40_nextEntry_47 : decode cJ40_nextEntry 47 = .ok (.aload_n 0, 1) := dk_42 (dk_at dksJ40_nextEntry_1 23 rfl rfl)
theorem dJ40_nextEntry_48 : decode cJ40_nextEntry 48 = .ok (.aload_n 1, 1) := dk_43 (dk_at dksJ40_nextEntry_2 0 rfl rfl)
theorem dJ40_nextEntry_49 : decode cJ40_nextEntry 49 = .ok (.putfield 22, 3) := dk_181 0 22 (dk_at dksJ40_nextEntry_2 1 rfl rfl)
theorem dJ40_nextEntry_52 : decode cJ40_nextEntry 52 = .ok (.aload_n 1, 1) := dk_43 (dk_at dksJ40_nextEntry_2 4 rfl rfl)
theorem dJ40_nextEntry_53 : decode cJ40_nextEntry 53 = .ok (.areturn, 1) := dk_176 (dk_at dksJ40_nextEntry_2 5 rfl rfl)
abbrev cJ40_remove : ByteArray := prog_99_method_5_code
def yJ40_remove : MethodName := ⟨RJ40, "remove", "()V"⟩
def dkwJ40_remove_3 : List UInt8 := [180, 0, 22, 182, 0, 53, 42, 42, 180, 0, 1, 180, 0, 13, 181, 0, 19, 42, 1, 181, 0, 22, 177]
abbrev dktJ40_remove_3 : List UInt8 := dkwJ40_remove_3 ++ []
def dkwJ40_remove_2 : List UInt8 := [42, 180, 0, 22, 180, 0, 50, 198, 0, 11, 42, 42, 180, 0, 22, 181, 0, 26, 42, 180, 0, 1, 42]
abbrev dktJ40_remove_2 : List UInt8 := dkwJ40_remove_2 ++ dktJ40_remove_3
def dkwJ40_remove_1 : List UInt8 := [180, 0, 19, 159, 0, 11, 187, 0, 32, 89, 183, 0, 34, 191, 42, 180, 0, 22, 180, 0, 45, 198, 0, 21]
abbrev dktJ40_remove_1 : List UInt8 := dkwJ40_remove_1 ++ dktJ40_remove_2
def dkwJ40_remove_0 : List UInt8 := [42, 180, 0, 22, 199, 0, 11, 187, 0, 42, 89, 183, 0, 44, 191, 42, 180, 0, 1, 180, 0, 13, 42]
abbrev dktJ40_remove_0 : List UInt8 := dkwJ40_remove_0 ++ dktJ40_remove_1
theorem dksJ40_remove_0 : cJ40_remove.data.toList.drop 0 = dktJ40_remove_0 := by decide +kernel
theorem dksJ40_remove_1 : cJ40_remove.data.toList.drop 23 = dktJ40_remove_1 := dk_seg dksJ40_remove_0 23 rfl rfl
theorem dksJ40_remove_2 : cJ40_remove.data.toList.drop 47 = dktJ40_remove_2 := dk_seg dksJ40_remove_1 24 rfl rfl
theorem dksJ40_remove_3 : cJ40_remove.data.toList.drop 70 = dktJ40_remove_3 := dk_seg dksJ40_remove_2 23 rfl rfl
theorem dJ40_remove_0 : decode cJ40_remove 0 = .ok (.aload_n 0, 1) := dk_42 (dk_at dksJ40_remove_0 0 rfl rfl)
theorem dJ40_remove_1 : decode cJ40_remove 1 = .ok (.getfield 22, 3) := dk_180 0 22 (dk_at dksJ40_remove_0 1 rfl rfl)
theorem dJ40_remove_4 : decode cJ40_remove 4 = .ok (.ifnonnull 11, 3) := dk_199 0 11 (dk_at dksJ40_remove_0 4 rfl rfl)
theorem dJ40_remove_7 : decode cJ40_remove 7 = .ok (.new 42, 3) := dk_187 0 42 (dk_at dksJ40_remove_0 7 rfl rfl)
theorem dJ40_remove_10 : decode cJ40_remove 10 = .ok (.dup, 1) := dk_89 (dk_at dksJ40_remove_0 10 rfl rfl)
theorem dJ40_remove_11 : decode cJ40_remove 11 = .ok (.invokespecial 44, 3) := dk_183 0 44 (dk_at dksJ40_remove_0 11 rfl rfl)
theorem dJ40_remove_14 : decode cJ40_remove 14 = .ok (.athrow, 1) := dk_191 (dk_at dksJ40_remove_0 14 rfl rfl)
theorem dJ40_remove_15 : decode cJ40_remove 15 = .ok (.aload_n 0, 1) := dk_42 (dk_at dksJ40_remove_0 15 rfl rfl)
theorem dJ40_remove_16 : decode cJ40_remove 16 = .ok (.getfield 1, 3) := dk_180 0 1 (dk_at dksJ40_remove_0 16 rfl rfl)
theorem dJ40_remove_19 : decode cJ40_remove 19 = .ok (.getfield 13, 3) := dk_180 0 13 (dk_at dksJ40_remove_0 19 rfl rfl)
theorem dJ40_remove_22 : decode cJ40_remove 22 = .ok (.aload_n 0, 1) := dk_42 (dk_at dksJ40_remove_0 22 rfl rfl)
theorem dJ40_remove_23 : decode cJ40_remove 23 = .ok (.getfield 19, 3) := dk_180 0 19 (dk_at dksJ40_remove_1 0 rfl rfl)
theorem dJ40_remove_26 : decode cJ40_remove 26 = .ok (.if_icmp .eq 11, 3) := dk_159 0 11 (dk_at dksJ40_remove_1 3 rfl rfl)
theorem dJ40_remove_29 : decode cJ40_remove 29 = .ok (.new 32, 3) := dk_187 0 32 (dk_at dksJ40_remove_1 6 rfl rfl)
theorem dJ40_remove_32 : decode cJ40_remove 32 = .ok (.dup, 1) := dk_89 (dk_at dksJ40_remove_1 9 rfl rfl)
theorem dJ40_remove_33 : decode cJ40_remove 33 = .ok (.invokespecial 34, 3) := dk_183 0 34 (dk_at dksJ40_remove_1 10 rfl rfl)
theorem dJ40_remove_36 : decode cJ40_remove 36 = .ok (.athrow, 1) := dk_191 (dk_at dksJ40_remove_1 13 rfl rfl)
theorem dJ40_remove_37 : decode cJ40_remove 37 = .ok (.aload_n 0, 1) := dk_42 (dk_at dksJ40_remove_1 14 rfl rfl)
theorem dJ40_remove_38 : decode cJ40_remove 38 = .ok (.getfield 22, 3) := dk_180 0 22 (dk_at dksJ40_remove_1 15 rfl rfl)
theorem dJ40_remove_41 : decode cJ40_remove 41 = .ok (.getfield 45, 3) := dk_180 0 45 (dk_at dksJ40_remove_1 18 rfl rfl)
theorem dJ40_remove_44 : decode cJ40_remove 44 = .ok (.ifnull 21, 3) := dk_198 0 21 (dk_at dksJ40_remove_1 21 rfl rfl)
theorem dJ40_remove_47 : decode cJ40_remove 47 = .ok (.aload_n 0, 1) := dk_42 (dk_at dksJ40_remove_2 0 rfl rfl)
theorem dJ40_remove_48 : decode cJ40_remove 48 = .ok (.getfield 22, 3) := dk_180 0 22 (dk_at dksJ40_remove_2 1 rfl rfl)
theorem dJ40_remove_51 : decode cJ40_remove 51 = .ok (.getfield 50, 3) := dk_180 0 50 (dk_at dksJ40_remove_2 4 rfl rfl)
theorem dJ40_remove_54 : decode cJ40_remove 54 = .ok (.ifnull 11, 3) := dk_198 0 11 (dk_at dksJ40_remove_2 7 rfl rfl)
theorem dJ40_remove_57 : decode cJ40_remove 57 = .ok (.aload_n 0, 1) := dk_42 (dk_at dksJ40_remove_2 10 rfl rfl)
theorem dJ40_remove_58 : decode cJ40_remove 58 = .ok (.aload_n 0, 1) := dk_42 (dk_at dksJ40_remove_2 11 rfl rfl)
theorem dJ40_remove_59 : decode cJ40_remove 59 = .ok (.getfield 22, 3) := dk_180 0 22 (dk_at dksJ40_remove_2 12 rfl rfl)
theorem dJ40_remove_62 : decode cJ40_remove 62 = .ok (.putfield 26, 3) := dk_181 0 26 (dk_at dksJ40_remove_2 15 rfl rfl)
theorem dJ40_remove_65 : decode cJ40_remove 65 = .ok (.aload_n 0, 1) := dk_42 (dk_at dksJ40_remove_2 18 rfl rfl)
theorem dJ40_remove_66 : decode cJ40_remove 66 = .ok (.getfield 1, 3) := dk_180 0 1 (dk_at dksJ40_remove_2 19 rfl rfl)
theorem dJ40_remove_69 : decode cJ40_remove 69 = .ok (.aload_n 0, 1) := dk_42 (dk_at dksJ40_remove_2 22 rfl rfl)
theorem dJ40_remove_70 : decode cJ40_remove 70 = .ok (.getfield 22, 3) := dk_180 0 22 (dk_at dksJ40_remove_3 0 rfl rfl)
theorem dJ40_remove_73 : decode cJ40_remove 73 = .ok (.invokevirtual 53, 3) := dk_182 0 53 (dk_at dksJ40_remove_3 3 rfl rfl)
theorem dJ40_remove_76 : decode cJ40_remove 76 = .ok (.aload_n 0, 1) := dk_42 (dk_at dksJ40_remove_3 6 rfl rfl)
theorem dJ40_remove_77 : decode cJ40_remove 77 = .ok (.aload_n 0, 1) := dk_42 (dk_at dksJ40_remove_3 7 rfl rfl)
theorem dJ40_remove_78 : decode cJ40_remove 78 = .ok (.getfield 1, 3) := dk_180 0 1 (dk_at dksJ40_remove_3 8 rfl rfl)
theorem dJ40_remove_81 : decode cJ40_remove 81 = .ok (.getfield 13, 3) := dk_180 0 13 (dk_at dksJ40_remove_3 11 rfl rfl)
theorem dJ40_remove_84 : decode cJ40_remove 84 = .ok (.putfield 19, 3) := dk_181 0 19 (dk_at dksJ40_remove_3 14 rfl rfl)
theorem dJ40_remove_87 : decode cJ40_remove 87 = .ok (.aload_n 0, 1) := dk_42 (dk_at dksJ40_remove_3 17 rfl rfl)
theorem dJ40_remove_88 : decode cJ40_remove 88 = .ok (.aconst_null, 1) := dk_1 (dk_at dksJ40_remove_3 18 rfl rfl)
theorem dJ40_remove_89 : decode cJ40_remove 89 = .ok (.putfield 22, 3) := dk_181 0 22 (dk_at dksJ40_remove_3 19 rfl rfl)
theorem dJ40_remove_92 : decode cJ40_remove 92 = .ok (.return_, 1) := dk_177 (dk_at dksJ40_remove_3 22 rfl rfl)
abbrev cJ40_init : ByteArray := prog_99_method_1_code
def yJ40_init : MethodName := ⟨RJ40, "<init>", "(Ljava/util/TreeMap;Ljava/util/TreeMap$Entry;)V"⟩
def dkwJ40_init_1 : List UInt8 := [181, 0, 26, 177]
abbrev dktJ40_init_1 : List UInt8 := dkwJ40_init_1 ++ []
def dkwJ40_init_0 : List UInt8 := [42, 43, 181, 0, 1, 42, 183, 0, 7, 42, 43, 180, 0, 13, 181, 0, 19, 42, 1, 181, 0, 22, 42, 44]
abbrev dktJ40_init_0 : List UInt8 := dkwJ40_init_0 ++ dktJ40_init_1
theorem dksJ40_init_0 : cJ40_init.data.toList.drop 0 = dktJ40_init_0 := by decide +kernel
theorem dksJ40_init_1 : cJ40_init.data.toList.drop 24 = dktJ40_init_1 := dk_seg dksJ40_init_0 24 rfl rfl
theorem dJ40_init_0 : decode cJ40_init 0 = .ok (.aload_n 0, 1) := dk_42 (dk_at dksJ40_init_0 0 rfl rfl)
theorem dJ40_init_1 : decode cJ40_init 1 = .ok (.aload_n 1, 1) := dk_43 (dk_at dksJ40_init_0 1 rfl rfl)
theorem dJ40_init_2 : decode cJ40_init 2 = .ok (.putfield 1, 3) := dk_181 0 1 (dk_at dksJ40_init_0 2 rfl rfl)
theorem dJ40_init_5 : decode cJ40_init 5 = .ok (.aload_n 0, 1) := dk_42 (dk_at dksJ40_init_0 5 rfl rfl)
theorem dJ40_init_6 : decode cJ40_init 6 = .ok (.invokespecial 7, 3) := dk_183 0 7 (dk_at dksJ40_init_0 6 rfl rfl)
theorem dJ40_init_9 : decode cJ40_init 9 = .ok (.aload_n 0, 1) := dk_42 (dk_at dksJ40_init_0 9 rfl rfl)
theorem dJ40_init_10 : decode cJ40_init 10 = .ok (.aload_n 1, 1) := dk_43 (dk_at dksJ40_init_0 10 rfl rfl)
theorem dJ40_init_11 : decode cJ40_init 11 = .ok (.getfield 13, 3) := dk_180 0 13 (dk_at dksJ40_init_0 11 rfl rfl)
theorem dJ40_init_14 : decode cJ40_init 14 = .ok (.putfield 19, 3) := dk_181 0 19 (dk_at dksJ40_init_0 14 rfl rfl)
theorem dJ40_init_17 : decode cJ40_init 17 = .ok (.aload_n 0, 1) := dk_42 (dk_at dksJ40_init_0 17 rfl rfl)
theorem dJ40_init_18 : decode cJ40_init 18 = .ok (.aconst_null, 1) := dk_1 (dk_at dksJ40_init_0 18 rfl rfl)
theorem dJ40_init_19 : decode cJ40_init 19 = .ok (.putfield 22, 3) := dk_181 0 22 (dk_at dksJ40_init_0 19 rfl rfl)
theorem dJ40_init_22 : decode cJ40_init 22 = .ok (.aload_n 0, 1) := dk_42 (dk_at dksJ40_init_0 22 rfl rfl)
theorem dJ40_init_23 : decode cJ40_init 23 = .ok (.aload_n 2, 1) := dk_44 (dk_at dksJ40_init_0 23 rfl rfl)
theorem dJ40_init_24 : decode cJ40_init 24 = .ok (.putfield 26, 3) := dk_181 0 26 (dk_at dksJ40_init_1 0 rfl rfl)
theorem dJ40_init_27 : decode cJ40_init 27 = .ok (.return_, 1) := dk_177 (dk_at dksJ40_init_1 3 rfl rfl)
theorem q161 : (Jvm.Cond.initialized "java/util/TreeMap$PrivateEntryIterator") ∈ lw_all := lw_g (lw_at lw_m1 60 rfl) rfl
theorem q345 : (Jvm.Cond.fieldLinkNest "java/util/TreeMap$PrivateEntryIterator" (13 : Nat) "java/util/TreeMap" "modCount" "I" "java/util/TreeMap") ∈ lw_tbl := lw_at lw_m2 4 rfl
theorem q1027 : (Jvm.Cond.fieldLink "java/util/TreeMap$PrivateEntryIterator" (45 : Nat) "java/util/TreeMap$Entry" "left" "Ljava/util/TreeMap$Entry;") ∈ lw_all := lw_g (lw_at lw_m4 206 rfl) rfl
theorem q1029 : (Jvm.Cond.fieldLink "java/util/TreeMap$PrivateEntryIterator" (50 : Nat) "java/util/TreeMap$Entry" "right" "Ljava/util/TreeMap$Entry;") ∈ lw_all := lw_g (lw_at lw_m4 208 rfl) rfl
theorem q1337 : (Jvm.Cond.instanceMethod ({ cls := "java/util/TreeMap$PrivateEntryIterator", name := "hasNext", desc := "()Z" } : Jvm.MethodName)) ∈ lw_all := lw_g (lw_at lw_m6 36 rfl) rfl
theorem q1338 : (Jvm.Cond.publicMethod ({ cls := "java/util/TreeMap$PrivateEntryIterator", name := "hasNext", desc := "()Z" } : Jvm.MethodName)) ∈ lw_tbl := lw_at lw_m6 37 rfl
theorem q1339 : (Jvm.Cond.code ({ cls := "java/util/TreeMap$PrivateEntryIterator", name := "hasNext", desc := "()Z" } : Jvm.MethodName) prog_99_method_2_code (1 : Nat) (Option.some Jvm.ClassFile.FieldType.boolean)) ∈ lw_all := lw_g (lw_at lw_m6 38 rfl) rfl
theorem q1740 : (Jvm.Cond.declares ({ cls := "java/util/TreeMap$PrivateEntryIterator", name := "nextEntry", desc := "()Ljava/util/TreeMap$Entry;" } : Jvm.MethodName)) ∈ lw_tbl := lw_at lw_m7 199 rfl
theorem q1742 : (Jvm.Cond.instanceMethod ({ cls := "java/util/TreeMap$PrivateEntryIterator", name := "nextEntry", desc := "()Ljava/util/TreeMap$Entry;" } : Jvm.MethodName)) ∈ lw_all := lw_g (lw_at lw_m7 201 rfl) rfl
theorem q1743 : (Jvm.Cond.code ({ cls := "java/util/TreeMap$PrivateEntryIterator", name := "nextEntry", desc := "()Ljava/util/TreeMap$Entry;" } : Jvm.MethodName) prog_99_method_3_code (2 : Nat) (Option.some (Jvm.ClassFile.FieldType.object "java/util/TreeMap$Entry"))) ∈ lw_all := lw_g (lw_at lw_m7 202 rfl) rfl
theorem q1744 : (Jvm.Cond.methodLink "java/util/TreeMap$PrivateEntryIterator" (35 : Nat) ({ cls := "java/util/TreeMap", name := "successor", desc := "(Ljava/util/TreeMap$Entry;)Ljava/util/TreeMap$Entry;" } : Jvm.MethodName)) ∈ lw_all := lw_g (lw_at lw_m7 203 rfl) rfl
theorem q2118 : (Jvm.Cond.instanceMethod ({ cls := "java/util/TreeMap$PrivateEntryIterator", name := "remove", desc := "()V" } : Jvm.MethodName)) ∈ lw_all := lw_g (lw_at lw_m9 97 rfl) rfl
theorem q2119 : (Jvm.Cond.publicMethod ({ cls := "java/util/TreeMap$PrivateEntryIterator", name := "remove", desc := "()V" } : Jvm.MethodName)) ∈ lw_tbl := lw_at lw_m9 98 rfl
theorem q2120 : (Jvm.Cond.code ({ cls := "java/util/TreeMap$PrivateEntryIterator", name := "remove", desc := "()V" } : Jvm.MethodName) prog_99_method_5_code (1 : Nat) (Option.none : Option Jvm.ClassFile.FieldType)) ∈ lw_all := lw_g (lw_at lw_m9 99 rfl) rfl
theorem q2121 : (Jvm.Cond.methodLinkNest "java/util/TreeMap$PrivateEntryIterator" (53 : Nat) ({ cls := "java/util/TreeMap", name := "deleteEntry", desc := "(Ljava/util/TreeMap$Entry;)V" } : Jvm.MethodName) "java/util/TreeMap") ∈ lw_tbl := lw_at lw_m9 100 rfl
theorem q2523 : (Jvm.Cond.instanceMethod ({ cls := "java/util/TreeMap$PrivateEntryIterator", name := "<init>", desc := "(Ljava/util/TreeMap;Ljava/util/TreeMap$Entry;)V" } : Jvm.MethodName)) ∈ lw_all := lw_g (lw_at lw_m11 22 rfl) rfl
theorem q2524 : (Jvm.Cond.code ({ cls := "java/util/TreeMap$PrivateEntryIterator", name := "<init>", desc := "(Ljava/util/TreeMap;Ljava/util/TreeMap$Entry;)V" } : Jvm.MethodName) prog_99_method_1_code (3 : Nat) (Option.none : Option Jvm.ClassFile.FieldType)) ∈ lw_all := lw_g (lw_at lw_m11 23 rfl) rfl
theorem q2525 : (Jvm.Cond.methodLink "java/util/TreeMap$PrivateEntryIterator" (7 : Nat) ({ cls := "java/lang/Object", name := "<init>", desc := "()V" } : Jvm.MethodName)) ∈ lw_all := lw_g (lw_at lw_m11 24 rfl) rfl
theorem q2526 : (Jvm.Cond.fieldLink "java/util/TreeMap$PrivateEntryIterator" (26 : Nat) "java/util/TreeMap$PrivateEntryIterator" "next" "Ljava/util/TreeMap$Entry;") ∈ lw_all := lw_g (lw_at lw_m11 25 rfl) rfl
theorem q2527 : (Jvm.Cond.fieldLink "java/util/TreeMap$PrivateEntryIterator" (22 : Nat) "java/util/TreeMap$PrivateEntryIterator" "lastReturned" "Ljava/util/TreeMap$Entry;") ∈ lw_all := lw_g (lw_at lw_m11 26 rfl) rfl
theorem q2528 : (Jvm.Cond.fieldLink "java/util/TreeMap$PrivateEntryIterator" (19 : Nat) "java/util/TreeMap$PrivateEntryIterator" "expectedModCount" "I") ∈ lw_all := lw_g (lw_at lw_m11 27 rfl) rfl
theorem q2529 : (Jvm.Cond.fieldLink "java/util/TreeMap$PrivateEntryIterator" (1 : Nat) "java/util/TreeMap$PrivateEntryIterator" "this$0" "Ljava/util/TreeMap;") ∈ lw_all := lw_g (lw_at lw_m11 28 rfl) rfl
theorem q2531 : (Jvm.Cond.soleField "java/util/TreeMap$PrivateEntryIterator" "next") ∈ lw_all := lw_g (lw_at lw_m11 30 rfl) rfl
theorem q2533 : (Jvm.Cond.soleField "java/util/TreeMap$PrivateEntryIterator" "lastReturned") ∈ lw_all := lw_g (lw_at lw_m11 32 rfl) rfl
theorem q2535 : (Jvm.Cond.soleField "java/util/TreeMap$PrivateEntryIterator" "expectedModCount") ∈ lw_all := lw_g (lw_at lw_m11 34 rfl) rfl
theorem q2537 : (Jvm.Cond.soleField "java/util/TreeMap$PrivateEntryIterator" "this$0") ∈ lw_all := lw_g (lw_at lw_m11 36 rfl) rfl

/-! java/util/TreeMap$KeyIterator -/
set_option maxRecDepth 100000
def RJ41 : String := "java/util/TreeMap$KeyIterator"
def TJ41 : u_T := fun k => match k with
  | 0 => ("java/util/TreeMap$PrivateEntryIterator", "next", "Ljava/util/TreeMap$Entry;", false)
  | 1 => ("java/util/TreeMap$PrivateEntryIterator", "lastReturned", "Ljava/util/TreeMap$Entry;", false)
  | 2 => ("java/util/TreeMap$PrivateEntryIterator", "expectedModCount", "I", false)
  | _ => ("java/util/TreeMap$PrivateEntryIterator", "this$0", "Ljava/util/TreeMap;", true)
def tyJ41 : Nat → FieldType := fun k => match k with
  | 0 => .object "java/util/TreeMap$Entry"
  | 1 => .object "java/util/TreeMap$Entry"
  | 2 => .int
  | _ => .object "java/util/TreeMap"
abbrev wsJ410 : List Cond := u_ws RJ41 TJ41 4
theorem nmJ41 : ∀ a, a < 4 → ∀ b, b < 4 → a ≠ b → (TJ41 a).2.1 ≠ (TJ41 b).2.1 := by decide +kernel
theorem tyJ41_ok : ∀ k, k < 4 → parseFieldDescriptor (TJ41 k).2.2.1 = some (tyJ41 k) := by decide +kernel
abbrev cJ41_next : ByteArray := prog_96_method_2_code
def yJ41_next : MethodName := ⟨RJ41, "next", "()Ljava/lang/Object;"⟩
def dkwJ41_next_0 : List UInt8 := [42, 182, 0, 7, 180, 0, 13, 176]
abbrev dktJ41_next_0 : List UInt8 := dkwJ41_next_0 ++ []
theorem dksJ41_next_0 : cJ41_next.data.toList.drop 0 = dktJ41_next_0 := by decide +kernel
theorem dJ41_next_0 : decode cJ41_next 0 = .ok (.aload_n 0, 1) := dk_42 (dk_at dksJ41_next_0 0 rfl rfl)
theorem dJ41_next_1 : decode cJ41_next 1 = .ok (.invokevirtual 7, 3) := dk_182 0 7 (dk_at dksJ41_next_0 1 rfl rfl)
theorem dJ41_next_4 : decode cJ41_next 4 = .ok (.getfield 13, 3) := dk_180 0 13 (dk_at dksJ41_next_0 4 rfl rfl)
theorem dJ41_next_7 : decode cJ41_next 7 = .ok (.areturn, 1) := dk_176 (dk_at dksJ41_next_0 7 rfl rfl)
abbrev cJ41_init : ByteArray := prog_96_method_1_code
def yJ41_init : MethodName := ⟨RJ41, "<init>", "(Ljava/util/TreeMap;Ljava/util/TreeMap$Entry;)V"⟩
def dkwJ41_init_0 : List UInt8 := [42, 43, 44, 183, 0, 1, 177]
abbrev dktJ41_init_0 : List UInt8 := dkwJ41_init_0 ++ []
theorem dksJ41_init_0 : cJ41_init.data.toList.drop 0 = dktJ41_init_0 := by decide +kernel
theorem dJ41_init_0 : decode cJ41_init 0 = .ok (.aload_n 0, 1) := dk_42 (dk_at dksJ41_init_0 0 rfl rfl)
theorem dJ41_init_1 : decode cJ41_init 1 = .ok (.aload_n 1, 1) := dk_43 (dk_at dksJ41_init_0 1 rfl rfl)
theorem dJ41_init_2 : decode cJ41_init 2 = .ok (.aload_n 2, 1) := dk_44 (dk_at dksJ41_init_0 2 rfl rfl)
theorem dJ41_init_3 : decode cJ41_init 3 = .ok (.invokespecial 1, 3) := dk_183 0 1 (dk_at dksJ41_init_0 3 rfl rfl)
theorem dJ41_init_6 : decode cJ41_init 6 = .ok (.return_, 1) := dk_177 (dk_at dksJ41_init_0 6 rfl rfl)
theorem q162 : (Jvm.Cond.initialized "java/util/TreeMap$KeyIterator") ∈ lw_all := lw_g (lw_at lw_m1 61 rfl) rfl
theorem q718 : (Jvm.Cond.selects "java/util/TreeMap$KeyIterator" ({ cls := "java/lang/Object", name := "getClass", desc := "()Ljava/lang/Class;" } : Jvm.MethodName) ({ cls := "java/lang/Object", name := "getClass", desc := "()Ljava/lang/Class;" } : Jvm.MethodName)) ∈ lw_all := lw_g (lw_at lw_m3 137 rfl) rfl
theorem q1023 : (Jvm.Cond.fieldLink "java/util/TreeMap$KeyIterator" (13 : Nat) "java/util/TreeMap$Entry" "key" "Ljava/lang/Object;") ∈ lw_all := lw_g (lw_at lw_m4 202 rfl) rfl
theorem q1334 : (Jvm.Cond.castable "java/util/TreeMap$KeyIterator" "java/util/Iterator") ∈ lw_tbl := lw_at lw_m6 33 rfl
theorem q1335 : (Jvm.Cond.selects "java/util/TreeMap$KeyIterator" ({ cls := "java/util/Iterator", name := "hasNext", desc := "()Z" } : Jvm.MethodName) ({ cls := "java/util/TreeMap$PrivateEntryIterator", name := "hasNext", desc := "()Z" } : Jvm.MethodName)) ∈ lw_all := lw_g (lw_at lw_m6 34 rfl) rfl
theorem q1336 : (Jvm.Cond.unhidden "java/util/TreeMap$KeyIterator" "hasNext" "()Z") ∈ lw_tbl := lw_at lw_m6 35 rfl
theorem q1733 : (Jvm.Cond.selects "java/util/TreeMap$KeyIterator" ({ cls := "java/util/Iterator", name := "next", desc := "()Ljava/lang/Object;" } : Jvm.MethodName) ({ cls := "java/util/TreeMap$KeyIterator", name := "next", desc := "()Ljava/lang/Object;" } : Jvm.MethodName)) ∈ lw_all := lw_g (lw_at lw_m7 192 rfl) rfl
theorem q1734 : (Jvm.Cond.unhidden "java/util/TreeMap$KeyIterator" "next" "()Ljava/lang/Object;") ∈ lw_tbl := lw_at lw_m7 193 rfl
theorem q1735 : (Jvm.Cond.instanceMethod ({ cls := "java/util/TreeMap$KeyIterator", name := "next", desc := "()Ljava/lang/Object;" } : Jvm.MethodName)) ∈ lw_all := lw_g (lw_at lw_m7 194 rfl) rfl
theorem q1736 : (Jvm.Cond.publicMethod ({ cls := "java/util/TreeMap$KeyIterator", name := "next", desc := "()Ljava/lang/Object;" } : Jvm.MethodName)) ∈ lw_tbl := lw_at lw_m7 195 rfl
theorem q1737 : (Jvm.Cond.code ({ cls := "java/util/TreeMap$KeyIterator", name := "next", desc := "()Ljava/lang/Object;" } : Jvm.MethodName) prog_96_method_2_code (1 : Nat) (Option.some (Jvm.ClassFile.FieldType.object "java/lang/Object"))) ∈ lw_all := lw_g (lw_at lw_m7 196 rfl) rfl
theorem q1738 : (Jvm.Cond.methodLink "java/util/TreeMap$KeyIterator" (7 : Nat) ({ cls := "java/util/TreeMap$KeyIterator", name := "nextEntry", desc := "()Ljava/util/TreeMap$Entry;" } : Jvm.MethodName)) ∈ lw_all := lw_g (lw_at lw_m7 197 rfl) rfl
theorem q1739 : (Jvm.Cond.sameMethod "java/util/TreeMap$KeyIterator" "java/util/TreeMap$PrivateEntryIterator" "nextEntry" "()Ljava/util/TreeMap$Entry;") ∈ lw_all := lw_g (lw_at lw_m7 198 rfl) rfl
theorem q1741 : (Jvm.Cond.selects "java/util/TreeMap$KeyIterator" ({ cls := "java/util/TreeMap$KeyIterator", name := "nextEntry", desc := "()Ljava/util/TreeMap$Entry;" } : Jvm.MethodName) ({ cls := "java/util/TreeMap$PrivateEntryIterator", name := "nextEntry", desc := "()Ljava/util/TreeMap$Entry;" } : Jvm.MethodName)) ∈ lw_all := lw_g (lw_at lw_m7 200 rfl) rfl
theorem q2116 : (Jvm.Cond.selects "java/util/TreeMap$KeyIterator" ({ cls := "java/util/Iterator", name := "remove", desc := "()V" } : Jvm.MethodName) ({ cls := "java/util/TreeMap$PrivateEntryIterator", name := "remove", desc := "()V" } : Jvm.MethodName)) ∈ lw_all := lw_g (lw_at lw_m9 95 rfl) rfl
theorem q2117 : (Jvm.Cond.unhidden "java/util/TreeMap$KeyIterator" "remove" "()V") ∈ lw_tbl := lw_at lw_m9 96 rfl
theorem q2514 : (Jvm.Cond.instantiable "java/util/TreeMap$KeyIterator" (4 : Nat)) ∈ lw_all := lw_g (lw_at lw_m11 13 rfl) rfl
theorem q2520 : (Jvm.Cond.instanceMethod ({ cls := "java/util/TreeMap$KeyIterator", name := "<init>", desc := "(Ljava/util/TreeMap;Ljava/util/TreeMap$Entry;)V" } : Jvm.MethodName)) ∈ lw_all := lw_g (lw_at lw_m11 19 rfl) rfl
theorem q2521 : (Jvm.Cond.code ({ cls := "java/util/TreeMap$KeyIterator", name := "<init>", desc := "(Ljava/util/TreeMap;Ljava/util/TreeMap$Entry;)V" } : Jvm.MethodName) prog_96_method_1_code (3 : Nat) (Option.none : Option Jvm.ClassFile.FieldType)) ∈ lw_all := lw_g (lw_at lw_m11 20 rfl) rfl
theorem q2522 : (Jvm.Cond.methodLink "java/util/TreeMap$KeyIterator" (1 : Nat) ({ cls := "java/util/TreeMap$PrivateEntryIterator", name := "<init>", desc := "(Ljava/util/TreeMap;Ljava/util/TreeMap$Entry;)V" } : Jvm.MethodName)) ∈ lw_all := lw_g (lw_at lw_m11 21 rfl) rfl
theorem q2530 : (Jvm.Cond.lays "java/util/TreeMap$KeyIterator" "java/util/TreeMap$PrivateEntryIterator" "next" "Ljava/util/TreeMap$Entry;") ∈ lw_all := lw_g (lw_at lw_m11 29 rfl) rfl
theorem q2532 : (Jvm.Cond.lays "java/util/TreeMap$KeyIterator" "java/util/TreeMap$PrivateEntryIterator" "lastReturned" "Ljava/util/TreeMap$Entry;") ∈ lw_all := lw_g (lw_at lw_m11 31 rfl) rfl
theorem q2534 : (Jvm.Cond.lays "java/util/TreeMap$KeyIterator" "java/util/TreeMap$PrivateEntryIterator" "expectedModCount" "I") ∈ lw_all := lw_g (lw_at lw_m11 33 rfl) rfl
theorem q2536 : (Jvm.Cond.laysFinal "java/util/TreeMap$KeyIterator" "java/util/TreeMap$PrivateEntryIterator" "this$0" "Ljava/util/TreeMap;") ∈ lw_all := lw_g (lw_at lw_m11 35 rfl) rfl
theorem q2538 : (Jvm.Cond.superclass "java/util/TreeMap$KeyIterator" "java/util/TreeMap$PrivateEntryIterator") ∈ lw_all := lw_g (lw_at lw_m11 37 rfl) rfl
theorem q3453 : (Jvm.Cond.castable "java/util/TreeMap$KeyIterator" "java/lang/Object") ∈ lw_tbl := lw_at lw_m14 232 rfl
theorem in_J41 : ∀ w ∈ wsJ410, w ∈ lw_all := lw_in wsJ410 [2530, 2532, 2534, 2536] (by decide +kernel) (by decide +kernel)

/-! java/util/ArrayList -/
set_option maxRecDepth 100000
def RJ42 : String := "java/util/ArrayList"
def TJ42 : u_T := fun k => match k with
  | 0 => ("java/util/AbstractList", "modCount", "I", false)
  | 1 => ("java/util/ArrayList", "elementData", "[Ljava/lang/Object;", false)
  | _ => ("java/util/ArrayList", "size", "I", false)
def tyJ42 : Nat → FieldType := fun k => match k with
  | 0 => .int
  | 1 => .array (.object "java/lang/Object")
  | _ => .int
abbrev wsJ420 : List Cond := u_ws RJ42 TJ42 3
theorem nmJ42 : ∀ a, a < 3 → ∀ b, b < 3 → a ≠ b → (TJ42 a).2.1 ≠ (TJ42 b).2.1 := by decide +kernel
theorem tyJ42_ok : ∀ k, k < 3 → parseFieldDescriptor (TJ42 k).2.2.1 = some (tyJ42 k) := by decide +kernel
abbrev cJ42_size : ByteArray := prog_64_method_8_code
def yJ42_size : MethodName := ⟨RJ42, "size", "()I"⟩
theorem dJ42_size_0 : decode cJ42_size 0 = .ok (.aload_n 0, 1) := by decide +kernel
theorem dJ42_size_1 : decode cJ42_size 1 = .ok (.getfield 48, 3) := by decide +kernel
theorem dJ42_size_4 : decode cJ42_size 4 = .ok (.ireturn, 1) := by decide +kernel
abbrev cJ42_get : ByteArray := prog_64_method_20_code
def yJ42_get : MethodName := ⟨RJ42, "get", "(I)Ljava/lang/Object;"⟩
def dkwJ42_get_0 : List UInt8 := [27, 42, 180, 0, 48, 184, 0, 118, 87, 42, 27, 182, 0, 123, 176]
abbrev dktJ42_get_0 : List UInt8 := dkwJ42_get_0 ++ []
theorem dksJ42_get_0 : cJ42_get.data.toList.drop 0 = dktJ42_get_0 := by decide +kernel
theorem dJ42_get_0 : decode cJ42_get 0 = .ok (.iload_n 1, 1) := dk_27 (dk_at dksJ42_get_0 0 rfl rfl)
theorem dJ42_get_1 : decode cJ42_get 1 = .ok (.aload_n 0, 1) := dk_42 (dk_at dksJ42_get_0 1 rfl rfl)
theorem dJ42_get_2 : decode cJ42_get 2 = .ok (.getfield 48, 3) := dk_180 0 48 (dk_at dksJ42_get_0 2 rfl rfl)
theorem dJ42_get_5 : decode cJ42_get 5 = .ok (.invokestatic 118, 3) := dk_184 0 118 (dk_at dksJ42_get_0 5 rfl rfl)
theorem dJ42_get_8 : decode cJ42_get 8 = .ok (.pop, 1) := dk_87 (dk_at dksJ42_get_0 8 rfl rfl)
theorem dJ42_get_9 : decode cJ42_get 9 = .ok (.aload_n 0, 1) := dk_42 (dk_at dksJ42_get_0 9 rfl rfl)
theorem dJ42_get_10 : decode cJ42_get 10 = .ok (.iload_n 1, 1) := dk_27 (dk_at dksJ42_get_0 10 rfl rfl)
theorem dJ42_get_11 : decode cJ42_get 11 = .ok (.invokevirtual 123, 3) := dk_182 0 123 (dk_at dksJ42_get_0 11 rfl rfl)
theorem dJ42_get_14 : decode cJ42_get 14 = .ok (.areturn, 1) := dk_176 (dk_at dksJ42_get_0 14 rfl rfl)
abbrev cJ42_elementData : ByteArray := prog_64_method_18_code
def yJ42_elementData : MethodName := ⟨RJ42, "elementData", "(I)Ljava/lang/Object;"⟩
def dkwJ42_elementData_0 : List UInt8 := [42, 180, 0, 9, 27, 50, 176]
abbrev dktJ42_elementData_0 : List UInt8 := dkwJ42_elementData_0 ++ []
theorem dksJ42_elementData_0 : cJ42_elementData.data.toList.drop 0 = dktJ42_elementData_0 := by decide +kernel
theorem dJ42_elementData_0 : decode cJ42_elementData 0 = .ok (.aload_n 0, 1) := dk_42 (dk_at dksJ42_elementData_0 0 rfl rfl)
theorem dJ42_elementData_1 : decode cJ42_elementData 1 = .ok (.getfield 9, 3) := dk_180 0 9 (dk_at dksJ42_elementData_0 1 rfl rfl)
theorem dJ42_elementData_4 : decode cJ42_elementData 4 = .ok (.iload_n 1, 1) := dk_27 (dk_at dksJ42_elementData_0 4 rfl rfl)
theorem dJ42_elementData_5 : decode cJ42_elementData 5 = .ok (.aaload, 1) := dk_50 (dk_at dksJ42_elementData_0 5 rfl rfl)
theorem dJ42_elementData_6 : decode cJ42_elementData 6 = .ok (.areturn, 1) := dk_176 (dk_at dksJ42_elementData_0 6 rfl rfl)
abbrev cJ42_listIterator : ByteArray := prog_64_method_53_code
def yJ42_listIterator : MethodName := ⟨RJ42, "listIterator", "(I)Ljava/util/ListIterator;"⟩
def dkwJ42_listIterator_0 : List UInt8 := [42, 27, 182, 0, 135, 187, 1, 6, 89, 42, 27, 183, 1, 8, 176]
abbrev dktJ42_listIterator_0 : List UInt8 := dkwJ42_listIterator_0 ++ []
theorem dksJ42_listIterator_0 : cJ42_listIterator.data.toList.drop 0 = dktJ42_listIterator_0 := by decide +kernel
theorem dJ42_listIterator_0 : decode cJ42_listIterator 0 = .ok (.aload_n 0, 1) := dk_42 (dk_at dksJ42_listIterator_0 0 rfl rfl)
theorem dJ42_listIterator_1 : decode cJ42_listIterator 1 = .ok (.iload_n 1, 1) := dk_27 (dk_at dksJ42_listIterator_0 1 rfl rfl)
theorem dJ42_listIterator_2 : decode cJ42_listIterator 2 = .ok (.invokevirtual 135, 3) := dk_182 0 135 (dk_at dksJ42_listIterator_0 2 rfl rfl)
theorem dJ42_listIterator_5 : decode cJ42_listIterator 5 = .ok (.new 262, 3) := dk_187 1 6 (dk_at dksJ42_listIterator_0 5 rfl rfl)
theorem dJ42_listIterator_8 : decode cJ42_listIterator 8 = .ok (.dup, 1) := dk_89 (dk_at dksJ42_listIterator_0 8 rfl rfl)
theorem dJ42_listIterator_9 : decode cJ42_listIterator 9 = .ok (.aload_n 0, 1) := dk_42 (dk_at dksJ42_listIterator_0 9 rfl rfl)
theorem dJ42_listIterator_10 : decode cJ42_listIterator 10 = .ok (.iload_n 1, 1) := dk_27 (dk_at dksJ42_listIterator_0 10 rfl rfl)
theorem dJ42_listIterator_11 : decode cJ42_listIterator 11 = .ok (.invokespecial 264, 3) := dk_183 1 8 (dk_at dksJ42_listIterator_0 11 rfl rfl)
theorem dJ42_listIterator_14 : decode cJ42_listIterator 14 = .ok (.areturn, 1) := dk_176 (dk_at dksJ42_listIterator_0 14 rfl rfl)
abbrev cJ42_rangeCheckForAdd : ByteArray := prog_64_method_45_code
def yJ42_rangeCheckForAdd : MethodName := ⟨RJ42, "rangeCheckForAdd", "(I)V"⟩
def dkwJ42_rangeCheckForAdd_1 : List UInt8 := [191, 177]
abbrev dktJ42_rangeCheckForAdd_1 : List UInt8 := dkwJ42_rangeCheckForAdd_1 ++ []
def dkwJ42_rangeCheckForAdd_0 : List UInt8 := [27, 42, 180, 0, 48, 163, 0, 7, 27, 156, 0, 16, 187, 0, 187, 89, 42, 27, 182, 0, 198, 183, 0, 193]
abbrev dktJ42_rangeCheckForAdd_0 : List UInt8 := dkwJ42_rangeCheckForAdd_0 ++ dktJ42_rangeCheckForAdd_1
theorem dksJ42_rangeCheckForAdd_0 : cJ42_rangeCheckForAdd.data.toList.drop 0 = dktJ42_rangeCheckForAdd_0 := by decide +kernel
theorem dksJ42_rangeCheckForAdd_1 : cJ42_rangeCheckForAdd.data.toList.drop 24 = dktJ42_rangeCheckForAdd_1 := dk_seg dksJ42_rangeCheckForAdd_0 24 rfl rfl
theorem dJ42_rangeCheckForAdd_0 : decode cJ42_rangeCheckForAdd 0 = .ok (.iload_n 1, 1) := dk_27 (dk_at dksJ42_rangeCheckForAdd_0 0 rfl rfl)
theorem dJ42_rangeCheckForAdd_1 : decode cJ42_rangeCheckForAdd 1 = .ok (.aload_n 0, 1) := dk_42 (dk_at dksJ42_rangeCheckForAdd_0 1 rfl rfl)
theorem dJ42_rangeCheckForAdd_2 : decode cJ42_rangeCheckForAdd 2 = .ok (.getfield 48, 3) := dk_180 0 48 (dk_at dksJ42_rangeCheckForAdd_0 2 rfl rfl)
theorem dJ42_rangeCheckForAdd_5 : decode cJ42_rangeCheckForAdd 5 = .ok (.if_icmp .gt 7, 3) := dk_163 0 7 (dk_at dksJ42_rangeCheckForAdd_0 5 rfl rfl)
theorem dJ42_rangeCheckForAdd_8 : decode cJ42_rangeCheckForAdd 8 = .ok (.iload_n 1, 1) := dk_27 (dk_at dksJ42_rangeCheckForAdd_0 8 rfl rfl)
theorem dJ42_rangeCheckForAdd_9 : decode cJ42_rangeCheckForAdd 9 = .ok (.ifCond .ge 16, 3) := dk_156 0 16 (dk_at dksJ42_rangeCheckForAdd_0 9 rfl rfl)
theorem dJ42_rangeCheckForAdd_12 : decode cJ42_rangeCheckForAdd 12 = .ok (.new 187, 3) := dk_187 0 187 (dk_at dksJ42_rangeCheckForAdd_0 12 rfl rfl)
theorem dJ42_rangeCheckForAdd_15 : decode cJ42_rangeCheckForAdd 15 = .ok (.dup, 1) := dk_89 (dk_at dksJ42_rangeCheckForAdd_0 15 rfl rfl)
theorem dJ42_rangeCheckForAdd_16 : decode cJ42_rangeCheckForAdd 16 = .ok (.aload_n 0, 1) := dk_42 (dk_at dksJ42_rangeCheckForAdd_0 16 rfl rfl)
theorem dJ42_rangeCheckForAdd_17 : decode cJ42_rangeCheckForAdd 17 = .ok (.iload_n 1, 1) := dk_27 (dk_at dksJ42_rangeCheckForAdd_0 17 rfl rfl)
theorem dJ42_rangeCheckForAdd_18 : decode cJ42_rangeCheckForAdd 18 = .ok (.invokevirtual 198, 3) := dk_182 0 198 (dk_at dksJ42_rangeCheckForAdd_0 18 rfl rfl)
theorem dJ42_rangeCheckForAdd_21 : decode cJ42_rangeCheckForAdd 21 = .ok (.invokespecial 193, 3) := dk_183 0 193 (dk_at dksJ42_rangeCheckForAdd_0 21 rfl rfl)
theorem dJ42_rangeCheckForAdd_24 : decode cJ42_rangeCheckForAdd 24 = .ok (.athrow, 1) := dk_191 (dk_at dksJ42_rangeCheckForAdd_1 0 rfl rfl)
theorem dJ42_rangeCheckForAdd_25 : decode cJ42_rangeCheckForAdd 25 = .ok (.return_, 1) := dk_177 (dk_at dksJ42_rangeCheckForAdd_1 1 rfl rfl)
abbrev cJ42_remove : ByteArray := prog_64_method_29_code
def yJ42_remove : MethodName := ⟨RJ42, "remove", "(I)Ljava/lang/Object;"⟩
def dkwJ42_remove_1 : List UInt8 := [45, 176]
abbrev dktJ42_remove_1 : List UInt8 := dkwJ42_remove_1 ++ []
def dkwJ42_remove_0 : List UInt8 := [27, 42, 180, 0, 48, 184, 0, 118, 87, 42, 180, 0, 9, 77, 44, 27, 50, 78, 42, 44, 27, 182, 0, 144]
abbrev dktJ42_remove_0 : List UInt8 := dkwJ42_remove_0 ++ dktJ42_remove_1
theorem dksJ42_remove_0 : cJ42_remove.data.toList.drop 0 = dktJ42_remove_0 := by decide +kernel
theorem dksJ42_remove_1 : cJ42_remove.data.toList.drop 24 = dktJ42_remove_1 := dk_seg dksJ42_remove_0 24 rfl rfl
theorem dJ42_remove_0 : decode cJ42_remove 0 = .ok (.iload_n 1, 1) := dk_27 (dk_at dksJ42_remove_0 0 rfl rfl)
theorem dJ42_remove_1 : decode cJ42_remove 1 = .ok (.aload_n 0, 1) := dk_42 (dk_at dksJ42_remove_0 1 rfl rfl)
theorem dJ42_remove_2 : decode cJ42_remove 2 = .ok (.getfield 48, 3) := dk_180 0 48 (dk_at dksJ42_remove_0 2 rfl rfl)
theorem dJ42_remove_5 : decode cJ42_remove 5 = .ok (.invokestatic 118, 3) := dk_184 0 118 (dk_at dksJ42_remove_0 5 rfl rfl)
theorem dJ42_remove_8 : decode cJ42_remove 8 = .ok (.pop, 1) := dk_87 (dk_at dksJ42_remove_0 8 rfl rfl)
theorem dJ42_remove_9 : decode cJ42_remove 9 = .ok (.aload_n 0, 1) := dk_42 (dk_at dksJ42_remove_0 9 rfl rfl)
theorem dJ42_remove_10 : decode cJ42_remove 10 = .ok (.getfield 9, 3) := dk_180 0 9 (dk_at dksJ42_remove_0 10 rfl rfl)
theorem dJ42_remove_13 : decode cJ42_remove 13 = .ok (.astore_n 2, 1) := dk_77 (dk_at dksJ42_remove_0 13 rfl rfl)
theorem dJ42_remove_14 : decode cJ42_remove 14 = .ok (.aload_n 2, 1) := dk_44 (dk_at dksJ42_remove_0 14 rfl rfl)
theorem dJ42_remove_15 : decode cJ42_remove 15 = .ok (.iload_n 1, 1) := dk_27 (dk_at dksJ42_remove_0 15 rfl rfl)
theorem dJ42_remove_16 : decode cJ42_remove 16 = .ok (.aaload, 1) := dk_50 (dk_at dksJ42_remove_0 16 rfl rfl)
theorem dJ42_remove_17 : decode cJ42_remove 17 = .ok (.astore_n 3, 1) := dk_78 (dk_at dksJ42_remove_0 17 rfl rfl)
theorem dJ42_remove_18 : decode cJ42_remove 18 = .ok (.aload_n 0, 1) := dk_42 (dk_at dksJ42_remove_0 18 rfl rfl)
theorem dJ42_remove_19 : decode cJ42_remove 19 = .ok (.aload_n 2, 1) := dk_44 (dk_at dksJ42_remove_0 19 rfl rfl)
theorem dJ42_remove_20 : decode cJ42_remove 20 = .ok (.iload_n 1, 1) := dk_27 (dk_at dksJ42_remove_0 20 rfl rfl)
theorem dJ42_remove_21 : decode cJ42_remove 21 = .ok (.invokevirtual 144, 3) := dk_182 0 144 (dk_at dksJ42_remove_0 21 rfl rfl)
theorem dJ42_remove_24 : decode cJ42_remove 24 = .ok (.aload_n 3, 1) := dk_45 (dk_at dksJ42_remove_1 0 rfl rfl)
theorem dJ42_remove_25 : decode cJ42_remove 25 = .ok (.areturn, 1) := dk_176 (dk_at dksJ42_remove_1 1 rfl rfl)
abbrev cJ42_fastRemove : ByteArray := prog_64_method_39_code
def yJ42_fastRemove : MethodName := ⟨RJ42, "fastRemove", "([Ljava/lang/Object;I)V"⟩
def dkwJ42_fastRemove_1 : List UInt8 := [4, 96, 43, 28, 29, 28, 100, 184, 0, 112, 43, 42, 29, 90, 181, 0, 48, 1, 83, 177]
abbrev dktJ42_fastRemove_1 : List UInt8 := dkwJ42_fastRemove_1 ++ []
def dkwJ42_fastRemove_0 : List UInt8 := [42, 89, 180, 0, 63, 4, 96, 181, 0, 63, 42, 180, 0, 48, 4, 100, 89, 62, 28, 164, 0, 15, 43, 28]
abbrev dktJ42_fastRemove_0 : List UInt8 := dkwJ42_fastRemove_0 ++ dktJ42_fastRemove_1
theorem dksJ42_fastRemove_0 : cJ42_fastRemove.data.toList.drop 0 = dktJ42_fastRemove_0 := by decide +kernel
theorem dksJ42_fastRemove_1 : cJ42_fastRemove.data.toList.drop 24 = dktJ42_fastRemove_1 := dk_seg dksJ42_fastRemove_0 24 rfl rfl
theorem dJ42_fastRemove_0 : decode cJ42_fastRemove 0 = .ok (.aload_n 0, 1) := dk_42 (dk_at dksJ42_fastRemove_0 0 rfl rfl)
theorem dJ42_fastRemove_1 : decode cJ42_fastRemove 1 = .ok (.dup, 1) := dk_89 (dk_at dksJ42_fastRemove_0 1 rfl rfl)
theorem dJ42_fastRemove_2 : decode cJ42_fastRemove 2 = .ok (.getfield 63, 3) := dk_180 0 63 (dk_at dksJ42_fastRemove_0 2 rfl rfl)
theorem dJ42_fastRemove_5 : decode cJ42_fastRemove 5 = .ok (.iconst 1, 1) := dk_4 (dk_at dksJ42_fastRemove_0 5 rfl rfl)
theorem dJ42_fastRemove_6 : decode cJ42_fastRemove 6 = .ok (.iadd, 1) := dk_96 (dk_at dksJ42_fastRemove_0 6 rfl rfl)
theorem dJ42_fastRemove_7 : decode cJ42_fastRemove 7 = .ok (.putfield 63, 3) := dk_181 0 63 (dk_at dksJ42_fastRemove_0 7 rfl rfl)
theorem dJ42_fastRemove_10 : decode cJ42_fastRemove 10 = .ok (.aload_n 0, 1) := dk_42 (dk_at dksJ42_fastRemove_0 10 rfl rfl)
theorem dJ42_fastRemove_11 : decode cJ42_fastRemove 11 = .ok (.getfield 48, 3) := dk_180 0 48 (dk_at dksJ42_fastRemove_0 11 rfl rfl)
theorem dJ42_fastRemove_14 : decode cJ42_fastRemove 14 = .ok (.iconst 1, 1) := dk_4 (dk_at dksJ42_fastRemove_0 14 rfl rfl)
theorem dJ42_fastRemove_15 : decode cJ42_fastRemove 15 = .ok (.isub, 1) := dk_100 (dk_at dksJ42_fastRemove_0 15 rfl rfl)
theorem dJ42_fastRemove_16 : decode cJ42_fastRemove 16 = .ok (.dup, 1) := dk_89 (dk_at dksJ42_fastRemove_0 16 rfl rfl)
theorem dJ42_fastRemove_17 : decode cJ42_fastRemove 17 = .ok (.istore_n 3, 1) := dk_62 (dk_at dksJ42_fastRemove_0 17 rfl rfl)
theorem dJ42_fastRemove_18 : decode cJ42_fastRemove 18 = .ok (.iload_n 2, 1) := dk_28 (dk_at dksJ42_fastRemove_0 18 rfl rfl)
theorem dJ42_fastRemove_19 : decode cJ42_fastRemove 19 = .ok (.if_icmp .le 15, 3) := dk_164 0 15 (dk_at dksJ42_fastRemove_0 19 rfl rfl)
theorem dJ42_fastRemove_22 : decode cJ42_fastRemove 22 = .ok (.aload_n 1, 1) := dk_43 (dk_at dksJ42_fastRemove_0 22 rfl rfl)
theorem dJ42_fastRemove_23 : decode cJ42_fastRemove 23 = .ok (.iload_n 2, 1) := dk_28 (dk_at dksJ42_fastRemove_0 23 rfl rfl)
theorem dJ42_fastRemove_24 : decode cJ42_fastRemove 24 = .ok (.iconst 1, 1) := dk_4 (dk_at dksJ42_fastRemove_1 0 rfl rfl)
theorem dJ42_fastRemove_25 : decode cJ42_fastRemove 25 = .ok (.iadd, 1) := dk_96 (dk_at dksJ42_fastRemove_1 1 rfl rfl)
theorem dJ42_fastRemove_26 : decode cJ42_fastRemove 26 = .ok (.aload_n 1, 1) := dk_43 (dk_at dksJ42_fastRemove_1 2 rfl rfl)
theorem dJ42_fastRemove_27 : decode cJ42_fastRemove 27 = .ok (.iload_n 2, 1) := dk_28 (dk_at dksJ42_fastRemove_1 3 rfl rfl)
theorem dJ42_fastRemove_28 : decode cJ42_fastRemove 28 = .ok (.iload_n 3, 1) := dk_29 (dk_at dksJ42_fastRemove_1 4 rfl rfl)
theorem dJ42_fastRemove_29 : decode cJ42_fastRemove 29 = .ok (.iload_n 2, 1) := dk_28 (dk_at dksJ42_fastRemove_1 5 rfl rfl)
theorem dJ42_fastRemove_30 : decode cJ42_fastRemove 30 = .ok (.isub, 1) := dk_100 (dk_at dksJ42_fastRemove_1 6 rfl rfl)
theorem dJ42_fastRemove_31 : decode cJ42_fastRemove 31 = .ok (.invokestatic 112, 3) := dk_184 0 112 (dk_at dksJ42_fastRemove_1 7 rfl rfl)
theorem dJ42_fastRemove_34 : decode cJ42_fastRemove 34 = .ok (.aload_n 1, 1) := dk_43 (dk_at dksJ42_fastRemove_1 10 rfl rfl)
theorem dJ42_fastRemove_35 : decode cJ42_fastRemove 35 = .ok (.aload_n 0, 1) := dk_42 (dk_at dksJ42_fastRemove_1 11 rfl rfl)
theorem dJ42_fastRemove_36 : decode cJ42_fastRemove 36 = .ok (.iload_n 3, 1) := dk_29 (dk_at dksJ42_fastRemove_1 12 rfl rfl)
theorem dJ42_fastRemove_37 : decode cJ42_fastRemove 37 = .ok (.dup_x1, 1) := dk_90 (dk_at dksJ42_fastRemove_1 13 rfl rfl)
theorem dJ42_fastRemove_38 : decode cJ42_fastRemove 38 = .ok (.putfield 48, 3) := dk_181 0 48 (dk_at dksJ42_fastRemove_1 14 rfl rfl)
theorem dJ42_fastRemove_41 : decode cJ42_fastRemove 41 = .ok (.aconst_null, 1) := dk_1 (dk_at dksJ42_fastRemove_1 17 rfl rfl)
theorem dJ42_fastRemove_42 : decode cJ42_fastRemove 42 = .ok (.aastore, 1) := dk_83 (dk_at dksJ42_fastRemove_1 18 rfl rfl)
theorem dJ42_fastRemove_43 : decode cJ42_fastRemove 43 = .ok (.return_, 1) := dk_177 (dk_at dksJ42_fastRemove_1 19 rfl rfl)
abbrev cJ42_init : ByteArray := prog_64_method_1_code
def yJ42_init : MethodName := ⟨RJ42, "<init>", "(I)V"⟩
def dkwJ42_init_2 : List UInt8 := [182, 0, 25, 27, 182, 0, 29, 182, 0, 32, 183, 0, 36, 191, 177]
abbrev dktJ42_init_2 : List UInt8 := dkwJ42_init_2 ++ []
def dkwJ42_init_1 : List UInt8 := [178, 0, 15, 181, 0, 9, 167, 0, 30, 187, 0, 18, 89, 187, 0, 20, 89, 183, 0, 22, 18, 23]
abbrev dktJ42_init_1 : List UInt8 := dkwJ42_init_1 ++ dktJ42_init_2
def dkwJ42_init_0 : List UInt8 := [42, 183, 0, 1, 27, 158, 0, 14, 42, 27, 189, 0, 7, 181, 0, 9, 167, 0, 44, 27, 154, 0, 13, 42]
abbrev dktJ42_init_0 : List UInt8 := dkwJ42_init_0 ++ dktJ42_init_1
theorem dksJ42_init_0 : cJ42_init.data.toList.drop 0 = dktJ42_init_0 := by decide +kernel
theorem dksJ42_init_1 : cJ42_init.data.toList.drop 24 = dktJ42_init_1 := dk_seg dksJ42_init_0 24 rfl rfl
theorem dksJ42_init_2 : cJ42_init.data.toList.drop 46 = dktJ42_init_2 := dk_seg dksJ42_init_1 22 rfl rfl
theorem dJ42_init_0 : decode cJ42_init 0 = .ok (.aload_n 0, 1) := dk_42 (dk_at dksJ42_init_0 0 rfl rfl)
theorem dJ42_init_1 : decode cJ42_init 1 = .ok (.invokespecial 1, 3) := dk_183 0 1 (dk_at dksJ42_init_0 1 rfl rfl)
theorem dJ42_init_4 : decode cJ42_init 4 = .ok (.iload_n 1, 1) := dk_27 (dk_at dksJ42_init_0 4 rfl rfl)
theorem dJ42_init_5 : decode cJ42_init 5 = .ok (.ifCond .le 14, 3) := dk_158 0 14 (dk_at dksJ42_init_0 5 rfl rfl)
theorem dJ42_init_8 : decode cJ42_init 8 = .ok (.aload_n 0, 1) := dk_42 (dk_at dksJ42_init_0 8 rfl rfl)
theorem dJ42_init_9 : decode cJ42_init 9 = .ok (.iload_n 1, 1) := dk_27 (dk_at dksJ42_init_0 9 rfl rfl)
theorem dJ42_init_10 : decode cJ42_init 10 = .ok (.anewarray 7, 3) := dk_189 0 7 (dk_at dksJ42_init_0 10 rfl rfl)
theorem dJ42_init_13 : decode cJ42_init 13 = .ok (.putfield 9, 3) := dk_181 0 9 (dk_at dksJ42_init_0 13 rfl rfl)
theorem dJ42_init_16 : decode cJ42_init 16 = .ok (.goto 44, 3) := dk_167 0 44 (dk_at dksJ42_init_0 16 rfl rfl)
theorem dJ42_init_19 : decode cJ42_init 19 = .ok (.iload_n 1, 1) := dk_27 (dk_at dksJ42_init_0 19 rfl rfl)
theorem dJ42_init_20 : decode cJ42_init 20 = .ok (.ifCond .ne 13, 3) := dk_154 0 13 (dk_at dksJ42_init_0 20 rfl rfl)
theorem dJ42_init_23 : decode cJ42_init 23 = .ok (.aload_n 0, 1) := dk_42 (dk_at dksJ42_init_0 23 rfl rfl)
theorem dJ42_init_24 : decode cJ42_init 24 = .ok (.getstatic 15, 3) := dk_178 0 15 (dk_at dksJ42_init_1 0 rfl rfl)
theorem dJ42_init_27 : decode cJ42_init 27 = .ok (.putfield 9, 3) := dk_181 0 9 (dk_at dksJ42_init_1 3 rfl rfl)
theorem dJ42_init_30 : decode cJ42_init 30 = .ok (.goto 30, 3) := dk_167 0 30 (dk_at dksJ42_init_1 6 rfl rfl)
theorem dJ42_init_33 : decode cJ42_init 33 = .ok (.new 18, 3) := dk_187 0 18 (dk_at dksJ42_init_1 9 rfl rfl)
theorem dJ42_init_36 : decode cJ42_init 36 = .ok (.dup, 1) := dk_89 (dk_at dksJ42_init_1 12 rfl rfl)
theorem dJ42_init_37 : decode cJ42_init 37 = .ok (.new 20, 3) := dk_187 0 20 (dk_at dksJ42_init_1 13 rfl rfl)
theorem dJ42_init_40 : decode cJ42_init 40 = .ok (.dup, 1) := dk_89 (dk_at dksJ42_init_1 16 rfl rfl)
theorem dJ42_init_41 : decode cJ42_init 41 = .ok (.invokespecial 22, 3) := dk_183 0 22 (dk_at dksJ42_init_1 17 rfl rfl)
theorem dJ42_init_44 : decode cJ42_init 44 = .ok (.ldc 23, 2) := dk_18 23 (dk_at dksJ42_init_1 20 rfl rfl)
theorem dJ42_init_46 : decode cJ42_init 46 = .ok (.invokevirtual 25, 3) := dk_182 0 25 (dk_at dksJ42_init_2 0 rfl rfl)
theorem dJ42_init_49 : decode cJ42_init 49 = .ok (.iload_n 1, 1) := dk_27 (dk_at dksJ42_init_2 3 rfl rfl)
theorem dJ42_init_50 : decode cJ42_init 50 = .ok (.invokevirtual 29, 3) := dk_182 0 29 (dk_at dksJ42_init_2 4 rfl rfl)
theorem dJ42_init_53 : decode cJ42_init 53 = .ok (.invokevirtual 32, 3) := dk_182 0 32 (dk_at dksJ42_init_2 7 rfl rfl)
theorem dJ42_init_56 : decode cJ42_init 56 = .ok (.invokespecial 36, 3) := dk_183 0 36 (dk_at dksJ42_init_2 10 rfl rfl)
theorem dJ42_init_59 : decode cJ42_init 59 = .ok (.athrow, 1) := dk_191 (dk_at dksJ42_init_2 13 rfl rfl)
theorem dJ42_init_60 : decode cJ42_init 60 = .ok (.return_, 1) := dk_177 (dk_at dksJ42_init_2 14 rfl rfl)
abbrev cJ42_add : ByteArray := prog_64_method_25_code
def yJ42_add : MethodName := ⟨RJ42, "add", "(Ljava/lang/Object;)Z"⟩
def dkwJ42_add_1 : List UInt8 := [172]
abbrev dktJ42_add_1 : List UInt8 := dkwJ42_add_1 ++ []
def dkwJ42_add_0 : List UInt8 := [42, 89, 180, 0, 63, 4, 96, 181, 0, 63, 42, 43, 42, 180, 0, 9, 42, 180, 0, 48, 182, 0, 131, 4]
abbrev dktJ42_add_0 : List UInt8 := dkwJ42_add_0 ++ dktJ42_add_1
theorem dksJ42_add_0 : cJ42_add.data.toList.drop 0 = dktJ42_add_0 := by decide +kernel
theorem dksJ42_add_1 : cJ42_add.data.toList.drop 24 = dktJ42_add_1 := dk_seg dksJ42_add_0 24 rfl rfl
theorem dJ42_add_0 : decode cJ42_add 0 = .ok (.aload_n 0, 1) := dk_42 (dk_at dksJ42_add_0 0 rfl rfl)
theorem dJ42_add_1 : decode cJ42_add 1 = .ok (.dup, 1) := dk_89 (dk_at dksJ42_add_0 1 rfl rfl)
theorem dJ42_add_2 : decode cJ42_add 2 = .ok (.getfield 63, 3) := dk_180 0 63 (dk_at dksJ42_add_0 2 rfl rfl)
theorem dJ42_add_5 : decode cJ42_add 5 = .ok (.iconst 1, 1) := dk_4 (dk_at dksJ42_add_0 5 rfl rfl)
theorem dJ42_add_6 : decode cJ42_add 6 = .ok (.iadd, 1) := dk_96 (dk_at dksJ42_add_0 6 rfl rfl)
theorem dJ42_add_7 : decode cJ42_add 7 = .ok (.putfield 63, 3) := dk_181 0 63 (dk_at dksJ42_add_0 7 rfl rfl)
theorem dJ42_add_10 : decode cJ42_add 10 = .ok (.aload_n 0, 1) := dk_42 (dk_at dksJ42_add_0 10 rfl rfl)
theorem dJ42_add_11 : decode cJ42_add 11 = .ok (.aload_n 1, 1) := dk_43 (dk_at dksJ42_add_0 11 rfl rfl)
theorem dJ42_add_12 : decode cJ42_add 12 = .ok (.aload_n 0, 1) := dk_42 (dk_at dksJ42_add_0 12 rfl rfl)
theorem dJ42_add_13 : decode cJ42_add 13 = .ok (.getfield 9, 3) := dk_180 0 9 (dk_at dksJ42_add_0 13 rfl rfl)
theorem dJ42_add_16 : decode cJ42_add 16 = .ok (.aload_n 0, 1) := dk_42 (dk_at dksJ42_add_0 16 rfl rfl)
theorem dJ42_add_17 : decode cJ42_add 17 = .ok (.getfield 48, 3) := dk_180 0 48 (dk_at dksJ42_add_0 17 rfl rfl)
theorem dJ42_add_20 : decode cJ42_add 20 = .ok (.invokevirtual 131, 3) := dk_182 0 131 (dk_at dksJ42_add_0 20 rfl rfl)
theorem dJ42_add_23 : decode cJ42_add 23 = .ok (.iconst 1, 1) := dk_4 (dk_at dksJ42_add_0 23 rfl rfl)
theorem dJ42_add_24 : decode cJ42_add 24 = .ok (.ireturn, 1) := dk_172 (dk_at dksJ42_add_1 0 rfl rfl)
abbrev cJ42_add_2 : ByteArray := prog_64_method_24_code
def yJ42_add_2 : MethodName := ⟨RJ42, "add", "(Ljava/lang/Object;[Ljava/lang/Object;I)V"⟩
def dkwJ42_add_2_0 : List UInt8 := [29, 44, 190, 160, 0, 8, 42, 182, 0, 129, 77, 44, 29, 43, 83, 42, 29, 4, 96, 181, 0, 48, 177]
abbrev dktJ42_add_2_0 : List UInt8 := dkwJ42_add_2_0 ++ []
theorem dksJ42_add_2_0 : cJ42_add_2.data.toList.drop 0 = dktJ42_add_2_0 := by decide +kernel
theorem dJ42_add_2_0 : decode cJ42_add_2 0 = .ok (.iload_n 3, 1) := dk_29 (dk_at dksJ42_add_2_0 0 rfl rfl)
theorem dJ42_add_2_1 : decode cJ42_add_2 1 = .ok (.aload_n 2, 1) := dk_44 (dk_at dksJ42_add_2_0 1 rfl rfl)
theorem dJ42_add_2_2 : decode cJ42_add_2 2 = .ok (.arraylength, 1) := dk_190 (dk_at dksJ42_add_2_0 2 rfl rfl)
theorem dJ42_add_2_3 : decode cJ42_add_2 3 = .ok (.if_icmp .ne 8, 3) := dk_160 0 8 (dk_at dksJ42_add_2_0 3 rfl rfl)
theorem dJ42_add_2_6 : decode cJ42_add_2 6 = .ok (.aload_n 0, 1) := dk_42 (dk_at dksJ42_add_2_0 6 rfl rfl)
theorem dJ42_add_2_7 : decode cJ42_add_2 7 = .ok (.invokevirtual 129, 3) := dk_182 0 129 (dk_at dksJ42_add_2_0 7 rfl rfl)
theorem dJ42_add_2_10 : decode cJ42_add_2 10 = .ok (.astore_n 2, 1) := dk_77 (dk_at dksJ42_add_2_0 10 rfl rfl)
theorem dJ42_add_2_11 : decode cJ42_add_2 11 = .ok (.aload_n 2, 1) := dk_44 (dk_at dksJ42_add_2_0 11 rfl rfl)
theorem dJ42_add_2_12 : decode cJ42_add_2 12 = .ok (.iload_n 3, 1) := dk_29 (dk_at dksJ42_add_2_0 12 rfl rfl)
theorem dJ42_add_2_13 : decode cJ42_add_2 13 = .ok (.aload_n 1, 1) := dk_43 (dk_at dksJ42_add_2_0 13 rfl rfl)
theorem dJ42_add_2_14 : decode cJ42_add_2 14 = .ok (.aastore, 1) := dk_83 (dk_at dksJ42_add_2_0 14 rfl rfl)
theorem dJ42_add_2_15 : decode cJ42_add_2 15 = .ok (.aload_n 0, 1) := dk_42 (dk_at dksJ42_add_2_0 15 rfl rfl)
theorem dJ42_add_2_16 : decode cJ42_add_2 16 = .ok (.iload_n 3, 1) := dk_29 (dk_at dksJ42_add_2_0 16 rfl rfl)
theorem dJ42_add_2_17 : decode cJ42_add_2 17 = .ok (.iconst 1, 1) := dk_4 (dk_at dksJ42_add_2_0 17 rfl rfl)
theorem dJ42_add_2_18 : decode cJ42_add_2 18 = .ok (.iadd, 1) := dk_96 (dk_at dksJ42_add_2_0 18 rfl rfl)
theorem dJ42_add_2_19 : decode cJ42_add_2 19 = .ok (.putfield 48, 3) := dk_181 0 48 (dk_at dksJ42_add_2_0 19 rfl rfl)
theorem dJ42_add_2_22 : decode cJ42_add_2 22 = .ok (.return_, 1) := dk_177 (dk_at dksJ42_add_2_0 22 rfl rfl)
abbrev cJ42_grow : ByteArray := prog_64_method_7_code
def yJ42_grow : MethodName := ⟨RJ42, "grow", "()[Ljava/lang/Object;"⟩
def dkwJ42_grow_0 : List UInt8 := [42, 42, 180, 0, 48, 4, 96, 182, 0, 69, 176]
abbrev dktJ42_grow_0 : List UInt8 := dkwJ42_grow_0 ++ []
theorem dksJ42_grow_0 : cJ42_grow.data.toList.drop 0 = dktJ42_grow_0 := by decide +kernel
theorem dJ42_grow_0 : decode cJ42_grow 0 = .ok (.aload_n 0, 1) := dk_42 (dk_at dksJ42_grow_0 0 rfl rfl)
theorem dJ42_grow_1 : decode cJ42_grow 1 = .ok (.aload_n 0, 1) := dk_42 (dk_at dksJ42_grow_0 1 rfl rfl)
theorem dJ42_grow_2 : decode cJ42_grow 2 = .ok (.getfield 48, 3) := dk_180 0 48 (dk_at dksJ42_grow_0 2 rfl rfl)
theorem dJ42_grow_5 : decode cJ42_grow 5 = .ok (.iconst 1, 1) := dk_4 (dk_at dksJ42_grow_0 5 rfl rfl)
theorem dJ42_grow_6 : decode cJ42_grow 6 = .ok (.iadd, 1) := dk_96 (dk_at dksJ42_grow_0 6 rfl rfl)
theorem dJ42_grow_7 : decode cJ42_grow 7 = .ok (.invokevirtual 69, 3) := dk_182 0 69 (dk_at dksJ42_grow_0 7 rfl rfl)
theorem dJ42_grow_10 : decode cJ42_grow 10 = .ok (.areturn, 1) := dk_176 (dk_at dksJ42_grow_0 10 rfl rfl)
abbrev cJ42_grow_2 : ByteArray := prog_64_method_6_code
def yJ42_grow_2 : MethodName := ⟨RJ42, "grow", "(I)[Ljava/lang/Object;"⟩
def dkwJ42_grow_2_2 : List UInt8 := [27, 184, 0, 79, 189, 0, 7, 90, 181, 0, 9, 176]
abbrev dktJ42_grow_2_2 : List UInt8 := dkwJ42_grow_2_2 ++ []
def dkwJ42_grow_2_1 : List UInt8 := [28, 4, 122, 184, 0, 73, 62, 42, 42, 180, 0, 9, 29, 184, 0, 66, 90, 181, 0, 9, 176, 42, 16, 10]
abbrev dktJ42_grow_2_1 : List UInt8 := dkwJ42_grow_2_1 ++ dktJ42_grow_2_2
def dkwJ42_grow_2_0 : List UInt8 := [42, 180, 0, 9, 190, 61, 28, 157, 0, 13, 42, 180, 0, 9, 178, 0, 39, 165, 0, 28, 28, 27, 28, 100]
abbrev dktJ42_grow_2_0 : List UInt8 := dkwJ42_grow_2_0 ++ dktJ42_grow_2_1
theorem dksJ42_grow_2_0 : cJ42_grow_2.data.toList.drop 0 = dktJ42_grow_2_0 := by decide +kernel
theorem dksJ42_grow_2_1 : cJ42_grow_2.data.toList.drop 24 = dktJ42_grow_2_1 := dk_seg dksJ42_grow_2_0 24 rfl rfl
theorem dksJ42_grow_2_2 : cJ42_grow_2.data.toList.drop 48 = dktJ42_grow_2_2 := dk_seg dksJ42_grow_2_1 24 rfl rfl
theorem dJ42_grow_2_0 : decode cJ42_grow_2 0 = .ok (.aload_n 0, 1) := dk_42 (dk_at dksJ42_grow_2_0 0 rfl rfl)
theorem dJ42_grow_2_1 : decode cJ42_grow_2 1 = .ok (.getfield 9, 3) := dk_180 0 9 (dk_at dksJ42_grow_2_0 1 rfl rfl)
theorem dJ42_grow_2_4 : decode cJ42_grow_2 4 = .ok (.arraylength, 1) := dk_190 (dk_at dksJ42_grow_2_0 4 rfl rfl)
theorem dJ42_grow_2_5 : decode cJ42_grow_2 5 = .ok (.istore_n 2, 1) := dk_61 (dk_at dksJ42_grow_2_0 5 rfl rfl)
theorem dJ42_grow_2_6 : decode cJ42_grow_2 6 = .ok (.iload_n 2, 1) := dk_28 (dk_at dksJ42_grow_2_0 6 rfl rfl)
theorem dJ42_grow_2_7 : decode cJ42_grow_2 7 = .ok (.ifCond .gt 13, 3) := dk_157 0 13 (dk_at dksJ42_grow_2_0 7 rfl rfl)
theorem dJ42_grow_2_10 : decode cJ42_grow_2 10 = .ok (.aload_n 0, 1) := dk_42 (dk_at dksJ42_grow_2_0 10 rfl rfl)
theorem dJ42_grow_2_11 : decode cJ42_grow_2 11 = .ok (.getfield 9, 3) := dk_180 0 9 (dk_at dksJ42_grow_2_0 11 rfl rfl)
theorem dJ42_grow_2_14 : decode cJ42_grow_2 14 = .ok (.getstatic 39, 3) := dk_178 0 39 (dk_at dksJ42_grow_2_0 14 rfl rfl)
theorem dJ42_grow_2_17 : decode cJ42_grow_2 17 = .ok (.if_acmp .eq 28, 3) := dk_165 0 28 (dk_at dksJ42_grow_2_0 17 rfl rfl)
theorem dJ42_grow_2_20 : decode cJ42_grow_2 20 = .ok (.iload_n 2, 1) := dk_28 (dk_at dksJ42_grow_2_0 20 rfl rfl)
theorem dJ42_grow_2_21 : decode cJ42_grow_2 21 = .ok (.iload_n 1, 1) := dk_27 (dk_at dksJ42_grow_2_0 21 rfl rfl)
theorem dJ42_grow_2_22 : decode cJ42_grow_2 22 = .ok (.iload_n 2, 1) := dk_28 (dk_at dksJ42_grow_2_0 22 rfl rfl)
theorem dJ42_grow_2_23 : decode cJ42_grow_2 23 = .ok (.isub, 1) := dk_100 (dk_at dksJ42_grow_2_0 23 rfl rfl)
theorem dJ42_grow_2_24 : decode cJ42_grow_2 24 = .ok (.iload_n 2, 1) := dk_28 (dk_at dksJ42_grow_2_1 0 rfl rfl)
theorem dJ42_grow_2_25 : decode cJ42_grow_2 25 = .ok (.iconst 1, 1) := dk_4 (dk_at dksJ42_grow_2_1 1 rfl rfl)
theorem dJ42_grow_2_26 : decode cJ42_grow_2 26 = .ok (.ishr, 1) := dk_122 (dk_at dksJ42_grow_2_1 2 rfl rfl)
theorem dJ42_grow_2_27 : decode cJ42_grow_2 27 = .ok (.invokestatic 73, 3) := dk_184 0 73 (dk_at dksJ42_grow_2_1 3 rfl rfl)
theorem dJ42_grow_2_30 : decode cJ42_grow_2 30 = .ok (.istore_n 3, 1) := dk_62 (dk_at dksJ42_grow_2_1 6 rfl rfl)
theorem dJ42_grow_2_31 : decode cJ42_grow_2 31 = .ok (.aload_n 0, 1) := dk_42 (dk_at dksJ42_grow_2_1 7 rfl rfl)
theorem dJ42_grow_2_32 : decode cJ42_grow_2 32 = .ok (.aload_n 0, 1) := dk_42 (dk_at dksJ42_grow_2_1 8 rfl rfl)
theorem dJ42_grow_2_33 : decode cJ42_grow_2 33 = .ok (.getfield 9, 3) := dk_180 0 9 (dk_at dksJ42_grow_2_1 9 rfl rfl)
theorem dJ42_grow_2_36 : decode cJ42_grow_2 36 = .ok (.iload_n 3, 1) := dk_29 (dk_at dksJ42_grow_2_1 12 rfl rfl)
theorem dJ42_grow_2_37 : decode cJ42_grow_2 37 = .ok (.invokestatic 66, 3) := dk_184 0 66 (dk_at dksJ42_grow_2_1 13 rfl rfl)
theorem dJ42_grow_2_40 : decode cJ42_grow_2 40 = .ok (.dup_x1, 1) := dk_90 (dk_at dksJ42_grow_2_1 16 rfl rfl)
theorem dJ42_grow_2_41 : decode cJ42_grow_2 41 = .ok (.putfield 9, 3) := dk_181 0 9 (dk_at dksJ42_grow_2_1 17 rfl rfl)
theorem dJ42_grow_2_44 : decode cJ42_grow_2 44 = .ok (.areturn, 1) := dk_176 (dk_at dksJ42_grow_2_1 20 rfl rfl)
theorem dJ42_grow_2_45 : decode cJ42_grow_2 45 = .ok (.aload_n 0, 1) := dk_42 (dk_at dksJ42_grow_2_1 21 rfl rfl)
theorem dJ42_grow_2_46 : decode cJ42_grow_2 46 = .ok (.bipush 10, 2) := dk_16 10 (dk_at dksJ42_grow_2_1 22 rfl rfl)
theorem dJ42_grow_2_48 : decode cJ42_grow_2 48 = .ok (.iload_n 1, 1) := dk_27 (dk_at dksJ42_grow_2_2 0 rfl rfl)
theorem dJ42_grow_2_49 : decode cJ42_grow_2 49 = .ok (.invokestatic 79, 3) := dk_184 0 79 (dk_at dksJ42_grow_2_2 1 rfl rfl)
theorem dJ42_grow_2_52 : decode cJ42_grow_2 52 = .ok (.anewarray 7, 3) := dk_189 0 7 (dk_at dksJ42_grow_2_2 4 rfl rfl)
theorem dJ42_grow_2_55 : decode cJ42_grow_2 55 = .ok (.dup_x1, 1) := dk_90 (dk_at dksJ42_grow_2_2 7 rfl rfl)
theorem dJ42_grow_2_56 : decode cJ42_grow_2 56 = .ok (.putfield 9, 3) := dk_181 0 9 (dk_at dksJ42_grow_2_2 8 rfl rfl)
theorem dJ42_grow_2_59 : decode cJ42_grow_2 59 = .ok (.areturn, 1) := dk_176 (dk_at dksJ42_grow_2_2 11 rfl rfl)
abbrev cJ42_iterator : ByteArray := prog_64_method_55_code
def yJ42_iterator : MethodName := ⟨RJ42, "iterator", "()Ljava/util/Iterator;"⟩
def dkwJ42_iterator_0 : List UInt8 := [187, 1, 11, 89, 42, 183, 1, 13, 176]
abbrev dktJ42_iterator_0 : List UInt8 := dkwJ42_iterator_0 ++ []
theorem dksJ42_iterator_0 : cJ42_iterator.data.toList.drop 0 = dktJ42_iterator_0 := by decide +kernel
theorem dJ42_iterator_0 : decode cJ42_iterator 0 = .ok (.new 267, 3) := dk_187 1 11 (dk_at dksJ42_iterator_0 0 rfl rfl)
theorem dJ42_iterator_3 : decode cJ42_iterator 3 = .ok (.dup, 1) := dk_89 (dk_at dksJ42_iterator_0 3 rfl rfl)
theorem dJ42_iterator_4 : decode cJ42_iterator 4 = .ok (.aload_n 0, 1) := dk_42 (dk_at dksJ42_iterator_0 4 rfl rfl)
theorem dJ42_iterator_5 : decode cJ42_iterator 5 = .ok (.invokespecial 269, 3) := dk_183 1 13 (dk_at dksJ42_iterator_0 5 rfl rfl)
theorem dJ42_iterator_8 : decode cJ42_iterator 8 = .ok (.areturn, 1) := dk_176 (dk_at dksJ42_iterator_0 8 rfl rfl)
theorem q167 : (Jvm.Cond.initialized "java/util/ArrayList") ∈ lw_all := lw_g (lw_at lw_m1 66 rfl) rfl
theorem q209 : (Jvm.Cond.sameField "java/util/ArrayList" "java/util/AbstractList" "modCount" "I") ∈ lw_all := lw_g (lw_at lw_m1 108 rfl) rfl
theorem q212 : (Jvm.Cond.fieldLink "java/util/ArrayList" (63 : Nat) "java/util/ArrayList" "modCount" "I") ∈ lw_all := lw_g (lw_at lw_m1 111 rfl) rfl
theorem q706 : (Jvm.Cond.selects "java/util/ArrayList" ({ cls := "java/lang/Object", name := "getClass", desc := "()Ljava/lang/Class;" } : Jvm.MethodName) ({ cls := "java/lang/Object", name := "getClass", desc := "()Ljava/lang/Class;" } : Jvm.MethodName)) ∈ lw_all := lw_g (lw_at lw_m3 125 rfl) rfl
theorem q1297 : (Jvm.Cond.selects "java/util/ArrayList" ({ cls := "java/util/AbstractList", name := "size", desc := "()I" } : Jvm.MethodName) ({ cls := "java/util/ArrayList", name := "size", desc := "()I" } : Jvm.MethodName)) ∈ lw_all := lw_g (lw_at lw_m5 236 rfl) rfl
theorem q1298 : (Jvm.Cond.instanceMethod ({ cls := "java/util/ArrayList", name := "size", desc := "()I" } : Jvm.MethodName)) ∈ lw_all := lw_g (lw_at lw_m5 237 rfl) rfl
theorem q1299 : (Jvm.Cond.code ({ cls := "java/util/ArrayList", name := "size", desc := "()I" } : Jvm.MethodName) prog_64_method_8_code (1 : Nat) (Option.some Jvm.ClassFile.FieldType.int)) ∈ lw_all := lw_g (lw_at lw_m5 238 rfl) rfl
theorem q1395 : (Jvm.Cond.selects "java/util/ArrayList" ({ cls := "java/util/AbstractList", name := "get", desc := "(I)Ljava/lang/Object;" } : Jvm.MethodName) ({ cls := "java/util/ArrayList", name := "get", desc := "(I)Ljava/lang/Object;" } : Jvm.MethodName)) ∈ lw_all := lw_g (lw_at lw_m6 94 rfl) rfl
theorem q1396 : (Jvm.Cond.instanceMethod ({ cls := "java/util/ArrayList", name := "get", desc := "(I)Ljava/lang/Object;" } : Jvm.MethodName)) ∈ lw_all := lw_g (lw_at lw_m6 95 rfl) rfl
theorem q1397 : (Jvm.Cond.code ({ cls := "java/util/ArrayList", name := "get", desc := "(I)Ljava/lang/Object;" } : Jvm.MethodName) prog_64_method_20_code (2 : Nat) (Option.some (Jvm.ClassFile.FieldType.object "java/lang/Object"))) ∈ lw_all := lw_g (lw_at lw_m6 96 rfl) rfl
theorem q1398 : (Jvm.Cond.methodLink "java/util/ArrayList" (118 : Nat) ({ cls := "java/util/Objects", name := "checkIndex", desc := "(II)I" } : Jvm.MethodName)) ∈ lw_all := lw_g (lw_at lw_m6 97 rfl) rfl
theorem q1404 : (Jvm.Cond.methodLink "java/util/ArrayList" (123 : Nat) ({ cls := "java/util/ArrayList", name := "elementData", desc := "(I)Ljava/lang/Object;" } : Jvm.MethodName)) ∈ lw_all := lw_g (lw_at lw_m6 103 rfl) rfl
theorem q1405 : (Jvm.Cond.instanceMethod ({ cls := "java/util/ArrayList", name := "elementData", desc := "(I)Ljava/lang/Object;" } : Jvm.MethodName)) ∈ lw_all := lw_g (lw_at lw_m6 104 rfl) rfl
theorem q1406 : (Jvm.Cond.selects "java/util/ArrayList" ({ cls := "java/util/ArrayList", name := "elementData", desc := "(I)Ljava/lang/Object;" } : Jvm.MethodName) ({ cls := "java/util/ArrayList", name := "elementData", desc := "(I)Ljava/lang/Object;" } : Jvm.MethodName)) ∈ lw_all := lw_g (lw_at lw_m6 105 rfl) rfl
theorem q1407 : (Jvm.Cond.code ({ cls := "java/util/ArrayList", name := "elementData", desc := "(I)Ljava/lang/Object;" } : Jvm.MethodName) prog_64_method_18_code (2 : Nat) (Option.some (Jvm.ClassFile.FieldType.object "java/lang/Object"))) ∈ lw_all := lw_g (lw_at lw_m6 106 rfl) rfl
theorem q1890 : (Jvm.Cond.selects "java/util/ArrayList" ({ cls := "java/util/AbstractList", name := "listIterator", desc := "(I)Ljava/util/ListIterator;" } : Jvm.MethodName) ({ cls := "java/util/ArrayList", name := "listIterator", desc := "(I)Ljava/util/ListIterator;" } : Jvm.MethodName)) ∈ lw_all := lw_g (lw_at lw_m8 109 rfl) rfl
theorem q1891 : (Jvm.Cond.instanceMethod ({ cls := "java/util/ArrayList", name := "listIterator", desc := "(I)Ljava/util/ListIterator;" } : Jvm.MethodName)) ∈ lw_all := lw_g (lw_at lw_m8 110 rfl) rfl
theorem q1892 : (Jvm.Cond.code ({ cls := "java/util/ArrayList", name := "listIterator", desc := "(I)Ljava/util/ListIterator;" } : Jvm.MethodName) prog_64_method_53_code (2 : Nat) (Option.some (Jvm.ClassFile.FieldType.object "java/util/ListIterator"))) ∈ lw_all := lw_g (lw_at lw_m8 111 rfl) rfl
theorem q1893 : (Jvm.Cond.methodLink "java/util/ArrayList" (135 : Nat) ({ cls := "java/util/ArrayList", name := "rangeCheckForAdd", desc := "(I)V" } : Jvm.MethodName)) ∈ lw_all := lw_g (lw_at lw_m8 112 rfl) rfl
theorem q1894 : (Jvm.Cond.privateMethod ({ cls := "java/util/ArrayList", name := "rangeCheckForAdd", desc := "(I)V" } : Jvm.MethodName)) ∈ lw_tbl := lw_at lw_m8 113 rfl
theorem q1895 : (Jvm.Cond.instanceMethod ({ cls := "java/util/ArrayList", name := "rangeCheckForAdd", desc := "(I)V" } : Jvm.MethodName)) ∈ lw_all := lw_g (lw_at lw_m8 114 rfl) rfl
theorem q1896 : (Jvm.Cond.instantiable "java/util/ArrayList" (3 : Nat)) ∈ lw_all := lw_g (lw_at lw_m8 115 rfl) rfl
theorem q1897 : (Jvm.Cond.code ({ cls := "java/util/ArrayList", name := "rangeCheckForAdd", desc := "(I)V" } : Jvm.MethodName) prog_64_method_45_code (2 : Nat) (Option.none : Option Jvm.ClassFile.FieldType)) ∈ lw_all := lw_g (lw_at lw_m8 116 rfl) rfl
theorem q1898 : (Jvm.Cond.classLink "java/util/ArrayList" (262 : Nat) "java/util/ArrayList$ListItr") ∈ lw_all := lw_g (lw_at lw_m8 117 rfl) rfl
theorem q1900 : (Jvm.Cond.methodLink "java/util/ArrayList" (264 : Nat) ({ cls := "java/util/ArrayList$ListItr", name := "<init>", desc := "(Ljava/util/ArrayList;I)V" } : Jvm.MethodName)) ∈ lw_all := lw_g (lw_at lw_m8 119 rfl) rfl
theorem q2002 : (Jvm.Cond.selects "java/util/ArrayList" ({ cls := "java/util/AbstractList", name := "remove", desc := "(I)Ljava/lang/Object;" } : Jvm.MethodName) ({ cls := "java/util/ArrayList", name := "remove", desc := "(I)Ljava/lang/Object;" } : Jvm.MethodName)) ∈ lw_all := lw_g (lw_at lw_m8 221 rfl) rfl
theorem q2003 : (Jvm.Cond.instanceMethod ({ cls := "java/util/ArrayList", name := "remove", desc := "(I)Ljava/lang/Object;" } : Jvm.MethodName)) ∈ lw_all := lw_g (lw_at lw_m8 222 rfl) rfl
theorem q2004 : (Jvm.Cond.code ({ cls := "java/util/ArrayList", name := "remove", desc := "(I)Ljava/lang/Object;" } : Jvm.MethodName) prog_64_method_29_code (4 : Nat) (Option.some (Jvm.ClassFile.FieldType.object "java/lang/Object"))) ∈ lw_all := lw_g (lw_at lw_m8 223 rfl) rfl
theorem q2005 : (Jvm.Cond.methodLink "java/util/ArrayList" (144 : Nat) ({ cls := "java/util/ArrayList", name := "fastRemove", desc := "([Ljava/lang/Object;I)V" } : Jvm.MethodName)) ∈ lw_all := lw_g (lw_at lw_m8 224 rfl) rfl
theorem q2006 : (Jvm.Cond.privateMethod ({ cls := "java/util/ArrayList", name := "fastRemove", desc := "([Ljava/lang/Object;I)V" } : Jvm.MethodName)) ∈ lw_tbl := lw_at lw_m8 225 rfl
theorem q2007 : (Jvm.Cond.instanceMethod ({ cls := "java/util/ArrayList", name := "fastRemove", desc := "([Ljava/lang/Object;I)V" } : Jvm.MethodName)) ∈ lw_all := lw_g (lw_at lw_m8 226 rfl) rfl
theorem q2008 : (Jvm.Cond.code ({ cls := "java/util/ArrayList", name := "fastRemove", desc := "([Ljava/lang/Object;I)V" } : Jvm.MethodName) prog_64_method_39_code (4 : Nat) (Option.none : Option Jvm.ClassFile.FieldType)) ∈ lw_all := lw_g (lw_at lw_m8 227 rfl) rfl
theorem q2009 : (Jvm.Cond.methodLink "java/util/ArrayList" (112 : Nat) ({ cls := "java/lang/System", name := "arraycopy", desc := "(Ljava/lang/Object;ILjava/lang/Object;II)V" } : Jvm.MethodName)) ∈ lw_all := lw_g (lw_at lw_m8 228 rfl) rfl
theorem q2746 : (Jvm.Cond.instanceMethod ({ cls := "java/util/ArrayList", name := "<init>", desc := "(I)V" } : Jvm.MethodName)) ∈ lw_all := lw_g (lw_at lw_m12 5 rfl) rfl
theorem q2747 : (Jvm.Cond.code ({ cls := "java/util/ArrayList", name := "<init>", desc := "(I)V" } : Jvm.MethodName) prog_64_method_1_code (2 : Nat) (Option.none : Option Jvm.ClassFile.FieldType)) ∈ lw_all := lw_g (lw_at lw_m12 6 rfl) rfl
theorem q2748 : (Jvm.Cond.methodLink "java/util/ArrayList" (1 : Nat) ({ cls := "java/util/AbstractList", name := "<init>", desc := "()V" } : Jvm.MethodName)) ∈ lw_all := lw_g (lw_at lw_m12 7 rfl) rfl
theorem q2749 : (Jvm.Cond.classLink "java/util/ArrayList" (7 : Nat) "java/lang/Object") ∈ lw_all := lw_g (lw_at lw_m12 8 rfl) rfl
theorem q2750 : (Jvm.Cond.fieldLink "java/util/ArrayList" (15 : Nat) "java/util/ArrayList" "EMPTY_ELEMENTDATA" "[Ljava/lang/Object;") ∈ lw_all := lw_g (lw_at lw_m12 9 rfl) rfl
theorem q2751 : (Jvm.Cond.laysStatic "java/util/ArrayList" "EMPTY_ELEMENTDATA" "[Ljava/lang/Object;") ∈ lw_tbl := lw_at lw_m12 10 rfl
theorem q2752 : (Jvm.Cond.fieldLink "java/util/ArrayList" (9 : Nat) "java/util/ArrayList" "elementData" "[Ljava/lang/Object;") ∈ lw_all := lw_g (lw_at lw_m12 11 rfl) rfl
theorem q2755 : (Jvm.Cond.fieldLink "java/util/ArrayList" (48 : Nat) "java/util/ArrayList" "size" "I") ∈ lw_all := lw_g (lw_at lw_m12 14 rfl) rfl
theorem q2756 : (Jvm.Cond.lays "java/util/ArrayList" "java/util/ArrayList" "elementData" "[Ljava/lang/Object;") ∈ lw_all := lw_g (lw_at lw_m12 15 rfl) rfl
theorem q2757 : (Jvm.Cond.soleField "java/util/ArrayList" "elementData") ∈ lw_all := lw_g (lw_at lw_m12 16 rfl) rfl
theorem q2758 : (Jvm.Cond.lays "java/util/ArrayList" "java/util/ArrayList" "size" "I") ∈ lw_all := lw_g (lw_at lw_m12 17 rfl) rfl
theorem q2759 : (Jvm.Cond.soleField "java/util/ArrayList" "size") ∈ lw_all := lw_g (lw_at lw_m12 18 rfl) rfl
theorem q2760 : (Jvm.Cond.lays "java/util/ArrayList" "java/util/AbstractList" "modCount" "I") ∈ lw_all := lw_g (lw_at lw_m12 19 rfl) rfl
theorem q2761 : (Jvm.Cond.superclass "java/util/ArrayList" "java/util/AbstractList") ∈ lw_all := lw_g (lw_at lw_m12 20 rfl) rfl
theorem q2855 : (Jvm.Cond.instanceMethod ({ cls := "java/util/ArrayList", name := "add", desc := "(Ljava/lang/Object;)Z" } : Jvm.MethodName)) ∈ lw_all := lw_g (lw_at lw_m12 114 rfl) rfl
theorem q2856 : (Jvm.Cond.selects "java/util/ArrayList" ({ cls := "java/util/ArrayList", name := "add", desc := "(Ljava/lang/Object;)Z" } : Jvm.MethodName) ({ cls := "java/util/ArrayList", name := "add", desc := "(Ljava/lang/Object;)Z" } : Jvm.MethodName)) ∈ lw_all := lw_g (lw_at lw_m12 115 rfl) rfl
theorem q2857 : (Jvm.Cond.code ({ cls := "java/util/ArrayList", name := "add", desc := "(Ljava/lang/Object;)Z" } : Jvm.MethodName) prog_64_method_25_code (2 : Nat) (Option.some Jvm.ClassFile.FieldType.boolean)) ∈ lw_all := lw_g (lw_at lw_m12 116 rfl) rfl
theorem q2858 : (Jvm.Cond.methodLink "java/util/ArrayList" (131 : Nat) ({ cls := "java/util/ArrayList", name := "add", desc := "(Ljava/lang/Object;[Ljava/lang/Object;I)V" } : Jvm.MethodName)) ∈ lw_all := lw_g (lw_at lw_m12 117 rfl) rfl
theorem q2859 : (Jvm.Cond.privateMethod ({ cls := "java/util/ArrayList", name := "add", desc := "(Ljava/lang/Object;[Ljava/lang/Object;I)V" } : Jvm.MethodName)) ∈ lw_tbl := lw_at lw_m12 118 rfl
theorem q2860 : (Jvm.Cond.instanceMethod ({ cls := "java/util/ArrayList", name := "add", desc := "(Ljava/lang/Object;[Ljava/lang/Object;I)V" } : Jvm.MethodName)) ∈ lw_all := lw_g (lw_at lw_m12 119 rfl) rfl
theorem q2861 : (Jvm.Cond.code ({ cls := "java/util/ArrayList", name := "add", desc := "(Ljava/lang/Object;[Ljava/lang/Object;I)V" } : Jvm.MethodName) prog_64_method_24_code (4 : Nat) (Option.none : Option Jvm.ClassFile.FieldType)) ∈ lw_all := lw_g (lw_at lw_m12 120 rfl) rfl
theorem q2862 : (Jvm.Cond.methodLink "java/util/ArrayList" (129 : Nat) ({ cls := "java/util/ArrayList", name := "grow", desc := "()[Ljava/lang/Object;" } : Jvm.MethodName)) ∈ lw_all := lw_g (lw_at lw_m12 121 rfl) rfl
theorem q2863 : (Jvm.Cond.privateMethod ({ cls := "java/util/ArrayList", name := "grow", desc := "()[Ljava/lang/Object;" } : Jvm.MethodName)) ∈ lw_tbl := lw_at lw_m12 122 rfl
theorem q2864 : (Jvm.Cond.instanceMethod ({ cls := "java/util/ArrayList", name := "grow", desc := "()[Ljava/lang/Object;" } : Jvm.MethodName)) ∈ lw_all := lw_g (lw_at lw_m12 123 rfl) rfl
theorem q2865 : (Jvm.Cond.code ({ cls := "java/util/ArrayList", name := "grow", desc := "()[Ljava/lang/Object;" } : Jvm.MethodName) prog_64_method_7_code (1 : Nat) (Option.some (Jvm.ClassFile.FieldType.array (Jvm.ClassFile.FieldType.object "java/lang/Object")))) ∈ lw_all := lw_g (lw_at lw_m12 124 rfl) rfl
theorem q2866 : (Jvm.Cond.methodLink "java/util/ArrayList" (69 : Nat) ({ cls := "java/util/ArrayList", name := "grow", desc := "(I)[Ljava/lang/Object;" } : Jvm.MethodName)) ∈ lw_all := lw_g (lw_at lw_m12 125 rfl) rfl
theorem q2867 : (Jvm.Cond.privateMethod ({ cls := "java/util/ArrayList", name := "grow", desc := "(I)[Ljava/lang/Object;" } : Jvm.MethodName)) ∈ lw_tbl := lw_at lw_m12 126 rfl
theorem q2868 : (Jvm.Cond.instanceMethod ({ cls := "java/util/ArrayList", name := "grow", desc := "(I)[Ljava/lang/Object;" } : Jvm.MethodName)) ∈ lw_all := lw_g (lw_at lw_m12 127 rfl) rfl
theorem q2869 : (Jvm.Cond.code ({ cls := "java/util/ArrayList", name := "grow", desc := "(I)[Ljava/lang/Object;" } : Jvm.MethodName) prog_64_method_6_code (4 : Nat) (Option.some (Jvm.ClassFile.FieldType.array (Jvm.ClassFile.FieldType.object "java/lang/Object")))) ∈ lw_all := lw_g (lw_at lw_m12 128 rfl) rfl
theorem q2870 : (Jvm.Cond.fieldLink "java/util/ArrayList" (39 : Nat) "java/util/ArrayList" "DEFAULTCAPACITY_EMPTY_ELEMENTDATA" "[Ljava/lang/Object;") ∈ lw_all := lw_g (lw_at lw_m12 129 rfl) rfl
theorem q2871 : (Jvm.Cond.laysStatic "java/util/ArrayList" "DEFAULTCAPACITY_EMPTY_ELEMENTDATA" "[Ljava/lang/Object;") ∈ lw_tbl := lw_at lw_m12 130 rfl
theorem q2872 : (Jvm.Cond.methodLink "java/util/ArrayList" (73 : Nat) ({ cls := "jdk/internal/util/ArraysSupport", name := "newLength", desc := "(III)I" } : Jvm.MethodName)) ∈ lw_all := lw_g (lw_at lw_m12 131 rfl) rfl
theorem q2873 : (Jvm.Cond.methodLink "java/util/ArrayList" (66 : Nat) ({ cls := "java/util/Arrays", name := "copyOf", desc := "([Ljava/lang/Object;I)[Ljava/lang/Object;" } : Jvm.MethodName)) ∈ lw_all := lw_g (lw_at lw_m12 132 rfl) rfl
theorem q2874 : (Jvm.Cond.methodLink "java/util/ArrayList" (79 : Nat) ({ cls := "java/lang/Math", name := "max", desc := "(II)I" } : Jvm.MethodName)) ∈ lw_all := lw_g (lw_at lw_m12 133 rfl) rfl
theorem q2880 : (Jvm.Cond.instanceMethod ({ cls := "java/util/ArrayList", name := "iterator", desc := "()Ljava/util/Iterator;" } : Jvm.MethodName)) ∈ lw_all := lw_g (lw_at lw_m12 139 rfl) rfl
theorem q2881 : (Jvm.Cond.selects "java/util/ArrayList" ({ cls := "java/util/ArrayList", name := "iterator", desc := "()Ljava/util/Iterator;" } : Jvm.MethodName) ({ cls := "java/util/ArrayList", name := "iterator", desc := "()Ljava/util/Iterator;" } : Jvm.MethodName)) ∈ lw_all := lw_g (lw_at lw_m12 140 rfl) rfl
theorem q2882 : (Jvm.Cond.code ({ cls := "java/util/ArrayList", name := "iterator", desc := "()Ljava/util/Iterator;" } : Jvm.MethodName) prog_64_method_55_code (1 : Nat) (Option.some (Jvm.ClassFile.FieldType.object "java/util/Iterator"))) ∈ lw_all := lw_g (lw_at lw_m12 141 rfl) rfl
theorem q2883 : (Jvm.Cond.classLink "java/util/ArrayList" (267 : Nat) "java/util/ArrayList$Itr") ∈ lw_all := lw_g (lw_at lw_m12 142 rfl) rfl
theorem q2885 : (Jvm.Cond.methodLink "java/util/ArrayList" (269 : Nat) ({ cls := "java/util/ArrayList$Itr", name := "<init>", desc := "(Ljava/util/ArrayList;)V" } : Jvm.MethodName)) ∈ lw_all := lw_g (lw_at lw_m12 144 rfl) rfl
theorem q3399 : (Jvm.Cond.selects "java/util/ArrayList" ({ cls := "java/util/ArrayList", name := "remove", desc := "(I)Ljava/lang/Object;" } : Jvm.MethodName) ({ cls := "java/util/ArrayList", name := "remove", desc := "(I)Ljava/lang/Object;" } : Jvm.MethodName)) ∈ lw_all := lw_g (lw_at lw_m14 178 rfl) rfl
theorem q3402 : (Jvm.Cond.selects "java/util/ArrayList" ({ cls := "java/util/AbstractCollection", name := "size", desc := "()I" } : Jvm.MethodName) ({ cls := "java/util/ArrayList", name := "size", desc := "()I" } : Jvm.MethodName)) ∈ lw_all := lw_g (lw_at lw_m14 181 rfl) rfl
theorem q3458 : (Jvm.Cond.castable "java/util/ArrayList" "java/lang/Object") ∈ lw_tbl := lw_at lw_m14 237 rfl
theorem in_J42 : ∀ w ∈ wsJ420, w ∈ lw_all := lw_in wsJ420 [2760, 2756, 2758] (by decide +kernel) (by decide +kernel)

/-! java/lang/Object -/
set_option maxRecDepth 100000
def RJ43 : String := "java/lang/Object"
abbrev cJ43_init : ByteArray := object_method_1_code
def yJ43_init : MethodName := ⟨RJ43, "<init>", "()V"⟩
theorem dJ43_init_0 : decode cJ43_init 0 = .ok (.return_, 1) := by decide +kernel
theorem q176 : (Jvm.Cond.instanceMethod ({ cls := "java/lang/Object", name := "<init>", desc := "()V" } : Jvm.MethodName)) ∈ lw_all := lw_g (lw_at lw_m1 75 rfl) rfl
theorem q177 : (Jvm.Cond.code ({ cls := "java/lang/Object", name := "<init>", desc := "()V" } : Jvm.MethodName) object_method_1_code (1 : Nat) (Option.none : Option Jvm.ClassFile.FieldType)) ∈ lw_all := lw_g (lw_at lw_m1 76 rfl) rfl
theorem q670 : (Jvm.Cond.instanceMethod ({ cls := "java/lang/Object", name := "getClass", desc := "()Ljava/lang/Class;" } : Jvm.MethodName)) ∈ lw_all := lw_g (lw_at lw_m3 89 rfl) rfl
theorem q671 : (Jvm.Cond.sameMethod "java/lang/Object" "java/lang/Object" "getClass" "()Ljava/lang/Class;") ∈ lw_all := lw_g (lw_at lw_m3 90 rfl) rfl
theorem q721 : (Jvm.Cond.native ({ cls := "java/lang/Object", name := "getClass", desc := "()Ljava/lang/Class;" } : Jvm.MethodName)) ∈ lw_all := lw_g (lw_at lw_m3 140 rfl) rfl
theorem q1556 : (Jvm.Cond.native ({ cls := "java/lang/Object", name := "clone", desc := "()Ljava/lang/Object;" } : Jvm.MethodName)) ∈ lw_all := lw_g (lw_at lw_m7 15 rfl) rfl
theorem q1557 : (Jvm.Cond.instanceMethod ({ cls := "java/lang/Object", name := "clone", desc := "()Ljava/lang/Object;" } : Jvm.MethodName)) ∈ lw_all := lw_g (lw_at lw_m7 16 rfl) rfl
theorem q3468 : (Jvm.Cond.declares ({ cls := "java/lang/Object", name := "getClass", desc := "()Ljava/lang/Class;" } : Jvm.MethodName)) ∈ lw_tbl := lw_at lw_m15 7 rfl

/-! java/util/Iterator -/
set_option maxRecDepth 100000
def RJ44 : String := "java/util/Iterator"
abbrev cJ44_remove : ByteArray := prog_72_method_3_code
def yJ44_remove : MethodName := ⟨RJ44, "remove", "()V"⟩
def dkwJ44_remove_0 : List UInt8 := [187, 0, 1, 89, 18, 3, 183, 0, 5, 191]
abbrev dktJ44_remove_0 : List UInt8 := dkwJ44_remove_0 ++ []
theorem dksJ44_remove_0 : cJ44_remove.data.toList.drop 0 = dktJ44_remove_0 := by decide +kernel
theorem dJ44_remove_0 : decode cJ44_remove 0 = .ok (.new 1, 3) := dk_187 0 1 (dk_at dksJ44_remove_0 0 rfl rfl)
theorem dJ44_remove_3 : decode cJ44_remove 3 = .ok (.dup, 1) := dk_89 (dk_at dksJ44_remove_0 3 rfl rfl)
theorem dJ44_remove_4 : decode cJ44_remove 4 = .ok (.ldc 3, 2) := dk_18 3 (dk_at dksJ44_remove_0 4 rfl rfl)
theorem dJ44_remove_6 : decode cJ44_remove 6 = .ok (.invokespecial 5, 3) := dk_183 0 5 (dk_at dksJ44_remove_0 6 rfl rfl)
theorem dJ44_remove_9 : decode cJ44_remove 9 = .ok (.athrow, 1) := dk_191 (dk_at dksJ44_remove_0 9 rfl rfl)
theorem q1261 : (Jvm.Cond.interfaceMethod "java/util/Iterator" "java/util/Iterator" "hasNext" "()Z") ∈ lw_tbl := lw_at lw_m5 200 rfl
theorem q1262 : (Jvm.Cond.declares ({ cls := "java/util/Iterator", name := "hasNext", desc := "()Z" } : Jvm.MethodName)) ∈ lw_tbl := lw_at lw_m5 201 rfl
theorem q1342 : (Jvm.Cond.interfaceMethod "java/util/Iterator" "java/util/Iterator" "next" "()Ljava/lang/Object;") ∈ lw_tbl := lw_at lw_m6 41 rfl
theorem q1343 : (Jvm.Cond.declares ({ cls := "java/util/Iterator", name := "next", desc := "()Ljava/lang/Object;" } : Jvm.MethodName)) ∈ lw_tbl := lw_at lw_m6 42 rfl
theorem q1967 : (Jvm.Cond.interfaceMethod "java/util/Iterator" "java/util/Iterator" "remove" "()V") ∈ lw_tbl := lw_at lw_m8 186 rfl
theorem q1968 : (Jvm.Cond.declares ({ cls := "java/util/Iterator", name := "remove", desc := "()V" } : Jvm.MethodName)) ∈ lw_tbl := lw_at lw_m8 187 rfl
theorem q1970 : (Jvm.Cond.instanceMethod ({ cls := "java/util/Iterator", name := "remove", desc := "()V" } : Jvm.MethodName)) ∈ lw_all := lw_g (lw_at lw_m8 189 rfl) rfl
theorem q1971 : (Jvm.Cond.publicMethod ({ cls := "java/util/Iterator", name := "remove", desc := "()V" } : Jvm.MethodName)) ∈ lw_tbl := lw_at lw_m8 190 rfl
theorem q1972 : (Jvm.Cond.code ({ cls := "java/util/Iterator", name := "remove", desc := "()V" } : Jvm.MethodName) prog_72_method_3_code (1 : Nat) (Option.none : Option Jvm.ClassFile.FieldType)) ∈ lw_all := lw_g (lw_at lw_m8 191 rfl) rfl
