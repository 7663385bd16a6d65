set_option maxRecDepth 100000
/-! java/util/AbstractCollection -/
def RJ0 : String := "java/util/AbstractCollection"
abbrev cJ0_init : ByteArray := prog_34_method_1_code
def yJ0_init : MethodName := ⟨RJ0, "<init>", "()V"⟩
theorem q105 : (Jvm.Cond.initialized "java/util/AbstractCollection") ∈ lw_all := lw_g (lw_at lw_m1 3 rfl) rfl
theorem q158 : (Jvm.Cond.instanceMethod ({ cls := "java/util/AbstractCollection", name := "<init>", desc := "()V" } : Jvm.MethodName)) ∈ lw_all := lw_g (lw_at lw_m1 56 rfl) rfl
theorem q159 : (Jvm.Cond.code ({ cls := "java/util/AbstractCollection", name := "<init>", desc := "()V" } : Jvm.MethodName) prog_34_method_1_code (1 : Nat) (Option.none : Option Jvm.ClassFile.FieldType)) ∈ lw_all := lw_g (lw_at lw_m1 57 rfl) rfl
theorem q160 : (Jvm.Cond.methodLink "java/util/AbstractCollection" (1 : Nat) ({ cls := "java/lang/Object", name := "<init>", desc := "()V" } : Jvm.MethodName)) ∈ lw_all := lw_g (lw_at lw_m1 58 rfl) rfl
/-! java/util/AbstractList -/
def RJ1 : String := "java/util/AbstractList"
abbrev cJ1_init : ByteArray := prog_35_method_1_code
def yJ1_init : MethodName := ⟨RJ1, "<init>", "()V"⟩
theorem q106 : (Jvm.Cond.initialized "java/util/AbstractList") ∈ lw_all := lw_g (lw_at lw_m1 4 rfl) rfl
theorem q155 : (Jvm.Cond.instanceMethod ({ cls := "java/util/AbstractList", name := "<init>", desc := "()V" } : Jvm.MethodName)) ∈ lw_all := lw_g (lw_at lw_m1 53 rfl) rfl
theorem q156 : (Jvm.Cond.code ({ cls := "java/util/AbstractList", name := "<init>", desc := "()V" } : Jvm.MethodName) prog_35_method_1_code (1 : Nat) (Option.none : Option Jvm.ClassFile.FieldType)) ∈ lw_all := lw_g (lw_at lw_m1 54 rfl) rfl
theorem q157 : (Jvm.Cond.methodLink "java/util/AbstractList" (1 : Nat) ({ cls := "java/util/AbstractCollection", name := "<init>", desc := "()V" } : Jvm.MethodName)) ∈ lw_all := lw_g (lw_at lw_m1 55 rfl) rfl
theorem q165 : (Jvm.Cond.fieldLink "java/util/AbstractList" (7 : Nat) "java/util/AbstractList" "modCount" "I") ∈ lw_all := lw_g (lw_at lw_m1 63 rfl) rfl
theorem q173 : (Jvm.Cond.soleField "java/util/AbstractList" "modCount") ∈ lw_all := lw_g (lw_at lw_m1 71 rfl) rfl
/-! jdk/internal/util/Preconditions -/
def RJ10 : String := "jdk/internal/util/Preconditions"
abbrev cJ10_checkFromToIndex : ByteArray := prog_44_method_12_code
def yJ10_checkFromToIndex : MethodName := ⟨RJ10, "checkFromToIndex", "(IIILjava/util/function/BiFunction;)I"⟩
abbrev cJ10_checkIndex : ByteArray := prog_44_method_11_code
def yJ10_checkIndex : MethodName := ⟨RJ10, "checkIndex", "(IILjava/util/function/BiFunction;)I"⟩
theorem q118 : (Jvm.Cond.initialized "jdk/internal/util/Preconditions") ∈ lw_all := lw_g (lw_at lw_m1 16 rfl) rfl
theorem q501 : (Jvm.Cond.laysStatic "jdk/internal/util/Preconditions" "SIOOBE_FORMATTER" "Ljava/util/function/BiFunction;") ∈ lw_tbl := lw_at lw_m2 159 rfl
theorem q503 : (Jvm.Cond.static ({ cls := "jdk/internal/util/Preconditions", name := "checkFromToIndex", desc := "(IIILjava/util/function/BiFunction;)I" } : Jvm.MethodName)) ∈ lw_all := lw_g (lw_at lw_m2 161 rfl) rfl
theorem q504 : (Jvm.Cond.code ({ cls := "jdk/internal/util/Preconditions", name := "checkFromToIndex", desc := "(IIILjava/util/function/BiFunction;)I" } : Jvm.MethodName) prog_44_method_12_code (4 : Nat) (Option.some Jvm.ClassFile.FieldType.int)) ∈ lw_all := lw_g (lw_at lw_m2 162 rfl) rfl
theorem q542 : (Jvm.Cond.static ({ cls := "jdk/internal/util/Preconditions", name := "checkIndex", desc := "(IILjava/util/function/BiFunction;)I" } : Jvm.MethodName)) ∈ lw_all := lw_g (lw_at lw_m2 200 rfl) rfl
theorem q543 : (Jvm.Cond.code ({ cls := "jdk/internal/util/Preconditions", name := "checkIndex", desc := "(IILjava/util/function/BiFunction;)I" } : Jvm.MethodName) prog_44_method_11_code (3 : Nat) (Option.some Jvm.ClassFile.FieldType.int)) ∈ lw_all := lw_g (lw_at lw_m2 201 rfl) rfl
/-! java/lang/Character -/
def RJ11 : String := "java/lang/Character"
abbrev cJ11_isValidCodePoint : ByteArray := prog_18_method_11_code
def yJ11_isValidCodePoint : MethodName := ⟨RJ11, "isValidCodePoint", "(I)Z"⟩
abbrev cJ11_highSurrogate : ByteArray := prog_18_method_28_code
def yJ11_highSurrogate : MethodName := ⟨RJ11, "highSurrogate", "(I)C"⟩
abbrev cJ11_lowSurrogate : ByteArray := prog_18_method_29_code
def yJ11_lowSurrogate : MethodName := ⟨RJ11, "lowSurrogate", "(I)C"⟩
theorem q119 : (Jvm.Cond.initialized "java/lang/Character") ∈ lw_all := lw_g (lw_at lw_m1 17 rfl) rfl
theorem q521 : (Jvm.Cond.static ({ cls := "java/lang/Character", name := "isValidCodePoint", desc := "(I)Z" } : Jvm.MethodName)) ∈ lw_all := lw_g (lw_at lw_m2 179 rfl) rfl
theorem q522 : (Jvm.Cond.code ({ cls := "java/lang/Character", name := "isValidCodePoint", desc := "(I)Z" } : Jvm.MethodName) prog_18_method_11_code (2 : Nat) (Option.some Jvm.ClassFile.FieldType.boolean)) ∈ lw_all := lw_g (lw_at lw_m2 180 rfl) rfl
theorem q524 : (Jvm.Cond.static ({ cls := "java/lang/Character", name := "highSurrogate", desc := "(I)C" } : Jvm.MethodName)) ∈ lw_all := lw_g (lw_at lw_m2 182 rfl) rfl
theorem q525 : (Jvm.Cond.code ({ cls := "java/lang/Character", name := "highSurrogate", desc := "(I)C" } : Jvm.MethodName) prog_18_method_28_code (1 : Nat) (Option.some Jvm.ClassFile.FieldType.char)) ∈ lw_all := lw_g (lw_at lw_m2 183 rfl) rfl
theorem q526 : (Jvm.Cond.constant "java/lang/Character" (110 : Nat) (55232 : Int32)) ∈ lw_all := lw_g (lw_at lw_m2 184 rfl) rfl
theorem q528 : (Jvm.Cond.static ({ cls := "java/lang/Character", name := "lowSurrogate", desc := "(I)C" } : Jvm.MethodName)) ∈ lw_all := lw_g (lw_at lw_m2 186 rfl) rfl
theorem q529 : (Jvm.Cond.code ({ cls := "java/lang/Character", name := "lowSurrogate", desc := "(I)C" } : Jvm.MethodName) prog_18_method_29_code (1 : Nat) (Option.some Jvm.ClassFile.FieldType.char)) ∈ lw_all := lw_g (lw_at lw_m2 187 rfl) rfl
theorem q530 : (Jvm.Cond.constant "java/lang/Character" (76 : Nat) (56320 : Int32)) ∈ lw_all := lw_g (lw_at lw_m2 188 rfl) rfl
/-! jdk/internal/util/ArraysSupport -/
def RJ12 : String := "jdk/internal/util/ArraysSupport"
abbrev cJ12_newLength : ByteArray := prog_43_method_27_code
def yJ12_newLength : MethodName := ⟨RJ12, "newLength", "(III)I"⟩
abbrev cJ12_hugeLength : ByteArray := prog_43_method_28_code
def yJ12_hugeLength : MethodName := ⟨RJ12, "hugeLength", "(II)I"⟩
theorem q125 : (Jvm.Cond.initialized "jdk/internal/util/ArraysSupport") ∈ lw_all := lw_g (lw_at lw_m1 23 rfl) rfl
theorem q658 : (Jvm.Cond.static ({ cls := "jdk/internal/util/ArraysSupport", name := "newLength", desc := "(III)I" } : Jvm.MethodName)) ∈ lw_all := lw_g (lw_at lw_m3 76 rfl) rfl
theorem q659 : (Jvm.Cond.code ({ cls := "jdk/internal/util/ArraysSupport", name := "newLength", desc := "(III)I" } : Jvm.MethodName) prog_43_method_27_code (4 : Nat) (Option.some Jvm.ClassFile.FieldType.int)) ∈ lw_all := lw_g (lw_at lw_m3 77 rfl) rfl
theorem q660 : (Jvm.Cond.methodLink "jdk/internal/util/ArraysSupport" (194 : Nat) ({ cls := "java/lang/Math", name := "max", desc := "(II)I" } : Jvm.MethodName)) ∈ lw_all := lw_g (lw_at lw_m3 78 rfl) rfl
theorem q661 : (Jvm.Cond.constant "jdk/internal/util/ArraysSupport" (200 : Nat) (2147483639 : Int32)) ∈ lw_all := lw_g (lw_at lw_m3 79 rfl) rfl
theorem q662 : (Jvm.Cond.methodLink "jdk/internal/util/ArraysSupport" (201 : Nat) ({ cls := "jdk/internal/util/ArraysSupport", name := "hugeLength", desc := "(II)I" } : Jvm.MethodName)) ∈ lw_all := lw_g (lw_at lw_m3 80 rfl) rfl
theorem q663 : (Jvm.Cond.static ({ cls := "jdk/internal/util/ArraysSupport", name := "hugeLength", desc := "(II)I" } : Jvm.MethodName)) ∈ lw_all := lw_g (lw_at lw_m3 81 rfl) rfl
theorem q664 : (Jvm.Cond.code ({ cls := "jdk/internal/util/ArraysSupport", name := "hugeLength", desc := "(II)I" } : Jvm.MethodName) prog_43_method_28_code (3 : Nat) (Option.some Jvm.ClassFile.FieldType.int)) ∈ lw_all := lw_g (lw_at lw_m3 82 rfl) rfl
/-! java/util/Arrays -/
def RJ13 : String := "java/util/Arrays"
abbrev cJ13_copyOf : ByteArray := prog_37_method_119_code
def yJ13_copyOf : MethodName := ⟨RJ13, "copyOf", "([Ljava/lang/Object;I)[Ljava/lang/Object;"⟩
abbrev cJ13_copyOf_2 : ByteArray := prog_37_method_120_code
def yJ13_copyOf_2 : MethodName := ⟨RJ13, "copyOf", "([Ljava/lang/Object;ILjava/lang/Class;)[Ljava/lang/Object;"⟩
theorem q126 : (Jvm.Cond.initialized "java/util/Arrays") ∈ lw_all := lw_g (lw_at lw_m1 24 rfl) rfl
theorem q666 : (Jvm.Cond.static ({ cls := "java/util/Arrays", name := "copyOf", desc := "([Ljava/lang/Object;I)[Ljava/lang/Object;" } : Jvm.MethodName)) ∈ lw_all := lw_g (lw_at lw_m3 84 rfl) rfl
theorem q667 : (Jvm.Cond.code ({ cls := "java/util/Arrays", name := "copyOf", desc := "([Ljava/lang/Object;I)[Ljava/lang/Object;" } : Jvm.MethodName) prog_37_method_119_code (2 : Nat) (Option.some (Jvm.ClassFile.FieldType.array (Jvm.ClassFile.FieldType.object "java/lang/Object")))) ∈ lw_all := lw_g (lw_at lw_m3 85 rfl) rfl
theorem q668 : (Jvm.Cond.methodLink "java/util/Arrays" (86 : Nat) ({ cls := "java/lang/Object", name := "getClass", desc := "()Ljava/lang/Class;" } : Jvm.MethodName)) ∈ lw_all := lw_g (lw_at lw_m3 86 rfl) rfl
theorem q686 : (Jvm.Cond.methodLink "java/util/Arrays" (300 : Nat) ({ cls := "java/util/Arrays", name := "copyOf", desc := "([Ljava/lang/Object;ILjava/lang/Class;)[Ljava/lang/Object;" } : Jvm.MethodName)) ∈ lw_all := lw_g (lw_at lw_m3 104 rfl) rfl
theorem q687 : (Jvm.Cond.static ({ cls := "java/util/Arrays", name := "copyOf", desc := "([Ljava/lang/Object;ILjava/lang/Class;)[Ljava/lang/Object;" } : Jvm.MethodName)) ∈ lw_all := lw_g (lw_at lw_m3 105 rfl) rfl
theorem q688 : (Jvm.Cond.code ({ cls := "java/util/Arrays", name := "copyOf", desc := "([Ljava/lang/Object;ILjava/lang/Class;)[Ljava/lang/Object;" } : Jvm.MethodName) prog_37_method_120_code (4 : Nat) (Option.some (Jvm.ClassFile.FieldType.array (Jvm.ClassFile.FieldType.object "java/lang/Object")))) ∈ lw_all := lw_g (lw_at lw_m3 106 rfl) rfl
theorem q689 : (Jvm.Cond.classLink "java/util/Arrays" (110 : Nat) "[Ljava/lang/Object;") ∈ lw_all := lw_g (lw_at lw_m3 107 rfl) rfl
theorem q691 : (Jvm.Cond.classLink "java/util/Arrays" (2 : Nat) "java/lang/Object") ∈ lw_all := lw_g (lw_at lw_m3 109 rfl) rfl
theorem q692 : (Jvm.Cond.methodLink "java/util/Arrays" (304 : Nat) ({ cls := "java/lang/Math", name := "min", desc := "(II)I" } : Jvm.MethodName)) ∈ lw_all := lw_g (lw_at lw_m3 110 rfl) rfl
theorem q693 : (Jvm.Cond.methodLink "java/util/Arrays" (150 : Nat) ({ cls := "java/lang/System", name := "arraycopy", desc := "(Ljava/lang/Object;ILjava/lang/Object;II)V" } : Jvm.MethodName)) ∈ lw_all := lw_g (lw_at lw_m3 111 rfl) rfl
/-! java/util/Objects -/
def RJ14 : String := "java/util/Objects"
abbrev cJ14_checkIndex : ByteArray := prog_40_method_17_code
def yJ14_checkIndex : MethodName := ⟨RJ14, "checkIndex", "(II)I"⟩
theorem q129 : (Jvm.Cond.initialized "java/util/Objects") ∈ lw_all := lw_g (lw_at lw_m1 27 rfl) rfl
theorem q738 : (Jvm.Cond.static ({ cls := "java/util/Objects", name := "checkIndex", desc := "(II)I" } : Jvm.MethodName)) ∈ lw_all := lw_g (lw_at lw_m3 156 rfl) rfl
theorem q739 : (Jvm.Cond.code ({ cls := "java/util/Objects", name := "checkIndex", desc := "(II)I" } : Jvm.MethodName) prog_40_method_17_code (2 : Nat) (Option.some Jvm.ClassFile.FieldType.int)) ∈ lw_all := lw_g (lw_at lw_m3 157 rfl) rfl
theorem q740 : (Jvm.Cond.methodLink "java/util/Objects" (105 : Nat) ({ cls := "jdk/internal/util/Preconditions", name := "checkIndex", desc := "(IILjava/util/function/BiFunction;)I" } : Jvm.MethodName)) ∈ lw_all := lw_g (lw_at lw_m3 158 rfl) rfl
/-! java/lang/Integer -/
def RJ15 : String := "java/lang/Integer"
abbrev cJ15_compare : ByteArray := prog_22_method_40_code
def yJ15_compare : MethodName := ⟨RJ15, "compare", "(II)I"⟩
abbrev cJ15_bitCount : ByteArray := prog_22_method_49_code
def yJ15_bitCount : MethodName := ⟨RJ15, "bitCount", "(I)I"⟩
abbrev cJ15_numberOfTrailingZeros : ByteArray := prog_22_method_48_code
def yJ15_numberOfTrailingZeros : MethodName := ⟨RJ15, "numberOfTrailingZeros", "(I)I"⟩
theorem q130 : (Jvm.Cond.initialized "java/lang/Integer") ∈ lw_all := lw_g (lw_at lw_m1 28 rfl) rfl
theorem q853 : (Jvm.Cond.static ({ cls := "java/lang/Integer", name := "compare", desc := "(II)I" } : Jvm.MethodName)) ∈ lw_all := lw_g (lw_at lw_m4 31 rfl) rfl
theorem q854 : (Jvm.Cond.code ({ cls := "java/lang/Integer", name := "compare", desc := "(II)I" } : Jvm.MethodName) prog_22_method_40_code (2 : Nat) (Option.some Jvm.ClassFile.FieldType.int)) ∈ lw_all := lw_g (lw_at lw_m4 32 rfl) rfl
theorem q1082 : (Jvm.Cond.static ({ cls := "java/lang/Integer", name := "bitCount", desc := "(I)I" } : Jvm.MethodName)) ∈ lw_all := lw_g (lw_at lw_m5 20 rfl) rfl
theorem q1083 : (Jvm.Cond.code ({ cls := "java/lang/Integer", name := "bitCount", desc := "(I)I" } : Jvm.MethodName) prog_22_method_49_code (1 : Nat) (Option.some Jvm.ClassFile.FieldType.int)) ∈ lw_all := lw_g (lw_at lw_m5 21 rfl) rfl
theorem q1084 : (Jvm.Cond.constant "java/lang/Integer" (265 : Nat) (1431655765 : Int32)) ∈ lw_all := lw_g (lw_at lw_m5 22 rfl) rfl
theorem q1085 : (Jvm.Cond.constant "java/lang/Integer" (266 : Nat) (858993459 : Int32)) ∈ lw_all := lw_g (lw_at lw_m5 23 rfl) rfl
theorem q1086 : (Jvm.Cond.constant "java/lang/Integer" (267 : Nat) (252645135 : Int32)) ∈ lw_all := lw_g (lw_at lw_m5 24 rfl) rfl
theorem q1100 : (Jvm.Cond.static ({ cls := "java/lang/Integer", name := "numberOfTrailingZeros", desc := "(I)I" } : Jvm.MethodName)) ∈ lw_all := lw_g (lw_at lw_m5 38 rfl) rfl
theorem q1101 : (Jvm.Cond.code ({ cls := "java/lang/Integer", name := "numberOfTrailingZeros", desc := "(I)I" } : Jvm.MethodName) prog_22_method_48_code (2 : Nat) (Option.some Jvm.ClassFile.FieldType.int)) ∈ lw_all := lw_g (lw_at lw_m5 39 rfl) rfl
theorem q1102 : (Jvm.Cond.constant "java/lang/Integer" (264 : Nat) (65536 : Int32)) ∈ lw_all := lw_g (lw_at lw_m5 40 rfl) rfl
/-! java/lang/Long -/
def RJ16 : String := "java/lang/Long"
abbrev cJ16_signum : ByteArray := prog_24_method_57_code
def yJ16_signum : MethodName := ⟨RJ16, "signum", "(J)I"⟩
theorem q132 : (Jvm.Cond.initialized "java/lang/Long") ∈ lw_all := lw_g (lw_at lw_m1 30 rfl) rfl
theorem q928 : (Jvm.Cond.static ({ cls := "java/lang/Long", name := "signum", desc := "(J)I" } : Jvm.MethodName)) ∈ lw_all := lw_g (lw_at lw_m4 106 rfl) rfl
theorem q929 : (Jvm.Cond.code ({ cls := "java/lang/Long", name := "signum", desc := "(J)I" } : Jvm.MethodName) prog_24_method_57_code (2 : Nat) (Option.some Jvm.ClassFile.FieldType.int)) ∈ lw_all := lw_g (lw_at lw_m4 107 rfl) rfl
/-! java/lang/Object -/
def RJ17 : String := "java/lang/Object"
abbrev cJ17_init : ByteArray := object_method_1_code
def yJ17_init : MethodName := ⟨RJ17, "<init>", "()V"⟩
theorem q141 : (Jvm.Cond.instanceMethod ({ cls := "java/lang/Object", name := "<init>", desc := "()V" } : Jvm.MethodName)) ∈ lw_all := lw_g (lw_at lw_m1 39 rfl) rfl
theorem q142 : (Jvm.Cond.code ({ cls := "java/lang/Object", name := "<init>", desc := "()V" } : Jvm.MethodName) object_method_1_code (1 : Nat) (Option.none : Option Jvm.ClassFile.FieldType)) ∈ lw_all := lw_g (lw_at lw_m1 40 rfl) rfl
theorem q669 : (Jvm.Cond.instanceMethod ({ cls := "java/lang/Object", name := "getClass", desc := "()Ljava/lang/Class;" } : Jvm.MethodName)) ∈ lw_all := lw_g (lw_at lw_m3 87 rfl) rfl
theorem q670 : (Jvm.Cond.sameMethod "java/lang/Object" "java/lang/Object" "getClass" "()Ljava/lang/Class;") ∈ lw_all := lw_g (lw_at lw_m3 88 rfl) rfl
theorem q685 : (Jvm.Cond.native ({ cls := "java/lang/Object", name := "getClass", desc := "()Ljava/lang/Class;" } : Jvm.MethodName)) ∈ lw_all := lw_g (lw_at lw_m3 103 rfl) rfl
theorem q1788 : (Jvm.Cond.declares ({ cls := "java/lang/Object", name := "getClass", desc := "()Ljava/lang/Class;" } : Jvm.MethodName)) ∈ lw_tbl := lw_at lw_m8 6 rfl
/-! java/util/ArrayList -/
def RJ2 : String := "java/util/ArrayList"
def TJ2 : u_T := fun k => match k with
  | 0 => ("java/util/AbstractList", "modCount", "I", false)
  | 1 => ("java/util/ArrayList", "elementData", "[Ljava/lang/Object;", false)
  | _ => ("java/util/ArrayList", "size", "I", false)
def tyJ2 : Nat → FieldType := fun k => match k with
  | 0 => .int
  | 1 => .array (.object "java/lang/Object")
  | _ => .int
abbrev wsJ20 : List Cond := u_ws RJ2 TJ2 3
theorem nmJ2 : ∀ a, a < 3 → ∀ b, b < 3 → a ≠ b → (TJ2 a).2.1 ≠ (TJ2 b).2.1 := by decide +kernel
theorem tyJ2_ok : ∀ k, k < 3 → parseFieldDescriptor (TJ2 k).2.2.1 = some (tyJ2 k) := by decide +kernel
abbrev cJ2_init : ByteArray := prog_36_method_2_code
def yJ2_init : MethodName := ⟨RJ2, "<init>", "()V"⟩
abbrev cJ2_clear : ByteArray := prog_36_method_40_code
def yJ2_clear : MethodName := ⟨RJ2, "clear", "()V"⟩
abbrev cJ2_size : ByteArray := prog_36_method_8_code
def yJ2_size : MethodName := ⟨RJ2, "size", "()I"⟩
abbrev cJ2_add : ByteArray := prog_36_method_25_code
def yJ2_add : MethodName := ⟨RJ2, "add", "(Ljava/lang/Object;)Z"⟩
abbrev cJ2_add_2 : ByteArray := prog_36_method_24_code
def yJ2_add_2 : MethodName := ⟨RJ2, "add", "(Ljava/lang/Object;[Ljava/lang/Object;I)V"⟩
abbrev cJ2_grow : ByteArray := prog_36_method_7_code
def yJ2_grow : MethodName := ⟨RJ2, "grow", "()[Ljava/lang/Object;"⟩
abbrev cJ2_grow_2 : ByteArray := prog_36_method_6_code
def yJ2_grow_2 : MethodName := ⟨RJ2, "grow", "(I)[Ljava/lang/Object;"⟩
abbrev cJ2_isEmpty : ByteArray := prog_36_method_9_code
def yJ2_isEmpty : MethodName := ⟨RJ2, "isEmpty", "()Z"⟩
abbrev cJ2_get : ByteArray := prog_36_method_20_code
def yJ2_get : MethodName := ⟨RJ2, "get", "(I)Ljava/lang/Object;"⟩
abbrev cJ2_elementData : ByteArray := prog_36_method_18_code
def yJ2_elementData : MethodName := ⟨RJ2, "elementData", "(I)Ljava/lang/Object;"⟩
abbrev cJ2_add_3 : ByteArray := prog_36_method_26_code
def yJ2_add_3 : MethodName := ⟨RJ2, "add", "(ILjava/lang/Object;)V"⟩
abbrev cJ2_rangeCheckForAdd : ByteArray := prog_36_method_45_code
def yJ2_rangeCheckForAdd : MethodName := ⟨RJ2, "rangeCheckForAdd", "(I)V"⟩
abbrev cJ2_remove : ByteArray := prog_36_method_29_code
def yJ2_remove : MethodName := ⟨RJ2, "remove", "(I)Ljava/lang/Object;"⟩
abbrev cJ2_fastRemove : ByteArray := prog_36_method_39_code
def yJ2_fastRemove : MethodName := ⟨RJ2, "fastRemove", "([Ljava/lang/Object;I)V"⟩
theorem q107 : (Jvm.Cond.initialized "java/util/ArrayList") ∈ lw_all := lw_g (lw_at lw_m1 5 rfl) rfl
theorem q150 : (Jvm.Cond.instantiable "java/util/ArrayList" (3 : Nat)) ∈ lw_all := lw_g (lw_at lw_m1 48 rfl) rfl
theorem q152 : (Jvm.Cond.instanceMethod ({ cls := "java/util/ArrayList", name := "<init>", desc := "()V" } : Jvm.MethodName)) ∈ lw_all := lw_g (lw_at lw_m1 50 rfl) rfl
theorem q153 : (Jvm.Cond.code ({ cls := "java/util/ArrayList", name := "<init>", desc := "()V" } : Jvm.MethodName) prog_36_method_2_code (1 : Nat) (Option.none : Option Jvm.ClassFile.FieldType)) ∈ lw_all := lw_g (lw_at lw_m1 51 rfl) rfl
theorem q154 : (Jvm.Cond.methodLink "java/util/ArrayList" (1 : Nat) ({ cls := "java/util/AbstractList", name := "<init>", desc := "()V" } : Jvm.MethodName)) ∈ lw_all := lw_g (lw_at lw_m1 52 rfl) rfl
theorem q161 : (Jvm.Cond.fieldLink "java/util/ArrayList" (39 : Nat) "java/util/ArrayList" "DEFAULTCAPACITY_EMPTY_ELEMENTDATA" "[Ljava/lang/Object;") ∈ lw_all := lw_g (lw_at lw_m1 59 rfl) rfl
theorem q162 : (Jvm.Cond.laysStatic "java/util/ArrayList" "DEFAULTCAPACITY_EMPTY_ELEMENTDATA" "[Ljava/lang/Object;") ∈ lw_tbl := lw_at lw_m1 60 rfl
theorem q163 : (Jvm.Cond.fieldLink "java/util/ArrayList" (9 : Nat) "java/util/ArrayList" "elementData" "[Ljava/lang/Object;") ∈ lw_all := lw_g (lw_at lw_m1 61 rfl) rfl
theorem q164 : (Jvm.Cond.fieldLink "java/util/ArrayList" (48 : Nat) "java/util/ArrayList" "size" "I") ∈ lw_all := lw_g (lw_at lw_m1 62 rfl) rfl
theorem q166 : (Jvm.Cond.fieldLink "java/util/ArrayList" (63 : Nat) "java/util/ArrayList" "modCount" "I") ∈ lw_all := lw_g (lw_at lw_m1 64 rfl) rfl
theorem q167 : (Jvm.Cond.sameField "java/util/ArrayList" "java/util/AbstractList" "modCount" "I") ∈ lw_all := lw_g (lw_at lw_m1 65 rfl) rfl
theorem q168 : (Jvm.Cond.lays "java/util/ArrayList" "java/util/ArrayList" "elementData" "[Ljava/lang/Object;") ∈ lw_all := lw_g (lw_at lw_m1 66 rfl) rfl
theorem q169 : (Jvm.Cond.soleField "java/util/ArrayList" "elementData") ∈ lw_all := lw_g (lw_at lw_m1 67 rfl) rfl
theorem q170 : (Jvm.Cond.lays "java/util/ArrayList" "java/util/ArrayList" "size" "I") ∈ lw_all := lw_g (lw_at lw_m1 68 rfl) rfl
theorem q171 : (Jvm.Cond.soleField "java/util/ArrayList" "size") ∈ lw_all := lw_g (lw_at lw_m1 69 rfl) rfl
theorem q172 : (Jvm.Cond.lays "java/util/ArrayList" "java/util/AbstractList" "modCount" "I") ∈ lw_all := lw_g (lw_at lw_m1 70 rfl) rfl
theorem q174 : (Jvm.Cond.superclass "java/util/ArrayList" "java/util/AbstractList") ∈ lw_all := lw_g (lw_at lw_m1 72 rfl) rfl
theorem q348 : (Jvm.Cond.instanceMethod ({ cls := "java/util/ArrayList", name := "clear", desc := "()V" } : Jvm.MethodName)) ∈ lw_all := lw_g (lw_at lw_m2 6 rfl) rfl
theorem q349 : (Jvm.Cond.selects "java/util/ArrayList" ({ cls := "java/util/ArrayList", name := "clear", desc := "()V" } : Jvm.MethodName) ({ cls := "java/util/ArrayList", name := "clear", desc := "()V" } : Jvm.MethodName)) ∈ lw_all := lw_g (lw_at lw_m2 7 rfl) rfl
theorem q350 : (Jvm.Cond.code ({ cls := "java/util/ArrayList", name := "clear", desc := "()V" } : Jvm.MethodName) prog_36_method_40_code (4 : Nat) (Option.none : Option Jvm.ClassFile.FieldType)) ∈ lw_all := lw_g (lw_at lw_m2 8 rfl) rfl
theorem q552 : (Jvm.Cond.instanceMethod ({ cls := "java/util/ArrayList", name := "size", desc := "()I" } : Jvm.MethodName)) ∈ lw_all := lw_g (lw_at lw_m2 210 rfl) rfl
theorem q553 : (Jvm.Cond.selects "java/util/ArrayList" ({ cls := "java/util/ArrayList", name := "size", desc := "()I" } : Jvm.MethodName) ({ cls := "java/util/ArrayList", name := "size", desc := "()I" } : Jvm.MethodName)) ∈ lw_all := lw_g (lw_at lw_m2 211 rfl) rfl
theorem q554 : (Jvm.Cond.code ({ cls := "java/util/ArrayList", name := "size", desc := "()I" } : Jvm.MethodName) prog_36_method_8_code (1 : Nat) (Option.some Jvm.ClassFile.FieldType.int)) ∈ lw_all := lw_g (lw_at lw_m2 212 rfl) rfl
theorem q642 : (Jvm.Cond.instanceMethod ({ cls := "java/util/ArrayList", name := "add", desc := "(Ljava/lang/Object;)Z" } : Jvm.MethodName)) ∈ lw_all := lw_g (lw_at lw_m3 60 rfl) rfl
theorem q643 : (Jvm.Cond.selects "java/util/ArrayList" ({ cls := "java/util/ArrayList", name := "add", desc := "(Ljava/lang/Object;)Z" } : Jvm.MethodName) ({ cls := "java/util/ArrayList", name := "add", desc := "(Ljava/lang/Object;)Z" } : Jvm.MethodName)) ∈ lw_all := lw_g (lw_at lw_m3 61 rfl) rfl
theorem q644 : (Jvm.Cond.code ({ cls := "java/util/ArrayList", name := "add", desc := "(Ljava/lang/Object;)Z" } : Jvm.MethodName) prog_36_method_25_code (2 : Nat) (Option.some Jvm.ClassFile.FieldType.boolean)) ∈ lw_all := lw_g (lw_at lw_m3 62 rfl) rfl
theorem q645 : (Jvm.Cond.methodLink "java/util/ArrayList" (131 : Nat) ({ cls := "java/util/ArrayList", name := "add", desc := "(Ljava/lang/Object;[Ljava/lang/Object;I)V" } : Jvm.MethodName)) ∈ lw_all := lw_g (lw_at lw_m3 63 rfl) rfl
theorem q646 : (Jvm.Cond.privateMethod ({ cls := "java/util/ArrayList", name := "add", desc := "(Ljava/lang/Object;[Ljava/lang/Object;I)V" } : Jvm.MethodName)) ∈ lw_tbl := lw_at lw_m3 64 rfl
theorem q647 : (Jvm.Cond.instanceMethod ({ cls := "java/util/ArrayList", name := "add", desc := "(Ljava/lang/Object;[Ljava/lang/Object;I)V" } : Jvm.MethodName)) ∈ lw_all := lw_g (lw_at lw_m3 65 rfl) rfl
theorem q648 : (Jvm.Cond.code ({ cls := "java/util/ArrayList", name := "add", desc := "(Ljava/lang/Object;[Ljava/lang/Object;I)V" } : Jvm.MethodName) prog_36_method_24_code (4 : Nat) (Option.none : Option Jvm.ClassFile.FieldType)) ∈ lw_all := lw_g (lw_at lw_m3 66 rfl) rfl
theorem q649 : (Jvm.Cond.methodLink "java/util/ArrayList" (129 : Nat) ({ cls := "java/util/ArrayList", name := "grow", desc := "()[Ljava/lang/Object;" } : Jvm.MethodName)) ∈ lw_all := lw_g (lw_at lw_m3 67 rfl) rfl
theorem q650 : (Jvm.Cond.privateMethod ({ cls := "java/util/ArrayList", name := "grow", desc := "()[Ljava/lang/Object;" } : Jvm.MethodName)) ∈ lw_tbl := lw_at lw_m3 68 rfl
theorem q651 : (Jvm.Cond.instanceMethod ({ cls := "java/util/ArrayList", name := "grow", desc := "()[Ljava/lang/Object;" } : Jvm.MethodName)) ∈ lw_all := lw_g (lw_at lw_m3 69 rfl) rfl
theorem q652 : (Jvm.Cond.code ({ cls := "java/util/ArrayList", name := "grow", desc := "()[Ljava/lang/Object;" } : Jvm.MethodName) prog_36_method_7_code (1 : Nat) (Option.some (Jvm.ClassFile.FieldType.array (Jvm.ClassFile.FieldType.object "java/lang/Object")))) ∈ lw_all := lw_g (lw_at lw_m3 70 rfl) rfl
theorem q653 : (Jvm.Cond.methodLink "java/util/ArrayList" (69 : Nat) ({ cls := "java/util/ArrayList", name := "grow", desc := "(I)[Ljava/lang/Object;" } : Jvm.MethodName)) ∈ lw_all := lw_g (lw_at lw_m3 71 rfl) rfl
theorem q654 : (Jvm.Cond.privateMethod ({ cls := "java/util/ArrayList", name := "grow", desc := "(I)[Ljava/lang/Object;" } : Jvm.MethodName)) ∈ lw_tbl := lw_at lw_m3 72 rfl
theorem q655 : (Jvm.Cond.instanceMethod ({ cls := "java/util/ArrayList", name := "grow", desc := "(I)[Ljava/lang/Object;" } : Jvm.MethodName)) ∈ lw_all := lw_g (lw_at lw_m3 73 rfl) rfl
theorem q656 : (Jvm.Cond.code ({ cls := "java/util/ArrayList", name := "grow", desc := "(I)[Ljava/lang/Object;" } : Jvm.MethodName) prog_36_method_6_code (4 : Nat) (Option.some (Jvm.ClassFile.FieldType.array (Jvm.ClassFile.FieldType.object "java/lang/Object")))) ∈ lw_all := lw_g (lw_at lw_m3 74 rfl) rfl
theorem q657 : (Jvm.Cond.methodLink "java/util/ArrayList" (73 : Nat) ({ cls := "jdk/internal/util/ArraysSupport", name := "newLength", desc := "(III)I" } : Jvm.MethodName)) ∈ lw_all := lw_g (lw_at lw_m3 75 rfl) rfl
theorem q665 : (Jvm.Cond.methodLink "java/util/ArrayList" (66 : Nat) ({ cls := "java/util/Arrays", name := "copyOf", desc := "([Ljava/lang/Object;I)[Ljava/lang/Object;" } : Jvm.MethodName)) ∈ lw_all := lw_g (lw_at lw_m3 83 rfl) rfl
theorem q684 : (Jvm.Cond.selects "java/util/ArrayList" ({ cls := "java/lang/Object", name := "getClass", desc := "()Ljava/lang/Class;" } : Jvm.MethodName) ({ cls := "java/lang/Object", name := "getClass", desc := "()Ljava/lang/Class;" } : Jvm.MethodName)) ∈ lw_all := lw_g (lw_at lw_m3 102 rfl) rfl
theorem q696 : (Jvm.Cond.methodLink "java/util/ArrayList" (79 : Nat) ({ cls := "java/lang/Math", name := "max", desc := "(II)I" } : Jvm.MethodName)) ∈ lw_all := lw_g (lw_at lw_m3 114 rfl) rfl
theorem q697 : (Jvm.Cond.classLink "java/util/ArrayList" (7 : Nat) "java/lang/Object") ∈ lw_all := lw_g (lw_at lw_m3 115 rfl) rfl
theorem q723 : (Jvm.Cond.instanceMethod ({ cls := "java/util/ArrayList", name := "isEmpty", desc := "()Z" } : Jvm.MethodName)) ∈ lw_all := lw_g (lw_at lw_m3 141 rfl) rfl
theorem q724 : (Jvm.Cond.selects "java/util/ArrayList" ({ cls := "java/util/ArrayList", name := "isEmpty", desc := "()Z" } : Jvm.MethodName) ({ cls := "java/util/ArrayList", name := "isEmpty", desc := "()Z" } : Jvm.MethodName)) ∈ lw_all := lw_g (lw_at lw_m3 142 rfl) rfl
theorem q725 : (Jvm.Cond.code ({ cls := "java/util/ArrayList", name := "isEmpty", desc := "()Z" } : Jvm.MethodName) prog_36_method_9_code (1 : Nat) (Option.some Jvm.ClassFile.FieldType.boolean)) ∈ lw_all := lw_g (lw_at lw_m3 143 rfl) rfl
theorem q734 : (Jvm.Cond.instanceMethod ({ cls := "java/util/ArrayList", name := "get", desc := "(I)Ljava/lang/Object;" } : Jvm.MethodName)) ∈ lw_all := lw_g (lw_at lw_m3 152 rfl) rfl
theorem q735 : (Jvm.Cond.selects "java/util/ArrayList" ({ cls := "java/util/ArrayList", name := "get", desc := "(I)Ljava/lang/Object;" } : Jvm.MethodName) ({ cls := "java/util/ArrayList", name := "get", desc := "(I)Ljava/lang/Object;" } : Jvm.MethodName)) ∈ lw_all := lw_g (lw_at lw_m3 153 rfl) rfl
theorem q736 : (Jvm.Cond.code ({ cls := "java/util/ArrayList", name := "get", desc := "(I)Ljava/lang/Object;" } : Jvm.MethodName) prog_36_method_20_code (2 : Nat) (Option.some (Jvm.ClassFile.FieldType.object "java/lang/Object"))) ∈ lw_all := lw_g (lw_at lw_m3 154 rfl) rfl
theorem q737 : (Jvm.Cond.methodLink "java/util/ArrayList" (118 : Nat) ({ cls := "java/util/Objects", name := "checkIndex", desc := "(II)I" } : Jvm.MethodName)) ∈ lw_all := lw_g (lw_at lw_m3 155 rfl) rfl
theorem q741 : (Jvm.Cond.methodLink "java/util/ArrayList" (123 : Nat) ({ cls := "java/util/ArrayList", name := "elementData", desc := "(I)Ljava/lang/Object;" } : Jvm.MethodName)) ∈ lw_all := lw_g (lw_at lw_m3 159 rfl) rfl
theorem q742 : (Jvm.Cond.instanceMethod ({ cls := "java/util/ArrayList", name := "elementData", desc := "(I)Ljava/lang/Object;" } : Jvm.MethodName)) ∈ lw_all := lw_g (lw_at lw_m3 160 rfl) rfl
theorem q743 : (Jvm.Cond.selects "java/util/ArrayList" ({ cls := "java/util/ArrayList", name := "elementData", desc := "(I)Ljava/lang/Object;" } : Jvm.MethodName) ({ cls := "java/util/ArrayList", name := "elementData", desc := "(I)Ljava/lang/Object;" } : Jvm.MethodName)) ∈ lw_all := lw_g (lw_at lw_m3 161 rfl) rfl
theorem q744 : (Jvm.Cond.code ({ cls := "java/util/ArrayList", name := "elementData", desc := "(I)Ljava/lang/Object;" } : Jvm.MethodName) prog_36_method_18_code (2 : Nat) (Option.some (Jvm.ClassFile.FieldType.object "java/lang/Object"))) ∈ lw_all := lw_g (lw_at lw_m3 162 rfl) rfl
theorem q931 : (Jvm.Cond.instanceMethod ({ cls := "java/util/ArrayList", name := "add", desc := "(ILjava/lang/Object;)V" } : Jvm.MethodName)) ∈ lw_all := lw_g (lw_at lw_m4 109 rfl) rfl
theorem q932 : (Jvm.Cond.selects "java/util/ArrayList" ({ cls := "java/util/ArrayList", name := "add", desc := "(ILjava/lang/Object;)V" } : Jvm.MethodName) ({ cls := "java/util/ArrayList", name := "add", desc := "(ILjava/lang/Object;)V" } : Jvm.MethodName)) ∈ lw_all := lw_g (lw_at lw_m4 110 rfl) rfl
theorem q933 : (Jvm.Cond.code ({ cls := "java/util/ArrayList", name := "add", desc := "(ILjava/lang/Object;)V" } : Jvm.MethodName) prog_36_method_26_code (5 : Nat) (Option.none : Option Jvm.ClassFile.FieldType)) ∈ lw_all := lw_g (lw_at lw_m4 111 rfl) rfl
theorem q934 : (Jvm.Cond.methodLink "java/util/ArrayList" (135 : Nat) ({ cls := "java/util/ArrayList", name := "rangeCheckForAdd", desc := "(I)V" } : Jvm.MethodName)) ∈ lw_all := lw_g (lw_at lw_m4 112 rfl) rfl
theorem q935 : (Jvm.Cond.privateMethod ({ cls := "java/util/ArrayList", name := "rangeCheckForAdd", desc := "(I)V" } : Jvm.MethodName)) ∈ lw_tbl := lw_at lw_m4 113 rfl
theorem q936 : (Jvm.Cond.instanceMethod ({ cls := "java/util/ArrayList", name := "rangeCheckForAdd", desc := "(I)V" } : Jvm.MethodName)) ∈ lw_all := lw_g (lw_at lw_m4 114 rfl) rfl
theorem q937 : (Jvm.Cond.code ({ cls := "java/util/ArrayList", name := "rangeCheckForAdd", desc := "(I)V" } : Jvm.MethodName) prog_36_method_45_code (2 : Nat) (Option.none : Option Jvm.ClassFile.FieldType)) ∈ lw_all := lw_g (lw_at lw_m4 115 rfl) rfl
theorem q938 : (Jvm.Cond.methodLink "java/util/ArrayList" (112 : Nat) ({ cls := "java/lang/System", name := "arraycopy", desc := "(Ljava/lang/Object;ILjava/lang/Object;II)V" } : Jvm.MethodName)) ∈ lw_all := lw_g (lw_at lw_m4 116 rfl) rfl
theorem q1207 : (Jvm.Cond.instanceMethod ({ cls := "java/util/ArrayList", name := "remove", desc := "(I)Ljava/lang/Object;" } : Jvm.MethodName)) ∈ lw_all := lw_g (lw_at lw_m5 145 rfl) rfl
theorem q1208 : (Jvm.Cond.selects "java/util/ArrayList" ({ cls := "java/util/ArrayList", name := "remove", desc := "(I)Ljava/lang/Object;" } : Jvm.MethodName) ({ cls := "java/util/ArrayList", name := "remove", desc := "(I)Ljava/lang/Object;" } : Jvm.MethodName)) ∈ lw_all := lw_g (lw_at lw_m5 146 rfl) rfl
theorem q1209 : (Jvm.Cond.code ({ cls := "java/util/ArrayList", name := "remove", desc := "(I)Ljava/lang/Object;" } : Jvm.MethodName) prog_36_method_29_code (4 : Nat) (Option.some (Jvm.ClassFile.FieldType.object "java/lang/Object"))) ∈ lw_all := lw_g (lw_at lw_m5 147 rfl) rfl
theorem q1210 : (Jvm.Cond.methodLink "java/util/ArrayList" (144 : Nat) ({ cls := "java/util/ArrayList", name := "fastRemove", desc := "([Ljava/lang/Object;I)V" } : Jvm.MethodName)) ∈ lw_all := lw_g (lw_at lw_m5 148 rfl) rfl
theorem q1211 : (Jvm.Cond.privateMethod ({ cls := "java/util/ArrayList", name := "fastRemove", desc := "([Ljava/lang/Object;I)V" } : Jvm.MethodName)) ∈ lw_tbl := lw_at lw_m5 149 rfl
theorem q1212 : (Jvm.Cond.instanceMethod ({ cls := "java/util/ArrayList", name := "fastRemove", desc := "([Ljava/lang/Object;I)V" } : Jvm.MethodName)) ∈ lw_all := lw_g (lw_at lw_m5 150 rfl) rfl
theorem q1213 : (Jvm.Cond.code ({ cls := "java/util/ArrayList", name := "fastRemove", desc := "([Ljava/lang/Object;I)V" } : Jvm.MethodName) prog_36_method_39_code (4 : Nat) (Option.none : Option Jvm.ClassFile.FieldType)) ∈ lw_all := lw_g (lw_at lw_m5 151 rfl) rfl
theorem q1773 : (Jvm.Cond.castable "java/util/ArrayList" "java/lang/Object") ∈ lw_tbl := lw_at lw_m7 231 rfl
theorem in_J2 : ∀ w ∈ wsJ20, w ∈ lw_all := lw_in wsJ20 [172, 168, 170] (by decide +kernel) (by decide +kernel)
/-! java/lang/Throwable -/
def RJ3 : String := "java/lang/Throwable"
def TJ3 : u_T := fun k => match k with
  | 0 => ("java/lang/Throwable", "cause", "Ljava/lang/Throwable;", false)
  | 1 => ("java/lang/Throwable", "stackTrace", "[Ljava/lang/StackTraceElement;", false)
  | 2 => ("java/lang/Throwable", "suppressedExceptions", "Ljava/util/List;", false)
  | 3 => ("java/lang/Throwable", "detailMessage", "Ljava/lang/String;", false)
  | _ => ("java/lang/Throwable", "backtrace", "Ljava/lang/Object;", false)
def tyJ3 : Nat → FieldType := fun k => match k with
  | 0 => .object "java/lang/Throwable"
  | 1 => .array (.object "java/lang/StackTraceElement")
  | 2 => .object "java/util/List"
  | 3 => .object "java/lang/String"
  | _ => .object "java/lang/Object"
abbrev wsJ30 : List Cond := u_ws RJ3 TJ3 5
theorem nmJ3 : ∀ a, a < 5 → ∀ b, b < 5 → a ≠ b → (TJ3 a).2.1 ≠ (TJ3 b).2.1 := by decide +kernel
theorem tyJ3_ok : ∀ k, k < 5 → parseFieldDescriptor (TJ3 k).2.2.1 = some (tyJ3 k) := by decide +kernel
abbrev cJ3_init : ByteArray := prog_31_method_1_code
def yJ3_init : MethodName := ⟨RJ3, "<init>", "()V"⟩
abbrev cJ3_init_2 : ByteArray := prog_31_method_5_code
def yJ3_init_2 : MethodName := ⟨RJ3, "<init>", "(Ljava/lang/String;Ljava/lang/Throwable;ZZ)V"⟩
theorem q110 : (Jvm.Cond.initialized "java/lang/Throwable") ∈ lw_all := lw_g (lw_at lw_m1 8 rfl) rfl
theorem q374 : (Jvm.Cond.declares ({ cls := "java/lang/Throwable", name := "<init>", desc := "()V" } : Jvm.MethodName)) ∈ lw_tbl := lw_at lw_m2 32 rfl
theorem q375 : (Jvm.Cond.declares ({ cls := "java/lang/Throwable", name := "<init>", desc := "(Ljava/lang/String;)V" } : Jvm.MethodName)) ∈ lw_tbl := lw_at lw_m2 33 rfl
theorem q379 : (Jvm.Cond.lays "java/lang/Throwable" "java/lang/Throwable" "cause" "Ljava/lang/Throwable;") ∈ lw_all := lw_g (lw_at lw_m2 37 rfl) rfl
theorem q381 : (Jvm.Cond.lays "java/lang/Throwable" "java/lang/Throwable" "stackTrace" "[Ljava/lang/StackTraceElement;") ∈ lw_all := lw_g (lw_at lw_m2 39 rfl) rfl
theorem q383 : (Jvm.Cond.lays "java/lang/Throwable" "java/lang/Throwable" "suppressedExceptions" "Ljava/util/List;") ∈ lw_all := lw_g (lw_at lw_m2 41 rfl) rfl
theorem q385 : (Jvm.Cond.lays "java/lang/Throwable" "java/lang/Throwable" "detailMessage" "Ljava/lang/String;") ∈ lw_all := lw_g (lw_at lw_m2 43 rfl) rfl
theorem q387 : (Jvm.Cond.lays "java/lang/Throwable" "java/lang/Throwable" "backtrace" "Ljava/lang/Object;") ∈ lw_all := lw_g (lw_at lw_m2 45 rfl) rfl
theorem q388 : (Jvm.Cond.fieldLink "java/lang/Throwable" (198 : Nat) "java/lang/Throwable" "backtrace" "Ljava/lang/Object;") ∈ lw_all := lw_g (lw_at lw_m2 46 rfl) rfl
theorem q389 : (Jvm.Cond.superclass "java/lang/Throwable" "java/lang/Object") ∈ lw_all := lw_g (lw_at lw_m2 47 rfl) rfl
theorem q390 : (Jvm.Cond.instanceMethod ({ cls := "java/lang/Throwable", name := "<init>", desc := "()V" } : Jvm.MethodName)) ∈ lw_all := lw_g (lw_at lw_m2 48 rfl) rfl
theorem q391 : (Jvm.Cond.code ({ cls := "java/lang/Throwable", name := "<init>", desc := "()V" } : Jvm.MethodName) prog_31_method_1_code (1 : Nat) (Option.none : Option Jvm.ClassFile.FieldType)) ∈ lw_all := lw_g (lw_at lw_m2 49 rfl) rfl
theorem q392 : (Jvm.Cond.methodLink "java/lang/Throwable" (1 : Nat) ({ cls := "java/lang/Object", name := "<init>", desc := "()V" } : Jvm.MethodName)) ∈ lw_all := lw_g (lw_at lw_m2 50 rfl) rfl
theorem q393 : (Jvm.Cond.fieldLink "java/lang/Throwable" (13 : Nat) "java/lang/Throwable" "UNASSIGNED_STACK" "[Ljava/lang/StackTraceElement;") ∈ lw_all := lw_g (lw_at lw_m2 51 rfl) rfl
theorem q394 : (Jvm.Cond.laysStatic "java/lang/Throwable" "UNASSIGNED_STACK" "[Ljava/lang/StackTraceElement;") ∈ lw_tbl := lw_at lw_m2 52 rfl
theorem q395 : (Jvm.Cond.fieldLink "java/lang/Throwable" (20 : Nat) "java/lang/Throwable" "SUPPRESSED_SENTINEL" "Ljava/util/List;") ∈ lw_all := lw_g (lw_at lw_m2 53 rfl) rfl
theorem q396 : (Jvm.Cond.laysStatic "java/lang/Throwable" "SUPPRESSED_SENTINEL" "Ljava/util/List;") ∈ lw_tbl := lw_at lw_m2 54 rfl
theorem q397 : (Jvm.Cond.methodLink "java/lang/Throwable" (27 : Nat) ({ cls := "java/lang/Throwable", name := "fillInStackTrace", desc := "()Ljava/lang/Throwable;" } : Jvm.MethodName)) ∈ lw_all := lw_g (lw_at lw_m2 55 rfl) rfl
theorem q398 : (Jvm.Cond.instanceMethod ({ cls := "java/lang/Throwable", name := "fillInStackTrace", desc := "()Ljava/lang/Throwable;" } : Jvm.MethodName)) ∈ lw_all := lw_g (lw_at lw_m2 56 rfl) rfl
theorem q399 : (Jvm.Cond.sameMethod "java/lang/Throwable" "java/lang/Throwable" "fillInStackTrace" "()Ljava/lang/Throwable;") ∈ lw_all := lw_g (lw_at lw_m2 57 rfl) rfl
theorem q400 : (Jvm.Cond.codeSync ({ cls := "java/lang/Throwable", name := "fillInStackTrace", desc := "()Ljava/lang/Throwable;" } : Jvm.MethodName) prog_31_method_18_code (1 : Nat) (Option.some (Jvm.ClassFile.FieldType.object "java/lang/Throwable"))) ∈ lw_all := lw_g (lw_at lw_m2 58 rfl) rfl
theorem q401 : (Jvm.Cond.methodLink "java/lang/Throwable" (202 : Nat) ({ cls := "java/lang/Throwable", name := "fillInStackTrace", desc := "(I)Ljava/lang/Throwable;" } : Jvm.MethodName)) ∈ lw_all := lw_g (lw_at lw_m2 59 rfl) rfl
theorem q402 : (Jvm.Cond.privateMethod ({ cls := "java/lang/Throwable", name := "fillInStackTrace", desc := "(I)Ljava/lang/Throwable;" } : Jvm.MethodName)) ∈ lw_tbl := lw_at lw_m2 60 rfl
theorem q403 : (Jvm.Cond.instanceMethod ({ cls := "java/lang/Throwable", name := "fillInStackTrace", desc := "(I)Ljava/lang/Throwable;" } : Jvm.MethodName)) ∈ lw_all := lw_g (lw_at lw_m2 61 rfl) rfl
theorem q404 : (Jvm.Cond.instantiable "java/lang/Throwable" (6 : Nat)) ∈ lw_all := lw_g (lw_at lw_m2 62 rfl) rfl
theorem q405 : (Jvm.Cond.native ({ cls := "java/lang/Throwable", name := "fillInStackTrace", desc := "(I)Ljava/lang/Throwable;" } : Jvm.MethodName)) ∈ lw_all := lw_g (lw_at lw_m2 63 rfl) rfl
theorem q416 : (Jvm.Cond.instanceMethod ({ cls := "java/lang/Throwable", name := "<init>", desc := "(Ljava/lang/String;Ljava/lang/Throwable;ZZ)V" } : Jvm.MethodName)) ∈ lw_all := lw_g (lw_at lw_m2 74 rfl) rfl
theorem q417 : (Jvm.Cond.code ({ cls := "java/lang/Throwable", name := "<init>", desc := "(Ljava/lang/String;Ljava/lang/Throwable;ZZ)V" } : Jvm.MethodName) prog_31_method_5_code (5 : Nat) (Option.none : Option Jvm.ClassFile.FieldType)) ∈ lw_all := lw_g (lw_at lw_m2 75 rfl) rfl
theorem q420 : (Jvm.Cond.fieldLink "java/lang/Throwable" (198 : Nat) "java/lang/Throwable" "backtrace" "Ljava/lang/Object;") ∈ lw_all := lw_g (lw_at lw_m2 78 rfl) rfl
theorem q421 : (Jvm.Cond.fieldLink "java/lang/Throwable" (31 : Nat) "java/lang/Throwable" "detailMessage" "Ljava/lang/String;") ∈ lw_all := lw_g (lw_at lw_m2 79 rfl) rfl
theorem q422 : (Jvm.Cond.fieldLink "java/lang/Throwable" (7 : Nat) "java/lang/Throwable" "cause" "Ljava/lang/Throwable;") ∈ lw_all := lw_g (lw_at lw_m2 80 rfl) rfl
theorem q423 : (Jvm.Cond.fieldLink "java/lang/Throwable" (17 : Nat) "java/lang/Throwable" "stackTrace" "[Ljava/lang/StackTraceElement;") ∈ lw_all := lw_g (lw_at lw_m2 81 rfl) rfl
theorem q424 : (Jvm.Cond.fieldLink "java/lang/Throwable" (24 : Nat) "java/lang/Throwable" "suppressedExceptions" "Ljava/util/List;") ∈ lw_all := lw_g (lw_at lw_m2 82 rfl) rfl
theorem q427 : (Jvm.Cond.soleField "java/lang/Throwable" "backtrace") ∈ lw_all := lw_g (lw_at lw_m2 85 rfl) rfl
theorem q428 : (Jvm.Cond.soleField "java/lang/Throwable" "detailMessage") ∈ lw_all := lw_g (lw_at lw_m2 86 rfl) rfl
theorem q429 : (Jvm.Cond.soleField "java/lang/Throwable" "cause") ∈ lw_all := lw_g (lw_at lw_m2 87 rfl) rfl
theorem q430 : (Jvm.Cond.soleField "java/lang/Throwable" "stackTrace") ∈ lw_all := lw_g (lw_at lw_m2 88 rfl) rfl
theorem q432 : (Jvm.Cond.soleField "java/lang/Throwable" "depth") ∈ lw_all := lw_g (lw_at lw_m2 90 rfl) rfl
theorem q433 : (Jvm.Cond.soleField "java/lang/Throwable" "suppressedExceptions") ∈ lw_all := lw_g (lw_at lw_m2 91 rfl) rfl
theorem q1765 : (Jvm.Cond.sameMethod "java/lang/Throwable" "java/lang/Throwable" "fillInStackTrace" "(I)Ljava/lang/Throwable;") ∈ lw_all := lw_g (lw_at lw_m7 223 rfl) rfl
theorem q1785 : (Jvm.Cond.castable "java/lang/Throwable" "java/lang/Object") ∈ lw_tbl := lw_at lw_m8 3 rfl
theorem in_J3 : ∀ w ∈ wsJ30, w ∈ lw_all := lw_in wsJ30 [379, 381, 383, 385, 387] (by decide +kernel) (by decide +kernel)
/-! java/lang/Exception -/
def RJ4 : String := "java/lang/Exception"
abbrev cJ4_init : ByteArray := prog_21_method_5_code
def yJ4_init : MethodName := ⟨RJ4, "<init>", "(Ljava/lang/String;Ljava/lang/Throwable;ZZ)V"⟩
theorem q111 : (Jvm.Cond.initialized "java/lang/Exception") ∈ lw_all := lw_g (lw_at lw_m1 9 rfl) rfl
theorem q372 : (Jvm.Cond.declares ({ cls := "java/lang/Exception", name := "<init>", desc := "()V" } : Jvm.MethodName)) ∈ lw_tbl := lw_at lw_m2 30 rfl
theorem q373 : (Jvm.Cond.declares ({ cls := "java/lang/Exception", name := "<init>", desc := "(Ljava/lang/String;)V" } : Jvm.MethodName)) ∈ lw_tbl := lw_at lw_m2 31 rfl
theorem q413 : (Jvm.Cond.instanceMethod ({ cls := "java/lang/Exception", name := "<init>", desc := "(Ljava/lang/String;Ljava/lang/Throwable;ZZ)V" } : Jvm.MethodName)) ∈ lw_all := lw_g (lw_at lw_m2 71 rfl) rfl
theorem q414 : (Jvm.Cond.code ({ cls := "java/lang/Exception", name := "<init>", desc := "(Ljava/lang/String;Ljava/lang/Throwable;ZZ)V" } : Jvm.MethodName) prog_21_method_5_code (5 : Nat) (Option.none : Option Jvm.ClassFile.FieldType)) ∈ lw_all := lw_g (lw_at lw_m2 72 rfl) rfl
theorem q415 : (Jvm.Cond.methodLink "java/lang/Exception" (16 : Nat) ({ cls := "java/lang/Throwable", name := "<init>", desc := "(Ljava/lang/String;Ljava/lang/Throwable;ZZ)V" } : Jvm.MethodName)) ∈ lw_all := lw_g (lw_at lw_m2 73 rfl) rfl
/-! java/lang/RuntimeException -/
def RJ5 : String := "java/lang/RuntimeException"
abbrev cJ5_init : ByteArray := prog_26_method_5_code
def yJ5_init : MethodName := ⟨RJ5, "<init>", "(Ljava/lang/String;Ljava/lang/Throwable;ZZ)V"⟩
theorem q112 : (Jvm.Cond.initialized "java/lang/RuntimeException") ∈ lw_all := lw_g (lw_at lw_m1 10 rfl) rfl
theorem q370 : (Jvm.Cond.declares ({ cls := "java/lang/RuntimeException", name := "<init>", desc := "()V" } : Jvm.MethodName)) ∈ lw_tbl := lw_at lw_m2 28 rfl
theorem q371 : (Jvm.Cond.declares ({ cls := "java/lang/RuntimeException", name := "<init>", desc := "(Ljava/lang/String;)V" } : Jvm.MethodName)) ∈ lw_tbl := lw_at lw_m2 29 rfl
theorem q410 : (Jvm.Cond.instanceMethod ({ cls := "java/lang/RuntimeException", name := "<init>", desc := "(Ljava/lang/String;Ljava/lang/Throwable;ZZ)V" } : Jvm.MethodName)) ∈ lw_all := lw_g (lw_at lw_m2 68 rfl) rfl
theorem q411 : (Jvm.Cond.code ({ cls := "java/lang/RuntimeException", name := "<init>", desc := "(Ljava/lang/String;Ljava/lang/Throwable;ZZ)V" } : Jvm.MethodName) prog_26_method_5_code (5 : Nat) (Option.none : Option Jvm.ClassFile.FieldType)) ∈ lw_all := lw_g (lw_at lw_m2 69 rfl) rfl
theorem q412 : (Jvm.Cond.methodLink "java/lang/RuntimeException" (16 : Nat) ({ cls := "java/lang/Exception", name := "<init>", desc := "(Ljava/lang/String;Ljava/lang/Throwable;ZZ)V" } : Jvm.MethodName)) ∈ lw_all := lw_g (lw_at lw_m2 70 rfl) rfl
/-! java/lang/String -/
def RJ6 : String := "java/lang/String"
abbrev cJ6_length : ByteArray := prog_27_method_54_code
def yJ6_length : MethodName := ⟨RJ6, "length", "()I"⟩
abbrev cJ6_coder : ByteArray := prog_27_method_152_code
def yJ6_coder : MethodName := ⟨RJ6, "coder", "()B"⟩
abbrev cJ6_indexOf : ByteArray := prog_27_method_80_code
def yJ6_indexOf : MethodName := ⟨RJ6, "indexOf", "(II)I"⟩
abbrev cJ6_isLatin1 : ByteArray := prog_27_method_154_code
def yJ6_isLatin1 : MethodName := ⟨RJ6, "isLatin1", "()Z"⟩
abbrev cJ6_checkBoundsBeginEnd : ByteArray := prog_27_method_158_code
def yJ6_checkBoundsBeginEnd : MethodName := ⟨RJ6, "checkBoundsBeginEnd", "(III)V"⟩
abbrev cJ6_charAt : ByteArray := prog_27_method_56_code
def yJ6_charAt : MethodName := ⟨RJ6, "charAt", "(I)C"⟩
abbrev cJ6_checkIndex : ByteArray := prog_27_method_155_code
def yJ6_checkIndex : MethodName := ⟨RJ6, "checkIndex", "(II)V"⟩
theorem q114 : (Jvm.Cond.initialized "java/lang/String") ∈ lw_all := lw_g (lw_at lw_m1 12 rfl) rfl
theorem q445 : (Jvm.Cond.instanceMethod ({ cls := "java/lang/String", name := "length", desc := "()I" } : Jvm.MethodName)) ∈ lw_all := lw_g (lw_at lw_m2 103 rfl) rfl
theorem q446 : (Jvm.Cond.selects "java/lang/String" ({ cls := "java/lang/String", name := "length", desc := "()I" } : Jvm.MethodName) ({ cls := "java/lang/String", name := "length", desc := "()I" } : Jvm.MethodName)) ∈ lw_all := lw_g (lw_at lw_m2 104 rfl) rfl
theorem q447 : (Jvm.Cond.code ({ cls := "java/lang/String", name := "length", desc := "()I" } : Jvm.MethodName) prog_27_method_54_code (1 : Nat) (Option.some Jvm.ClassFile.FieldType.int)) ∈ lw_all := lw_g (lw_at lw_m2 105 rfl) rfl
theorem q448 : (Jvm.Cond.methodLink "java/lang/String" (335 : Nat) ({ cls := "java/lang/String", name := "coder", desc := "()B" } : Jvm.MethodName)) ∈ lw_all := lw_g (lw_at lw_m2 106 rfl) rfl
theorem q449 : (Jvm.Cond.instanceMethod ({ cls := "java/lang/String", name := "coder", desc := "()B" } : Jvm.MethodName)) ∈ lw_all := lw_g (lw_at lw_m2 107 rfl) rfl
theorem q450 : (Jvm.Cond.selects "java/lang/String" ({ cls := "java/lang/String", name := "coder", desc := "()B" } : Jvm.MethodName) ({ cls := "java/lang/String", name := "coder", desc := "()B" } : Jvm.MethodName)) ∈ lw_all := lw_g (lw_at lw_m2 108 rfl) rfl
theorem q451 : (Jvm.Cond.code ({ cls := "java/lang/String", name := "coder", desc := "()B" } : Jvm.MethodName) prog_27_method_152_code (1 : Nat) (Option.some Jvm.ClassFile.FieldType.byte)) ∈ lw_all := lw_g (lw_at lw_m2 109 rfl) rfl
theorem q452 : (Jvm.Cond.fieldLink "java/lang/String" (38 : Nat) "java/lang/String" "COMPACT_STRINGS" "Z") ∈ lw_all := lw_g (lw_at lw_m2 110 rfl) rfl
theorem q453 : (Jvm.Cond.laysStatic "java/lang/String" "COMPACT_STRINGS" "Z") ∈ lw_tbl := lw_at lw_m2 111 rfl
theorem q459 : (Jvm.Cond.instanceMethod ({ cls := "java/lang/String", name := "indexOf", desc := "(II)I" } : Jvm.MethodName)) ∈ lw_all := lw_g (lw_at lw_m2 117 rfl) rfl
theorem q460 : (Jvm.Cond.selects "java/lang/String" ({ cls := "java/lang/String", name := "indexOf", desc := "(II)I" } : Jvm.MethodName) ({ cls := "java/lang/String", name := "indexOf", desc := "(II)I" } : Jvm.MethodName)) ∈ lw_all := lw_g (lw_at lw_m2 118 rfl) rfl
theorem q461 : (Jvm.Cond.code ({ cls := "java/lang/String", name := "indexOf", desc := "(II)I" } : Jvm.MethodName) prog_27_method_80_code (3 : Nat) (Option.some Jvm.ClassFile.FieldType.int)) ∈ lw_all := lw_g (lw_at lw_m2 119 rfl) rfl
theorem q462 : (Jvm.Cond.methodLink "java/lang/String" (492 : Nat) ({ cls := "java/lang/String", name := "isLatin1", desc := "()Z" } : Jvm.MethodName)) ∈ lw_all := lw_g (lw_at lw_m2 120 rfl) rfl
theorem q463 : (Jvm.Cond.instanceMethod ({ cls := "java/lang/String", name := "isLatin1", desc := "()Z" } : Jvm.MethodName)) ∈ lw_all := lw_g (lw_at lw_m2 121 rfl) rfl
theorem q464 : (Jvm.Cond.selects "java/lang/String" ({ cls := "java/lang/String", name := "isLatin1", desc := "()Z" } : Jvm.MethodName) ({ cls := "java/lang/String", name := "isLatin1", desc := "()Z" } : Jvm.MethodName)) ∈ lw_all := lw_g (lw_at lw_m2 122 rfl) rfl
theorem q465 : (Jvm.Cond.code ({ cls := "java/lang/String", name := "isLatin1", desc := "()Z" } : Jvm.MethodName) prog_27_method_154_code (1 : Nat) (Option.some Jvm.ClassFile.FieldType.boolean)) ∈ lw_all := lw_g (lw_at lw_m2 123 rfl) rfl
theorem q466 : (Jvm.Cond.methodLink "java/lang/String" (505 : Nat) ({ cls := "java/lang/String", name := "length", desc := "()I" } : Jvm.MethodName)) ∈ lw_all := lw_g (lw_at lw_m2 124 rfl) rfl
theorem q467 : (Jvm.Cond.methodLink "java/lang/String" (637 : Nat) ({ cls := "java/lang/StringLatin1", name := "indexOf", desc := "([BIII)I" } : Jvm.MethodName)) ∈ lw_all := lw_g (lw_at lw_m2 125 rfl) rfl
theorem q482 : (Jvm.Cond.methodLink "java/lang/String" (640 : Nat) ({ cls := "java/lang/StringUTF16", name := "indexOf", desc := "([BIII)I" } : Jvm.MethodName)) ∈ lw_all := lw_g (lw_at lw_m2 140 rfl) rfl
theorem q498 : (Jvm.Cond.static ({ cls := "java/lang/String", name := "checkBoundsBeginEnd", desc := "(III)V" } : Jvm.MethodName)) ∈ lw_all := lw_g (lw_at lw_m2 156 rfl) rfl
theorem q499 : (Jvm.Cond.code ({ cls := "java/lang/String", name := "checkBoundsBeginEnd", desc := "(III)V" } : Jvm.MethodName) prog_27_method_158_code (3 : Nat) (Option.none : Option Jvm.ClassFile.FieldType)) ∈ lw_all := lw_g (lw_at lw_m2 157 rfl) rfl
theorem q500 : (Jvm.Cond.fieldLink "java/lang/String" (1053 : Nat) "jdk/internal/util/Preconditions" "SIOOBE_FORMATTER" "Ljava/util/function/BiFunction;") ∈ lw_all := lw_g (lw_at lw_m2 158 rfl) rfl
theorem q502 : (Jvm.Cond.methodLink "java/lang/String" (1062 : Nat) ({ cls := "jdk/internal/util/Preconditions", name := "checkFromToIndex", desc := "(IIILjava/util/function/BiFunction;)I" } : Jvm.MethodName)) ∈ lw_all := lw_g (lw_at lw_m2 160 rfl) rfl
theorem q532 : (Jvm.Cond.instanceMethod ({ cls := "java/lang/String", name := "charAt", desc := "(I)C" } : Jvm.MethodName)) ∈ lw_all := lw_g (lw_at lw_m2 190 rfl) rfl
theorem q533 : (Jvm.Cond.selects "java/lang/String" ({ cls := "java/lang/String", name := "charAt", desc := "(I)C" } : Jvm.MethodName) ({ cls := "java/lang/String", name := "charAt", desc := "(I)C" } : Jvm.MethodName)) ∈ lw_all := lw_g (lw_at lw_m2 191 rfl) rfl
theorem q534 : (Jvm.Cond.code ({ cls := "java/lang/String", name := "charAt", desc := "(I)C" } : Jvm.MethodName) prog_27_method_56_code (2 : Nat) (Option.some Jvm.ClassFile.FieldType.char)) ∈ lw_all := lw_g (lw_at lw_m2 192 rfl) rfl
theorem q535 : (Jvm.Cond.methodLink "java/lang/String" (495 : Nat) ({ cls := "java/lang/StringLatin1", name := "charAt", desc := "([BI)C" } : Jvm.MethodName)) ∈ lw_all := lw_g (lw_at lw_m2 193 rfl) rfl
theorem q539 : (Jvm.Cond.static ({ cls := "java/lang/String", name := "checkIndex", desc := "(II)V" } : Jvm.MethodName)) ∈ lw_all := lw_g (lw_at lw_m2 197 rfl) rfl
theorem q540 : (Jvm.Cond.code ({ cls := "java/lang/String", name := "checkIndex", desc := "(II)V" } : Jvm.MethodName) prog_27_method_155_code (2 : Nat) (Option.none : Option Jvm.ClassFile.FieldType)) ∈ lw_all := lw_g (lw_at lw_m2 198 rfl) rfl
theorem q541 : (Jvm.Cond.methodLink "java/lang/String" (1059 : Nat) ({ cls := "jdk/internal/util/Preconditions", name := "checkIndex", desc := "(IILjava/util/function/BiFunction;)I" } : Jvm.MethodName)) ∈ lw_all := lw_g (lw_at lw_m2 199 rfl) rfl
theorem q544 : (Jvm.Cond.methodLink "java/lang/String" (498 : Nat) ({ cls := "java/lang/StringUTF16", name := "charAt", desc := "([BI)C" } : Jvm.MethodName)) ∈ lw_all := lw_g (lw_at lw_m2 202 rfl) rfl
theorem q1770 : (Jvm.Cond.castable "java/lang/String" "java/lang/Object") ∈ lw_tbl := lw_at lw_m7 228 rfl
theorem q1796 : (Jvm.Cond.fieldLink "java/lang/String" (9 : Nat) "java/lang/String" "value" "[B") ∈ lw_all := lw_g (lw_at lw_m8 14 rfl) rfl
theorem q1797 : (Jvm.Cond.fieldLink "java/lang/String" (15 : Nat) "java/lang/String" "coder" "B") ∈ lw_all := lw_g (lw_at lw_m8 15 rfl) rfl
/-! java/lang/StringLatin1 -/
def RJ7 : String := "java/lang/StringLatin1"
abbrev cJ7_indexOf : ByteArray := prog_28_method_22_code
def yJ7_indexOf : MethodName := ⟨RJ7, "indexOf", "([BIII)I"⟩
abbrev cJ7_canEncode : ByteArray := prog_28_method_4_code
def yJ7_canEncode : MethodName := ⟨RJ7, "canEncode", "(I)Z"⟩
abbrev cJ7_indexOfChar : ByteArray := prog_28_method_23_code
def yJ7_indexOfChar : MethodName := ⟨RJ7, "indexOfChar", "([BIII)I"⟩
abbrev cJ7_charAt : ByteArray := prog_28_method_2_code
def yJ7_charAt : MethodName := ⟨RJ7, "charAt", "([BI)C"⟩
theorem q115 : (Jvm.Cond.initialized "java/lang/StringLatin1") ∈ lw_all := lw_g (lw_at lw_m1 13 rfl) rfl
theorem q468 : (Jvm.Cond.static ({ cls := "java/lang/StringLatin1", name := "indexOf", desc := "([BIII)I" } : Jvm.MethodName)) ∈ lw_all := lw_g (lw_at lw_m2 126 rfl) rfl
theorem q469 : (Jvm.Cond.code ({ cls := "java/lang/StringLatin1", name := "indexOf", desc := "([BIII)I" } : Jvm.MethodName) prog_28_method_22_code (4 : Nat) (Option.some Jvm.ClassFile.FieldType.int)) ∈ lw_all := lw_g (lw_at lw_m2 127 rfl) rfl
theorem q470 : (Jvm.Cond.methodLink "java/lang/StringLatin1" (88 : Nat) ({ cls := "java/lang/StringLatin1", name := "canEncode", desc := "(I)Z" } : Jvm.MethodName)) ∈ lw_all := lw_g (lw_at lw_m2 128 rfl) rfl
theorem q471 : (Jvm.Cond.static ({ cls := "java/lang/StringLatin1", name := "canEncode", desc := "(I)Z" } : Jvm.MethodName)) ∈ lw_all := lw_g (lw_at lw_m2 129 rfl) rfl
theorem q472 : (Jvm.Cond.code ({ cls := "java/lang/StringLatin1", name := "canEncode", desc := "(I)Z" } : Jvm.MethodName) prog_28_method_4_code (1 : Nat) (Option.some Jvm.ClassFile.FieldType.boolean)) ∈ lw_all := lw_g (lw_at lw_m2 130 rfl) rfl
theorem q473 : (Jvm.Cond.methodLink "java/lang/StringLatin1" (92 : Nat) ({ cls := "java/lang/Math", name := "max", desc := "(II)I" } : Jvm.MethodName)) ∈ lw_all := lw_g (lw_at lw_m2 131 rfl) rfl
theorem q476 : (Jvm.Cond.methodLink "java/lang/StringLatin1" (38 : Nat) ({ cls := "java/lang/Math", name := "min", desc := "(II)I" } : Jvm.MethodName)) ∈ lw_all := lw_g (lw_at lw_m2 134 rfl) rfl
theorem q479 : (Jvm.Cond.methodLink "java/lang/StringLatin1" (95 : Nat) ({ cls := "java/lang/StringLatin1", name := "indexOfChar", desc := "([BIII)I" } : Jvm.MethodName)) ∈ lw_all := lw_g (lw_at lw_m2 137 rfl) rfl
theorem q480 : (Jvm.Cond.static ({ cls := "java/lang/StringLatin1", name := "indexOfChar", desc := "([BIII)I" } : Jvm.MethodName)) ∈ lw_all := lw_g (lw_at lw_m2 138 rfl) rfl
theorem q481 : (Jvm.Cond.code ({ cls := "java/lang/StringLatin1", name := "indexOfChar", desc := "([BIII)I" } : Jvm.MethodName) prog_28_method_23_code (6 : Nat) (Option.some Jvm.ClassFile.FieldType.int)) ∈ lw_all := lw_g (lw_at lw_m2 139 rfl) rfl
theorem q536 : (Jvm.Cond.static ({ cls := "java/lang/StringLatin1", name := "charAt", desc := "([BI)C" } : Jvm.MethodName)) ∈ lw_all := lw_g (lw_at lw_m2 194 rfl) rfl
theorem q537 : (Jvm.Cond.code ({ cls := "java/lang/StringLatin1", name := "charAt", desc := "([BI)C" } : Jvm.MethodName) prog_28_method_2_code (2 : Nat) (Option.some Jvm.ClassFile.FieldType.char)) ∈ lw_all := lw_g (lw_at lw_m2 195 rfl) rfl
theorem q538 : (Jvm.Cond.methodLink "java/lang/StringLatin1" (9 : Nat) ({ cls := "java/lang/String", name := "checkIndex", desc := "(II)V" } : Jvm.MethodName)) ∈ lw_all := lw_g (lw_at lw_m2 196 rfl) rfl
/-! java/lang/Math -/
def RJ8 : String := "java/lang/Math"
abbrev cJ8_max : ByteArray := prog_25_method_65_code
def yJ8_max : MethodName := ⟨RJ8, "max", "(II)I"⟩
abbrev cJ8_min : ByteArray := prog_25_method_69_code
def yJ8_min : MethodName := ⟨RJ8, "min", "(II)I"⟩
abbrev cJ8_abs : ByteArray := prog_25_method_59_code
def yJ8_abs : MethodName := ⟨RJ8, "abs", "(I)I"⟩
abbrev cJ8_abs_2 : ByteArray := prog_25_method_61_code
def yJ8_abs_2 : MethodName := ⟨RJ8, "abs", "(J)J"⟩
theorem q116 : (Jvm.Cond.initialized "java/lang/Math") ∈ lw_all := lw_g (lw_at lw_m1 14 rfl) rfl
theorem q474 : (Jvm.Cond.static ({ cls := "java/lang/Math", name := "max", desc := "(II)I" } : Jvm.MethodName)) ∈ lw_all := lw_g (lw_at lw_m2 132 rfl) rfl
theorem q475 : (Jvm.Cond.code ({ cls := "java/lang/Math", name := "max", desc := "(II)I" } : Jvm.MethodName) prog_25_method_65_code (2 : Nat) (Option.some Jvm.ClassFile.FieldType.int)) ∈ lw_all := lw_g (lw_at lw_m2 133 rfl) rfl
theorem q477 : (Jvm.Cond.static ({ cls := "java/lang/Math", name := "min", desc := "(II)I" } : Jvm.MethodName)) ∈ lw_all := lw_g (lw_at lw_m2 135 rfl) rfl
theorem q478 : (Jvm.Cond.code ({ cls := "java/lang/Math", name := "min", desc := "(II)I" } : Jvm.MethodName) prog_25_method_69_code (2 : Nat) (Option.some Jvm.ClassFile.FieldType.int)) ∈ lw_all := lw_g (lw_at lw_m2 136 rfl) rfl
theorem q813 : (Jvm.Cond.static ({ cls := "java/lang/Math", name := "abs", desc := "(I)I" } : Jvm.MethodName)) ∈ lw_all := lw_g (lw_at lw_m3 231 rfl) rfl
theorem q814 : (Jvm.Cond.code ({ cls := "java/lang/Math", name := "abs", desc := "(I)I" } : Jvm.MethodName) prog_25_method_59_code (1 : Nat) (Option.some Jvm.ClassFile.FieldType.int)) ∈ lw_all := lw_g (lw_at lw_m3 232 rfl) rfl
theorem q893 : (Jvm.Cond.static ({ cls := "java/lang/Math", name := "abs", desc := "(J)J" } : Jvm.MethodName)) ∈ lw_all := lw_g (lw_at lw_m4 71 rfl) rfl
theorem q894 : (Jvm.Cond.code ({ cls := "java/lang/Math", name := "abs", desc := "(J)J" } : Jvm.MethodName) prog_25_method_61_code (2 : Nat) (Option.some Jvm.ClassFile.FieldType.long)) ∈ lw_all := lw_g (lw_at lw_m4 72 rfl) rfl
/-! java/lang/StringUTF16 -/
def RJ9 : String := "java/lang/StringUTF16"
abbrev cJ9_indexOf : ByteArray := prog_29_method_40_code
def yJ9_indexOf : MethodName := ⟨RJ9, "indexOf", "([BIII)I"⟩
abbrev cJ9_indexOfChar : ByteArray := prog_29_method_47_code
def yJ9_indexOfChar : MethodName := ⟨RJ9, "indexOfChar", "([BIII)I"⟩
abbrev cJ9_checkBoundsBeginEnd : ByteArray := prog_29_method_93_code
def yJ9_checkBoundsBeginEnd : MethodName := ⟨RJ9, "checkBoundsBeginEnd", "(II[B)V"⟩
abbrev cJ9_length : ByteArray := prog_29_method_6_code
def yJ9_length : MethodName := ⟨RJ9, "length", "([B)I"⟩
abbrev cJ9_indexOfCharUnsafe : ByteArray := prog_29_method_48_code
def yJ9_indexOfCharUnsafe : MethodName := ⟨RJ9, "indexOfCharUnsafe", "([BIII)I"⟩
abbrev cJ9_getChar : ByteArray := prog_29_method_5_code
def yJ9_getChar : MethodName := ⟨RJ9, "getChar", "([BI)C"⟩
abbrev cJ9_indexOfSupplementary : ByteArray := prog_29_method_49_code
def yJ9_indexOfSupplementary : MethodName := ⟨RJ9, "indexOfSupplementary", "([BIII)I"⟩
abbrev cJ9_charAt : ByteArray := prog_29_method_83_code
def yJ9_charAt : MethodName := ⟨RJ9, "charAt", "([BI)C"⟩
abbrev cJ9_checkIndex : ByteArray := prog_29_method_91_code
def yJ9_checkIndex : MethodName := ⟨RJ9, "checkIndex", "(I[B)V"⟩
theorem q117 : (Jvm.Cond.initialized "java/lang/StringUTF16") ∈ lw_all := lw_g (lw_at lw_m1 15 rfl) rfl
theorem q483 : (Jvm.Cond.static ({ cls := "java/lang/StringUTF16", name := "indexOf", desc := "([BIII)I" } : Jvm.MethodName)) ∈ lw_all := lw_g (lw_at lw_m2 141 rfl) rfl
theorem q484 : (Jvm.Cond.code ({ cls := "java/lang/StringUTF16", name := "indexOf", desc := "([BIII)I" } : Jvm.MethodName) prog_29_method_40_code (4 : Nat) (Option.some Jvm.ClassFile.FieldType.int)) ∈ lw_all := lw_g (lw_at lw_m2 142 rfl) rfl
theorem q485 : (Jvm.Cond.methodLink "java/lang/StringUTF16" (224 : Nat) ({ cls := "java/lang/Math", name := "max", desc := "(II)I" } : Jvm.MethodName)) ∈ lw_all := lw_g (lw_at lw_m2 143 rfl) rfl
theorem q486 : (Jvm.Cond.methodLink "java/lang/StringUTF16" (183 : Nat) ({ cls := "java/lang/Math", name := "min", desc := "(II)I" } : Jvm.MethodName)) ∈ lw_all := lw_g (lw_at lw_m2 144 rfl) rfl
theorem q487 : (Jvm.Cond.constant "java/lang/StringUTF16" (227 : Nat) (65536 : Int32)) ∈ lw_all := lw_g (lw_at lw_m2 145 rfl) rfl
theorem q488 : (Jvm.Cond.methodLink "java/lang/StringUTF16" (228 : Nat) ({ cls := "java/lang/StringUTF16", name := "indexOfChar", desc := "([BIII)I" } : Jvm.MethodName)) ∈ lw_all := lw_g (lw_at lw_m2 146 rfl) rfl
theorem q489 : (Jvm.Cond.static ({ cls := "java/lang/StringUTF16", name := "indexOfChar", desc := "([BIII)I" } : Jvm.MethodName)) ∈ lw_all := lw_g (lw_at lw_m2 147 rfl) rfl
theorem q490 : (Jvm.Cond.code ({ cls := "java/lang/StringUTF16", name := "indexOfChar", desc := "([BIII)I" } : Jvm.MethodName) prog_29_method_47_code (4 : Nat) (Option.some Jvm.ClassFile.FieldType.int)) ∈ lw_all := lw_g (lw_at lw_m2 148 rfl) rfl
theorem q491 : (Jvm.Cond.methodLink "java/lang/StringUTF16" (96 : Nat) ({ cls := "java/lang/StringUTF16", name := "checkBoundsBeginEnd", desc := "(II[B)V" } : Jvm.MethodName)) ∈ lw_all := lw_g (lw_at lw_m2 149 rfl) rfl
theorem q492 : (Jvm.Cond.static ({ cls := "java/lang/StringUTF16", name := "checkBoundsBeginEnd", desc := "(II[B)V" } : Jvm.MethodName)) ∈ lw_all := lw_g (lw_at lw_m2 150 rfl) rfl
theorem q493 : (Jvm.Cond.code ({ cls := "java/lang/StringUTF16", name := "checkBoundsBeginEnd", desc := "(II[B)V" } : Jvm.MethodName) prog_29_method_93_code (3 : Nat) (Option.none : Option Jvm.ClassFile.FieldType)) ∈ lw_all := lw_g (lw_at lw_m2 151 rfl) rfl
theorem q494 : (Jvm.Cond.methodLink "java/lang/StringUTF16" (48 : Nat) ({ cls := "java/lang/StringUTF16", name := "length", desc := "([B)I" } : Jvm.MethodName)) ∈ lw_all := lw_g (lw_at lw_m2 152 rfl) rfl
theorem q495 : (Jvm.Cond.static ({ cls := "java/lang/StringUTF16", name := "length", desc := "([B)I" } : Jvm.MethodName)) ∈ lw_all := lw_g (lw_at lw_m2 153 rfl) rfl
theorem q496 : (Jvm.Cond.code ({ cls := "java/lang/StringUTF16", name := "length", desc := "([B)I" } : Jvm.MethodName) prog_29_method_6_code (1 : Nat) (Option.some Jvm.ClassFile.FieldType.int)) ∈ lw_all := lw_g (lw_at lw_m2 154 rfl) rfl
theorem q497 : (Jvm.Cond.methodLink "java/lang/StringUTF16" (241 : Nat) ({ cls := "java/lang/String", name := "checkBoundsBeginEnd", desc := "(III)V" } : Jvm.MethodName)) ∈ lw_all := lw_g (lw_at lw_m2 155 rfl) rfl
theorem q505 : (Jvm.Cond.methodLink "java/lang/StringUTF16" (244 : Nat) ({ cls := "java/lang/StringUTF16", name := "indexOfCharUnsafe", desc := "([BIII)I" } : Jvm.MethodName)) ∈ lw_all := lw_g (lw_at lw_m2 163 rfl) rfl
theorem q506 : (Jvm.Cond.static ({ cls := "java/lang/StringUTF16", name := "indexOfCharUnsafe", desc := "([BIII)I" } : Jvm.MethodName)) ∈ lw_all := lw_g (lw_at lw_m2 164 rfl) rfl
theorem q507 : (Jvm.Cond.code ({ cls := "java/lang/StringUTF16", name := "indexOfCharUnsafe", desc := "([BIII)I" } : Jvm.MethodName) prog_29_method_48_code (5 : Nat) (Option.some Jvm.ClassFile.FieldType.int)) ∈ lw_all := lw_g (lw_at lw_m2 165 rfl) rfl
theorem q508 : (Jvm.Cond.methodLink "java/lang/StringUTF16" (71 : Nat) ({ cls := "java/lang/StringUTF16", name := "getChar", desc := "([BI)C" } : Jvm.MethodName)) ∈ lw_all := lw_g (lw_at lw_m2 166 rfl) rfl
theorem q509 : (Jvm.Cond.static ({ cls := "java/lang/StringUTF16", name := "getChar", desc := "([BI)C" } : Jvm.MethodName)) ∈ lw_all := lw_g (lw_at lw_m2 167 rfl) rfl
theorem q510 : (Jvm.Cond.code ({ cls := "java/lang/StringUTF16", name := "getChar", desc := "([BI)C" } : Jvm.MethodName) prog_29_method_5_code (2 : Nat) (Option.some Jvm.ClassFile.FieldType.char)) ∈ lw_all := lw_g (lw_at lw_m2 168 rfl) rfl
theorem q511 : (Jvm.Cond.fieldLink "java/lang/StringUTF16" (44 : Nat) "java/lang/StringUTF16" "$assertionsDisabled" "Z") ∈ lw_all := lw_g (lw_at lw_m2 169 rfl) rfl
theorem q512 : (Jvm.Cond.laysStatic "java/lang/StringUTF16" "$assertionsDisabled" "Z") ∈ lw_tbl := lw_at lw_m2 170 rfl
theorem q513 : (Jvm.Cond.fieldLink "java/lang/StringUTF16" (59 : Nat) "java/lang/StringUTF16" "HI_BYTE_SHIFT" "I") ∈ lw_all := lw_g (lw_at lw_m2 171 rfl) rfl
theorem q514 : (Jvm.Cond.laysStatic "java/lang/StringUTF16" "HI_BYTE_SHIFT" "I") ∈ lw_tbl := lw_at lw_m2 172 rfl
theorem q515 : (Jvm.Cond.fieldLink "java/lang/StringUTF16" (63 : Nat) "java/lang/StringUTF16" "LO_BYTE_SHIFT" "I") ∈ lw_all := lw_g (lw_at lw_m2 173 rfl) rfl
theorem q516 : (Jvm.Cond.laysStatic "java/lang/StringUTF16" "LO_BYTE_SHIFT" "I") ∈ lw_tbl := lw_at lw_m2 174 rfl
theorem q517 : (Jvm.Cond.methodLink "java/lang/StringUTF16" (232 : Nat) ({ cls := "java/lang/StringUTF16", name := "indexOfSupplementary", desc := "([BIII)I" } : Jvm.MethodName)) ∈ lw_all := lw_g (lw_at lw_m2 175 rfl) rfl
theorem q518 : (Jvm.Cond.static ({ cls := "java/lang/StringUTF16", name := "indexOfSupplementary", desc := "([BIII)I" } : Jvm.MethodName)) ∈ lw_all := lw_g (lw_at lw_m2 176 rfl) rfl
theorem q519 : (Jvm.Cond.code ({ cls := "java/lang/StringUTF16", name := "indexOfSupplementary", desc := "([BIII)I" } : Jvm.MethodName) prog_29_method_49_code (7 : Nat) (Option.some Jvm.ClassFile.FieldType.int)) ∈ lw_all := lw_g (lw_at lw_m2 177 rfl) rfl
theorem q520 : (Jvm.Cond.methodLink "java/lang/StringUTF16" (164 : Nat) ({ cls := "java/lang/Character", name := "isValidCodePoint", desc := "(I)Z" } : Jvm.MethodName)) ∈ lw_all := lw_g (lw_at lw_m2 178 rfl) rfl
theorem q523 : (Jvm.Cond.methodLink "java/lang/StringUTF16" (157 : Nat) ({ cls := "java/lang/Character", name := "highSurrogate", desc := "(I)C" } : Jvm.MethodName)) ∈ lw_all := lw_g (lw_at lw_m2 181 rfl) rfl
theorem q527 : (Jvm.Cond.methodLink "java/lang/StringUTF16" (161 : Nat) ({ cls := "java/lang/Character", name := "lowSurrogate", desc := "(I)C" } : Jvm.MethodName)) ∈ lw_all := lw_g (lw_at lw_m2 185 rfl) rfl
theorem q545 : (Jvm.Cond.static ({ cls := "java/lang/StringUTF16", name := "charAt", desc := "([BI)C" } : Jvm.MethodName)) ∈ lw_all := lw_g (lw_at lw_m2 203 rfl) rfl
theorem q546 : (Jvm.Cond.code ({ cls := "java/lang/StringUTF16", name := "charAt", desc := "([BI)C" } : Jvm.MethodName) prog_29_method_83_code (2 : Nat) (Option.some Jvm.ClassFile.FieldType.char)) ∈ lw_all := lw_g (lw_at lw_m2 204 rfl) rfl
theorem q547 : (Jvm.Cond.methodLink "java/lang/StringUTF16" (67 : Nat) ({ cls := "java/lang/StringUTF16", name := "checkIndex", desc := "(I[B)V" } : Jvm.MethodName)) ∈ lw_all := lw_g (lw_at lw_m2 205 rfl) rfl
theorem q548 : (Jvm.Cond.static ({ cls := "java/lang/StringUTF16", name := "checkIndex", desc := "(I[B)V" } : Jvm.MethodName)) ∈ lw_all := lw_g (lw_at lw_m2 206 rfl) rfl
theorem q549 : (Jvm.Cond.code ({ cls := "java/lang/StringUTF16", name := "checkIndex", desc := "(I[B)V" } : Jvm.MethodName) prog_29_method_91_code (2 : Nat) (Option.none : Option Jvm.ClassFile.FieldType)) ∈ lw_all := lw_g (lw_at lw_m2 207 rfl) rfl
theorem q550 : (Jvm.Cond.methodLink "java/lang/StringUTF16" (414 : Nat) ({ cls := "java/lang/String", name := "checkIndex", desc := "(II)V" } : Jvm.MethodName)) ∈ lw_all := lw_g (lw_at lw_m2 208 rfl) rfl
/-! the law's own entry -/
abbrev cL_law : ByteArray := code
/-! MiddleSheet -/
def RX0 : String := "MiddleSheet"
def TX0 : u_T := fun k => match k with
  | 0 => ("MiddleSheet", "text", "[B", true)
  | 1 => ("MiddleSheet", "reader", "LMiddleSheet$Reader;", true)
  | 2 => ("MiddleSheet", "voters", "Ljava/util/ArrayList;", true)
  | 3 => ("MiddleSheet", "places", "Ljava/util/ArrayList;", true)
  | 4 => ("MiddleSheet", "moves", "Ljava/util/ArrayList;", true)
  | 5 => ("MiddleSheet", "bar", "LMiddleSheet$Bar;", false)
  | 6 => ("MiddleSheet", "size", "I", false)
  | 7 => ("MiddleSheet", "all", "I", false)
  | 8 => ("MiddleSheet", "lines", "Ljava/util/ArrayList;", true)
  | 9 => ("MiddleSheet", "middles", "Ljava/util/ArrayList;", true)
  | 10 => ("MiddleSheet", "proof", "[I", true)
  | 11 => ("MiddleSheet", "hasLines", "Z", false)
  | 12 => ("MiddleSheet", "hasMiddles", "Z", false)
  | 13 => ("MiddleSheet", "hasRound", "Z", false)
  | 14 => ("MiddleSheet", "roundX", "I", false)
  | 15 => ("MiddleSheet", "roundY", "I", false)
  | 16 => ("MiddleSheet", "roundP", "J", false)
  | 17 => ("MiddleSheet", "roundQ", "J", false)
  | 18 => ("MiddleSheet", "around", "[I", true)
  | 19 => ("MiddleSheet", "pieceOf", "[I", true)
  | 20 => ("MiddleSheet", "pile", "[I", true)
  | 21 => ("MiddleSheet", "pieceFirst", "[I", true)
  | 22 => ("MiddleSheet", "pieceSize", "[I", true)
  | 23 => ("MiddleSheet", "pieceMany", "I", false)
  | 24 => ("MiddleSheet", "winMany", "I", false)
  | 25 => ("MiddleSheet", "steps", "[I", true)
  | 26 => ("MiddleSheet", "gain", "[[I", true)
  | 27 => ("MiddleSheet", "chosen", "[I", true)
  | _ => ("MiddleSheet", "share", "[J", true)
def tyX0 : Nat → FieldType := fun k => match k with
  | 0 => .array .byte
  | 1 => .object "MiddleSheet$Reader"
  | 2 => .object "java/util/ArrayList"
  | 3 => .object "java/util/ArrayList"
  | 4 => .object "java/util/ArrayList"
  | 5 => .object "MiddleSheet$Bar"
  | 6 => .int
  | 7 => .int
  | 8 => .object "java/util/ArrayList"
  | 9 => .object "java/util/ArrayList"
  | 10 => .array .int
  | 11 => .boolean
  | 12 => .boolean
  | 13 => .boolean
  | 14 => .int
  | 15 => .int
  | 16 => .long
  | 17 => .long
  | 18 => .array .int
  | 19 => .array .int
  | 20 => .array .int
  | 21 => .array .int
  | 22 => .array .int
  | 23 => .int
  | 24 => .int
  | 25 => .array .int
  | 26 => .array (.array .int)
  | 27 => .array .int
  | _ => .array .long
abbrev wsX00 : List Cond := u_ws RX0 TX0 29
theorem nmX0 : ∀ a, a < 29 → ∀ b, b < 29 → a ≠ b → (TX0 a).2.1 ≠ (TX0 b).2.1 := by decide +kernel
theorem tyX0_ok : ∀ k, k < 29 → parseFieldDescriptor (TX0 k).2.2.1 = some (tyX0 k) := by decide +kernel
abbrev cX0_init : ByteArray := prog_1_method_4_code
def yX0_init : MethodName := ⟨RX0, "<init>", "()V"⟩
abbrev cX0_feed : ByteArray := prog_1_method_8_code
def yX0_feed : MethodName := ⟨RX0, "feed", "(IIIII)I"⟩
abbrev cX0_feeds : ByteArray := prog_1_method_9_code
def yX0_feeds : MethodName := ⟨RX0, "feeds", "(I)V"⟩
abbrev cX0_end : ByteArray := prog_1_method_10_code
def yX0_end : MethodName := ⟨RX0, "end", "(I)Z"⟩
abbrev cX0_in : ByteArray := prog_1_method_1_code
def yX0_in : MethodName := ⟨RX0, "in", "(III)Z"⟩
abbrev cX0_fault : ByteArray := prog_1_method_11_code
def yX0_fault : MethodName := ⟨RX0, "fault", "()I"⟩
abbrev cX0_sheet : ByteArray := prog_1_method_12_code
def yX0_sheet : MethodName := ⟨RX0, "sheet", "()I"⟩
abbrev cX0_stale : ByteArray := prog_1_method_5_code
def yX0_stale : MethodName := ⟨RX0, "stale", "()V"⟩
abbrev cX0_voter : ByteArray := prog_1_method_13_code
def yX0_voter : MethodName := ⟨RX0, "voter", "(II)I"⟩
abbrev cX0_voterAt : ByteArray := prog_1_method_6_code
def yX0_voterAt : MethodName := ⟨RX0, "voterAt", "(I)LMiddleSheet$Voter;"⟩
abbrev cX0_place : ByteArray := prog_1_method_14_code
def yX0_place : MethodName := ⟨RX0, "place", "(II)I"⟩
abbrev cX0_placeAt : ByteArray := prog_1_method_7_code
def yX0_placeAt : MethodName := ⟨RX0, "placeAt", "(I)LMiddleSheet$Place;"⟩
abbrev cX0_propose : ByteArray := prog_1_method_15_code
def yX0_propose : MethodName := ⟨RX0, "propose", "(II)I"⟩
abbrev cX0_isPoint : ByteArray := prog_1_method_2_code
def yX0_isPoint : MethodName := ⟨RX0, "isPoint", "(II)Z"⟩
abbrev cX0_way : ByteArray := prog_1_method_16_code
def yX0_way : MethodName := ⟨RX0, "way", "(III)I"⟩
abbrev cX0_votes : ByteArray := prog_1_method_21_code
def yX0_votes : MethodName := ⟨RX0, "votes", "(II)I"⟩
abbrev cX0_votesOf : ByteArray := prog_1_method_19_code
def yX0_votesOf : MethodName := ⟨RX0, "votesOf", "(LMiddleSheet$Place;LMiddleSheet$Place;)I"⟩
abbrev cX0_votesFor : ByteArray := prog_1_method_17_code
def yX0_votesFor : MethodName := ⟨RX0, "votesFor", "(IIII)I"⟩
abbrev cX0_beats : ByteArray := prog_1_method_22_code
def yX0_beats : MethodName := ⟨RX0, "beats", "(II)Z"⟩
abbrev cX0_above : ByteArray := prog_1_method_20_code
def yX0_above : MethodName := ⟨RX0, "above", "(LMiddleSheet$Place;LMiddleSheet$Place;)Z"⟩
abbrev cX0_isBeaten : ByteArray := prog_1_method_18_code
def yX0_isBeaten : MethodName := ⟨RX0, "isBeaten", "(IIII)Z"⟩
abbrev cX0_wins : ByteArray := prog_1_method_23_code
def yX0_wins : MethodName := ⟨RX0, "wins", "(II)Z"⟩
abbrev cX0_line : ByteArray := prog_1_method_26_code
def yX0_line : MethodName := ⟨RX0, "line", "(II)I"⟩
abbrev cX0_findLines : ByteArray := prog_1_method_25_code
def yX0_findLines : MethodName := ⟨RX0, "findLines", "()V"⟩
abbrev cX0_common : ByteArray := prog_1_method_3_code
def yX0_common : MethodName := ⟨RX0, "common", "(JJ)J"⟩
abbrev cX0_halves : ByteArray := prog_1_method_24_code
def yX0_halves : MethodName := ⟨RX0, "halves", "(LMiddleSheet$Line;)Z"⟩
abbrev cX0_middle : ByteArray := prog_1_method_31_code
def yX0_middle : MethodName := ⟨RX0, "middle", "(II)I"⟩
abbrev cX0_findMiddles : ByteArray := prog_1_method_29_code
def yX0_findMiddles : MethodName := ⟨RX0, "findMiddles", "()V"⟩
abbrev cX0_comes : ByteArray := prog_1_method_28_code
def yX0_comes : MethodName := ⟨RX0, "comes", "(LMiddleSheet$Spot;)V"⟩
abbrev cX0_isMiddle : ByteArray := prog_1_method_27_code
def yX0_isMiddle : MethodName := ⟨RX0, "isMiddle", "(LMiddleSheet$Spot;)Z"⟩
abbrev cX0_proves : ByteArray := prog_1_method_30_code
def yX0_proves : MethodName := ⟨RX0, "proves", "()V"⟩
abbrev cX0_proof : ByteArray := prog_1_method_32_code
def yX0_proof : MethodName := ⟨RX0, "proof", "(I)I"⟩
abbrev cX0_round : ByteArray := prog_1_method_34_code
def yX0_round : MethodName := ⟨RX0, "round", "(I)I"⟩
abbrev cX0_findRound : ByteArray := prog_1_method_33_code
def yX0_findRound : MethodName := ⟨RX0, "findRound", "()V"⟩
abbrev cX0_winSet : ByteArray := prog_1_method_38_code
def yX0_winSet : MethodName := ⟨RX0, "winSet", "(III)I"⟩
abbrev cX0_findPieces : ByteArray := prog_1_method_35_code
def yX0_findPieces : MethodName := ⟨RX0, "findPieces", "(II)V"⟩
abbrev cX0_fills : ByteArray := prog_1_method_36_code
def yX0_fills : MethodName := ⟨RX0, "fills", "(I)V"⟩
abbrev cX0_spreads : ByteArray := prog_1_method_37_code
def yX0_spreads : MethodName := ⟨RX0, "spreads", "(III)I"⟩
abbrev cX0_piece : ByteArray := prog_1_method_39_code
def yX0_piece : MethodName := ⟨RX0, "piece", "(IIII)I"⟩
abbrev cX0_led : ByteArray := prog_1_method_41_code
def yX0_led : MethodName := ⟨RX0, "led", "(III)I"⟩
abbrev cX0_findSteps : ByteArray := prog_1_method_40_code
def yX0_findSteps : MethodName := ⟨RX0, "findSteps", "(I)V"⟩
abbrev cX0_best : ByteArray := prog_1_method_45_code
def yX0_best : MethodName := ⟨RX0, "best", "(I)I"⟩
abbrev cX0_reaches : ByteArray := prog_1_method_42_code
def yX0_reaches : MethodName := ⟨RX0, "reaches", "(I)Z"⟩
abbrev cX0_isOpen : ByteArray := prog_1_method_44_code
def yX0_isOpen : MethodName := ⟨RX0, "isOpen", "(I)Z"⟩
abbrev cX0_covers : ByteArray := prog_1_method_43_code
def yX0_covers : MethodName := ⟨RX0, "covers", "(LMiddleSheet$Place;LMiddleSheet$Place;)Z"⟩
abbrev cX0_between : ByteArray := prog_1_method_46_code
def yX0_between : MethodName := ⟨RX0, "between", "(II)I"⟩
abbrev cX0_rest : ByteArray := prog_1_method_48_code
def yX0_rest : MethodName := ⟨RX0, "rest", "()I"⟩
abbrev cX0_gains : ByteArray := prog_1_method_47_code
def yX0_gains : MethodName := ⟨RX0, "gains", "()I"⟩
abbrev cX0_lot : ByteArray := prog_1_method_53_code
def yX0_lot : MethodName := ⟨RX0, "lot", "(I)I"⟩
abbrev cX0_findLots : ByteArray := prog_1_method_52_code
def yX0_findLots : MethodName := ⟨RX0, "findLots", "()Z"⟩
abbrev cX0_isLots : ByteArray := prog_1_method_51_code
def yX0_isLots : MethodName := ⟨RX0, "isLots", "(II)Z"⟩
abbrev cX0_hasShares : ByteArray := prog_1_method_50_code
def yX0_hasShares : MethodName := ⟨RX0, "hasShares", "(I)Z"⟩
abbrev cX0_pairs : ByteArray := prog_1_method_49_code
def yX0_pairs : MethodName := ⟨RX0, "pairs", "(I)J"⟩
abbrev cX0_need : ByteArray := prog_1_method_55_code
def yX0_need : MethodName := ⟨RX0, "need", "(I)I"⟩
abbrev cX0_needOf : ByteArray := prog_1_method_54_code
def yX0_needOf : MethodName := ⟨RX0, "needOf", "(I)I"⟩
abbrev cX0_most : ByteArray := prog_1_method_56_code
def yX0_most : MethodName := ⟨RX0, "most", "(II)I"⟩
abbrev cX0_peace : ByteArray := prog_1_method_58_code
def yX0_peace : MethodName := ⟨RX0, "peace", "()I"⟩
abbrev cX0_isUnbeaten : ByteArray := prog_1_method_57_code
def yX0_isUnbeaten : MethodName := ⟨RX0, "isUnbeaten", "(I)Z"⟩
abbrev cX0_make : ByteArray := prog_1_method_59_code
def yX0_make : MethodName := ⟨RX0, "make", "(I)I"⟩
abbrev cX0_join : ByteArray := prog_1_method_60_code
def yX0_join : MethodName := ⟨RX0, "join", "(I)I"⟩
abbrev cX0_doubt : ByteArray := prog_1_method_62_code
def yX0_doubt : MethodName := ⟨RX0, "doubt", "(II)I"⟩
abbrev cX0_surely : ByteArray := prog_1_method_61_code
def yX0_surely : MethodName := ⟨RX0, "surely", "(LMiddleSheet$Voter;ILMiddleSheet$Place;LMiddleSheet$Place;)I"⟩
abbrev cX0_move : ByteArray := prog_1_method_65_code
def yX0_move : MethodName := ⟨RX0, "move", "(III)I"⟩
abbrev cX0_pairMany : ByteArray := prog_1_method_63_code
def yX0_pairMany : MethodName := ⟨RX0, "pairMany", "()I"⟩
abbrev cX0_puts : ByteArray := prog_1_method_64_code
def yX0_puts : MethodName := ⟨RX0, "puts", "(III)V"⟩
abbrev cX0_undo : ByteArray := prog_1_method_66_code
def yX0_undo : MethodName := ⟨RX0, "undo", "()I"⟩
abbrev cX0_moved : ByteArray := prog_1_method_67_code
def yX0_moved : MethodName := ⟨RX0, "moved", "(II)I"⟩
abbrev cX0_count : ByteArray := prog_1_method_68_code
def yX0_count : MethodName := ⟨RX0, "count", "(I)I"⟩
theorem q103 : (Jvm.Cond.initialized "MiddleSheet") ∈ lw_all := lw_g (lw_at lw_m1 1 rfl) rfl
theorem q136 : (Jvm.Cond.instantiable "MiddleSheet" (29 : Nat)) ∈ lw_all := lw_g (lw_at lw_m1 34 rfl) rfl
theorem q138 : (Jvm.Cond.instanceMethod ({ cls := "MiddleSheet", name := "<init>", desc := "()V" } : Jvm.MethodName)) ∈ lw_all := lw_g (lw_at lw_m1 36 rfl) rfl
theorem q139 : (Jvm.Cond.code ({ cls := "MiddleSheet", name := "<init>", desc := "()V" } : Jvm.MethodName) prog_1_method_4_code (1 : Nat) (Option.none : Option Jvm.ClassFile.FieldType)) ∈ lw_all := lw_g (lw_at lw_m1 37 rfl) rfl
theorem q140 : (Jvm.Cond.methodLink "MiddleSheet" (13 : Nat) ({ cls := "java/lang/Object", name := "<init>", desc := "()V" } : Jvm.MethodName)) ∈ lw_all := lw_g (lw_at lw_m1 38 rfl) rfl
theorem q143 : (Jvm.Cond.classLink "MiddleSheet" (23 : Nat) "MiddleSheet$Reader") ∈ lw_all := lw_g (lw_at lw_m1 41 rfl) rfl
theorem q145 : (Jvm.Cond.methodLinkNest "MiddleSheet" (25 : Nat) ({ cls := "MiddleSheet$Reader", name := "<init>", desc := "()V" } : Jvm.MethodName) "MiddleSheet") ∈ lw_tbl := lw_at lw_m1 43 rfl
theorem q185 : (Jvm.Cond.fieldLinkNest "MiddleSheet" (139 : Nat) "MiddleSheet$Reader" "voters" "Ljava/util/ArrayList;" "MiddleSheet") ∈ lw_tbl := lw_at lw_m1 83 rfl
theorem q187 : (Jvm.Cond.fieldLinkNest "MiddleSheet" (147 : Nat) "MiddleSheet$Reader" "places" "Ljava/util/ArrayList;" "MiddleSheet") ∈ lw_tbl := lw_at lw_m1 85 rfl
theorem q188 : (Jvm.Cond.fieldLinkNest "MiddleSheet" (148 : Nat) "MiddleSheet$Reader" "bar" "LMiddleSheet$Bar;" "MiddleSheet") ∈ lw_tbl := lw_at lw_m1 86 rfl
theorem q213 : (Jvm.Cond.classLink "MiddleSheet" (30 : Nat) "java/util/ArrayList") ∈ lw_all := lw_g (lw_at lw_m1 111 rfl) rfl
theorem q214 : (Jvm.Cond.methodLink "MiddleSheet" (32 : Nat) ({ cls := "java/util/ArrayList", name := "<init>", desc := "()V" } : Jvm.MethodName)) ∈ lw_all := lw_g (lw_at lw_m1 112 rfl) rfl
theorem q215 : (Jvm.Cond.classLink "MiddleSheet" (43 : Nat) "MiddleSheet$Bar") ∈ lw_all := lw_g (lw_at lw_m1 113 rfl) rfl
theorem q217 : (Jvm.Cond.methodLink "MiddleSheet" (45 : Nat) ({ cls := "MiddleSheet$Bar", name := "<init>", desc := "(III)V" } : Jvm.MethodName)) ∈ lw_all := lw_g (lw_at lw_m1 115 rfl) rfl
theorem q231 : (Jvm.Cond.classLink "MiddleSheet" (80 : Nat) "[[I") ∈ lw_all := lw_g (lw_at lw_m1 129 rfl) rfl
theorem q233 : (Jvm.Cond.fieldLink "MiddleSheet" (19 : Nat) "MiddleSheet" "text" "[B") ∈ lw_all := lw_g (lw_at lw_m1 131 rfl) rfl
theorem q234 : (Jvm.Cond.fieldLink "MiddleSheet" (26 : Nat) "MiddleSheet" "reader" "LMiddleSheet$Reader;") ∈ lw_all := lw_g (lw_at lw_m1 132 rfl) rfl
theorem q235 : (Jvm.Cond.fieldLink "MiddleSheet" (33 : Nat) "MiddleSheet" "voters" "Ljava/util/ArrayList;") ∈ lw_all := lw_g (lw_at lw_m1 133 rfl) rfl
theorem q236 : (Jvm.Cond.fieldLink "MiddleSheet" (37 : Nat) "MiddleSheet" "places" "Ljava/util/ArrayList;") ∈ lw_all := lw_g (lw_at lw_m1 134 rfl) rfl
theorem q237 : (Jvm.Cond.fieldLink "MiddleSheet" (40 : Nat) "MiddleSheet" "moves" "Ljava/util/ArrayList;") ∈ lw_all := lw_g (lw_at lw_m1 135 rfl) rfl
theorem q238 : (Jvm.Cond.fieldLink "MiddleSheet" (48 : Nat) "MiddleSheet" "bar" "LMiddleSheet$Bar;") ∈ lw_all := lw_g (lw_at lw_m1 136 rfl) rfl
theorem q239 : (Jvm.Cond.fieldLink "MiddleSheet" (114 : Nat) "MiddleSheet" "size" "I") ∈ lw_all := lw_g (lw_at lw_m1 137 rfl) rfl
theorem q240 : (Jvm.Cond.fieldLink "MiddleSheet" (136 : Nat) "MiddleSheet" "all" "I") ∈ lw_all := lw_g (lw_at lw_m1 138 rfl) rfl
theorem q241 : (Jvm.Cond.fieldLink "MiddleSheet" (52 : Nat) "MiddleSheet" "lines" "Ljava/util/ArrayList;") ∈ lw_all := lw_g (lw_at lw_m1 139 rfl) rfl
theorem q242 : (Jvm.Cond.fieldLink "MiddleSheet" (55 : Nat) "MiddleSheet" "middles" "Ljava/util/ArrayList;") ∈ lw_all := lw_g (lw_at lw_m1 140 rfl) rfl
theorem q243 : (Jvm.Cond.fieldLink "MiddleSheet" (58 : Nat) "MiddleSheet" "proof" "[I") ∈ lw_all := lw_g (lw_at lw_m1 141 rfl) rfl
theorem q244 : (Jvm.Cond.fieldLink "MiddleSheet" (92 : Nat) "MiddleSheet" "hasLines" "Z") ∈ lw_all := lw_g (lw_at lw_m1 142 rfl) rfl
theorem q245 : (Jvm.Cond.fieldLink "MiddleSheet" (96 : Nat) "MiddleSheet" "hasMiddles" "Z") ∈ lw_all := lw_g (lw_at lw_m1 143 rfl) rfl
theorem q246 : (Jvm.Cond.fieldLink "MiddleSheet" (99 : Nat) "MiddleSheet" "hasRound" "Z") ∈ lw_all := lw_g (lw_at lw_m1 144 rfl) rfl
theorem q247 : (Jvm.Cond.fieldLink "MiddleSheet" (301 : Nat) "MiddleSheet" "roundX" "I") ∈ lw_all := lw_g (lw_at lw_m1 145 rfl) rfl
theorem q248 : (Jvm.Cond.fieldLink "MiddleSheet" (304 : Nat) "MiddleSheet" "roundY" "I") ∈ lw_all := lw_g (lw_at lw_m1 146 rfl) rfl
theorem q249 : (Jvm.Cond.fieldLink "MiddleSheet" (295 : Nat) "MiddleSheet" "roundP" "J") ∈ lw_all := lw_g (lw_at lw_m1 147 rfl) rfl
theorem q250 : (Jvm.Cond.fieldLink "MiddleSheet" (298 : Nat) "MiddleSheet" "roundQ" "J") ∈ lw_all := lw_g (lw_at lw_m1 148 rfl) rfl
theorem q251 : (Jvm.Cond.fieldLink "MiddleSheet" (62 : Nat) "MiddleSheet" "around" "[I") ∈ lw_all := lw_g (lw_at lw_m1 149 rfl) rfl
theorem q252 : (Jvm.Cond.fieldLink "MiddleSheet" (65 : Nat) "MiddleSheet" "pieceOf" "[I") ∈ lw_all := lw_g (lw_at lw_m1 150 rfl) rfl
theorem q253 : (Jvm.Cond.fieldLink "MiddleSheet" (68 : Nat) "MiddleSheet" "pile" "[I") ∈ lw_all := lw_g (lw_at lw_m1 151 rfl) rfl
theorem q254 : (Jvm.Cond.fieldLink "MiddleSheet" (71 : Nat) "MiddleSheet" "pieceFirst" "[I") ∈ lw_all := lw_g (lw_at lw_m1 152 rfl) rfl
theorem q255 : (Jvm.Cond.fieldLink "MiddleSheet" (74 : Nat) "MiddleSheet" "pieceSize" "[I") ∈ lw_all := lw_g (lw_at lw_m1 153 rfl) rfl
theorem q256 : (Jvm.Cond.fieldLink "MiddleSheet" (317 : Nat) "MiddleSheet" "pieceMany" "I") ∈ lw_all := lw_g (lw_at lw_m1 154 rfl) rfl
theorem q257 : (Jvm.Cond.fieldLink "MiddleSheet" (314 : Nat) "MiddleSheet" "winMany" "I") ∈ lw_all := lw_g (lw_at lw_m1 155 rfl) rfl
theorem q258 : (Jvm.Cond.fieldLink "MiddleSheet" (77 : Nat) "MiddleSheet" "steps" "[I") ∈ lw_all := lw_g (lw_at lw_m1 156 rfl) rfl
theorem q259 : (Jvm.Cond.fieldLink "MiddleSheet" (82 : Nat) "MiddleSheet" "gain" "[[I") ∈ lw_all := lw_g (lw_at lw_m1 157 rfl) rfl
theorem q260 : (Jvm.Cond.fieldLink "MiddleSheet" (85 : Nat) "MiddleSheet" "chosen" "[I") ∈ lw_all := lw_g (lw_at lw_m1 158 rfl) rfl
theorem q261 : (Jvm.Cond.fieldLink "MiddleSheet" (88 : Nat) "MiddleSheet" "share" "[J") ∈ lw_all := lw_g (lw_at lw_m1 159 rfl) rfl
theorem q262 : (Jvm.Cond.laysFinal "MiddleSheet" "MiddleSheet" "text" "[B") ∈ lw_all := lw_g (lw_at lw_m1 160 rfl) rfl
theorem q263 : (Jvm.Cond.soleField "MiddleSheet" "text") ∈ lw_all := lw_g (lw_at lw_m1 161 rfl) rfl
theorem q264 : (Jvm.Cond.laysFinal "MiddleSheet" "MiddleSheet" "reader" "LMiddleSheet$Reader;") ∈ lw_all := lw_g (lw_at lw_m1 162 rfl) rfl
theorem q265 : (Jvm.Cond.soleField "MiddleSheet" "reader") ∈ lw_all := lw_g (lw_at lw_m1 163 rfl) rfl
theorem q266 : (Jvm.Cond.laysFinal "MiddleSheet" "MiddleSheet" "voters" "Ljava/util/ArrayList;") ∈ lw_all := lw_g (lw_at lw_m1 164 rfl) rfl
theorem q267 : (Jvm.Cond.soleField "MiddleSheet" "voters") ∈ lw_all := lw_g (lw_at lw_m1 165 rfl) rfl
theorem q268 : (Jvm.Cond.laysFinal "MiddleSheet" "MiddleSheet" "places" "Ljava/util/ArrayList;") ∈ lw_all := lw_g (lw_at lw_m1 166 rfl) rfl
theorem q269 : (Jvm.Cond.soleField "MiddleSheet" "places") ∈ lw_all := lw_g (lw_at lw_m1 167 rfl) rfl
theorem q270 : (Jvm.Cond.laysFinal "MiddleSheet" "MiddleSheet" "moves" "Ljava/util/ArrayList;") ∈ lw_all := lw_g (lw_at lw_m1 168 rfl) rfl
theorem q271 : (Jvm.Cond.soleField "MiddleSheet" "moves") ∈ lw_all := lw_g (lw_at lw_m1 169 rfl) rfl
theorem q272 : (Jvm.Cond.lays "MiddleSheet" "MiddleSheet" "bar" "LMiddleSheet$Bar;") ∈ lw_all := lw_g (lw_at lw_m1 170 rfl) rfl
theorem q273 : (Jvm.Cond.soleField "MiddleSheet" "bar") ∈ lw_all := lw_g (lw_at lw_m1 171 rfl) rfl
theorem q274 : (Jvm.Cond.lays "MiddleSheet" "MiddleSheet" "size" "I") ∈ lw_all := lw_g (lw_at lw_m1 172 rfl) rfl
theorem q275 : (Jvm.Cond.soleField "MiddleSheet" "size") ∈ lw_all := lw_g (lw_at lw_m1 173 rfl) rfl
theorem q276 : (Jvm.Cond.lays "MiddleSheet" "MiddleSheet" "all" "I") ∈ lw_all := lw_g (lw_at lw_m1 174 rfl) rfl
theorem q277 : (Jvm.Cond.soleField "MiddleSheet" "all") ∈ lw_all := lw_g (lw_at lw_m1 175 rfl) rfl
theorem q278 : (Jvm.Cond.laysFinal "MiddleSheet" "MiddleSheet" "lines" "Ljava/util/ArrayList;") ∈ lw_all := lw_g (lw_at lw_m1 176 rfl) rfl
theorem q279 : (Jvm.Cond.soleField "MiddleSheet" "lines") ∈ lw_all := lw_g (lw_at lw_m1 177 rfl) rfl
theorem q280 : (Jvm.Cond.laysFinal "MiddleSheet" "MiddleSheet" "middles" "Ljava/util/ArrayList;") ∈ lw_all := lw_g (lw_at lw_m1 178 rfl) rfl
theorem q281 : (Jvm.Cond.soleField "MiddleSheet" "middles") ∈ lw_all := lw_g (lw_at lw_m1 179 rfl) rfl
theorem q282 : (Jvm.Cond.laysFinal "MiddleSheet" "MiddleSheet" "proof" "[I") ∈ lw_all := lw_g (lw_at lw_m1 180 rfl) rfl
theorem q283 : (Jvm.Cond.soleField "MiddleSheet" "proof") ∈ lw_all := lw_g (lw_at lw_m1 181 rfl) rfl
theorem q284 : (Jvm.Cond.lays "MiddleSheet" "MiddleSheet" "hasLines" "Z") ∈ lw_all := lw_g (lw_at lw_m1 182 rfl) rfl
theorem q285 : (Jvm.Cond.soleField "MiddleSheet" "hasLines") ∈ lw_all := lw_g (lw_at lw_m1 183 rfl) rfl
theorem q286 : (Jvm.Cond.lays "MiddleSheet" "MiddleSheet" "hasMiddles" "Z") ∈ lw_all := lw_g (lw_at lw_m1 184 rfl) rfl
theorem q287 : (Jvm.Cond.soleField "MiddleSheet" "hasMiddles") ∈ lw_all := lw_g (lw_at lw_m1 185 rfl) rfl
theorem q288 : (Jvm.Cond.lays "MiddleSheet" "MiddleSheet" "hasRound" "Z") ∈ lw_all := lw_g (lw_at lw_m1 186 rfl) rfl
theorem q289 : (Jvm.Cond.soleField "MiddleSheet" "hasRound") ∈ lw_all := lw_g (lw_at lw_m1 187 rfl) rfl
theorem q290 : (Jvm.Cond.lays "MiddleSheet" "MiddleSheet" "roundX" "I") ∈ lw_all := lw_g (lw_at lw_m1 188 rfl) rfl
theorem q291 : (Jvm.Cond.soleField "MiddleSheet" "roundX") ∈ lw_all := lw_g (lw_at lw_m1 189 rfl) rfl
theorem q292 : (Jvm.Cond.lays "MiddleSheet" "MiddleSheet" "roundY" "I") ∈ lw_all := lw_g (lw_at lw_m1 190 rfl) rfl
theorem q293 : (Jvm.Cond.soleField "MiddleSheet" "roundY") ∈ lw_all := lw_g (lw_at lw_m1 191 rfl) rfl
theorem q294 : (Jvm.Cond.lays "MiddleSheet" "MiddleSheet" "roundP" "J") ∈ lw_all := lw_g (lw_at lw_m1 192 rfl) rfl
theorem q295 : (Jvm.Cond.soleField "MiddleSheet" "roundP") ∈ lw_all := lw_g (lw_at lw_m1 193 rfl) rfl
theorem q296 : (Jvm.Cond.lays "MiddleSheet" "MiddleSheet" "roundQ" "J") ∈ lw_all := lw_g (lw_at lw_m1 194 rfl) rfl
theorem q297 : (Jvm.Cond.soleField "MiddleSheet" "roundQ") ∈ lw_all := lw_g (lw_at lw_m1 195 rfl) rfl
theorem q298 : (Jvm.Cond.laysFinal "MiddleSheet" "MiddleSheet" "around" "[I") ∈ lw_all := lw_g (lw_at lw_m1 196 rfl) rfl
theorem q299 : (Jvm.Cond.soleField "MiddleSheet" "around") ∈ lw_all := lw_g (lw_at lw_m1 197 rfl) rfl
theorem q300 : (Jvm.Cond.laysFinal "MiddleSheet" "MiddleSheet" "pieceOf" "[I") ∈ lw_all := lw_g (lw_at lw_m1 198 rfl) rfl
theorem q301 : (Jvm.Cond.soleField "MiddleSheet" "pieceOf") ∈ lw_all := lw_g (lw_at lw_m1 199 rfl) rfl
theorem q302 : (Jvm.Cond.laysFinal "MiddleSheet" "MiddleSheet" "pile" "[I") ∈ lw_all := lw_g (lw_at lw_m1 200 rfl) rfl
theorem q303 : (Jvm.Cond.soleField "MiddleSheet" "pile") ∈ lw_all := lw_g (lw_at lw_m1 201 rfl) rfl
theorem q304 : (Jvm.Cond.laysFinal "MiddleSheet" "MiddleSheet" "pieceFirst" "[I") ∈ lw_all := lw_g (lw_at lw_m1 202 rfl) rfl
theorem q305 : (Jvm.Cond.soleField "MiddleSheet" "pieceFirst") ∈ lw_all := lw_g (lw_at lw_m1 203 rfl) rfl
theorem q306 : (Jvm.Cond.laysFinal "MiddleSheet" "MiddleSheet" "pieceSize" "[I") ∈ lw_all := lw_g (lw_at lw_m1 204 rfl) rfl
theorem q307 : (Jvm.Cond.soleField "MiddleSheet" "pieceSize") ∈ lw_all := lw_g (lw_at lw_m1 205 rfl) rfl
theorem q308 : (Jvm.Cond.lays "MiddleSheet" "MiddleSheet" "pieceMany" "I") ∈ lw_all := lw_g (lw_at lw_m1 206 rfl) rfl
theorem q309 : (Jvm.Cond.soleField "MiddleSheet" "pieceMany") ∈ lw_all := lw_g (lw_at lw_m1 207 rfl) rfl
theorem q310 : (Jvm.Cond.lays "MiddleSheet" "MiddleSheet" "winMany" "I") ∈ lw_all := lw_g (lw_at lw_m1 208 rfl) rfl
theorem q311 : (Jvm.Cond.soleField "MiddleSheet" "winMany") ∈ lw_all := lw_g (lw_at lw_m1 209 rfl) rfl
theorem q312 : (Jvm.Cond.laysFinal "MiddleSheet" "MiddleSheet" "steps" "[I") ∈ lw_all := lw_g (lw_at lw_m1 210 rfl) rfl
theorem q313 : (Jvm.Cond.soleField "MiddleSheet" "steps") ∈ lw_all := lw_g (lw_at lw_m1 211 rfl) rfl
theorem q314 : (Jvm.Cond.laysFinal "MiddleSheet" "MiddleSheet" "gain" "[[I") ∈ lw_all := lw_g (lw_at lw_m1 212 rfl) rfl
theorem q315 : (Jvm.Cond.soleField "MiddleSheet" "gain") ∈ lw_all := lw_g (lw_at lw_m1 213 rfl) rfl
theorem q316 : (Jvm.Cond.laysFinal "MiddleSheet" "MiddleSheet" "chosen" "[I") ∈ lw_all := lw_g (lw_at lw_m1 214 rfl) rfl
theorem q317 : (Jvm.Cond.soleField "MiddleSheet" "chosen") ∈ lw_all := lw_g (lw_at lw_m1 215 rfl) rfl
theorem q318 : (Jvm.Cond.laysFinal "MiddleSheet" "MiddleSheet" "share" "[J") ∈ lw_all := lw_g (lw_at lw_m1 216 rfl) rfl
theorem q319 : (Jvm.Cond.soleField "MiddleSheet" "share") ∈ lw_all := lw_g (lw_at lw_m1 217 rfl) rfl
theorem q320 : (Jvm.Cond.superclass "MiddleSheet" "java/lang/Object") ∈ lw_all := lw_g (lw_at lw_m1 218 rfl) rfl
theorem q324 : (Jvm.Cond.instanceMethod ({ cls := "MiddleSheet", name := "feed", desc := "(IIIII)I" } : Jvm.MethodName)) ∈ lw_all := lw_g (lw_at lw_m1 222 rfl) rfl
theorem q325 : (Jvm.Cond.selects "MiddleSheet" ({ cls := "MiddleSheet", name := "feed", desc := "(IIIII)I" } : Jvm.MethodName) ({ cls := "MiddleSheet", name := "feed", desc := "(IIIII)I" } : Jvm.MethodName)) ∈ lw_all := lw_g (lw_at lw_m1 223 rfl) rfl
theorem q326 : (Jvm.Cond.code ({ cls := "MiddleSheet", name := "feed", desc := "(IIIII)I" } : Jvm.MethodName) prog_1_method_8_code (6 : Nat) (Option.some Jvm.ClassFile.FieldType.int)) ∈ lw_all := lw_g (lw_at lw_m1 224 rfl) rfl
theorem q327 : (Jvm.Cond.methodLink "MiddleSheet" (117 : Nat) ({ cls := "MiddleSheet", name := "feeds", desc := "(I)V" } : Jvm.MethodName)) ∈ lw_all := lw_g (lw_at lw_m1 225 rfl) rfl
theorem q328 : (Jvm.Cond.privateMethod ({ cls := "MiddleSheet", name := "feeds", desc := "(I)V" } : Jvm.MethodName)) ∈ lw_tbl := lw_at lw_m1 226 rfl
theorem q329 : (Jvm.Cond.instanceMethod ({ cls := "MiddleSheet", name := "feeds", desc := "(I)V" } : Jvm.MethodName)) ∈ lw_all := lw_g (lw_at lw_m1 227 rfl) rfl
theorem q330 : (Jvm.Cond.code ({ cls := "MiddleSheet", name := "feeds", desc := "(I)V" } : Jvm.MethodName) prog_1_method_9_code (3 : Nat) (Option.none : Option Jvm.ClassFile.FieldType)) ∈ lw_all := lw_g (lw_at lw_m1 228 rfl) rfl
theorem q332 : (Jvm.Cond.instanceMethod ({ cls := "MiddleSheet", name := "end", desc := "(I)Z" } : Jvm.MethodName)) ∈ lw_all := lw_g (lw_at lw_m1 230 rfl) rfl
theorem q333 : (Jvm.Cond.selects "MiddleSheet" ({ cls := "MiddleSheet", name := "end", desc := "(I)Z" } : Jvm.MethodName) ({ cls := "MiddleSheet", name := "end", desc := "(I)Z" } : Jvm.MethodName)) ∈ lw_all := lw_g (lw_at lw_m1 231 rfl) rfl
theorem q334 : (Jvm.Cond.code ({ cls := "MiddleSheet", name := "end", desc := "(I)Z" } : Jvm.MethodName) prog_1_method_10_code (2 : Nat) (Option.some Jvm.ClassFile.FieldType.boolean)) ∈ lw_all := lw_g (lw_at lw_m1 232 rfl) rfl
theorem q335 : (Jvm.Cond.methodLink "MiddleSheet" (3 : Nat) ({ cls := "MiddleSheet", name := "in", desc := "(III)Z" } : Jvm.MethodName)) ∈ lw_all := lw_g (lw_at lw_m1 233 rfl) rfl
theorem q336 : (Jvm.Cond.static ({ cls := "MiddleSheet", name := "in", desc := "(III)Z" } : Jvm.MethodName)) ∈ lw_all := lw_g (lw_at lw_m1 234 rfl) rfl
theorem q337 : (Jvm.Cond.code ({ cls := "MiddleSheet", name := "in", desc := "(III)Z" } : Jvm.MethodName) prog_1_method_1_code (3 : Nat) (Option.some Jvm.ClassFile.FieldType.boolean)) ∈ lw_all := lw_g (lw_at lw_m1 235 rfl) rfl
theorem q339 : (Jvm.Cond.instanceMethod ({ cls := "MiddleSheet", name := "fault", desc := "()I" } : Jvm.MethodName)) ∈ lw_all := lw_g (lw_at lw_m1 237 rfl) rfl
theorem q340 : (Jvm.Cond.selects "MiddleSheet" ({ cls := "MiddleSheet", name := "fault", desc := "()I" } : Jvm.MethodName) ({ cls := "MiddleSheet", name := "fault", desc := "()I" } : Jvm.MethodName)) ∈ lw_all := lw_g (lw_at lw_m1 238 rfl) rfl
theorem q341 : (Jvm.Cond.codeWith ({ cls := "MiddleSheet", name := "fault", desc := "()I" } : Jvm.MethodName) prog_1_method_11_code (2 : Nat) (Option.some Jvm.ClassFile.FieldType.int) [((0 : Nat), (16 : Nat), (17 : Nat), (125 : Nat))]) ∈ lw_all := lw_g (lw_at lw_m1 239 rfl) rfl
theorem q342 : (Jvm.Cond.classLink "MiddleSheet" (125 : Nat) "MiddleSheet$Fault") ∈ lw_all := lw_g (lw_at lw_m2 0 rfl) rfl
theorem q343 : (Jvm.Cond.methodLink "MiddleSheet" (121 : Nat) ({ cls := "MiddleSheet$Reader", name := "read", desc := "([BI)V" } : Jvm.MethodName)) ∈ lw_all := lw_g (lw_at lw_m2 1 rfl) rfl
theorem q419 : (Jvm.Cond.fieldLinkNest "MiddleSheet" (127 : Nat) "MiddleSheet$Fault" "place" "I" "MiddleSheet") ∈ lw_tbl := lw_at lw_m2 77 rfl
theorem q585 : (Jvm.Cond.fieldLink "MiddleSheet" (144 : Nat) "MiddleSheet$Voter" "weight" "I") ∈ lw_all := lw_g (lw_at lw_m3 3 rfl) rfl
theorem q587 : (Jvm.Cond.fieldLink "MiddleSheet" (165 : Nat) "MiddleSheet$Voter" "wide" "I") ∈ lw_all := lw_g (lw_at lw_m3 5 rfl) rfl
theorem q589 : (Jvm.Cond.fieldLink "MiddleSheet" (168 : Nat) "MiddleSheet$Voter" "tall" "I") ∈ lw_all := lw_g (lw_at lw_m3 7 rfl) rfl
theorem q591 : (Jvm.Cond.fieldLink "MiddleSheet" (156 : Nat) "MiddleSheet$Voter" "x" "I") ∈ lw_all := lw_g (lw_at lw_m3 9 rfl) rfl
theorem q593 : (Jvm.Cond.fieldLink "MiddleSheet" (159 : Nat) "MiddleSheet$Voter" "y" "I") ∈ lw_all := lw_g (lw_at lw_m3 11 rfl) rfl
theorem q671 : (Jvm.Cond.selects "MiddleSheet" ({ cls := "java/lang/Object", name := "getClass", desc := "()Ljava/lang/Class;" } : Jvm.MethodName) ({ cls := "java/lang/Object", name := "getClass", desc := "()Ljava/lang/Class;" } : Jvm.MethodName)) ∈ lw_all := lw_g (lw_at lw_m3 89 rfl) rfl
theorem q705 : (Jvm.Cond.fieldLinkNest "MiddleSheet" (175 : Nat) "MiddleSheet$Place" "x" "I" "MiddleSheet") ∈ lw_tbl := lw_at lw_m3 123 rfl
theorem q707 : (Jvm.Cond.fieldLinkNest "MiddleSheet" (176 : Nat) "MiddleSheet$Place" "y" "I" "MiddleSheet") ∈ lw_tbl := lw_at lw_m3 125 rfl
theorem q727 : (Jvm.Cond.instanceMethod ({ cls := "MiddleSheet", name := "sheet", desc := "()I" } : Jvm.MethodName)) ∈ lw_all := lw_g (lw_at lw_m3 145 rfl) rfl
theorem q728 : (Jvm.Cond.selects "MiddleSheet" ({ cls := "MiddleSheet", name := "sheet", desc := "()I" } : Jvm.MethodName) ({ cls := "MiddleSheet", name := "sheet", desc := "()I" } : Jvm.MethodName)) ∈ lw_all := lw_g (lw_at lw_m3 146 rfl) rfl
theorem q729 : (Jvm.Cond.code ({ cls := "MiddleSheet", name := "sheet", desc := "()I" } : Jvm.MethodName) prog_1_method_12_code (2 : Nat) (Option.some Jvm.ClassFile.FieldType.int)) ∈ lw_all := lw_g (lw_at lw_m3 147 rfl) rfl
theorem q730 : (Jvm.Cond.methodLink "MiddleSheet" (130 : Nat) ({ cls := "MiddleSheet", name := "fault", desc := "()I" } : Jvm.MethodName)) ∈ lw_all := lw_g (lw_at lw_m3 148 rfl) rfl
theorem q731 : (Jvm.Cond.methodLink "MiddleSheet" (133 : Nat) ({ cls := "java/util/ArrayList", name := "clear", desc := "()V" } : Jvm.MethodName)) ∈ lw_all := lw_g (lw_at lw_m3 149 rfl) rfl
theorem q732 : (Jvm.Cond.methodLink "MiddleSheet" (102 : Nat) ({ cls := "java/util/ArrayList", name := "size", desc := "()I" } : Jvm.MethodName)) ∈ lw_all := lw_g (lw_at lw_m3 150 rfl) rfl
theorem q733 : (Jvm.Cond.methodLink "MiddleSheet" (106 : Nat) ({ cls := "java/util/ArrayList", name := "get", desc := "(I)Ljava/lang/Object;" } : Jvm.MethodName)) ∈ lw_all := lw_g (lw_at lw_m3 151 rfl) rfl
theorem q745 : (Jvm.Cond.classLink "MiddleSheet" (110 : Nat) "MiddleSheet$Voter") ∈ lw_all := lw_g (lw_at lw_m3 163 rfl) rfl
theorem q746 : (Jvm.Cond.methodLink "MiddleSheet" (140 : Nat) ({ cls := "java/util/ArrayList", name := "add", desc := "(Ljava/lang/Object;)Z" } : Jvm.MethodName)) ∈ lw_all := lw_g (lw_at lw_m3 164 rfl) rfl
theorem q747 : (Jvm.Cond.classLink "MiddleSheet" (112 : Nat) "MiddleSheet$Place") ∈ lw_all := lw_g (lw_at lw_m3 165 rfl) rfl
theorem q748 : (Jvm.Cond.methodLink "MiddleSheet" (149 : Nat) ({ cls := "MiddleSheet", name := "stale", desc := "()V" } : Jvm.MethodName)) ∈ lw_all := lw_g (lw_at lw_m3 166 rfl) rfl
theorem q749 : (Jvm.Cond.privateMethod ({ cls := "MiddleSheet", name := "stale", desc := "()V" } : Jvm.MethodName)) ∈ lw_tbl := lw_at lw_m3 167 rfl
theorem q750 : (Jvm.Cond.instanceMethod ({ cls := "MiddleSheet", name := "stale", desc := "()V" } : Jvm.MethodName)) ∈ lw_all := lw_g (lw_at lw_m3 168 rfl) rfl
theorem q751 : (Jvm.Cond.code ({ cls := "MiddleSheet", name := "stale", desc := "()V" } : Jvm.MethodName) prog_1_method_5_code (1 : Nat) (Option.none : Option Jvm.ClassFile.FieldType)) ∈ lw_all := lw_g (lw_at lw_m3 169 rfl) rfl
theorem q753 : (Jvm.Cond.instanceMethod ({ cls := "MiddleSheet", name := "voter", desc := "(II)I" } : Jvm.MethodName)) ∈ lw_all := lw_g (lw_at lw_m3 171 rfl) rfl
theorem q754 : (Jvm.Cond.selects "MiddleSheet" ({ cls := "MiddleSheet", name := "voter", desc := "(II)I" } : Jvm.MethodName) ({ cls := "MiddleSheet", name := "voter", desc := "(II)I" } : Jvm.MethodName)) ∈ lw_all := lw_g (lw_at lw_m3 172 rfl) rfl
theorem q755 : (Jvm.Cond.code ({ cls := "MiddleSheet", name := "voter", desc := "(II)I" } : Jvm.MethodName) prog_1_method_13_code (4 : Nat) (Option.some Jvm.ClassFile.FieldType.int)) ∈ lw_all := lw_g (lw_at lw_m3 173 rfl) rfl
theorem q756 : (Jvm.Cond.methodLink "MiddleSheet" (152 : Nat) ({ cls := "MiddleSheet", name := "voterAt", desc := "(I)LMiddleSheet$Voter;" } : Jvm.MethodName)) ∈ lw_all := lw_g (lw_at lw_m3 174 rfl) rfl
theorem q757 : (Jvm.Cond.privateMethod ({ cls := "MiddleSheet", name := "voterAt", desc := "(I)LMiddleSheet$Voter;" } : Jvm.MethodName)) ∈ lw_tbl := lw_at lw_m3 175 rfl
theorem q758 : (Jvm.Cond.instanceMethod ({ cls := "MiddleSheet", name := "voterAt", desc := "(I)LMiddleSheet$Voter;" } : Jvm.MethodName)) ∈ lw_all := lw_g (lw_at lw_m3 176 rfl) rfl
theorem q759 : (Jvm.Cond.code ({ cls := "MiddleSheet", name := "voterAt", desc := "(I)LMiddleSheet$Voter;" } : Jvm.MethodName) prog_1_method_6_code (2 : Nat) (Option.some (Jvm.ClassFile.FieldType.object "MiddleSheet$Voter"))) ∈ lw_all := lw_g (lw_at lw_m3 177 rfl) rfl
theorem q760 : (Jvm.Cond.methodLink "MiddleSheet" (162 : Nat) ({ cls := "MiddleSheet$Voter", name := "measure", desc := "()I" } : Jvm.MethodName)) ∈ lw_all := lw_g (lw_at lw_m3 178 rfl) rfl
theorem q776 : (Jvm.Cond.instanceMethod ({ cls := "MiddleSheet", name := "place", desc := "(II)I" } : Jvm.MethodName)) ∈ lw_all := lw_g (lw_at lw_m3 194 rfl) rfl
theorem q777 : (Jvm.Cond.selects "MiddleSheet" ({ cls := "MiddleSheet", name := "place", desc := "(II)I" } : Jvm.MethodName) ({ cls := "MiddleSheet", name := "place", desc := "(II)I" } : Jvm.MethodName)) ∈ lw_all := lw_g (lw_at lw_m3 195 rfl) rfl
theorem q778 : (Jvm.Cond.code ({ cls := "MiddleSheet", name := "place", desc := "(II)I" } : Jvm.MethodName) prog_1_method_14_code (4 : Nat) (Option.some Jvm.ClassFile.FieldType.int)) ∈ lw_all := lw_g (lw_at lw_m3 196 rfl) rfl
theorem q779 : (Jvm.Cond.methodLink "MiddleSheet" (171 : Nat) ({ cls := "MiddleSheet", name := "placeAt", desc := "(I)LMiddleSheet$Place;" } : Jvm.MethodName)) ∈ lw_all := lw_g (lw_at lw_m3 197 rfl) rfl
theorem q780 : (Jvm.Cond.privateMethod ({ cls := "MiddleSheet", name := "placeAt", desc := "(I)LMiddleSheet$Place;" } : Jvm.MethodName)) ∈ lw_tbl := lw_at lw_m3 198 rfl
theorem q781 : (Jvm.Cond.instanceMethod ({ cls := "MiddleSheet", name := "placeAt", desc := "(I)LMiddleSheet$Place;" } : Jvm.MethodName)) ∈ lw_all := lw_g (lw_at lw_m3 199 rfl) rfl
theorem q782 : (Jvm.Cond.code ({ cls := "MiddleSheet", name := "placeAt", desc := "(I)LMiddleSheet$Place;" } : Jvm.MethodName) prog_1_method_7_code (2 : Nat) (Option.some (Jvm.ClassFile.FieldType.object "MiddleSheet$Place"))) ∈ lw_all := lw_g (lw_at lw_m3 200 rfl) rfl
theorem q784 : (Jvm.Cond.instanceMethod ({ cls := "MiddleSheet", name := "propose", desc := "(II)I" } : Jvm.MethodName)) ∈ lw_all := lw_g (lw_at lw_m3 202 rfl) rfl
theorem q785 : (Jvm.Cond.selects "MiddleSheet" ({ cls := "MiddleSheet", name := "propose", desc := "(II)I" } : Jvm.MethodName) ({ cls := "MiddleSheet", name := "propose", desc := "(II)I" } : Jvm.MethodName)) ∈ lw_all := lw_g (lw_at lw_m3 203 rfl) rfl
theorem q786 : (Jvm.Cond.code ({ cls := "MiddleSheet", name := "propose", desc := "(II)I" } : Jvm.MethodName) prog_1_method_15_code (3 : Nat) (Option.some Jvm.ClassFile.FieldType.int)) ∈ lw_all := lw_g (lw_at lw_m3 204 rfl) rfl
theorem q787 : (Jvm.Cond.methodLink "MiddleSheet" (177 : Nat) ({ cls := "java/util/ArrayList", name := "isEmpty", desc := "()Z" } : Jvm.MethodName)) ∈ lw_all := lw_g (lw_at lw_m3 205 rfl) rfl
theorem q788 : (Jvm.Cond.methodLink "MiddleSheet" (181 : Nat) ({ cls := "MiddleSheet", name := "isPoint", desc := "(II)Z" } : Jvm.MethodName)) ∈ lw_all := lw_g (lw_at lw_m3 206 rfl) rfl
theorem q789 : (Jvm.Cond.static ({ cls := "MiddleSheet", name := "isPoint", desc := "(II)Z" } : Jvm.MethodName)) ∈ lw_all := lw_g (lw_at lw_m3 207 rfl) rfl
theorem q790 : (Jvm.Cond.code ({ cls := "MiddleSheet", name := "isPoint", desc := "(II)Z" } : Jvm.MethodName) prog_1_method_2_code (2 : Nat) (Option.some Jvm.ClassFile.FieldType.boolean)) ∈ lw_all := lw_g (lw_at lw_m3 208 rfl) rfl
theorem q791 : (Jvm.Cond.methodLink "MiddleSheet" (185 : Nat) ({ cls := "MiddleSheet$Place", name := "<init>", desc := "(II)V" } : Jvm.MethodName)) ∈ lw_all := lw_g (lw_at lw_m3 209 rfl) rfl
theorem q793 : (Jvm.Cond.instanceMethod ({ cls := "MiddleSheet", name := "way", desc := "(III)I" } : Jvm.MethodName)) ∈ lw_all := lw_g (lw_at lw_m3 211 rfl) rfl
theorem q794 : (Jvm.Cond.selects "MiddleSheet" ({ cls := "MiddleSheet", name := "way", desc := "(III)I" } : Jvm.MethodName) ({ cls := "MiddleSheet", name := "way", desc := "(III)I" } : Jvm.MethodName)) ∈ lw_all := lw_g (lw_at lw_m3 212 rfl) rfl
theorem q795 : (Jvm.Cond.code ({ cls := "MiddleSheet", name := "way", desc := "(III)I" } : Jvm.MethodName) prog_1_method_16_code (5 : Nat) (Option.some Jvm.ClassFile.FieldType.int)) ∈ lw_all := lw_g (lw_at lw_m3 213 rfl) rfl
theorem q796 : (Jvm.Cond.methodLink "MiddleSheet" (188 : Nat) ({ cls := "MiddleSheet$Voter", name := "way", desc := "(II)I" } : Jvm.MethodName)) ∈ lw_all := lw_g (lw_at lw_m3 214 rfl) rfl
theorem q832 : (Jvm.Cond.instanceMethod ({ cls := "MiddleSheet", name := "votes", desc := "(II)I" } : Jvm.MethodName)) ∈ lw_all := lw_g (lw_at lw_m4 10 rfl) rfl
theorem q833 : (Jvm.Cond.selects "MiddleSheet" ({ cls := "MiddleSheet", name := "votes", desc := "(II)I" } : Jvm.MethodName) ({ cls := "MiddleSheet", name := "votes", desc := "(II)I" } : Jvm.MethodName)) ∈ lw_all := lw_g (lw_at lw_m4 11 rfl) rfl
theorem q834 : (Jvm.Cond.code ({ cls := "MiddleSheet", name := "votes", desc := "(II)I" } : Jvm.MethodName) prog_1_method_21_code (5 : Nat) (Option.some Jvm.ClassFile.FieldType.int)) ∈ lw_all := lw_g (lw_at lw_m4 12 rfl) rfl
theorem q835 : (Jvm.Cond.methodLink "MiddleSheet" (206 : Nat) ({ cls := "MiddleSheet", name := "votesOf", desc := "(LMiddleSheet$Place;LMiddleSheet$Place;)I" } : Jvm.MethodName)) ∈ lw_all := lw_g (lw_at lw_m4 13 rfl) rfl
theorem q836 : (Jvm.Cond.privateMethod ({ cls := "MiddleSheet", name := "votesOf", desc := "(LMiddleSheet$Place;LMiddleSheet$Place;)I" } : Jvm.MethodName)) ∈ lw_tbl := lw_at lw_m4 14 rfl
theorem q837 : (Jvm.Cond.instanceMethod ({ cls := "MiddleSheet", name := "votesOf", desc := "(LMiddleSheet$Place;LMiddleSheet$Place;)I" } : Jvm.MethodName)) ∈ lw_all := lw_g (lw_at lw_m4 15 rfl) rfl
theorem q838 : (Jvm.Cond.code ({ cls := "MiddleSheet", name := "votesOf", desc := "(LMiddleSheet$Place;LMiddleSheet$Place;)I" } : Jvm.MethodName) prog_1_method_19_code (3 : Nat) (Option.some Jvm.ClassFile.FieldType.int)) ∈ lw_all := lw_g (lw_at lw_m4 16 rfl) rfl
theorem q839 : (Jvm.Cond.methodLink "MiddleSheet" (196 : Nat) ({ cls := "MiddleSheet", name := "votesFor", desc := "(IIII)I" } : Jvm.MethodName)) ∈ lw_all := lw_g (lw_at lw_m4 17 rfl) rfl
theorem q840 : (Jvm.Cond.privateMethod ({ cls := "MiddleSheet", name := "votesFor", desc := "(IIII)I" } : Jvm.MethodName)) ∈ lw_tbl := lw_at lw_m4 18 rfl
theorem q841 : (Jvm.Cond.instanceMethod ({ cls := "MiddleSheet", name := "votesFor", desc := "(IIII)I" } : Jvm.MethodName)) ∈ lw_all := lw_g (lw_at lw_m4 19 rfl) rfl
theorem q842 : (Jvm.Cond.code ({ cls := "MiddleSheet", name := "votesFor", desc := "(IIII)I" } : Jvm.MethodName) prog_1_method_17_code (7 : Nat) (Option.some Jvm.ClassFile.FieldType.int)) ∈ lw_all := lw_g (lw_at lw_m4 20 rfl) rfl
theorem q843 : (Jvm.Cond.methodLink "MiddleSheet" (192 : Nat) ({ cls := "MiddleSheet$Voter", name := "rather", desc := "(IIII)I" } : Jvm.MethodName)) ∈ lw_all := lw_g (lw_at lw_m4 21 rfl) rfl
theorem q856 : (Jvm.Cond.instanceMethod ({ cls := "MiddleSheet", name := "beats", desc := "(II)Z" } : Jvm.MethodName)) ∈ lw_all := lw_g (lw_at lw_m4 34 rfl) rfl
theorem q857 : (Jvm.Cond.selects "MiddleSheet" ({ cls := "MiddleSheet", name := "beats", desc := "(II)Z" } : Jvm.MethodName) ({ cls := "MiddleSheet", name := "beats", desc := "(II)Z" } : Jvm.MethodName)) ∈ lw_all := lw_g (lw_at lw_m4 35 rfl) rfl
theorem q858 : (Jvm.Cond.code ({ cls := "MiddleSheet", name := "beats", desc := "(II)Z" } : Jvm.MethodName) prog_1_method_22_code (5 : Nat) (Option.some Jvm.ClassFile.FieldType.boolean)) ∈ lw_all := lw_g (lw_at lw_m4 36 rfl) rfl
theorem q859 : (Jvm.Cond.methodLink "MiddleSheet" (210 : Nat) ({ cls := "MiddleSheet", name := "above", desc := "(LMiddleSheet$Place;LMiddleSheet$Place;)Z" } : Jvm.MethodName)) ∈ lw_all := lw_g (lw_at lw_m4 37 rfl) rfl
theorem q860 : (Jvm.Cond.privateMethod ({ cls := "MiddleSheet", name := "above", desc := "(LMiddleSheet$Place;LMiddleSheet$Place;)Z" } : Jvm.MethodName)) ∈ lw_tbl := lw_at lw_m4 38 rfl
theorem q861 : (Jvm.Cond.instanceMethod ({ cls := "MiddleSheet", name := "above", desc := "(LMiddleSheet$Place;LMiddleSheet$Place;)Z" } : Jvm.MethodName)) ∈ lw_all := lw_g (lw_at lw_m4 39 rfl) rfl
theorem q862 : (Jvm.Cond.code ({ cls := "MiddleSheet", name := "above", desc := "(LMiddleSheet$Place;LMiddleSheet$Place;)Z" } : Jvm.MethodName) prog_1_method_20_code (3 : Nat) (Option.some Jvm.ClassFile.FieldType.boolean)) ∈ lw_all := lw_g (lw_at lw_m4 40 rfl) rfl
theorem q863 : (Jvm.Cond.methodLink "MiddleSheet" (202 : Nat) ({ cls := "MiddleSheet", name := "isBeaten", desc := "(IIII)Z" } : Jvm.MethodName)) ∈ lw_all := lw_g (lw_at lw_m4 41 rfl) rfl
theorem q864 : (Jvm.Cond.privateMethod ({ cls := "MiddleSheet", name := "isBeaten", desc := "(IIII)Z" } : Jvm.MethodName)) ∈ lw_tbl := lw_at lw_m4 42 rfl
theorem q865 : (Jvm.Cond.instanceMethod ({ cls := "MiddleSheet", name := "isBeaten", desc := "(IIII)Z" } : Jvm.MethodName)) ∈ lw_all := lw_g (lw_at lw_m4 43 rfl) rfl
theorem q866 : (Jvm.Cond.code ({ cls := "MiddleSheet", name := "isBeaten", desc := "(IIII)Z" } : Jvm.MethodName) prog_1_method_18_code (5 : Nat) (Option.some Jvm.ClassFile.FieldType.boolean)) ∈ lw_all := lw_g (lw_at lw_m4 44 rfl) rfl
theorem q867 : (Jvm.Cond.methodLink "MiddleSheet" (199 : Nat) ({ cls := "MiddleSheet$Bar", name := "wins", desc := "(III)Z" } : Jvm.MethodName)) ∈ lw_all := lw_g (lw_at lw_m4 45 rfl) rfl
theorem q872 : (Jvm.Cond.instanceMethod ({ cls := "MiddleSheet", name := "wins", desc := "(II)Z" } : Jvm.MethodName)) ∈ lw_all := lw_g (lw_at lw_m4 50 rfl) rfl
theorem q873 : (Jvm.Cond.selects "MiddleSheet" ({ cls := "MiddleSheet", name := "wins", desc := "(II)Z" } : Jvm.MethodName) ({ cls := "MiddleSheet", name := "wins", desc := "(II)Z" } : Jvm.MethodName)) ∈ lw_all := lw_g (lw_at lw_m4 51 rfl) rfl
theorem q874 : (Jvm.Cond.code ({ cls := "MiddleSheet", name := "wins", desc := "(II)Z" } : Jvm.MethodName) prog_1_method_23_code (3 : Nat) (Option.some Jvm.ClassFile.FieldType.boolean)) ∈ lw_all := lw_g (lw_at lw_m4 52 rfl) rfl
theorem q876 : (Jvm.Cond.instanceMethod ({ cls := "MiddleSheet", name := "line", desc := "(II)I" } : Jvm.MethodName)) ∈ lw_all := lw_g (lw_at lw_m4 54 rfl) rfl
theorem q877 : (Jvm.Cond.selects "MiddleSheet" ({ cls := "MiddleSheet", name := "line", desc := "(II)I" } : Jvm.MethodName) ({ cls := "MiddleSheet", name := "line", desc := "(II)I" } : Jvm.MethodName)) ∈ lw_all := lw_g (lw_at lw_m4 55 rfl) rfl
theorem q878 : (Jvm.Cond.code ({ cls := "MiddleSheet", name := "line", desc := "(II)I" } : Jvm.MethodName) prog_1_method_26_code (4 : Nat) (Option.some Jvm.ClassFile.FieldType.int)) ∈ lw_all := lw_g (lw_at lw_m4 56 rfl) rfl
theorem q879 : (Jvm.Cond.methodLink "MiddleSheet" (236 : Nat) ({ cls := "MiddleSheet", name := "findLines", desc := "()V" } : Jvm.MethodName)) ∈ lw_all := lw_g (lw_at lw_m4 57 rfl) rfl
theorem q880 : (Jvm.Cond.privateMethod ({ cls := "MiddleSheet", name := "findLines", desc := "()V" } : Jvm.MethodName)) ∈ lw_tbl := lw_at lw_m4 58 rfl
theorem q881 : (Jvm.Cond.instanceMethod ({ cls := "MiddleSheet", name := "findLines", desc := "()V" } : Jvm.MethodName)) ∈ lw_all := lw_g (lw_at lw_m4 59 rfl) rfl
theorem q882 : (Jvm.Cond.code ({ cls := "MiddleSheet", name := "findLines", desc := "()V" } : Jvm.MethodName) prog_1_method_25_code (7 : Nat) (Option.none : Option Jvm.ClassFile.FieldType)) ∈ lw_all := lw_g (lw_at lw_m4 60 rfl) rfl
theorem q883 : (Jvm.Cond.classLink "MiddleSheet" (215 : Nat) "MiddleSheet$Line") ∈ lw_all := lw_g (lw_at lw_m4 61 rfl) rfl
theorem q885 : (Jvm.Cond.methodLink "MiddleSheet" (220 : Nat) ({ cls := "MiddleSheet$Line", name := "<init>", desc := "(IIII)V" } : Jvm.MethodName)) ∈ lw_all := lw_g (lw_at lw_m4 63 rfl) rfl
theorem q890 : (Jvm.Cond.static ({ cls := "MiddleSheet", name := "common", desc := "(JJ)J" } : Jvm.MethodName)) ∈ lw_all := lw_g (lw_at lw_m4 68 rfl) rfl
theorem q891 : (Jvm.Cond.code ({ cls := "MiddleSheet", name := "common", desc := "(JJ)J" } : Jvm.MethodName) prog_1_method_3_code (10 : Nat) (Option.some Jvm.ClassFile.FieldType.long)) ∈ lw_all := lw_g (lw_at lw_m4 69 rfl) rfl
theorem q892 : (Jvm.Cond.methodLink "MiddleSheet" (7 : Nat) ({ cls := "java/lang/Math", name := "abs", desc := "(J)J" } : Jvm.MethodName)) ∈ lw_all := lw_g (lw_at lw_m4 70 rfl) rfl
theorem q897 : (Jvm.Cond.fieldLinkNest "MiddleSheet" (240 : Nat) "MiddleSheet$Line" "a" "J" "MiddleSheet") ∈ lw_tbl := lw_at lw_m4 75 rfl
theorem q900 : (Jvm.Cond.fieldLinkNest "MiddleSheet" (244 : Nat) "MiddleSheet$Line" "b" "J" "MiddleSheet") ∈ lw_tbl := lw_at lw_m4 78 rfl
theorem q903 : (Jvm.Cond.fieldLinkNest "MiddleSheet" (247 : Nat) "MiddleSheet$Line" "c" "J" "MiddleSheet") ∈ lw_tbl := lw_at lw_m4 81 rfl
theorem q911 : (Jvm.Cond.methodLink "MiddleSheet" (223 : Nat) ({ cls := "MiddleSheet$Line", name := "isAhead", desc := "(LMiddleSheet$Line;)Z" } : Jvm.MethodName)) ∈ lw_all := lw_g (lw_at lw_m4 89 rfl) rfl
theorem q915 : (Jvm.Cond.methodLink "MiddleSheet" (227 : Nat) ({ cls := "MiddleSheet$Line", name := "isSame", desc := "(LMiddleSheet$Line;)Z" } : Jvm.MethodName)) ∈ lw_all := lw_g (lw_at lw_m4 93 rfl) rfl
theorem q919 : (Jvm.Cond.methodLink "MiddleSheet" (230 : Nat) ({ cls := "MiddleSheet", name := "halves", desc := "(LMiddleSheet$Line;)Z" } : Jvm.MethodName)) ∈ lw_all := lw_g (lw_at lw_m4 97 rfl) rfl
theorem q920 : (Jvm.Cond.privateMethod ({ cls := "MiddleSheet", name := "halves", desc := "(LMiddleSheet$Line;)Z" } : Jvm.MethodName)) ∈ lw_tbl := lw_at lw_m4 98 rfl
theorem q921 : (Jvm.Cond.instanceMethod ({ cls := "MiddleSheet", name := "halves", desc := "(LMiddleSheet$Line;)Z" } : Jvm.MethodName)) ∈ lw_all := lw_g (lw_at lw_m4 99 rfl) rfl
theorem q922 : (Jvm.Cond.code ({ cls := "MiddleSheet", name := "halves", desc := "(LMiddleSheet$Line;)Z" } : Jvm.MethodName) prog_1_method_24_code (7 : Nat) (Option.some Jvm.ClassFile.FieldType.boolean)) ∈ lw_all := lw_g (lw_at lw_m4 100 rfl) rfl
theorem q923 : (Jvm.Cond.methodLink "MiddleSheet" (214 : Nat) ({ cls := "MiddleSheet$Line", name := "side", desc := "(JJ)I" } : Jvm.MethodName)) ∈ lw_all := lw_g (lw_at lw_m4 101 rfl) rfl
theorem q930 : (Jvm.Cond.methodLink "MiddleSheet" (233 : Nat) ({ cls := "java/util/ArrayList", name := "add", desc := "(ILjava/lang/Object;)V" } : Jvm.MethodName)) ∈ lw_all := lw_g (lw_at lw_m4 108 rfl) rfl
theorem q939 : (Jvm.Cond.constant "MiddleSheet" (239 : Nat) (-2147483648 : Int32)) ∈ lw_all := lw_g (lw_at lw_m4 117 rfl) rfl
theorem q941 : (Jvm.Cond.instanceMethod ({ cls := "MiddleSheet", name := "middle", desc := "(II)I" } : Jvm.MethodName)) ∈ lw_all := lw_g (lw_at lw_m4 119 rfl) rfl
theorem q942 : (Jvm.Cond.selects "MiddleSheet" ({ cls := "MiddleSheet", name := "middle", desc := "(II)I" } : Jvm.MethodName) ({ cls := "MiddleSheet", name := "middle", desc := "(II)I" } : Jvm.MethodName)) ∈ lw_all := lw_g (lw_at lw_m4 120 rfl) rfl
theorem q943 : (Jvm.Cond.code ({ cls := "MiddleSheet", name := "middle", desc := "(II)I" } : Jvm.MethodName) prog_1_method_31_code (4 : Nat) (Option.some Jvm.ClassFile.FieldType.int)) ∈ lw_all := lw_g (lw_at lw_m4 121 rfl) rfl
theorem q944 : (Jvm.Cond.methodLink "MiddleSheet" (290 : Nat) ({ cls := "MiddleSheet", name := "findMiddles", desc := "()V" } : Jvm.MethodName)) ∈ lw_all := lw_g (lw_at lw_m4 122 rfl) rfl
theorem q945 : (Jvm.Cond.privateMethod ({ cls := "MiddleSheet", name := "findMiddles", desc := "()V" } : Jvm.MethodName)) ∈ lw_tbl := lw_at lw_m4 123 rfl
theorem q946 : (Jvm.Cond.instanceMethod ({ cls := "MiddleSheet", name := "findMiddles", desc := "()V" } : Jvm.MethodName)) ∈ lw_all := lw_g (lw_at lw_m4 124 rfl) rfl
theorem q947 : (Jvm.Cond.code ({ cls := "MiddleSheet", name := "findMiddles", desc := "()V" } : Jvm.MethodName) prog_1_method_29_code (3 : Nat) (Option.none : Option Jvm.ClassFile.FieldType)) ∈ lw_all := lw_g (lw_at lw_m4 125 rfl) rfl
theorem q948 : (Jvm.Cond.classLink "MiddleSheet" (251 : Nat) "MiddleSheet$Spot") ∈ lw_all := lw_g (lw_at lw_m4 126 rfl) rfl
theorem q950 : (Jvm.Cond.methodLink "MiddleSheet" (270 : Nat) ({ cls := "MiddleSheet$Spot", name := "<init>", desc := "(JJJ)V" } : Jvm.MethodName)) ∈ lw_all := lw_g (lw_at lw_m4 128 rfl) rfl
theorem q956 : (Jvm.Cond.fieldLinkNest "MiddleSheet" (255 : Nat) "MiddleSheet$Spot" "x" "J" "MiddleSheet") ∈ lw_tbl := lw_at lw_m4 134 rfl
theorem q958 : (Jvm.Cond.fieldLinkNest "MiddleSheet" (257 : Nat) "MiddleSheet$Spot" "y" "J" "MiddleSheet") ∈ lw_tbl := lw_at lw_m4 136 rfl
theorem q960 : (Jvm.Cond.fieldLinkNest "MiddleSheet" (250 : Nat) "MiddleSheet$Spot" "n" "J" "MiddleSheet") ∈ lw_tbl := lw_at lw_m4 138 rfl
theorem q968 : (Jvm.Cond.methodLink "MiddleSheet" (273 : Nat) ({ cls := "MiddleSheet", name := "comes", desc := "(LMiddleSheet$Spot;)V" } : Jvm.MethodName)) ∈ lw_all := lw_g (lw_at lw_m4 146 rfl) rfl
theorem q969 : (Jvm.Cond.privateMethod ({ cls := "MiddleSheet", name := "comes", desc := "(LMiddleSheet$Spot;)V" } : Jvm.MethodName)) ∈ lw_tbl := lw_at lw_m4 147 rfl
theorem q970 : (Jvm.Cond.instanceMethod ({ cls := "MiddleSheet", name := "comes", desc := "(LMiddleSheet$Spot;)V" } : Jvm.MethodName)) ∈ lw_all := lw_g (lw_at lw_m4 148 rfl) rfl
theorem q971 : (Jvm.Cond.code ({ cls := "MiddleSheet", name := "comes", desc := "(LMiddleSheet$Spot;)V" } : Jvm.MethodName) prog_1_method_28_code (3 : Nat) (Option.none : Option Jvm.ClassFile.FieldType)) ∈ lw_all := lw_g (lw_at lw_m4 149 rfl) rfl
theorem q972 : (Jvm.Cond.methodLink "MiddleSheet" (262 : Nat) ({ cls := "MiddleSheet$Spot", name := "isAhead", desc := "(LMiddleSheet$Spot;)Z" } : Jvm.MethodName)) ∈ lw_all := lw_g (lw_at lw_m4 150 rfl) rfl
theorem q976 : (Jvm.Cond.methodLink "MiddleSheet" (265 : Nat) ({ cls := "MiddleSheet$Spot", name := "isSame", desc := "(LMiddleSheet$Spot;)Z" } : Jvm.MethodName)) ∈ lw_all := lw_g (lw_at lw_m4 154 rfl) rfl
theorem q980 : (Jvm.Cond.methodLink "MiddleSheet" (267 : Nat) ({ cls := "MiddleSheet", name := "isMiddle", desc := "(LMiddleSheet$Spot;)Z" } : Jvm.MethodName)) ∈ lw_all := lw_g (lw_at lw_m4 158 rfl) rfl
theorem q981 : (Jvm.Cond.privateMethod ({ cls := "MiddleSheet", name := "isMiddle", desc := "(LMiddleSheet$Spot;)Z" } : Jvm.MethodName)) ∈ lw_tbl := lw_at lw_m4 159 rfl
theorem q982 : (Jvm.Cond.instanceMethod ({ cls := "MiddleSheet", name := "isMiddle", desc := "(LMiddleSheet$Spot;)Z" } : Jvm.MethodName)) ∈ lw_all := lw_g (lw_at lw_m4 160 rfl) rfl
theorem q983 : (Jvm.Cond.code ({ cls := "MiddleSheet", name := "isMiddle", desc := "(LMiddleSheet$Spot;)Z" } : Jvm.MethodName) prog_1_method_27_code (18 : Nat) (Option.some Jvm.ClassFile.FieldType.boolean)) ∈ lw_all := lw_g (lw_at lw_m4 161 rfl) rfl
theorem q984 : (Jvm.Cond.methodLink "MiddleSheet" (259 : Nat) ({ cls := "java/lang/Math", name := "max", desc := "(II)I" } : Jvm.MethodName)) ∈ lw_all := lw_g (lw_at lw_m4 162 rfl) rfl
theorem q985 : (Jvm.Cond.methodLink "MiddleSheet" (277 : Nat) ({ cls := "MiddleSheet$Line", name := "isAlong", desc := "(LMiddleSheet$Line;)Z" } : Jvm.MethodName)) ∈ lw_all := lw_g (lw_at lw_m4 163 rfl) rfl
theorem q989 : (Jvm.Cond.methodLink "MiddleSheet" (280 : Nat) ({ cls := "MiddleSheet$Spot", name := "crossing", desc := "(LMiddleSheet$Line;LMiddleSheet$Line;)LMiddleSheet$Spot;" } : Jvm.MethodName)) ∈ lw_all := lw_g (lw_at lw_m4 167 rfl) rfl
theorem q994 : (Jvm.Cond.methodLink "MiddleSheet" (284 : Nat) ({ cls := "MiddleSheet", name := "proves", desc := "()V" } : Jvm.MethodName)) ∈ lw_all := lw_g (lw_at lw_m4 172 rfl) rfl
theorem q995 : (Jvm.Cond.privateMethod ({ cls := "MiddleSheet", name := "proves", desc := "()V" } : Jvm.MethodName)) ∈ lw_tbl := lw_at lw_m4 173 rfl
theorem q996 : (Jvm.Cond.instanceMethod ({ cls := "MiddleSheet", name := "proves", desc := "()V" } : Jvm.MethodName)) ∈ lw_all := lw_g (lw_at lw_m4 174 rfl) rfl
theorem q997 : (Jvm.Cond.code ({ cls := "MiddleSheet", name := "proves", desc := "()V" } : Jvm.MethodName) prog_1_method_30_code (6 : Nat) (Option.none : Option Jvm.ClassFile.FieldType)) ∈ lw_all := lw_g (lw_at lw_m4 175 rfl) rfl
theorem q998 : (Jvm.Cond.methodLink "MiddleSheet" (287 : Nat) ({ cls := "MiddleSheet$Spot", name := "isOn", desc := "(LMiddleSheet$Line;)Z" } : Jvm.MethodName)) ∈ lw_all := lw_g (lw_at lw_m4 176 rfl) rfl
theorem q1003 : (Jvm.Cond.instanceMethod ({ cls := "MiddleSheet", name := "proof", desc := "(I)I" } : Jvm.MethodName)) ∈ lw_all := lw_g (lw_at lw_m4 181 rfl) rfl
theorem q1004 : (Jvm.Cond.selects "MiddleSheet" ({ cls := "MiddleSheet", name := "proof", desc := "(I)I" } : Jvm.MethodName) ({ cls := "MiddleSheet", name := "proof", desc := "(I)I" } : Jvm.MethodName)) ∈ lw_all := lw_g (lw_at lw_m4 182 rfl) rfl
theorem q1005 : (Jvm.Cond.code ({ cls := "MiddleSheet", name := "proof", desc := "(I)I" } : Jvm.MethodName) prog_1_method_32_code (2 : Nat) (Option.some Jvm.ClassFile.FieldType.int)) ∈ lw_all := lw_g (lw_at lw_m4 183 rfl) rfl
theorem q1007 : (Jvm.Cond.instanceMethod ({ cls := "MiddleSheet", name := "round", desc := "(I)I" } : Jvm.MethodName)) ∈ lw_all := lw_g (lw_at lw_m4 185 rfl) rfl
theorem q1008 : (Jvm.Cond.selects "MiddleSheet" ({ cls := "MiddleSheet", name := "round", desc := "(I)I" } : Jvm.MethodName) ({ cls := "MiddleSheet", name := "round", desc := "(I)I" } : Jvm.MethodName)) ∈ lw_all := lw_g (lw_at lw_m4 186 rfl) rfl
theorem q1009 : (Jvm.Cond.code ({ cls := "MiddleSheet", name := "round", desc := "(I)I" } : Jvm.MethodName) prog_1_method_34_code (2 : Nat) (Option.some Jvm.ClassFile.FieldType.int)) ∈ lw_all := lw_g (lw_at lw_m4 187 rfl) rfl
theorem q1010 : (Jvm.Cond.methodLink "MiddleSheet" (311 : Nat) ({ cls := "MiddleSheet", name := "findRound", desc := "()V" } : Jvm.MethodName)) ∈ lw_all := lw_g (lw_at lw_m4 188 rfl) rfl
theorem q1011 : (Jvm.Cond.privateMethod ({ cls := "MiddleSheet", name := "findRound", desc := "()V" } : Jvm.MethodName)) ∈ lw_tbl := lw_at lw_m4 189 rfl
theorem q1012 : (Jvm.Cond.instanceMethod ({ cls := "MiddleSheet", name := "findRound", desc := "()V" } : Jvm.MethodName)) ∈ lw_all := lw_g (lw_at lw_m4 190 rfl) rfl
theorem q1013 : (Jvm.Cond.code ({ cls := "MiddleSheet", name := "findRound", desc := "()V" } : Jvm.MethodName) prog_1_method_33_code (13 : Nat) (Option.none : Option Jvm.ClassFile.FieldType)) ∈ lw_all := lw_g (lw_at lw_m4 191 rfl) rfl
theorem q1014 : (Jvm.Cond.constantLong "MiddleSheet" (293 : Nat) (-1 : Int64)) ∈ lw_all := lw_g (lw_at lw_m4 192 rfl) rfl
theorem q1015 : (Jvm.Cond.methodLink "MiddleSheet" (307 : Nat) ({ cls := "MiddleSheet", name := "common", desc := "(JJ)J" } : Jvm.MethodName)) ∈ lw_all := lw_g (lw_at lw_m4 193 rfl) rfl
theorem q1017 : (Jvm.Cond.instanceMethod ({ cls := "MiddleSheet", name := "winSet", desc := "(III)I" } : Jvm.MethodName)) ∈ lw_all := lw_g (lw_at lw_m4 195 rfl) rfl
theorem q1018 : (Jvm.Cond.selects "MiddleSheet" ({ cls := "MiddleSheet", name := "winSet", desc := "(III)I" } : Jvm.MethodName) ({ cls := "MiddleSheet", name := "winSet", desc := "(III)I" } : Jvm.MethodName)) ∈ lw_all := lw_g (lw_at lw_m4 196 rfl) rfl
theorem q1019 : (Jvm.Cond.code ({ cls := "MiddleSheet", name := "winSet", desc := "(III)I" } : Jvm.MethodName) prog_1_method_38_code (4 : Nat) (Option.some Jvm.ClassFile.FieldType.int)) ∈ lw_all := lw_g (lw_at lw_m4 197 rfl) rfl
theorem q1020 : (Jvm.Cond.methodLink "MiddleSheet" (327 : Nat) ({ cls := "MiddleSheet", name := "findPieces", desc := "(II)V" } : Jvm.MethodName)) ∈ lw_all := lw_g (lw_at lw_m4 198 rfl) rfl
theorem q1021 : (Jvm.Cond.privateMethod ({ cls := "MiddleSheet", name := "findPieces", desc := "(II)V" } : Jvm.MethodName)) ∈ lw_tbl := lw_at lw_m4 199 rfl
theorem q1022 : (Jvm.Cond.instanceMethod ({ cls := "MiddleSheet", name := "findPieces", desc := "(II)V" } : Jvm.MethodName)) ∈ lw_all := lw_g (lw_at lw_m4 200 rfl) rfl
theorem q1023 : (Jvm.Cond.code ({ cls := "MiddleSheet", name := "findPieces", desc := "(II)V" } : Jvm.MethodName) prog_1_method_35_code (5 : Nat) (Option.none : Option Jvm.ClassFile.FieldType)) ∈ lw_all := lw_g (lw_at lw_m4 201 rfl) rfl
theorem q1024 : (Jvm.Cond.methodLink "MiddleSheet" (320 : Nat) ({ cls := "MiddleSheet", name := "fills", desc := "(I)V" } : Jvm.MethodName)) ∈ lw_all := lw_g (lw_at lw_m4 202 rfl) rfl
theorem q1025 : (Jvm.Cond.privateMethod ({ cls := "MiddleSheet", name := "fills", desc := "(I)V" } : Jvm.MethodName)) ∈ lw_tbl := lw_at lw_m4 203 rfl
theorem q1026 : (Jvm.Cond.instanceMethod ({ cls := "MiddleSheet", name := "fills", desc := "(I)V" } : Jvm.MethodName)) ∈ lw_all := lw_g (lw_at lw_m4 204 rfl) rfl
theorem q1027 : (Jvm.Cond.code ({ cls := "MiddleSheet", name := "fills", desc := "(I)V" } : Jvm.MethodName) prog_1_method_36_code (6 : Nat) (Option.none : Option Jvm.ClassFile.FieldType)) ∈ lw_all := lw_g (lw_at lw_m4 205 rfl) rfl
theorem q1028 : (Jvm.Cond.methodLink "MiddleSheet" (323 : Nat) ({ cls := "MiddleSheet", name := "spreads", desc := "(III)I" } : Jvm.MethodName)) ∈ lw_all := lw_g (lw_at lw_m4 206 rfl) rfl
theorem q1029 : (Jvm.Cond.privateMethod ({ cls := "MiddleSheet", name := "spreads", desc := "(III)I" } : Jvm.MethodName)) ∈ lw_tbl := lw_at lw_m4 207 rfl
theorem q1030 : (Jvm.Cond.instanceMethod ({ cls := "MiddleSheet", name := "spreads", desc := "(III)I" } : Jvm.MethodName)) ∈ lw_all := lw_g (lw_at lw_m4 208 rfl) rfl
theorem q1031 : (Jvm.Cond.code ({ cls := "MiddleSheet", name := "spreads", desc := "(III)I" } : Jvm.MethodName) prog_1_method_37_code (4 : Nat) (Option.some Jvm.ClassFile.FieldType.int)) ∈ lw_all := lw_g (lw_at lw_m4 209 rfl) rfl
theorem q1033 : (Jvm.Cond.instanceMethod ({ cls := "MiddleSheet", name := "piece", desc := "(IIII)I" } : Jvm.MethodName)) ∈ lw_all := lw_g (lw_at lw_m4 211 rfl) rfl
theorem q1034 : (Jvm.Cond.selects "MiddleSheet" ({ cls := "MiddleSheet", name := "piece", desc := "(IIII)I" } : Jvm.MethodName) ({ cls := "MiddleSheet", name := "piece", desc := "(IIII)I" } : Jvm.MethodName)) ∈ lw_all := lw_g (lw_at lw_m4 212 rfl) rfl
theorem q1035 : (Jvm.Cond.code ({ cls := "MiddleSheet", name := "piece", desc := "(IIII)I" } : Jvm.MethodName) prog_1_method_39_code (5 : Nat) (Option.some Jvm.ClassFile.FieldType.int)) ∈ lw_all := lw_g (lw_at lw_m4 213 rfl) rfl
theorem q1037 : (Jvm.Cond.instanceMethod ({ cls := "MiddleSheet", name := "led", desc := "(III)I" } : Jvm.MethodName)) ∈ lw_all := lw_g (lw_at lw_m4 215 rfl) rfl
theorem q1038 : (Jvm.Cond.selects "MiddleSheet" ({ cls := "MiddleSheet", name := "led", desc := "(III)I" } : Jvm.MethodName) ({ cls := "MiddleSheet", name := "led", desc := "(III)I" } : Jvm.MethodName)) ∈ lw_all := lw_g (lw_at lw_m4 216 rfl) rfl
theorem q1039 : (Jvm.Cond.code ({ cls := "MiddleSheet", name := "led", desc := "(III)I" } : Jvm.MethodName) prog_1_method_41_code (7 : Nat) (Option.some Jvm.ClassFile.FieldType.int)) ∈ lw_all := lw_g (lw_at lw_m4 217 rfl) rfl
theorem q1040 : (Jvm.Cond.methodLink "MiddleSheet" (330 : Nat) ({ cls := "MiddleSheet", name := "findSteps", desc := "(I)V" } : Jvm.MethodName)) ∈ lw_all := lw_g (lw_at lw_m4 218 rfl) rfl
theorem q1041 : (Jvm.Cond.privateMethod ({ cls := "MiddleSheet", name := "findSteps", desc := "(I)V" } : Jvm.MethodName)) ∈ lw_tbl := lw_at lw_m4 219 rfl
theorem q1042 : (Jvm.Cond.instanceMethod ({ cls := "MiddleSheet", name := "findSteps", desc := "(I)V" } : Jvm.MethodName)) ∈ lw_all := lw_g (lw_at lw_m4 220 rfl) rfl
theorem q1043 : (Jvm.Cond.code ({ cls := "MiddleSheet", name := "findSteps", desc := "(I)V" } : Jvm.MethodName) prog_1_method_40_code (5 : Nat) (Option.none : Option Jvm.ClassFile.FieldType)) ∈ lw_all := lw_g (lw_at lw_m4 221 rfl) rfl
theorem q1045 : (Jvm.Cond.instanceMethod ({ cls := "MiddleSheet", name := "best", desc := "(I)I" } : Jvm.MethodName)) ∈ lw_all := lw_g (lw_at lw_m4 223 rfl) rfl
theorem q1046 : (Jvm.Cond.selects "MiddleSheet" ({ cls := "MiddleSheet", name := "best", desc := "(I)I" } : Jvm.MethodName) ({ cls := "MiddleSheet", name := "best", desc := "(I)I" } : Jvm.MethodName)) ∈ lw_all := lw_g (lw_at lw_m4 224 rfl) rfl
theorem q1047 : (Jvm.Cond.code ({ cls := "MiddleSheet", name := "best", desc := "(I)I" } : Jvm.MethodName) prog_1_method_45_code (4 : Nat) (Option.some Jvm.ClassFile.FieldType.int)) ∈ lw_all := lw_g (lw_at lw_m4 225 rfl) rfl
theorem q1048 : (Jvm.Cond.methodLink "MiddleSheet" (336 : Nat) ({ cls := "MiddleSheet", name := "reaches", desc := "(I)Z" } : Jvm.MethodName)) ∈ lw_all := lw_g (lw_at lw_m4 226 rfl) rfl
theorem q1049 : (Jvm.Cond.privateMethod ({ cls := "MiddleSheet", name := "reaches", desc := "(I)Z" } : Jvm.MethodName)) ∈ lw_tbl := lw_at lw_m4 227 rfl
theorem q1050 : (Jvm.Cond.instanceMethod ({ cls := "MiddleSheet", name := "reaches", desc := "(I)Z" } : Jvm.MethodName)) ∈ lw_all := lw_g (lw_at lw_m4 228 rfl) rfl
theorem q1051 : (Jvm.Cond.code ({ cls := "MiddleSheet", name := "reaches", desc := "(I)Z" } : Jvm.MethodName) prog_1_method_42_code (3 : Nat) (Option.some Jvm.ClassFile.FieldType.boolean)) ∈ lw_all := lw_g (lw_at lw_m4 229 rfl) rfl
theorem q1052 : (Jvm.Cond.methodLink "MiddleSheet" (340 : Nat) ({ cls := "MiddleSheet", name := "isOpen", desc := "(I)Z" } : Jvm.MethodName)) ∈ lw_all := lw_g (lw_at lw_m4 230 rfl) rfl
theorem q1053 : (Jvm.Cond.privateMethod ({ cls := "MiddleSheet", name := "isOpen", desc := "(I)Z" } : Jvm.MethodName)) ∈ lw_tbl := lw_at lw_m4 231 rfl
theorem q1054 : (Jvm.Cond.instanceMethod ({ cls := "MiddleSheet", name := "isOpen", desc := "(I)Z" } : Jvm.MethodName)) ∈ lw_all := lw_g (lw_at lw_m4 232 rfl) rfl
theorem q1055 : (Jvm.Cond.code ({ cls := "MiddleSheet", name := "isOpen", desc := "(I)Z" } : Jvm.MethodName) prog_1_method_44_code (3 : Nat) (Option.some Jvm.ClassFile.FieldType.boolean)) ∈ lw_all := lw_g (lw_at lw_m4 233 rfl) rfl
theorem q1056 : (Jvm.Cond.methodLink "MiddleSheet" (333 : Nat) ({ cls := "MiddleSheet", name := "covers", desc := "(LMiddleSheet$Place;LMiddleSheet$Place;)Z" } : Jvm.MethodName)) ∈ lw_all := lw_g (lw_at lw_m4 234 rfl) rfl
theorem q1057 : (Jvm.Cond.privateMethod ({ cls := "MiddleSheet", name := "covers", desc := "(LMiddleSheet$Place;LMiddleSheet$Place;)Z" } : Jvm.MethodName)) ∈ lw_tbl := lw_at lw_m4 235 rfl
theorem q1058 : (Jvm.Cond.instanceMethod ({ cls := "MiddleSheet", name := "covers", desc := "(LMiddleSheet$Place;LMiddleSheet$Place;)Z" } : Jvm.MethodName)) ∈ lw_all := lw_g (lw_at lw_m4 236 rfl) rfl
theorem q1059 : (Jvm.Cond.code ({ cls := "MiddleSheet", name := "covers", desc := "(LMiddleSheet$Place;LMiddleSheet$Place;)Z" } : Jvm.MethodName) prog_1_method_43_code (4 : Nat) (Option.some Jvm.ClassFile.FieldType.boolean)) ∈ lw_all := lw_g (lw_at lw_m4 237 rfl) rfl
theorem q1061 : (Jvm.Cond.instanceMethod ({ cls := "MiddleSheet", name := "between", desc := "(II)I" } : Jvm.MethodName)) ∈ lw_all := lw_g (lw_at lw_m4 239 rfl) rfl
theorem q1062 : (Jvm.Cond.selects "MiddleSheet" ({ cls := "MiddleSheet", name := "between", desc := "(II)I" } : Jvm.MethodName) ({ cls := "MiddleSheet", name := "between", desc := "(II)I" } : Jvm.MethodName)) ∈ lw_all := lw_g (lw_at lw_m5 0 rfl) rfl
theorem q1063 : (Jvm.Cond.code ({ cls := "MiddleSheet", name := "between", desc := "(II)I" } : Jvm.MethodName) prog_1_method_46_code (6 : Nat) (Option.some Jvm.ClassFile.FieldType.int)) ∈ lw_all := lw_g (lw_at lw_m5 1 rfl) rfl
theorem q1065 : (Jvm.Cond.instanceMethod ({ cls := "MiddleSheet", name := "rest", desc := "()I" } : Jvm.MethodName)) ∈ lw_all := lw_g (lw_at lw_m5 3 rfl) rfl
theorem q1066 : (Jvm.Cond.selects "MiddleSheet" ({ cls := "MiddleSheet", name := "rest", desc := "()I" } : Jvm.MethodName) ({ cls := "MiddleSheet", name := "rest", desc := "()I" } : Jvm.MethodName)) ∈ lw_all := lw_g (lw_at lw_m5 4 rfl) rfl
theorem q1067 : (Jvm.Cond.code ({ cls := "MiddleSheet", name := "rest", desc := "()I" } : Jvm.MethodName) prog_1_method_48_code (5 : Nat) (Option.some Jvm.ClassFile.FieldType.int)) ∈ lw_all := lw_g (lw_at lw_m5 5 rfl) rfl
theorem q1068 : (Jvm.Cond.methodLink "MiddleSheet" (346 : Nat) ({ cls := "MiddleSheet", name := "gains", desc := "()I" } : Jvm.MethodName)) ∈ lw_all := lw_g (lw_at lw_m5 6 rfl) rfl
theorem q1069 : (Jvm.Cond.privateMethod ({ cls := "MiddleSheet", name := "gains", desc := "()I" } : Jvm.MethodName)) ∈ lw_tbl := lw_at lw_m5 7 rfl
theorem q1070 : (Jvm.Cond.instanceMethod ({ cls := "MiddleSheet", name := "gains", desc := "()I" } : Jvm.MethodName)) ∈ lw_all := lw_g (lw_at lw_m5 8 rfl) rfl
theorem q1071 : (Jvm.Cond.code ({ cls := "MiddleSheet", name := "gains", desc := "()I" } : Jvm.MethodName) prog_1_method_47_code (4 : Nat) (Option.some Jvm.ClassFile.FieldType.int)) ∈ lw_all := lw_g (lw_at lw_m5 9 rfl) rfl
theorem q1072 : (Jvm.Cond.methodLink "MiddleSheet" (343 : Nat) ({ cls := "java/lang/Math", name := "min", desc := "(II)I" } : Jvm.MethodName)) ∈ lw_all := lw_g (lw_at lw_m5 10 rfl) rfl
theorem q1074 : (Jvm.Cond.instanceMethod ({ cls := "MiddleSheet", name := "lot", desc := "(I)I" } : Jvm.MethodName)) ∈ lw_all := lw_g (lw_at lw_m5 12 rfl) rfl
theorem q1075 : (Jvm.Cond.selects "MiddleSheet" ({ cls := "MiddleSheet", name := "lot", desc := "(I)I" } : Jvm.MethodName) ({ cls := "MiddleSheet", name := "lot", desc := "(I)I" } : Jvm.MethodName)) ∈ lw_all := lw_g (lw_at lw_m5 13 rfl) rfl
theorem q1076 : (Jvm.Cond.code ({ cls := "MiddleSheet", name := "lot", desc := "(I)I" } : Jvm.MethodName) prog_1_method_53_code (5 : Nat) (Option.some Jvm.ClassFile.FieldType.int)) ∈ lw_all := lw_g (lw_at lw_m5 14 rfl) rfl
theorem q1077 : (Jvm.Cond.methodLink "MiddleSheet" (368 : Nat) ({ cls := "MiddleSheet", name := "findLots", desc := "()Z" } : Jvm.MethodName)) ∈ lw_all := lw_g (lw_at lw_m5 15 rfl) rfl
theorem q1078 : (Jvm.Cond.privateMethod ({ cls := "MiddleSheet", name := "findLots", desc := "()Z" } : Jvm.MethodName)) ∈ lw_tbl := lw_at lw_m5 16 rfl
theorem q1079 : (Jvm.Cond.instanceMethod ({ cls := "MiddleSheet", name := "findLots", desc := "()Z" } : Jvm.MethodName)) ∈ lw_all := lw_g (lw_at lw_m5 17 rfl) rfl
theorem q1080 : (Jvm.Cond.code ({ cls := "MiddleSheet", name := "findLots", desc := "()Z" } : Jvm.MethodName) prog_1_method_52_code (4 : Nat) (Option.some Jvm.ClassFile.FieldType.boolean)) ∈ lw_all := lw_g (lw_at lw_m5 18 rfl) rfl
theorem q1081 : (Jvm.Cond.methodLink "MiddleSheet" (359 : Nat) ({ cls := "java/lang/Integer", name := "bitCount", desc := "(I)I" } : Jvm.MethodName)) ∈ lw_all := lw_g (lw_at lw_m5 19 rfl) rfl
theorem q1087 : (Jvm.Cond.methodLink "MiddleSheet" (365 : Nat) ({ cls := "MiddleSheet", name := "isLots", desc := "(II)Z" } : Jvm.MethodName)) ∈ lw_all := lw_g (lw_at lw_m5 25 rfl) rfl
theorem q1088 : (Jvm.Cond.privateMethod ({ cls := "MiddleSheet", name := "isLots", desc := "(II)Z" } : Jvm.MethodName)) ∈ lw_tbl := lw_at lw_m5 26 rfl
theorem q1089 : (Jvm.Cond.instanceMethod ({ cls := "MiddleSheet", name := "isLots", desc := "(II)Z" } : Jvm.MethodName)) ∈ lw_all := lw_g (lw_at lw_m5 27 rfl) rfl
theorem q1090 : (Jvm.Cond.code ({ cls := "MiddleSheet", name := "isLots", desc := "(II)Z" } : Jvm.MethodName) prog_1_method_51_code (7 : Nat) (Option.some Jvm.ClassFile.FieldType.boolean)) ∈ lw_all := lw_g (lw_at lw_m5 28 rfl) rfl
theorem q1091 : (Jvm.Cond.methodLink "MiddleSheet" (362 : Nat) ({ cls := "MiddleSheet", name := "hasShares", desc := "(I)Z" } : Jvm.MethodName)) ∈ lw_all := lw_g (lw_at lw_m5 29 rfl) rfl
theorem q1092 : (Jvm.Cond.privateMethod ({ cls := "MiddleSheet", name := "hasShares", desc := "(I)Z" } : Jvm.MethodName)) ∈ lw_tbl := lw_at lw_m5 30 rfl
theorem q1093 : (Jvm.Cond.instanceMethod ({ cls := "MiddleSheet", name := "hasShares", desc := "(I)Z" } : Jvm.MethodName)) ∈ lw_all := lw_g (lw_at lw_m5 31 rfl) rfl
theorem q1094 : (Jvm.Cond.code ({ cls := "MiddleSheet", name := "hasShares", desc := "(I)Z" } : Jvm.MethodName) prog_1_method_50_code (9 : Nat) (Option.some Jvm.ClassFile.FieldType.boolean)) ∈ lw_all := lw_g (lw_at lw_m5 32 rfl) rfl
theorem q1095 : (Jvm.Cond.methodLink "MiddleSheet" (355 : Nat) ({ cls := "MiddleSheet", name := "pairs", desc := "(I)J" } : Jvm.MethodName)) ∈ lw_all := lw_g (lw_at lw_m5 33 rfl) rfl
theorem q1096 : (Jvm.Cond.privateMethod ({ cls := "MiddleSheet", name := "pairs", desc := "(I)J" } : Jvm.MethodName)) ∈ lw_tbl := lw_at lw_m5 34 rfl
theorem q1097 : (Jvm.Cond.instanceMethod ({ cls := "MiddleSheet", name := "pairs", desc := "(I)J" } : Jvm.MethodName)) ∈ lw_all := lw_g (lw_at lw_m5 35 rfl) rfl
theorem q1098 : (Jvm.Cond.code ({ cls := "MiddleSheet", name := "pairs", desc := "(I)J" } : Jvm.MethodName) prog_1_method_49_code (9 : Nat) (Option.some Jvm.ClassFile.FieldType.long)) ∈ lw_all := lw_g (lw_at lw_m5 36 rfl) rfl
theorem q1099 : (Jvm.Cond.methodLink "MiddleSheet" (349 : Nat) ({ cls := "java/lang/Integer", name := "numberOfTrailingZeros", desc := "(I)I" } : Jvm.MethodName)) ∈ lw_all := lw_g (lw_at lw_m5 37 rfl) rfl
theorem q1104 : (Jvm.Cond.instanceMethod ({ cls := "MiddleSheet", name := "need", desc := "(I)I" } : Jvm.MethodName)) ∈ lw_all := lw_g (lw_at lw_m5 42 rfl) rfl
theorem q1105 : (Jvm.Cond.selects "MiddleSheet" ({ cls := "MiddleSheet", name := "need", desc := "(I)I" } : Jvm.MethodName) ({ cls := "MiddleSheet", name := "need", desc := "(I)I" } : Jvm.MethodName)) ∈ lw_all := lw_g (lw_at lw_m5 43 rfl) rfl
theorem q1106 : (Jvm.Cond.code ({ cls := "MiddleSheet", name := "need", desc := "(I)I" } : Jvm.MethodName) prog_1_method_55_code (4 : Nat) (Option.some Jvm.ClassFile.FieldType.int)) ∈ lw_all := lw_g (lw_at lw_m5 44 rfl) rfl
theorem q1107 : (Jvm.Cond.methodLink "MiddleSheet" (371 : Nat) ({ cls := "MiddleSheet", name := "needOf", desc := "(I)I" } : Jvm.MethodName)) ∈ lw_all := lw_g (lw_at lw_m5 45 rfl) rfl
theorem q1108 : (Jvm.Cond.privateMethod ({ cls := "MiddleSheet", name := "needOf", desc := "(I)I" } : Jvm.MethodName)) ∈ lw_tbl := lw_at lw_m5 46 rfl
theorem q1109 : (Jvm.Cond.instanceMethod ({ cls := "MiddleSheet", name := "needOf", desc := "(I)I" } : Jvm.MethodName)) ∈ lw_all := lw_g (lw_at lw_m5 47 rfl) rfl
theorem q1110 : (Jvm.Cond.code ({ cls := "MiddleSheet", name := "needOf", desc := "(I)I" } : Jvm.MethodName) prog_1_method_54_code (4 : Nat) (Option.some Jvm.ClassFile.FieldType.int)) ∈ lw_all := lw_g (lw_at lw_m5 48 rfl) rfl
theorem q1112 : (Jvm.Cond.instanceMethod ({ cls := "MiddleSheet", name := "most", desc := "(II)I" } : Jvm.MethodName)) ∈ lw_all := lw_g (lw_at lw_m5 50 rfl) rfl
theorem q1113 : (Jvm.Cond.selects "MiddleSheet" ({ cls := "MiddleSheet", name := "most", desc := "(II)I" } : Jvm.MethodName) ({ cls := "MiddleSheet", name := "most", desc := "(II)I" } : Jvm.MethodName)) ∈ lw_all := lw_g (lw_at lw_m5 51 rfl) rfl
theorem q1114 : (Jvm.Cond.code ({ cls := "MiddleSheet", name := "most", desc := "(II)I" } : Jvm.MethodName) prog_1_method_56_code (5 : Nat) (Option.some Jvm.ClassFile.FieldType.int)) ∈ lw_all := lw_g (lw_at lw_m5 52 rfl) rfl
theorem q1116 : (Jvm.Cond.instanceMethod ({ cls := "MiddleSheet", name := "peace", desc := "()I" } : Jvm.MethodName)) ∈ lw_all := lw_g (lw_at lw_m5 54 rfl) rfl
theorem q1117 : (Jvm.Cond.selects "MiddleSheet" ({ cls := "MiddleSheet", name := "peace", desc := "()I" } : Jvm.MethodName) ({ cls := "MiddleSheet", name := "peace", desc := "()I" } : Jvm.MethodName)) ∈ lw_all := lw_g (lw_at lw_m5 55 rfl) rfl
theorem q1118 : (Jvm.Cond.code ({ cls := "MiddleSheet", name := "peace", desc := "()I" } : Jvm.MethodName) prog_1_method_58_code (2 : Nat) (Option.some Jvm.ClassFile.FieldType.int)) ∈ lw_all := lw_g (lw_at lw_m5 56 rfl) rfl
theorem q1119 : (Jvm.Cond.methodLink "MiddleSheet" (374 : Nat) ({ cls := "MiddleSheet", name := "isUnbeaten", desc := "(I)Z" } : Jvm.MethodName)) ∈ lw_all := lw_g (lw_at lw_m5 57 rfl) rfl
theorem q1120 : (Jvm.Cond.privateMethod ({ cls := "MiddleSheet", name := "isUnbeaten", desc := "(I)Z" } : Jvm.MethodName)) ∈ lw_tbl := lw_at lw_m5 58 rfl
theorem q1121 : (Jvm.Cond.instanceMethod ({ cls := "MiddleSheet", name := "isUnbeaten", desc := "(I)Z" } : Jvm.MethodName)) ∈ lw_all := lw_g (lw_at lw_m5 59 rfl) rfl
theorem q1122 : (Jvm.Cond.code ({ cls := "MiddleSheet", name := "isUnbeaten", desc := "(I)Z" } : Jvm.MethodName) prog_1_method_57_code (3 : Nat) (Option.some Jvm.ClassFile.FieldType.boolean)) ∈ lw_all := lw_g (lw_at lw_m5 60 rfl) rfl
theorem q1124 : (Jvm.Cond.instanceMethod ({ cls := "MiddleSheet", name := "make", desc := "(I)I" } : Jvm.MethodName)) ∈ lw_all := lw_g (lw_at lw_m5 62 rfl) rfl
theorem q1125 : (Jvm.Cond.selects "MiddleSheet" ({ cls := "MiddleSheet", name := "make", desc := "(I)I" } : Jvm.MethodName) ({ cls := "MiddleSheet", name := "make", desc := "(I)I" } : Jvm.MethodName)) ∈ lw_all := lw_g (lw_at lw_m5 63 rfl) rfl
theorem q1126 : (Jvm.Cond.code ({ cls := "MiddleSheet", name := "make", desc := "(I)I" } : Jvm.MethodName) prog_1_method_59_code (12 : Nat) (Option.some Jvm.ClassFile.FieldType.int)) ∈ lw_all := lw_g (lw_at lw_m5 64 rfl) rfl
theorem q1127 : (Jvm.Cond.methodLink "MiddleSheet" (377 : Nat) ({ cls := "MiddleSheet$Voter", name := "far", desc := "(II)I" } : Jvm.MethodName)) ∈ lw_all := lw_g (lw_at lw_m5 65 rfl) rfl
theorem q1135 : (Jvm.Cond.methodLink "MiddleSheet" (380 : Nat) ({ cls := "MiddleSheet", name := "peace", desc := "()I" } : Jvm.MethodName)) ∈ lw_all := lw_g (lw_at lw_m5 73 rfl) rfl
theorem q1137 : (Jvm.Cond.instanceMethod ({ cls := "MiddleSheet", name := "join", desc := "(I)I" } : Jvm.MethodName)) ∈ lw_all := lw_g (lw_at lw_m5 75 rfl) rfl
theorem q1138 : (Jvm.Cond.selects "MiddleSheet" ({ cls := "MiddleSheet", name := "join", desc := "(I)I" } : Jvm.MethodName) ({ cls := "MiddleSheet", name := "join", desc := "(I)I" } : Jvm.MethodName)) ∈ lw_all := lw_g (lw_at lw_m5 76 rfl) rfl
theorem q1139 : (Jvm.Cond.code ({ cls := "MiddleSheet", name := "join", desc := "(I)I" } : Jvm.MethodName) prog_1_method_60_code (10 : Nat) (Option.some Jvm.ClassFile.FieldType.int)) ∈ lw_all := lw_g (lw_at lw_m5 77 rfl) rfl
theorem q1141 : (Jvm.Cond.instanceMethod ({ cls := "MiddleSheet", name := "doubt", desc := "(II)I" } : Jvm.MethodName)) ∈ lw_all := lw_g (lw_at lw_m5 79 rfl) rfl
theorem q1142 : (Jvm.Cond.selects "MiddleSheet" ({ cls := "MiddleSheet", name := "doubt", desc := "(II)I" } : Jvm.MethodName) ({ cls := "MiddleSheet", name := "doubt", desc := "(II)I" } : Jvm.MethodName)) ∈ lw_all := lw_g (lw_at lw_m5 80 rfl) rfl
theorem q1143 : (Jvm.Cond.code ({ cls := "MiddleSheet", name := "doubt", desc := "(II)I" } : Jvm.MethodName) prog_1_method_62_code (12 : Nat) (Option.some Jvm.ClassFile.FieldType.int)) ∈ lw_all := lw_g (lw_at lw_m5 81 rfl) rfl
theorem q1144 : (Jvm.Cond.methodLink "MiddleSheet" (386 : Nat) ({ cls := "MiddleSheet", name := "surely", desc := "(LMiddleSheet$Voter;ILMiddleSheet$Place;LMiddleSheet$Place;)I" } : Jvm.MethodName)) ∈ lw_all := lw_g (lw_at lw_m5 82 rfl) rfl
theorem q1145 : (Jvm.Cond.privateMethod ({ cls := "MiddleSheet", name := "surely", desc := "(LMiddleSheet$Voter;ILMiddleSheet$Place;LMiddleSheet$Place;)I" } : Jvm.MethodName)) ∈ lw_tbl := lw_at lw_m5 83 rfl
theorem q1146 : (Jvm.Cond.instanceMethod ({ cls := "MiddleSheet", name := "surely", desc := "(LMiddleSheet$Voter;ILMiddleSheet$Place;LMiddleSheet$Place;)I" } : Jvm.MethodName)) ∈ lw_all := lw_g (lw_at lw_m5 84 rfl) rfl
theorem q1147 : (Jvm.Cond.code ({ cls := "MiddleSheet", name := "surely", desc := "(LMiddleSheet$Voter;ILMiddleSheet$Place;LMiddleSheet$Place;)I" } : Jvm.MethodName) prog_1_method_61_code (11 : Nat) (Option.some Jvm.ClassFile.FieldType.int)) ∈ lw_all := lw_g (lw_at lw_m5 85 rfl) rfl
theorem q1148 : (Jvm.Cond.methodLink "MiddleSheet" (383 : Nat) ({ cls := "MiddleSheet$Voter", name := "wayFrom", desc := "(IIII)I" } : Jvm.MethodName)) ∈ lw_all := lw_g (lw_at lw_m5 86 rfl) rfl
theorem q1150 : (Jvm.Cond.instanceMethod ({ cls := "MiddleSheet", name := "move", desc := "(III)I" } : Jvm.MethodName)) ∈ lw_all := lw_g (lw_at lw_m5 88 rfl) rfl
theorem q1151 : (Jvm.Cond.selects "MiddleSheet" ({ cls := "MiddleSheet", name := "move", desc := "(III)I" } : Jvm.MethodName) ({ cls := "MiddleSheet", name := "move", desc := "(III)I" } : Jvm.MethodName)) ∈ lw_all := lw_g (lw_at lw_m5 89 rfl) rfl
theorem q1152 : (Jvm.Cond.code ({ cls := "MiddleSheet", name := "move", desc := "(III)I" } : Jvm.MethodName) prog_1_method_65_code (6 : Nat) (Option.some Jvm.ClassFile.FieldType.int)) ∈ lw_all := lw_g (lw_at lw_m5 90 rfl) rfl
theorem q1153 : (Jvm.Cond.classLink "MiddleSheet" (390 : Nat) "MiddleSheet$Move") ∈ lw_all := lw_g (lw_at lw_m5 91 rfl) rfl
theorem q1155 : (Jvm.Cond.methodLink "MiddleSheet" (392 : Nat) ({ cls := "MiddleSheet", name := "pairMany", desc := "()I" } : Jvm.MethodName)) ∈ lw_all := lw_g (lw_at lw_m5 93 rfl) rfl
theorem q1156 : (Jvm.Cond.privateMethod ({ cls := "MiddleSheet", name := "pairMany", desc := "()I" } : Jvm.MethodName)) ∈ lw_tbl := lw_at lw_m5 94 rfl
theorem q1157 : (Jvm.Cond.instanceMethod ({ cls := "MiddleSheet", name := "pairMany", desc := "()I" } : Jvm.MethodName)) ∈ lw_all := lw_g (lw_at lw_m5 95 rfl) rfl
theorem q1158 : (Jvm.Cond.code ({ cls := "MiddleSheet", name := "pairMany", desc := "()I" } : Jvm.MethodName) prog_1_method_63_code (4 : Nat) (Option.some Jvm.ClassFile.FieldType.int)) ∈ lw_all := lw_g (lw_at lw_m5 96 rfl) rfl
theorem q1159 : (Jvm.Cond.methodLink "MiddleSheet" (395 : Nat) ({ cls := "MiddleSheet$Move", name := "<init>", desc := "(IIIIIII)V" } : Jvm.MethodName)) ∈ lw_all := lw_g (lw_at lw_m5 97 rfl) rfl
theorem q1164 : (Jvm.Cond.fieldLinkNest "MiddleSheet" (410 : Nat) "MiddleSheet$Move" "voter" "I" "MiddleSheet") ∈ lw_tbl := lw_at lw_m5 102 rfl
theorem q1166 : (Jvm.Cond.fieldLinkNest "MiddleSheet" (413 : Nat) "MiddleSheet$Move" "fromX" "I" "MiddleSheet") ∈ lw_tbl := lw_at lw_m5 104 rfl
theorem q1168 : (Jvm.Cond.fieldLinkNest "MiddleSheet" (416 : Nat) "MiddleSheet$Move" "fromY" "I" "MiddleSheet") ∈ lw_tbl := lw_at lw_m5 106 rfl
theorem q1170 : (Jvm.Cond.fieldLinkNest "MiddleSheet" (419 : Nat) "MiddleSheet$Move" "toX" "I" "MiddleSheet") ∈ lw_tbl := lw_at lw_m5 108 rfl
theorem q1172 : (Jvm.Cond.fieldLinkNest "MiddleSheet" (422 : Nat) "MiddleSheet$Move" "toY" "I" "MiddleSheet") ∈ lw_tbl := lw_at lw_m5 110 rfl
theorem q1174 : (Jvm.Cond.fieldLinkNest "MiddleSheet" (425 : Nat) "MiddleSheet$Move" "pairsAhead" "I" "MiddleSheet") ∈ lw_tbl := lw_at lw_m5 112 rfl
theorem q1176 : (Jvm.Cond.fieldLinkNest "MiddleSheet" (428 : Nat) "MiddleSheet$Move" "peaceAhead" "I" "MiddleSheet") ∈ lw_tbl := lw_at lw_m5 114 rfl
theorem q1177 : (Jvm.Cond.fieldLinkNest "MiddleSheet" (401 : Nat) "MiddleSheet$Move" "pairsBehind" "I" "MiddleSheet") ∈ lw_tbl := lw_at lw_m5 115 rfl
theorem q1178 : (Jvm.Cond.fieldLinkNest "MiddleSheet" (404 : Nat) "MiddleSheet$Move" "peaceBehind" "I" "MiddleSheet") ∈ lw_tbl := lw_at lw_m5 116 rfl
theorem q1198 : (Jvm.Cond.methodLink "MiddleSheet" (398 : Nat) ({ cls := "MiddleSheet", name := "puts", desc := "(III)V" } : Jvm.MethodName)) ∈ lw_all := lw_g (lw_at lw_m5 136 rfl) rfl
theorem q1199 : (Jvm.Cond.privateMethod ({ cls := "MiddleSheet", name := "puts", desc := "(III)V" } : Jvm.MethodName)) ∈ lw_tbl := lw_at lw_m5 137 rfl
theorem q1200 : (Jvm.Cond.instanceMethod ({ cls := "MiddleSheet", name := "puts", desc := "(III)V" } : Jvm.MethodName)) ∈ lw_all := lw_g (lw_at lw_m5 138 rfl) rfl
theorem q1201 : (Jvm.Cond.code ({ cls := "MiddleSheet", name := "puts", desc := "(III)V" } : Jvm.MethodName) prog_1_method_64_code (4 : Nat) (Option.none : Option Jvm.ClassFile.FieldType)) ∈ lw_all := lw_g (lw_at lw_m5 139 rfl) rfl
theorem q1203 : (Jvm.Cond.instanceMethod ({ cls := "MiddleSheet", name := "undo", desc := "()I" } : Jvm.MethodName)) ∈ lw_all := lw_g (lw_at lw_m5 141 rfl) rfl
theorem q1204 : (Jvm.Cond.selects "MiddleSheet" ({ cls := "MiddleSheet", name := "undo", desc := "()I" } : Jvm.MethodName) ({ cls := "MiddleSheet", name := "undo", desc := "()I" } : Jvm.MethodName)) ∈ lw_all := lw_g (lw_at lw_m5 142 rfl) rfl
theorem q1205 : (Jvm.Cond.code ({ cls := "MiddleSheet", name := "undo", desc := "()I" } : Jvm.MethodName) prog_1_method_66_code (2 : Nat) (Option.some Jvm.ClassFile.FieldType.int)) ∈ lw_all := lw_g (lw_at lw_m5 143 rfl) rfl
theorem q1206 : (Jvm.Cond.methodLink "MiddleSheet" (407 : Nat) ({ cls := "java/util/ArrayList", name := "remove", desc := "(I)Ljava/lang/Object;" } : Jvm.MethodName)) ∈ lw_all := lw_g (lw_at lw_m5 144 rfl) rfl
theorem q1215 : (Jvm.Cond.instanceMethod ({ cls := "MiddleSheet", name := "moved", desc := "(II)I" } : Jvm.MethodName)) ∈ lw_all := lw_g (lw_at lw_m5 153 rfl) rfl
theorem q1216 : (Jvm.Cond.selects "MiddleSheet" ({ cls := "MiddleSheet", name := "moved", desc := "(II)I" } : Jvm.MethodName) ({ cls := "MiddleSheet", name := "moved", desc := "(II)I" } : Jvm.MethodName)) ∈ lw_all := lw_g (lw_at lw_m5 154 rfl) rfl
theorem q1217 : (Jvm.Cond.code ({ cls := "MiddleSheet", name := "moved", desc := "(II)I" } : Jvm.MethodName) prog_1_method_67_code (4 : Nat) (Option.some Jvm.ClassFile.FieldType.int)) ∈ lw_all := lw_g (lw_at lw_m5 155 rfl) rfl
theorem q1219 : (Jvm.Cond.instanceMethod ({ cls := "MiddleSheet", name := "count", desc := "(I)I" } : Jvm.MethodName)) ∈ lw_all := lw_g (lw_at lw_m5 157 rfl) rfl
theorem q1220 : (Jvm.Cond.selects "MiddleSheet" ({ cls := "MiddleSheet", name := "count", desc := "(I)I" } : Jvm.MethodName) ({ cls := "MiddleSheet", name := "count", desc := "(I)I" } : Jvm.MethodName)) ∈ lw_all := lw_g (lw_at lw_m5 158 rfl) rfl
theorem q1221 : (Jvm.Cond.code ({ cls := "MiddleSheet", name := "count", desc := "(I)I" } : Jvm.MethodName) prog_1_method_68_code (2 : Nat) (Option.some Jvm.ClassFile.FieldType.int)) ∈ lw_all := lw_g (lw_at lw_m5 159 rfl) rfl
theorem q1771 : (Jvm.Cond.castable "MiddleSheet" "java/lang/Object") ∈ lw_tbl := lw_at lw_m7 229 rfl
theorem in_X0 : ∀ w ∈ wsX00, w ∈ lw_all := lw_in wsX00 [262, 264, 266, 268, 270, 272, 274, 276, 278, 280, 282, 284, 286, 288, 290, 292, 294, 296, 298, 300, 302, 304, 306, 308, 310, 312, 314, 316, 318] (by decide +kernel) (by decide +kernel)
/-! MiddleSheet$Reader -/
def RX1 : String := "MiddleSheet$Reader"
def TX1 : u_T := fun k => match k with
  | 0 => ("MiddleSheet$Reader", "text", "[B", false)
  | 1 => ("MiddleSheet$Reader", "size", "I", false)
  | 2 => ("MiddleSheet$Reader", "at", "I", false)
  | 3 => ("MiddleSheet$Reader", "begin", "I", false)
  | 4 => ("MiddleSheet$Reader", "measure", "I", false)
  | 5 => ("MiddleSheet$Reader", "wide", "I", false)
  | 6 => ("MiddleSheet$Reader", "tall", "I", false)
  | 7 => ("MiddleSheet$Reader", "isWon", "Z", false)
  | 8 => ("MiddleSheet$Reader", "voters", "Ljava/util/ArrayList;", true)
  | 9 => ("MiddleSheet$Reader", "places", "Ljava/util/ArrayList;", true)
  | _ => ("MiddleSheet$Reader", "bar", "LMiddleSheet$Bar;", false)
def tyX1 : Nat → FieldType := fun k => match k with
  | 0 => .array .byte
  | 1 => .int
  | 2 => .int
  | 3 => .int
  | 4 => .int
  | 5 => .int
  | 6 => .int
  | 7 => .boolean
  | 8 => .object "java/util/ArrayList"
  | 9 => .object "java/util/ArrayList"
  | _ => .object "MiddleSheet$Bar"
abbrev wsX10 : List Cond := u_ws RX1 TX1 11
theorem nmX1 : ∀ a, a < 11 → ∀ b, b < 11 → a ≠ b → (TX1 a).2.1 ≠ (TX1 b).2.1 := by decide +kernel
theorem tyX1_ok : ∀ k, k < 11 → parseFieldDescriptor (TX1 k).2.2.1 = some (tyX1 k) := by decide +kernel
abbrev cX1_init : ByteArray := prog_10_method_1_code
def yX1_init : MethodName := ⟨RX1, "<init>", "()V"⟩
abbrev cX1_read : ByteArray := prog_10_method_15_code
def yX1_read : MethodName := ⟨RX1, "read", "([BI)V"⟩
abbrev cX1_next : ByteArray := prog_10_method_5_code
def yX1_next : MethodName := ⟨RX1, "next", "()V"⟩
abbrev cX1_isLetter : ByteArray := prog_10_method_2_code
def yX1_isLetter : MethodName := ⟨RX1, "isLetter", "(I)Z"⟩
abbrev cX1_isDigit : ByteArray := prog_10_method_3_code
def yX1_isDigit : MethodName := ⟨RX1, "isDigit", "(I)Z"⟩
abbrev cX1_wrong : ByteArray := prog_10_method_4_code
def yX1_wrong : MethodName := ⟨RX1, "wrong", "()LMiddleSheet$Fault;"⟩
abbrev cX1_tells : ByteArray := prog_10_method_12_code
def yX1_tells : MethodName := ⟨RX1, "tells", "()V"⟩
abbrev cX1_word : ByteArray := prog_10_method_7_code
def yX1_word : MethodName := ⟨RX1, "word", "(Ljava/lang/String;)I"⟩
abbrev cX1_isOver : ByteArray := prog_10_method_6_code
def yX1_isOver : MethodName := ⟨RX1, "isOver", "()Z"⟩
abbrev cX1_needsWord : ByteArray := prog_10_method_8_code
def yX1_needsWord : MethodName := ⟨RX1, "needsWord", "(Ljava/lang/String;)I"⟩
abbrev cX1_number : ByteArray := prog_10_method_10_code
def yX1_number : MethodName := ⟨RX1, "number", "(II)I"⟩
abbrev cX1_voter : ByteArray := prog_10_method_13_code
def yX1_voter : MethodName := ⟨RX1, "voter", "()V"⟩
abbrev cX1_made : ByteArray := prog_10_method_11_code
def yX1_made : MethodName := ⟨RX1, "made", "(III)LMiddleSheet$Voter;"⟩
abbrev cX1_win : ByteArray := prog_10_method_14_code
def yX1_win : MethodName := ⟨RX1, "win", "()V"⟩
abbrev cX1_needs : ByteArray := prog_10_method_9_code
def yX1_needs : MethodName := ⟨RX1, "needs", "(I)V"⟩
theorem q104 : (Jvm.Cond.initialized "MiddleSheet$Reader") ∈ lw_all := lw_g (lw_at lw_m1 2 rfl) rfl
theorem q144 : (Jvm.Cond.instantiable "MiddleSheet$Reader" (11 : Nat)) ∈ lw_all := lw_g (lw_at lw_m1 42 rfl) rfl
theorem q146 : (Jvm.Cond.instanceMethod ({ cls := "MiddleSheet$Reader", name := "<init>", desc := "()V" } : Jvm.MethodName)) ∈ lw_all := lw_g (lw_at lw_m1 44 rfl) rfl
theorem q147 : (Jvm.Cond.code ({ cls := "MiddleSheet$Reader", name := "<init>", desc := "()V" } : Jvm.MethodName) prog_10_method_1_code (1 : Nat) (Option.none : Option Jvm.ClassFile.FieldType)) ∈ lw_all := lw_g (lw_at lw_m1 45 rfl) rfl
theorem q148 : (Jvm.Cond.methodLink "MiddleSheet$Reader" (3 : Nat) ({ cls := "java/lang/Object", name := "<init>", desc := "()V" } : Jvm.MethodName)) ∈ lw_all := lw_g (lw_at lw_m1 46 rfl) rfl
theorem q149 : (Jvm.Cond.classLink "MiddleSheet$Reader" (9 : Nat) "java/util/ArrayList") ∈ lw_all := lw_g (lw_at lw_m1 47 rfl) rfl
theorem q151 : (Jvm.Cond.methodLink "MiddleSheet$Reader" (11 : Nat) ({ cls := "java/util/ArrayList", name := "<init>", desc := "()V" } : Jvm.MethodName)) ∈ lw_all := lw_g (lw_at lw_m1 49 rfl) rfl
theorem q176 : (Jvm.Cond.fieldLink "MiddleSheet$Reader" (36 : Nat) "MiddleSheet$Reader" "text" "[B") ∈ lw_all := lw_g (lw_at lw_m1 74 rfl) rfl
theorem q177 : (Jvm.Cond.fieldLink "MiddleSheet$Reader" (33 : Nat) "MiddleSheet$Reader" "size" "I") ∈ lw_all := lw_g (lw_at lw_m1 75 rfl) rfl
theorem q178 : (Jvm.Cond.fieldLink "MiddleSheet$Reader" (30 : Nat) "MiddleSheet$Reader" "at" "I") ∈ lw_all := lw_g (lw_at lw_m1 76 rfl) rfl
theorem q179 : (Jvm.Cond.fieldLink "MiddleSheet$Reader" (23 : Nat) "MiddleSheet$Reader" "begin" "I") ∈ lw_all := lw_g (lw_at lw_m1 77 rfl) rfl
theorem q180 : (Jvm.Cond.fieldLink "MiddleSheet$Reader" (85 : Nat) "MiddleSheet$Reader" "measure" "I") ∈ lw_all := lw_g (lw_at lw_m1 78 rfl) rfl
theorem q181 : (Jvm.Cond.fieldLink "MiddleSheet$Reader" (90 : Nat) "MiddleSheet$Reader" "wide" "I") ∈ lw_all := lw_g (lw_at lw_m1 79 rfl) rfl
theorem q182 : (Jvm.Cond.fieldLink "MiddleSheet$Reader" (93 : Nat) "MiddleSheet$Reader" "tall" "I") ∈ lw_all := lw_g (lw_at lw_m1 80 rfl) rfl
theorem q183 : (Jvm.Cond.fieldLink "MiddleSheet$Reader" (112 : Nat) "MiddleSheet$Reader" "isWon" "Z") ∈ lw_all := lw_g (lw_at lw_m1 81 rfl) rfl
theorem q184 : (Jvm.Cond.fieldLink "MiddleSheet$Reader" (12 : Nat) "MiddleSheet$Reader" "voters" "Ljava/util/ArrayList;") ∈ lw_all := lw_g (lw_at lw_m1 82 rfl) rfl
theorem q186 : (Jvm.Cond.fieldLink "MiddleSheet$Reader" (18 : Nat) "MiddleSheet$Reader" "places" "Ljava/util/ArrayList;") ∈ lw_all := lw_g (lw_at lw_m1 84 rfl) rfl
theorem q189 : (Jvm.Cond.fieldLink "MiddleSheet$Reader" (155 : Nat) "MiddleSheet$Reader" "bar" "LMiddleSheet$Bar;") ∈ lw_all := lw_g (lw_at lw_m1 87 rfl) rfl
theorem q190 : (Jvm.Cond.lays "MiddleSheet$Reader" "MiddleSheet$Reader" "text" "[B") ∈ lw_all := lw_g (lw_at lw_m1 88 rfl) rfl
theorem q191 : (Jvm.Cond.soleField "MiddleSheet$Reader" "text") ∈ lw_all := lw_g (lw_at lw_m1 89 rfl) rfl
theorem q192 : (Jvm.Cond.lays "MiddleSheet$Reader" "MiddleSheet$Reader" "size" "I") ∈ lw_all := lw_g (lw_at lw_m1 90 rfl) rfl
theorem q193 : (Jvm.Cond.soleField "MiddleSheet$Reader" "size") ∈ lw_all := lw_g (lw_at lw_m1 91 rfl) rfl
theorem q194 : (Jvm.Cond.lays "MiddleSheet$Reader" "MiddleSheet$Reader" "at" "I") ∈ lw_all := lw_g (lw_at lw_m1 92 rfl) rfl
theorem q195 : (Jvm.Cond.soleField "MiddleSheet$Reader" "at") ∈ lw_all := lw_g (lw_at lw_m1 93 rfl) rfl
theorem q196 : (Jvm.Cond.lays "MiddleSheet$Reader" "MiddleSheet$Reader" "begin" "I") ∈ lw_all := lw_g (lw_at lw_m1 94 rfl) rfl
theorem q197 : (Jvm.Cond.soleField "MiddleSheet$Reader" "begin") ∈ lw_all := lw_g (lw_at lw_m1 95 rfl) rfl
theorem q198 : (Jvm.Cond.lays "MiddleSheet$Reader" "MiddleSheet$Reader" "measure" "I") ∈ lw_all := lw_g (lw_at lw_m1 96 rfl) rfl
theorem q199 : (Jvm.Cond.soleField "MiddleSheet$Reader" "measure") ∈ lw_all := lw_g (lw_at lw_m1 97 rfl) rfl
theorem q200 : (Jvm.Cond.lays "MiddleSheet$Reader" "MiddleSheet$Reader" "wide" "I") ∈ lw_all := lw_g (lw_at lw_m1 98 rfl) rfl
theorem q201 : (Jvm.Cond.soleField "MiddleSheet$Reader" "wide") ∈ lw_all := lw_g (lw_at lw_m1 99 rfl) rfl
theorem q202 : (Jvm.Cond.lays "MiddleSheet$Reader" "MiddleSheet$Reader" "tall" "I") ∈ lw_all := lw_g (lw_at lw_m1 100 rfl) rfl
theorem q203 : (Jvm.Cond.soleField "MiddleSheet$Reader" "tall") ∈ lw_all := lw_g (lw_at lw_m1 101 rfl) rfl
theorem q204 : (Jvm.Cond.lays "MiddleSheet$Reader" "MiddleSheet$Reader" "isWon" "Z") ∈ lw_all := lw_g (lw_at lw_m1 102 rfl) rfl
theorem q205 : (Jvm.Cond.soleField "MiddleSheet$Reader" "isWon") ∈ lw_all := lw_g (lw_at lw_m1 103 rfl) rfl
theorem q206 : (Jvm.Cond.laysFinal "MiddleSheet$Reader" "MiddleSheet$Reader" "voters" "Ljava/util/ArrayList;") ∈ lw_all := lw_g (lw_at lw_m1 104 rfl) rfl
theorem q207 : (Jvm.Cond.soleField "MiddleSheet$Reader" "voters") ∈ lw_all := lw_g (lw_at lw_m1 105 rfl) rfl
theorem q208 : (Jvm.Cond.laysFinal "MiddleSheet$Reader" "MiddleSheet$Reader" "places" "Ljava/util/ArrayList;") ∈ lw_all := lw_g (lw_at lw_m1 106 rfl) rfl
theorem q209 : (Jvm.Cond.soleField "MiddleSheet$Reader" "places") ∈ lw_all := lw_g (lw_at lw_m1 107 rfl) rfl
theorem q210 : (Jvm.Cond.lays "MiddleSheet$Reader" "MiddleSheet$Reader" "bar" "LMiddleSheet$Bar;") ∈ lw_all := lw_g (lw_at lw_m1 108 rfl) rfl
theorem q211 : (Jvm.Cond.soleField "MiddleSheet$Reader" "bar") ∈ lw_all := lw_g (lw_at lw_m1 109 rfl) rfl
theorem q212 : (Jvm.Cond.superclass "MiddleSheet$Reader" "java/lang/Object") ∈ lw_all := lw_g (lw_at lw_m1 110 rfl) rfl
theorem q344 : (Jvm.Cond.instanceMethod ({ cls := "MiddleSheet$Reader", name := "read", desc := "([BI)V" } : Jvm.MethodName)) ∈ lw_all := lw_g (lw_at lw_m2 2 rfl) rfl
theorem q345 : (Jvm.Cond.selects "MiddleSheet$Reader" ({ cls := "MiddleSheet$Reader", name := "read", desc := "([BI)V" } : Jvm.MethodName) ({ cls := "MiddleSheet$Reader", name := "read", desc := "([BI)V" } : Jvm.MethodName)) ∈ lw_all := lw_g (lw_at lw_m2 3 rfl) rfl
theorem q346 : (Jvm.Cond.code ({ cls := "MiddleSheet$Reader", name := "read", desc := "([BI)V" } : Jvm.MethodName) prog_10_method_15_code (3 : Nat) (Option.none : Option Jvm.ClassFile.FieldType)) ∈ lw_all := lw_g (lw_at lw_m2 4 rfl) rfl
theorem q347 : (Jvm.Cond.methodLink "MiddleSheet$Reader" (159 : Nat) ({ cls := "java/util/ArrayList", name := "clear", desc := "()V" } : Jvm.MethodName)) ∈ lw_all := lw_g (lw_at lw_m2 5 rfl) rfl
theorem q351 : (Jvm.Cond.classLink "MiddleSheet$Reader" (150 : Nat) "MiddleSheet$Bar") ∈ lw_all := lw_g (lw_at lw_m2 9 rfl) rfl
theorem q352 : (Jvm.Cond.methodLink "MiddleSheet$Reader" (152 : Nat) ({ cls := "MiddleSheet$Bar", name := "<init>", desc := "(III)V" } : Jvm.MethodName)) ∈ lw_all := lw_g (lw_at lw_m2 10 rfl) rfl
theorem q353 : (Jvm.Cond.methodLink "MiddleSheet$Reader" (73 : Nat) ({ cls := "MiddleSheet$Reader", name := "next", desc := "()V" } : Jvm.MethodName)) ∈ lw_all := lw_g (lw_at lw_m2 11 rfl) rfl
theorem q354 : (Jvm.Cond.privateMethod ({ cls := "MiddleSheet$Reader", name := "next", desc := "()V" } : Jvm.MethodName)) ∈ lw_tbl := lw_at lw_m2 12 rfl
theorem q355 : (Jvm.Cond.instanceMethod ({ cls := "MiddleSheet$Reader", name := "next", desc := "()V" } : Jvm.MethodName)) ∈ lw_all := lw_g (lw_at lw_m2 13 rfl) rfl
theorem q356 : (Jvm.Cond.code ({ cls := "MiddleSheet$Reader", name := "next", desc := "()V" } : Jvm.MethodName) prog_10_method_5_code (2 : Nat) (Option.none : Option Jvm.ClassFile.FieldType)) ∈ lw_all := lw_g (lw_at lw_m2 14 rfl) rfl
theorem q357 : (Jvm.Cond.methodLink "MiddleSheet$Reader" (40 : Nat) ({ cls := "MiddleSheet$Reader", name := "isLetter", desc := "(I)Z" } : Jvm.MethodName)) ∈ lw_all := lw_g (lw_at lw_m2 15 rfl) rfl
theorem q358 : (Jvm.Cond.static ({ cls := "MiddleSheet$Reader", name := "isLetter", desc := "(I)Z" } : Jvm.MethodName)) ∈ lw_all := lw_g (lw_at lw_m2 16 rfl) rfl
theorem q359 : (Jvm.Cond.code ({ cls := "MiddleSheet$Reader", name := "isLetter", desc := "(I)Z" } : Jvm.MethodName) prog_10_method_2_code (1 : Nat) (Option.some Jvm.ClassFile.FieldType.boolean)) ∈ lw_all := lw_g (lw_at lw_m2 17 rfl) rfl
theorem q360 : (Jvm.Cond.methodLink "MiddleSheet$Reader" (44 : Nat) ({ cls := "MiddleSheet$Reader", name := "isDigit", desc := "(I)Z" } : Jvm.MethodName)) ∈ lw_all := lw_g (lw_at lw_m2 18 rfl) rfl
theorem q361 : (Jvm.Cond.static ({ cls := "MiddleSheet$Reader", name := "isDigit", desc := "(I)Z" } : Jvm.MethodName)) ∈ lw_all := lw_g (lw_at lw_m2 19 rfl) rfl
theorem q362 : (Jvm.Cond.code ({ cls := "MiddleSheet$Reader", name := "isDigit", desc := "(I)Z" } : Jvm.MethodName) prog_10_method_3_code (1 : Nat) (Option.some Jvm.ClassFile.FieldType.boolean)) ∈ lw_all := lw_g (lw_at lw_m2 20 rfl) rfl
theorem q363 : (Jvm.Cond.methodLink "MiddleSheet$Reader" (47 : Nat) ({ cls := "MiddleSheet$Reader", name := "wrong", desc := "()LMiddleSheet$Fault;" } : Jvm.MethodName)) ∈ lw_all := lw_g (lw_at lw_m2 21 rfl) rfl
theorem q364 : (Jvm.Cond.privateMethod ({ cls := "MiddleSheet$Reader", name := "wrong", desc := "()LMiddleSheet$Fault;" } : Jvm.MethodName)) ∈ lw_tbl := lw_at lw_m2 22 rfl
theorem q365 : (Jvm.Cond.instanceMethod ({ cls := "MiddleSheet$Reader", name := "wrong", desc := "()LMiddleSheet$Fault;" } : Jvm.MethodName)) ∈ lw_all := lw_g (lw_at lw_m2 23 rfl) rfl
theorem q366 : (Jvm.Cond.code ({ cls := "MiddleSheet$Reader", name := "wrong", desc := "()LMiddleSheet$Fault;" } : Jvm.MethodName) prog_10_method_4_code (1 : Nat) (Option.some (Jvm.ClassFile.FieldType.object "MiddleSheet$Fault"))) ∈ lw_all := lw_g (lw_at lw_m2 24 rfl) rfl
theorem q367 : (Jvm.Cond.classLink "MiddleSheet$Reader" (21 : Nat) "MiddleSheet$Fault") ∈ lw_all := lw_g (lw_at lw_m2 25 rfl) rfl
theorem q406 : (Jvm.Cond.methodLink "MiddleSheet$Reader" (27 : Nat) ({ cls := "MiddleSheet$Fault", name := "<init>", desc := "(I)V" } : Jvm.MethodName)) ∈ lw_all := lw_g (lw_at lw_m2 64 rfl) rfl
theorem q435 : (Jvm.Cond.methodLink "MiddleSheet$Reader" (162 : Nat) ({ cls := "MiddleSheet$Reader", name := "tells", desc := "()V" } : Jvm.MethodName)) ∈ lw_all := lw_g (lw_at lw_m2 93 rfl) rfl
theorem q436 : (Jvm.Cond.privateMethod ({ cls := "MiddleSheet$Reader", name := "tells", desc := "()V" } : Jvm.MethodName)) ∈ lw_tbl := lw_at lw_m2 94 rfl
theorem q437 : (Jvm.Cond.instanceMethod ({ cls := "MiddleSheet$Reader", name := "tells", desc := "()V" } : Jvm.MethodName)) ∈ lw_all := lw_g (lw_at lw_m2 95 rfl) rfl
theorem q438 : (Jvm.Cond.code ({ cls := "MiddleSheet$Reader", name := "tells", desc := "()V" } : Jvm.MethodName) prog_10_method_12_code (4 : Nat) (Option.none : Option Jvm.ClassFile.FieldType)) ∈ lw_all := lw_g (lw_at lw_m2 96 rfl) rfl
theorem q439 : (Jvm.Cond.stringRef "MiddleSheet$Reader" (108 : Nat) "near stretch voter place win ") ∈ lw_tbl := lw_at lw_m2 97 rfl
theorem q440 : (Jvm.Cond.methodLink "MiddleSheet$Reader" (69 : Nat) ({ cls := "MiddleSheet$Reader", name := "word", desc := "(Ljava/lang/String;)I" } : Jvm.MethodName)) ∈ lw_all := lw_g (lw_at lw_m2 98 rfl) rfl
theorem q441 : (Jvm.Cond.privateMethod ({ cls := "MiddleSheet$Reader", name := "word", desc := "(Ljava/lang/String;)I" } : Jvm.MethodName)) ∈ lw_tbl := lw_at lw_m2 99 rfl
theorem q442 : (Jvm.Cond.instanceMethod ({ cls := "MiddleSheet$Reader", name := "word", desc := "(Ljava/lang/String;)I" } : Jvm.MethodName)) ∈ lw_all := lw_g (lw_at lw_m2 100 rfl) rfl
theorem q443 : (Jvm.Cond.code ({ cls := "MiddleSheet$Reader", name := "word", desc := "(Ljava/lang/String;)I" } : Jvm.MethodName) prog_10_method_7_code (6 : Nat) (Option.some Jvm.ClassFile.FieldType.int)) ∈ lw_all := lw_g (lw_at lw_m2 101 rfl) rfl
theorem q444 : (Jvm.Cond.methodLink "MiddleSheet$Reader" (51 : Nat) ({ cls := "java/lang/String", name := "length", desc := "()I" } : Jvm.MethodName)) ∈ lw_all := lw_g (lw_at lw_m2 102 rfl) rfl
theorem q454 : (Jvm.Cond.methodLink "MiddleSheet$Reader" (57 : Nat) ({ cls := "MiddleSheet$Reader", name := "isOver", desc := "()Z" } : Jvm.MethodName)) ∈ lw_all := lw_g (lw_at lw_m2 112 rfl) rfl
theorem q455 : (Jvm.Cond.privateMethod ({ cls := "MiddleSheet$Reader", name := "isOver", desc := "()Z" } : Jvm.MethodName)) ∈ lw_tbl := lw_at lw_m2 113 rfl
theorem q456 : (Jvm.Cond.instanceMethod ({ cls := "MiddleSheet$Reader", name := "isOver", desc := "()Z" } : Jvm.MethodName)) ∈ lw_all := lw_g (lw_at lw_m2 114 rfl) rfl
theorem q457 : (Jvm.Cond.code ({ cls := "MiddleSheet$Reader", name := "isOver", desc := "()Z" } : Jvm.MethodName) prog_10_method_6_code (1 : Nat) (Option.some Jvm.ClassFile.FieldType.boolean)) ∈ lw_all := lw_g (lw_at lw_m2 115 rfl) rfl
theorem q458 : (Jvm.Cond.methodLink "MiddleSheet$Reader" (61 : Nat) ({ cls := "java/lang/String", name := "indexOf", desc := "(II)I" } : Jvm.MethodName)) ∈ lw_all := lw_g (lw_at lw_m2 116 rfl) rfl
theorem q531 : (Jvm.Cond.methodLink "MiddleSheet$Reader" (65 : Nat) ({ cls := "java/lang/String", name := "charAt", desc := "(I)C" } : Jvm.MethodName)) ∈ lw_all := lw_g (lw_at lw_m2 189 rfl) rfl
theorem q551 : (Jvm.Cond.methodLink "MiddleSheet$Reader" (110 : Nat) ({ cls := "java/util/ArrayList", name := "size", desc := "()I" } : Jvm.MethodName)) ∈ lw_all := lw_g (lw_at lw_m2 209 rfl) rfl
theorem q555 : (Jvm.Cond.stringRef "MiddleSheet$Reader" (116 : Nat) "crow street side line ") ∈ lw_tbl := lw_at lw_m2 213 rfl
theorem q556 : (Jvm.Cond.methodLink "MiddleSheet$Reader" (118 : Nat) ({ cls := "MiddleSheet$Reader", name := "needsWord", desc := "(Ljava/lang/String;)I" } : Jvm.MethodName)) ∈ lw_all := lw_g (lw_at lw_m2 214 rfl) rfl
theorem q557 : (Jvm.Cond.privateMethod ({ cls := "MiddleSheet$Reader", name := "needsWord", desc := "(Ljava/lang/String;)I" } : Jvm.MethodName)) ∈ lw_tbl := lw_at lw_m2 215 rfl
theorem q558 : (Jvm.Cond.instanceMethod ({ cls := "MiddleSheet$Reader", name := "needsWord", desc := "(Ljava/lang/String;)I" } : Jvm.MethodName)) ∈ lw_all := lw_g (lw_at lw_m2 216 rfl) rfl
theorem q559 : (Jvm.Cond.code ({ cls := "MiddleSheet$Reader", name := "needsWord", desc := "(Ljava/lang/String;)I" } : Jvm.MethodName) prog_10_method_8_code (3 : Nat) (Option.some Jvm.ClassFile.FieldType.int)) ∈ lw_all := lw_g (lw_at lw_m2 217 rfl) rfl
theorem q560 : (Jvm.Cond.methodLink "MiddleSheet$Reader" (121 : Nat) ({ cls := "MiddleSheet$Reader", name := "number", desc := "(II)I" } : Jvm.MethodName)) ∈ lw_all := lw_g (lw_at lw_m2 218 rfl) rfl
theorem q561 : (Jvm.Cond.privateMethod ({ cls := "MiddleSheet$Reader", name := "number", desc := "(II)I" } : Jvm.MethodName)) ∈ lw_tbl := lw_at lw_m2 219 rfl
theorem q562 : (Jvm.Cond.instanceMethod ({ cls := "MiddleSheet$Reader", name := "number", desc := "(II)I" } : Jvm.MethodName)) ∈ lw_all := lw_g (lw_at lw_m2 220 rfl) rfl
theorem q563 : (Jvm.Cond.code ({ cls := "MiddleSheet$Reader", name := "number", desc := "(II)I" } : Jvm.MethodName) prog_10_method_10_code (5 : Nat) (Option.some Jvm.ClassFile.FieldType.int)) ∈ lw_all := lw_g (lw_at lw_m2 221 rfl) rfl
theorem q564 : (Jvm.Cond.methodLink "MiddleSheet$Reader" (76 : Nat) ({ cls := "java/lang/Math", name := "min", desc := "(II)I" } : Jvm.MethodName)) ∈ lw_all := lw_g (lw_at lw_m2 222 rfl) rfl
theorem q565 : (Jvm.Cond.methodLinkNest "MiddleSheet$Reader" (81 : Nat) ({ cls := "MiddleSheet", name := "in", desc := "(III)Z" } : Jvm.MethodName) "MiddleSheet") ∈ lw_tbl := lw_at lw_m2 223 rfl
theorem q566 : (Jvm.Cond.methodLink "MiddleSheet$Reader" (124 : Nat) ({ cls := "MiddleSheet$Reader", name := "voter", desc := "()V" } : Jvm.MethodName)) ∈ lw_all := lw_g (lw_at lw_m2 224 rfl) rfl
theorem q567 : (Jvm.Cond.privateMethod ({ cls := "MiddleSheet$Reader", name := "voter", desc := "()V" } : Jvm.MethodName)) ∈ lw_tbl := lw_at lw_m2 225 rfl
theorem q568 : (Jvm.Cond.instanceMethod ({ cls := "MiddleSheet$Reader", name := "voter", desc := "()V" } : Jvm.MethodName)) ∈ lw_all := lw_g (lw_at lw_m2 226 rfl) rfl
theorem q569 : (Jvm.Cond.code ({ cls := "MiddleSheet$Reader", name := "voter", desc := "()V" } : Jvm.MethodName) prog_10_method_13_code (4 : Nat) (Option.none : Option Jvm.ClassFile.FieldType)) ∈ lw_all := lw_g (lw_at lw_m2 227 rfl) rfl
theorem q570 : (Jvm.Cond.stringRef "MiddleSheet$Reader" (142 : Nat) "by ") ∈ lw_tbl := lw_at lw_m2 228 rfl
theorem q571 : (Jvm.Cond.methodLink "MiddleSheet$Reader" (144 : Nat) ({ cls := "MiddleSheet$Reader", name := "made", desc := "(III)LMiddleSheet$Voter;" } : Jvm.MethodName)) ∈ lw_all := lw_g (lw_at lw_m2 229 rfl) rfl
theorem q572 : (Jvm.Cond.privateMethod ({ cls := "MiddleSheet$Reader", name := "made", desc := "(III)LMiddleSheet$Voter;" } : Jvm.MethodName)) ∈ lw_tbl := lw_at lw_m2 230 rfl
theorem q573 : (Jvm.Cond.instanceMethod ({ cls := "MiddleSheet$Reader", name := "made", desc := "(III)LMiddleSheet$Voter;" } : Jvm.MethodName)) ∈ lw_all := lw_g (lw_at lw_m2 231 rfl) rfl
theorem q574 : (Jvm.Cond.code ({ cls := "MiddleSheet$Reader", name := "made", desc := "(III)LMiddleSheet$Voter;" } : Jvm.MethodName) prog_10_method_11_code (4 : Nat) (Option.some (Jvm.ClassFile.FieldType.object "MiddleSheet$Voter"))) ∈ lw_all := lw_g (lw_at lw_m2 232 rfl) rfl
theorem q575 : (Jvm.Cond.classLink "MiddleSheet$Reader" (88 : Nat) "MiddleSheet$Crow") ∈ lw_all := lw_g (lw_at lw_m2 233 rfl) rfl
theorem q577 : (Jvm.Cond.methodLink "MiddleSheet$Reader" (96 : Nat) ({ cls := "MiddleSheet$Crow", name := "<init>", desc := "(IIIII)V" } : Jvm.MethodName)) ∈ lw_all := lw_g (lw_at lw_m2 235 rfl) rfl
theorem q605 : (Jvm.Cond.classLink "MiddleSheet$Reader" (99 : Nat) "MiddleSheet$Street") ∈ lw_all := lw_g (lw_at lw_m3 23 rfl) rfl
theorem q607 : (Jvm.Cond.methodLink "MiddleSheet$Reader" (101 : Nat) ({ cls := "MiddleSheet$Street", name := "<init>", desc := "(IIIII)V" } : Jvm.MethodName)) ∈ lw_all := lw_g (lw_at lw_m3 25 rfl) rfl
theorem q617 : (Jvm.Cond.classLink "MiddleSheet$Reader" (102 : Nat) "MiddleSheet$Greater") ∈ lw_all := lw_g (lw_at lw_m3 35 rfl) rfl
theorem q619 : (Jvm.Cond.methodLink "MiddleSheet$Reader" (104 : Nat) ({ cls := "MiddleSheet$Greater", name := "<init>", desc := "(IIIII)V" } : Jvm.MethodName)) ∈ lw_all := lw_g (lw_at lw_m3 37 rfl) rfl
theorem q629 : (Jvm.Cond.classLink "MiddleSheet$Reader" (105 : Nat) "MiddleSheet$OneWay") ∈ lw_all := lw_g (lw_at lw_m3 47 rfl) rfl
theorem q631 : (Jvm.Cond.methodLink "MiddleSheet$Reader" (107 : Nat) ({ cls := "MiddleSheet$OneWay", name := "<init>", desc := "(IIIII)V" } : Jvm.MethodName)) ∈ lw_all := lw_g (lw_at lw_m3 49 rfl) rfl
theorem q641 : (Jvm.Cond.methodLink "MiddleSheet$Reader" (132 : Nat) ({ cls := "java/util/ArrayList", name := "add", desc := "(Ljava/lang/Object;)Z" } : Jvm.MethodName)) ∈ lw_all := lw_g (lw_at lw_m3 59 rfl) rfl
theorem q680 : (Jvm.Cond.selects "MiddleSheet$Reader" ({ cls := "java/lang/Object", name := "getClass", desc := "()Ljava/lang/Class;" } : Jvm.MethodName) ({ cls := "java/lang/Object", name := "getClass", desc := "()Ljava/lang/Class;" } : Jvm.MethodName)) ∈ lw_all := lw_g (lw_at lw_m3 98 rfl) rfl
theorem q698 : (Jvm.Cond.classLink "MiddleSheet$Reader" (127 : Nat) "MiddleSheet$Place") ∈ lw_all := lw_g (lw_at lw_m3 116 rfl) rfl
theorem q700 : (Jvm.Cond.methodLink "MiddleSheet$Reader" (129 : Nat) ({ cls := "MiddleSheet$Place", name := "<init>", desc := "(II)V" } : Jvm.MethodName)) ∈ lw_all := lw_g (lw_at lw_m3 118 rfl) rfl
theorem q713 : (Jvm.Cond.methodLink "MiddleSheet$Reader" (136 : Nat) ({ cls := "MiddleSheet$Reader", name := "win", desc := "()V" } : Jvm.MethodName)) ∈ lw_all := lw_g (lw_at lw_m3 131 rfl) rfl
theorem q714 : (Jvm.Cond.privateMethod ({ cls := "MiddleSheet$Reader", name := "win", desc := "()V" } : Jvm.MethodName)) ∈ lw_tbl := lw_at lw_m3 132 rfl
theorem q715 : (Jvm.Cond.instanceMethod ({ cls := "MiddleSheet$Reader", name := "win", desc := "()V" } : Jvm.MethodName)) ∈ lw_all := lw_g (lw_at lw_m3 133 rfl) rfl
theorem q716 : (Jvm.Cond.code ({ cls := "MiddleSheet$Reader", name := "win", desc := "()V" } : Jvm.MethodName) prog_10_method_14_code (3 : Nat) (Option.none : Option Jvm.ClassFile.FieldType)) ∈ lw_all := lw_g (lw_at lw_m3 134 rfl) rfl
theorem q717 : (Jvm.Cond.stringRef "MiddleSheet$Reader" (148 : Nat) "more over least ") ∈ lw_tbl := lw_at lw_m3 135 rfl
theorem q718 : (Jvm.Cond.methodLink "MiddleSheet$Reader" (139 : Nat) ({ cls := "MiddleSheet$Reader", name := "needs", desc := "(I)V" } : Jvm.MethodName)) ∈ lw_all := lw_g (lw_at lw_m3 136 rfl) rfl
theorem q719 : (Jvm.Cond.privateMethod ({ cls := "MiddleSheet$Reader", name := "needs", desc := "(I)V" } : Jvm.MethodName)) ∈ lw_tbl := lw_at lw_m3 137 rfl
theorem q720 : (Jvm.Cond.instanceMethod ({ cls := "MiddleSheet$Reader", name := "needs", desc := "(I)V" } : Jvm.MethodName)) ∈ lw_all := lw_g (lw_at lw_m3 138 rfl) rfl
theorem q721 : (Jvm.Cond.code ({ cls := "MiddleSheet$Reader", name := "needs", desc := "(I)V" } : Jvm.MethodName) prog_10_method_9_code (2 : Nat) (Option.none : Option Jvm.ClassFile.FieldType)) ∈ lw_all := lw_g (lw_at lw_m3 139 rfl) rfl
theorem q722 : (Jvm.Cond.methodLink "MiddleSheet$Reader" (165 : Nat) ({ cls := "java/util/ArrayList", name := "isEmpty", desc := "()Z" } : Jvm.MethodName)) ∈ lw_all := lw_g (lw_at lw_m3 140 rfl) rfl
theorem q1772 : (Jvm.Cond.castable "MiddleSheet$Reader" "java/lang/Object") ∈ lw_tbl := lw_at lw_m7 230 rfl
theorem in_X1 : ∀ w ∈ wsX10, w ∈ lw_all := lw_in wsX10 [190, 192, 194, 196, 198, 200, 202, 204, 206, 208, 210] (by decide +kernel) (by decide +kernel)
/-! MiddleSheet$Place -/
def RX10 : String := "MiddleSheet$Place"
def TX10 : u_T := fun k => match k with
  | 0 => ("MiddleSheet$Place", "x", "I", true)
  | _ => ("MiddleSheet$Place", "y", "I", true)
def tyX10 : Nat → FieldType := fun k => match k with
  | 0 => .int
  | _ => .int
abbrev wsX100 : List Cond := u_ws RX10 TX10 2
theorem nmX10 : ∀ a, a < 2 → ∀ b, b < 2 → a ≠ b → (TX10 a).2.1 ≠ (TX10 b).2.1 := by decide +kernel
theorem tyX10_ok : ∀ k, k < 2 → parseFieldDescriptor (TX10 k).2.2.1 = some (tyX10 k) := by decide +kernel
abbrev cX10_init : ByteArray := prog_9_method_1_code
def yX10_init : MethodName := ⟨RX10, "<init>", "(II)V"⟩
theorem q128 : (Jvm.Cond.initialized "MiddleSheet$Place") ∈ lw_all := lw_g (lw_at lw_m1 26 rfl) rfl
theorem q679 : (Jvm.Cond.selects "MiddleSheet$Place" ({ cls := "java/lang/Object", name := "getClass", desc := "()Ljava/lang/Class;" } : Jvm.MethodName) ({ cls := "java/lang/Object", name := "getClass", desc := "()Ljava/lang/Class;" } : Jvm.MethodName)) ∈ lw_all := lw_g (lw_at lw_m3 97 rfl) rfl
theorem q699 : (Jvm.Cond.instantiable "MiddleSheet$Place" (2 : Nat)) ∈ lw_all := lw_g (lw_at lw_m3 117 rfl) rfl
theorem q701 : (Jvm.Cond.instanceMethod ({ cls := "MiddleSheet$Place", name := "<init>", desc := "(II)V" } : Jvm.MethodName)) ∈ lw_all := lw_g (lw_at lw_m3 119 rfl) rfl
theorem q702 : (Jvm.Cond.code ({ cls := "MiddleSheet$Place", name := "<init>", desc := "(II)V" } : Jvm.MethodName) prog_9_method_1_code (3 : Nat) (Option.none : Option Jvm.ClassFile.FieldType)) ∈ lw_all := lw_g (lw_at lw_m3 120 rfl) rfl
theorem q703 : (Jvm.Cond.methodLink "MiddleSheet$Place" (3 : Nat) ({ cls := "java/lang/Object", name := "<init>", desc := "()V" } : Jvm.MethodName)) ∈ lw_all := lw_g (lw_at lw_m3 121 rfl) rfl
theorem q704 : (Jvm.Cond.fieldLink "MiddleSheet$Place" (9 : Nat) "MiddleSheet$Place" "x" "I") ∈ lw_all := lw_g (lw_at lw_m3 122 rfl) rfl
theorem q706 : (Jvm.Cond.fieldLink "MiddleSheet$Place" (15 : Nat) "MiddleSheet$Place" "y" "I") ∈ lw_all := lw_g (lw_at lw_m3 124 rfl) rfl
theorem q708 : (Jvm.Cond.laysFinal "MiddleSheet$Place" "MiddleSheet$Place" "x" "I") ∈ lw_all := lw_g (lw_at lw_m3 126 rfl) rfl
theorem q709 : (Jvm.Cond.soleField "MiddleSheet$Place" "x") ∈ lw_all := lw_g (lw_at lw_m3 127 rfl) rfl
theorem q710 : (Jvm.Cond.laysFinal "MiddleSheet$Place" "MiddleSheet$Place" "y" "I") ∈ lw_all := lw_g (lw_at lw_m3 128 rfl) rfl
theorem q711 : (Jvm.Cond.soleField "MiddleSheet$Place" "y") ∈ lw_all := lw_g (lw_at lw_m3 129 rfl) rfl
theorem q712 : (Jvm.Cond.superclass "MiddleSheet$Place" "java/lang/Object") ∈ lw_all := lw_g (lw_at lw_m3 130 rfl) rfl
theorem q1781 : (Jvm.Cond.castable "MiddleSheet$Place" "java/lang/Object") ∈ lw_tbl := lw_at lw_m7 239 rfl
theorem in_X10 : ∀ w ∈ wsX100, w ∈ lw_all := lw_in wsX100 [708, 710] (by decide +kernel) (by decide +kernel)
/-! MiddleSheet$Line -/
def RX11 : String := "MiddleSheet$Line"
def TX11 : u_T := fun k => match k with
  | 0 => ("MiddleSheet$Line", "a", "J", true)
  | 1 => ("MiddleSheet$Line", "b", "J", true)
  | _ => ("MiddleSheet$Line", "c", "J", true)
def tyX11 : Nat → FieldType := fun k => match k with
  | 0 => .long
  | 1 => .long
  | _ => .long
abbrev wsX110 : List Cond := u_ws RX11 TX11 3
theorem nmX11 : ∀ a, a < 3 → ∀ b, b < 3 → a ≠ b → (TX11 a).2.1 ≠ (TX11 b).2.1 := by decide +kernel
theorem tyX11_ok : ∀ k, k < 3 → parseFieldDescriptor (TX11 k).2.2.1 = some (tyX11 k) := by decide +kernel
abbrev cX11_init : ByteArray := prog_6_method_1_code
def yX11_init : MethodName := ⟨RX11, "<init>", "(IIII)V"⟩
abbrev cX11_isAhead : ByteArray := prog_6_method_3_code
def yX11_isAhead : MethodName := ⟨RX11, "isAhead", "(LMiddleSheet$Line;)Z"⟩
abbrev cX11_isSame : ByteArray := prog_6_method_4_code
def yX11_isSame : MethodName := ⟨RX11, "isSame", "(LMiddleSheet$Line;)Z"⟩
abbrev cX11_side : ByteArray := prog_6_method_2_code
def yX11_side : MethodName := ⟨RX11, "side", "(JJ)I"⟩
abbrev cX11_isAlong : ByteArray := prog_6_method_5_code
def yX11_isAlong : MethodName := ⟨RX11, "isAlong", "(LMiddleSheet$Line;)Z"⟩
theorem q131 : (Jvm.Cond.initialized "MiddleSheet$Line") ∈ lw_all := lw_g (lw_at lw_m1 29 rfl) rfl
theorem q676 : (Jvm.Cond.selects "MiddleSheet$Line" ({ cls := "java/lang/Object", name := "getClass", desc := "()Ljava/lang/Class;" } : Jvm.MethodName) ({ cls := "java/lang/Object", name := "getClass", desc := "()Ljava/lang/Class;" } : Jvm.MethodName)) ∈ lw_all := lw_g (lw_at lw_m3 94 rfl) rfl
theorem q884 : (Jvm.Cond.instantiable "MiddleSheet$Line" (3 : Nat)) ∈ lw_all := lw_g (lw_at lw_m4 62 rfl) rfl
theorem q886 : (Jvm.Cond.instanceMethod ({ cls := "MiddleSheet$Line", name := "<init>", desc := "(IIII)V" } : Jvm.MethodName)) ∈ lw_all := lw_g (lw_at lw_m4 64 rfl) rfl
theorem q887 : (Jvm.Cond.code ({ cls := "MiddleSheet$Line", name := "<init>", desc := "(IIII)V" } : Jvm.MethodName) prog_6_method_1_code (11 : Nat) (Option.none : Option Jvm.ClassFile.FieldType)) ∈ lw_all := lw_g (lw_at lw_m4 65 rfl) rfl
theorem q888 : (Jvm.Cond.methodLink "MiddleSheet$Line" (1 : Nat) ({ cls := "java/lang/Object", name := "<init>", desc := "()V" } : Jvm.MethodName)) ∈ lw_all := lw_g (lw_at lw_m4 66 rfl) rfl
theorem q889 : (Jvm.Cond.methodLinkNest "MiddleSheet$Line" (7 : Nat) ({ cls := "MiddleSheet", name := "common", desc := "(JJ)J" } : Jvm.MethodName) "MiddleSheet") ∈ lw_tbl := lw_at lw_m4 67 rfl
theorem q895 : (Jvm.Cond.fieldLink "MiddleSheet$Line" (13 : Nat) "MiddleSheet$Line" "a" "J") ∈ lw_all := lw_g (lw_at lw_m4 73 rfl) rfl
theorem q898 : (Jvm.Cond.fieldLink "MiddleSheet$Line" (19 : Nat) "MiddleSheet$Line" "b" "J") ∈ lw_all := lw_g (lw_at lw_m4 76 rfl) rfl
theorem q901 : (Jvm.Cond.fieldLink "MiddleSheet$Line" (22 : Nat) "MiddleSheet$Line" "c" "J") ∈ lw_all := lw_g (lw_at lw_m4 79 rfl) rfl
theorem q904 : (Jvm.Cond.laysFinal "MiddleSheet$Line" "MiddleSheet$Line" "a" "J") ∈ lw_all := lw_g (lw_at lw_m4 82 rfl) rfl
theorem q905 : (Jvm.Cond.soleField "MiddleSheet$Line" "a") ∈ lw_all := lw_g (lw_at lw_m4 83 rfl) rfl
theorem q906 : (Jvm.Cond.laysFinal "MiddleSheet$Line" "MiddleSheet$Line" "b" "J") ∈ lw_all := lw_g (lw_at lw_m4 84 rfl) rfl
theorem q907 : (Jvm.Cond.soleField "MiddleSheet$Line" "b") ∈ lw_all := lw_g (lw_at lw_m4 85 rfl) rfl
theorem q908 : (Jvm.Cond.laysFinal "MiddleSheet$Line" "MiddleSheet$Line" "c" "J") ∈ lw_all := lw_g (lw_at lw_m4 86 rfl) rfl
theorem q909 : (Jvm.Cond.soleField "MiddleSheet$Line" "c") ∈ lw_all := lw_g (lw_at lw_m4 87 rfl) rfl
theorem q910 : (Jvm.Cond.superclass "MiddleSheet$Line" "java/lang/Object") ∈ lw_all := lw_g (lw_at lw_m4 88 rfl) rfl
theorem q912 : (Jvm.Cond.instanceMethod ({ cls := "MiddleSheet$Line", name := "isAhead", desc := "(LMiddleSheet$Line;)Z" } : Jvm.MethodName)) ∈ lw_all := lw_g (lw_at lw_m4 90 rfl) rfl
theorem q913 : (Jvm.Cond.selects "MiddleSheet$Line" ({ cls := "MiddleSheet$Line", name := "isAhead", desc := "(LMiddleSheet$Line;)Z" } : Jvm.MethodName) ({ cls := "MiddleSheet$Line", name := "isAhead", desc := "(LMiddleSheet$Line;)Z" } : Jvm.MethodName)) ∈ lw_all := lw_g (lw_at lw_m4 91 rfl) rfl
theorem q914 : (Jvm.Cond.code ({ cls := "MiddleSheet$Line", name := "isAhead", desc := "(LMiddleSheet$Line;)Z" } : Jvm.MethodName) prog_6_method_3_code (4 : Nat) (Option.some Jvm.ClassFile.FieldType.boolean)) ∈ lw_all := lw_g (lw_at lw_m4 92 rfl) rfl
theorem q916 : (Jvm.Cond.instanceMethod ({ cls := "MiddleSheet$Line", name := "isSame", desc := "(LMiddleSheet$Line;)Z" } : Jvm.MethodName)) ∈ lw_all := lw_g (lw_at lw_m4 94 rfl) rfl
theorem q917 : (Jvm.Cond.selects "MiddleSheet$Line" ({ cls := "MiddleSheet$Line", name := "isSame", desc := "(LMiddleSheet$Line;)Z" } : Jvm.MethodName) ({ cls := "MiddleSheet$Line", name := "isSame", desc := "(LMiddleSheet$Line;)Z" } : Jvm.MethodName)) ∈ lw_all := lw_g (lw_at lw_m4 95 rfl) rfl
theorem q918 : (Jvm.Cond.code ({ cls := "MiddleSheet$Line", name := "isSame", desc := "(LMiddleSheet$Line;)Z" } : Jvm.MethodName) prog_6_method_4_code (2 : Nat) (Option.some Jvm.ClassFile.FieldType.boolean)) ∈ lw_all := lw_g (lw_at lw_m4 96 rfl) rfl
theorem q924 : (Jvm.Cond.instanceMethod ({ cls := "MiddleSheet$Line", name := "side", desc := "(JJ)I" } : Jvm.MethodName)) ∈ lw_all := lw_g (lw_at lw_m4 102 rfl) rfl
theorem q925 : (Jvm.Cond.selects "MiddleSheet$Line" ({ cls := "MiddleSheet$Line", name := "side", desc := "(JJ)I" } : Jvm.MethodName) ({ cls := "MiddleSheet$Line", name := "side", desc := "(JJ)I" } : Jvm.MethodName)) ∈ lw_all := lw_g (lw_at lw_m4 103 rfl) rfl
theorem q926 : (Jvm.Cond.code ({ cls := "MiddleSheet$Line", name := "side", desc := "(JJ)I" } : Jvm.MethodName) prog_6_method_2_code (5 : Nat) (Option.some Jvm.ClassFile.FieldType.int)) ∈ lw_all := lw_g (lw_at lw_m4 104 rfl) rfl
theorem q927 : (Jvm.Cond.methodLink "MiddleSheet$Line" (25 : Nat) ({ cls := "java/lang/Long", name := "signum", desc := "(J)I" } : Jvm.MethodName)) ∈ lw_all := lw_g (lw_at lw_m4 105 rfl) rfl
theorem q986 : (Jvm.Cond.instanceMethod ({ cls := "MiddleSheet$Line", name := "isAlong", desc := "(LMiddleSheet$Line;)Z" } : Jvm.MethodName)) ∈ lw_all := lw_g (lw_at lw_m4 164 rfl) rfl
theorem q987 : (Jvm.Cond.selects "MiddleSheet$Line" ({ cls := "MiddleSheet$Line", name := "isAlong", desc := "(LMiddleSheet$Line;)Z" } : Jvm.MethodName) ({ cls := "MiddleSheet$Line", name := "isAlong", desc := "(LMiddleSheet$Line;)Z" } : Jvm.MethodName)) ∈ lw_all := lw_g (lw_at lw_m4 165 rfl) rfl
theorem q988 : (Jvm.Cond.code ({ cls := "MiddleSheet$Line", name := "isAlong", desc := "(LMiddleSheet$Line;)Z" } : Jvm.MethodName) prog_6_method_5_code (2 : Nat) (Option.some Jvm.ClassFile.FieldType.boolean)) ∈ lw_all := lw_g (lw_at lw_m4 166 rfl) rfl
theorem q1782 : (Jvm.Cond.castable "MiddleSheet$Line" "java/lang/Object") ∈ lw_tbl := lw_at lw_m8 0 rfl
theorem in_X11 : ∀ w ∈ wsX110, w ∈ lw_all := lw_in wsX110 [904, 906, 908] (by decide +kernel) (by decide +kernel)
/-! MiddleSheet$Spot -/
def RX12 : String := "MiddleSheet$Spot"
def TX12 : u_T := fun k => match k with
  | 0 => ("MiddleSheet$Spot", "x", "J", true)
  | 1 => ("MiddleSheet$Spot", "y", "J", true)
  | _ => ("MiddleSheet$Spot", "n", "J", true)
def tyX12 : Nat → FieldType := fun k => match k with
  | 0 => .long
  | 1 => .long
  | _ => .long
abbrev wsX120 : List Cond := u_ws RX12 TX12 3
theorem nmX12 : ∀ a, a < 3 → ∀ b, b < 3 → a ≠ b → (TX12 a).2.1 ≠ (TX12 b).2.1 := by decide +kernel
theorem tyX12_ok : ∀ k, k < 3 → parseFieldDescriptor (TX12 k).2.2.1 = some (tyX12 k) := by decide +kernel
abbrev cX12_init : ByteArray := prog_11_method_1_code
def yX12_init : MethodName := ⟨RX12, "<init>", "(JJJ)V"⟩
abbrev cX12_isAhead : ByteArray := prog_11_method_4_code
def yX12_isAhead : MethodName := ⟨RX12, "isAhead", "(LMiddleSheet$Spot;)Z"⟩
abbrev cX12_isSame : ByteArray := prog_11_method_5_code
def yX12_isSame : MethodName := ⟨RX12, "isSame", "(LMiddleSheet$Spot;)Z"⟩
abbrev cX12_crossing : ByteArray := prog_11_method_2_code
def yX12_crossing : MethodName := ⟨RX12, "crossing", "(LMiddleSheet$Line;LMiddleSheet$Line;)LMiddleSheet$Spot;"⟩
abbrev cX12_isOn : ByteArray := prog_11_method_3_code
def yX12_isOn : MethodName := ⟨RX12, "isOn", "(LMiddleSheet$Line;)Z"⟩
theorem q133 : (Jvm.Cond.initialized "MiddleSheet$Spot") ∈ lw_all := lw_g (lw_at lw_m1 31 rfl) rfl
theorem q681 : (Jvm.Cond.selects "MiddleSheet$Spot" ({ cls := "java/lang/Object", name := "getClass", desc := "()Ljava/lang/Class;" } : Jvm.MethodName) ({ cls := "java/lang/Object", name := "getClass", desc := "()Ljava/lang/Class;" } : Jvm.MethodName)) ∈ lw_all := lw_g (lw_at lw_m3 99 rfl) rfl
theorem q896 : (Jvm.Cond.fieldLinkNest "MiddleSheet$Spot" (33 : Nat) "MiddleSheet$Line" "a" "J" "MiddleSheet") ∈ lw_tbl := lw_at lw_m4 74 rfl
theorem q899 : (Jvm.Cond.fieldLinkNest "MiddleSheet$Spot" (30 : Nat) "MiddleSheet$Line" "b" "J" "MiddleSheet") ∈ lw_tbl := lw_at lw_m4 77 rfl
theorem q902 : (Jvm.Cond.fieldLinkNest "MiddleSheet$Spot" (25 : Nat) "MiddleSheet$Line" "c" "J" "MiddleSheet") ∈ lw_tbl := lw_at lw_m4 80 rfl
theorem q949 : (Jvm.Cond.instantiable "MiddleSheet$Spot" (3 : Nat)) ∈ lw_all := lw_g (lw_at lw_m4 127 rfl) rfl
theorem q951 : (Jvm.Cond.instanceMethod ({ cls := "MiddleSheet$Spot", name := "<init>", desc := "(JJJ)V" } : Jvm.MethodName)) ∈ lw_all := lw_g (lw_at lw_m4 129 rfl) rfl
theorem q952 : (Jvm.Cond.code ({ cls := "MiddleSheet$Spot", name := "<init>", desc := "(JJJ)V" } : Jvm.MethodName) prog_11_method_1_code (9 : Nat) (Option.none : Option Jvm.ClassFile.FieldType)) ∈ lw_all := lw_g (lw_at lw_m4 130 rfl) rfl
theorem q953 : (Jvm.Cond.methodLink "MiddleSheet$Spot" (1 : Nat) ({ cls := "java/lang/Object", name := "<init>", desc := "()V" } : Jvm.MethodName)) ∈ lw_all := lw_g (lw_at lw_m4 131 rfl) rfl
theorem q954 : (Jvm.Cond.methodLinkNest "MiddleSheet$Spot" (7 : Nat) ({ cls := "MiddleSheet", name := "common", desc := "(JJ)J" } : Jvm.MethodName) "MiddleSheet") ∈ lw_tbl := lw_at lw_m4 132 rfl
theorem q955 : (Jvm.Cond.fieldLink "MiddleSheet$Spot" (13 : Nat) "MiddleSheet$Spot" "x" "J") ∈ lw_all := lw_g (lw_at lw_m4 133 rfl) rfl
theorem q957 : (Jvm.Cond.fieldLink "MiddleSheet$Spot" (19 : Nat) "MiddleSheet$Spot" "y" "J") ∈ lw_all := lw_g (lw_at lw_m4 135 rfl) rfl
theorem q959 : (Jvm.Cond.fieldLink "MiddleSheet$Spot" (22 : Nat) "MiddleSheet$Spot" "n" "J") ∈ lw_all := lw_g (lw_at lw_m4 137 rfl) rfl
theorem q961 : (Jvm.Cond.laysFinal "MiddleSheet$Spot" "MiddleSheet$Spot" "x" "J") ∈ lw_all := lw_g (lw_at lw_m4 139 rfl) rfl
theorem q962 : (Jvm.Cond.soleField "MiddleSheet$Spot" "x") ∈ lw_all := lw_g (lw_at lw_m4 140 rfl) rfl
theorem q963 : (Jvm.Cond.laysFinal "MiddleSheet$Spot" "MiddleSheet$Spot" "y" "J") ∈ lw_all := lw_g (lw_at lw_m4 141 rfl) rfl
theorem q964 : (Jvm.Cond.soleField "MiddleSheet$Spot" "y") ∈ lw_all := lw_g (lw_at lw_m4 142 rfl) rfl
theorem q965 : (Jvm.Cond.laysFinal "MiddleSheet$Spot" "MiddleSheet$Spot" "n" "J") ∈ lw_all := lw_g (lw_at lw_m4 143 rfl) rfl
theorem q966 : (Jvm.Cond.soleField "MiddleSheet$Spot" "n") ∈ lw_all := lw_g (lw_at lw_m4 144 rfl) rfl
theorem q967 : (Jvm.Cond.superclass "MiddleSheet$Spot" "java/lang/Object") ∈ lw_all := lw_g (lw_at lw_m4 145 rfl) rfl
theorem q973 : (Jvm.Cond.instanceMethod ({ cls := "MiddleSheet$Spot", name := "isAhead", desc := "(LMiddleSheet$Spot;)Z" } : Jvm.MethodName)) ∈ lw_all := lw_g (lw_at lw_m4 151 rfl) rfl
theorem q974 : (Jvm.Cond.selects "MiddleSheet$Spot" ({ cls := "MiddleSheet$Spot", name := "isAhead", desc := "(LMiddleSheet$Spot;)Z" } : Jvm.MethodName) ({ cls := "MiddleSheet$Spot", name := "isAhead", desc := "(LMiddleSheet$Spot;)Z" } : Jvm.MethodName)) ∈ lw_all := lw_g (lw_at lw_m4 152 rfl) rfl
theorem q975 : (Jvm.Cond.code ({ cls := "MiddleSheet$Spot", name := "isAhead", desc := "(LMiddleSheet$Spot;)Z" } : Jvm.MethodName) prog_11_method_4_code (4 : Nat) (Option.some Jvm.ClassFile.FieldType.boolean)) ∈ lw_all := lw_g (lw_at lw_m4 153 rfl) rfl
theorem q977 : (Jvm.Cond.instanceMethod ({ cls := "MiddleSheet$Spot", name := "isSame", desc := "(LMiddleSheet$Spot;)Z" } : Jvm.MethodName)) ∈ lw_all := lw_g (lw_at lw_m4 155 rfl) rfl
theorem q978 : (Jvm.Cond.selects "MiddleSheet$Spot" ({ cls := "MiddleSheet$Spot", name := "isSame", desc := "(LMiddleSheet$Spot;)Z" } : Jvm.MethodName) ({ cls := "MiddleSheet$Spot", name := "isSame", desc := "(LMiddleSheet$Spot;)Z" } : Jvm.MethodName)) ∈ lw_all := lw_g (lw_at lw_m4 156 rfl) rfl
theorem q979 : (Jvm.Cond.code ({ cls := "MiddleSheet$Spot", name := "isSame", desc := "(LMiddleSheet$Spot;)Z" } : Jvm.MethodName) prog_11_method_5_code (2 : Nat) (Option.some Jvm.ClassFile.FieldType.boolean)) ∈ lw_all := lw_g (lw_at lw_m4 157 rfl) rfl
theorem q990 : (Jvm.Cond.static ({ cls := "MiddleSheet$Spot", name := "crossing", desc := "(LMiddleSheet$Line;LMiddleSheet$Line;)LMiddleSheet$Spot;" } : Jvm.MethodName)) ∈ lw_all := lw_g (lw_at lw_m4 168 rfl) rfl
theorem q991 : (Jvm.Cond.code ({ cls := "MiddleSheet$Spot", name := "crossing", desc := "(LMiddleSheet$Line;LMiddleSheet$Line;)LMiddleSheet$Spot;" } : Jvm.MethodName) prog_11_method_2_code (2 : Nat) (Option.some (Jvm.ClassFile.FieldType.object "MiddleSheet$Spot"))) ∈ lw_all := lw_g (lw_at lw_m4 169 rfl) rfl
theorem q992 : (Jvm.Cond.classLink "MiddleSheet$Spot" (14 : Nat) "MiddleSheet$Spot") ∈ lw_all := lw_g (lw_at lw_m4 170 rfl) rfl
theorem q993 : (Jvm.Cond.methodLink "MiddleSheet$Spot" (36 : Nat) ({ cls := "MiddleSheet$Spot", name := "<init>", desc := "(JJJ)V" } : Jvm.MethodName)) ∈ lw_all := lw_g (lw_at lw_m4 171 rfl) rfl
theorem q999 : (Jvm.Cond.instanceMethod ({ cls := "MiddleSheet$Spot", name := "isOn", desc := "(LMiddleSheet$Line;)Z" } : Jvm.MethodName)) ∈ lw_all := lw_g (lw_at lw_m4 177 rfl) rfl
theorem q1000 : (Jvm.Cond.selects "MiddleSheet$Spot" ({ cls := "MiddleSheet$Spot", name := "isOn", desc := "(LMiddleSheet$Line;)Z" } : Jvm.MethodName) ({ cls := "MiddleSheet$Spot", name := "isOn", desc := "(LMiddleSheet$Line;)Z" } : Jvm.MethodName)) ∈ lw_all := lw_g (lw_at lw_m4 178 rfl) rfl
theorem q1001 : (Jvm.Cond.code ({ cls := "MiddleSheet$Spot", name := "isOn", desc := "(LMiddleSheet$Line;)Z" } : Jvm.MethodName) prog_11_method_3_code (2 : Nat) (Option.some Jvm.ClassFile.FieldType.boolean)) ∈ lw_all := lw_g (lw_at lw_m4 179 rfl) rfl
theorem q1783 : (Jvm.Cond.castable "MiddleSheet$Spot" "java/lang/Object") ∈ lw_tbl := lw_at lw_m8 1 rfl
theorem in_X12 : ∀ w ∈ wsX120, w ∈ lw_all := lw_in wsX120 [961, 963, 965] (by decide +kernel) (by decide +kernel)
/-! MiddleSheet$Move -/
def RX13 : String := "MiddleSheet$Move"
def TX13 : u_T := fun k => match k with
  | 0 => ("MiddleSheet$Move", "voter", "I", true)
  | 1 => ("MiddleSheet$Move", "fromX", "I", true)
  | 2 => ("MiddleSheet$Move", "fromY", "I", true)
  | 3 => ("MiddleSheet$Move", "toX", "I", true)
  | 4 => ("MiddleSheet$Move", "toY", "I", true)
  | 5 => ("MiddleSheet$Move", "pairsAhead", "I", true)
  | 6 => ("MiddleSheet$Move", "peaceAhead", "I", true)
  | 7 => ("MiddleSheet$Move", "pairsBehind", "I", false)
  | _ => ("MiddleSheet$Move", "peaceBehind", "I", false)
def tyX13 : Nat → FieldType := fun k => match k with
  | 0 => .int
  | 1 => .int
  | 2 => .int
  | 3 => .int
  | 4 => .int
  | 5 => .int
  | 6 => .int
  | 7 => .int
  | _ => .int
abbrev wsX130 : List Cond := u_ws RX13 TX13 9
theorem nmX13 : ∀ a, a < 9 → ∀ b, b < 9 → a ≠ b → (TX13 a).2.1 ≠ (TX13 b).2.1 := by decide +kernel
theorem tyX13_ok : ∀ k, k < 9 → parseFieldDescriptor (TX13 k).2.2.1 = some (tyX13 k) := by decide +kernel
abbrev cX13_init : ByteArray := prog_7_method_1_code
def yX13_init : MethodName := ⟨RX13, "<init>", "(IIIIIII)V"⟩
theorem q134 : (Jvm.Cond.initialized "MiddleSheet$Move") ∈ lw_all := lw_g (lw_at lw_m1 32 rfl) rfl
theorem q677 : (Jvm.Cond.selects "MiddleSheet$Move" ({ cls := "java/lang/Object", name := "getClass", desc := "()Ljava/lang/Class;" } : Jvm.MethodName) ({ cls := "java/lang/Object", name := "getClass", desc := "()Ljava/lang/Class;" } : Jvm.MethodName)) ∈ lw_all := lw_g (lw_at lw_m3 95 rfl) rfl
theorem q1154 : (Jvm.Cond.instantiable "MiddleSheet$Move" (9 : Nat)) ∈ lw_all := lw_g (lw_at lw_m5 92 rfl) rfl
theorem q1160 : (Jvm.Cond.instanceMethod ({ cls := "MiddleSheet$Move", name := "<init>", desc := "(IIIIIII)V" } : Jvm.MethodName)) ∈ lw_all := lw_g (lw_at lw_m5 98 rfl) rfl
theorem q1161 : (Jvm.Cond.code ({ cls := "MiddleSheet$Move", name := "<init>", desc := "(IIIIIII)V" } : Jvm.MethodName) prog_7_method_1_code (8 : Nat) (Option.none : Option Jvm.ClassFile.FieldType)) ∈ lw_all := lw_g (lw_at lw_m5 99 rfl) rfl
theorem q1162 : (Jvm.Cond.methodLink "MiddleSheet$Move" (1 : Nat) ({ cls := "java/lang/Object", name := "<init>", desc := "()V" } : Jvm.MethodName)) ∈ lw_all := lw_g (lw_at lw_m5 100 rfl) rfl
theorem q1163 : (Jvm.Cond.fieldLink "MiddleSheet$Move" (7 : Nat) "MiddleSheet$Move" "voter" "I") ∈ lw_all := lw_g (lw_at lw_m5 101 rfl) rfl
theorem q1165 : (Jvm.Cond.fieldLink "MiddleSheet$Move" (13 : Nat) "MiddleSheet$Move" "fromX" "I") ∈ lw_all := lw_g (lw_at lw_m5 103 rfl) rfl
theorem q1167 : (Jvm.Cond.fieldLink "MiddleSheet$Move" (16 : Nat) "MiddleSheet$Move" "fromY" "I") ∈ lw_all := lw_g (lw_at lw_m5 105 rfl) rfl
theorem q1169 : (Jvm.Cond.fieldLink "MiddleSheet$Move" (19 : Nat) "MiddleSheet$Move" "toX" "I") ∈ lw_all := lw_g (lw_at lw_m5 107 rfl) rfl
theorem q1171 : (Jvm.Cond.fieldLink "MiddleSheet$Move" (22 : Nat) "MiddleSheet$Move" "toY" "I") ∈ lw_all := lw_g (lw_at lw_m5 109 rfl) rfl
theorem q1173 : (Jvm.Cond.fieldLink "MiddleSheet$Move" (25 : Nat) "MiddleSheet$Move" "pairsAhead" "I") ∈ lw_all := lw_g (lw_at lw_m5 111 rfl) rfl
theorem q1175 : (Jvm.Cond.fieldLink "MiddleSheet$Move" (28 : Nat) "MiddleSheet$Move" "peaceAhead" "I") ∈ lw_all := lw_g (lw_at lw_m5 113 rfl) rfl
theorem q1179 : (Jvm.Cond.laysFinal "MiddleSheet$Move" "MiddleSheet$Move" "voter" "I") ∈ lw_all := lw_g (lw_at lw_m5 117 rfl) rfl
theorem q1180 : (Jvm.Cond.soleField "MiddleSheet$Move" "voter") ∈ lw_all := lw_g (lw_at lw_m5 118 rfl) rfl
theorem q1181 : (Jvm.Cond.laysFinal "MiddleSheet$Move" "MiddleSheet$Move" "fromX" "I") ∈ lw_all := lw_g (lw_at lw_m5 119 rfl) rfl
theorem q1182 : (Jvm.Cond.soleField "MiddleSheet$Move" "fromX") ∈ lw_all := lw_g (lw_at lw_m5 120 rfl) rfl
theorem q1183 : (Jvm.Cond.laysFinal "MiddleSheet$Move" "MiddleSheet$Move" "fromY" "I") ∈ lw_all := lw_g (lw_at lw_m5 121 rfl) rfl
theorem q1184 : (Jvm.Cond.soleField "MiddleSheet$Move" "fromY") ∈ lw_all := lw_g (lw_at lw_m5 122 rfl) rfl
theorem q1185 : (Jvm.Cond.laysFinal "MiddleSheet$Move" "MiddleSheet$Move" "toX" "I") ∈ lw_all := lw_g (lw_at lw_m5 123 rfl) rfl
theorem q1186 : (Jvm.Cond.soleField "MiddleSheet$Move" "toX") ∈ lw_all := lw_g (lw_at lw_m5 124 rfl) rfl
theorem q1187 : (Jvm.Cond.laysFinal "MiddleSheet$Move" "MiddleSheet$Move" "toY" "I") ∈ lw_all := lw_g (lw_at lw_m5 125 rfl) rfl
theorem q1188 : (Jvm.Cond.soleField "MiddleSheet$Move" "toY") ∈ lw_all := lw_g (lw_at lw_m5 126 rfl) rfl
theorem q1189 : (Jvm.Cond.laysFinal "MiddleSheet$Move" "MiddleSheet$Move" "pairsAhead" "I") ∈ lw_all := lw_g (lw_at lw_m5 127 rfl) rfl
theorem q1190 : (Jvm.Cond.soleField "MiddleSheet$Move" "pairsAhead") ∈ lw_all := lw_g (lw_at lw_m5 128 rfl) rfl
theorem q1191 : (Jvm.Cond.laysFinal "MiddleSheet$Move" "MiddleSheet$Move" "peaceAhead" "I") ∈ lw_all := lw_g (lw_at lw_m5 129 rfl) rfl
theorem q1192 : (Jvm.Cond.soleField "MiddleSheet$Move" "peaceAhead") ∈ lw_all := lw_g (lw_at lw_m5 130 rfl) rfl
theorem q1193 : (Jvm.Cond.lays "MiddleSheet$Move" "MiddleSheet$Move" "pairsBehind" "I") ∈ lw_all := lw_g (lw_at lw_m5 131 rfl) rfl
theorem q1194 : (Jvm.Cond.soleField "MiddleSheet$Move" "pairsBehind") ∈ lw_all := lw_g (lw_at lw_m5 132 rfl) rfl
theorem q1195 : (Jvm.Cond.lays "MiddleSheet$Move" "MiddleSheet$Move" "peaceBehind" "I") ∈ lw_all := lw_g (lw_at lw_m5 133 rfl) rfl
theorem q1196 : (Jvm.Cond.soleField "MiddleSheet$Move" "peaceBehind") ∈ lw_all := lw_g (lw_at lw_m5 134 rfl) rfl
theorem q1197 : (Jvm.Cond.superclass "MiddleSheet$Move" "java/lang/Object") ∈ lw_all := lw_g (lw_at lw_m5 135 rfl) rfl
theorem q1784 : (Jvm.Cond.castable "MiddleSheet$Move" "java/lang/Object") ∈ lw_tbl := lw_at lw_m8 2 rfl
theorem in_X13 : ∀ w ∈ wsX130, w ∈ lw_all := lw_in wsX130 [1179, 1181, 1183, 1185, 1187, 1189, 1191, 1193, 1195] (by decide +kernel) (by decide +kernel)
/-! MiddleSheet$Bar -/
def RX2 : String := "MiddleSheet$Bar"
def TX2 : u_T := fun k => match k with
  | 0 => ("MiddleSheet$Bar", "kind", "I", true)
  | 1 => ("MiddleSheet$Bar", "part", "I", true)
  | _ => ("MiddleSheet$Bar", "whole", "I", true)
def tyX2 : Nat → FieldType := fun k => match k with
  | 0 => .int
  | 1 => .int
  | _ => .int
abbrev wsX20 : List Cond := u_ws RX2 TX2 3
theorem nmX2 : ∀ a, a < 3 → ∀ b, b < 3 → a ≠ b → (TX2 a).2.1 ≠ (TX2 b).2.1 := by decide +kernel
theorem tyX2_ok : ∀ k, k < 3 → parseFieldDescriptor (TX2 k).2.2.1 = some (tyX2 k) := by decide +kernel
abbrev cX2_init : ByteArray := prog_2_method_1_code
def yX2_init : MethodName := ⟨RX2, "<init>", "(III)V"⟩
abbrev cX2_wins : ByteArray := prog_2_method_2_code
def yX2_wins : MethodName := ⟨RX2, "wins", "(III)Z"⟩
theorem q108 : (Jvm.Cond.initialized "MiddleSheet$Bar") ∈ lw_all := lw_g (lw_at lw_m1 6 rfl) rfl
theorem q216 : (Jvm.Cond.instantiable "MiddleSheet$Bar" (3 : Nat)) ∈ lw_all := lw_g (lw_at lw_m1 114 rfl) rfl
theorem q218 : (Jvm.Cond.instanceMethod ({ cls := "MiddleSheet$Bar", name := "<init>", desc := "(III)V" } : Jvm.MethodName)) ∈ lw_all := lw_g (lw_at lw_m1 116 rfl) rfl
theorem q219 : (Jvm.Cond.code ({ cls := "MiddleSheet$Bar", name := "<init>", desc := "(III)V" } : Jvm.MethodName) prog_2_method_1_code (4 : Nat) (Option.none : Option Jvm.ClassFile.FieldType)) ∈ lw_all := lw_g (lw_at lw_m1 117 rfl) rfl
theorem q220 : (Jvm.Cond.methodLink "MiddleSheet$Bar" (3 : Nat) ({ cls := "java/lang/Object", name := "<init>", desc := "()V" } : Jvm.MethodName)) ∈ lw_all := lw_g (lw_at lw_m1 118 rfl) rfl
theorem q221 : (Jvm.Cond.fieldLink "MiddleSheet$Bar" (9 : Nat) "MiddleSheet$Bar" "kind" "I") ∈ lw_all := lw_g (lw_at lw_m1 119 rfl) rfl
theorem q222 : (Jvm.Cond.fieldLink "MiddleSheet$Bar" (15 : Nat) "MiddleSheet$Bar" "part" "I") ∈ lw_all := lw_g (lw_at lw_m1 120 rfl) rfl
theorem q223 : (Jvm.Cond.fieldLink "MiddleSheet$Bar" (18 : Nat) "MiddleSheet$Bar" "whole" "I") ∈ lw_all := lw_g (lw_at lw_m1 121 rfl) rfl
theorem q224 : (Jvm.Cond.laysFinal "MiddleSheet$Bar" "MiddleSheet$Bar" "kind" "I") ∈ lw_all := lw_g (lw_at lw_m1 122 rfl) rfl
theorem q225 : (Jvm.Cond.soleField "MiddleSheet$Bar" "kind") ∈ lw_all := lw_g (lw_at lw_m1 123 rfl) rfl
theorem q226 : (Jvm.Cond.laysFinal "MiddleSheet$Bar" "MiddleSheet$Bar" "part" "I") ∈ lw_all := lw_g (lw_at lw_m1 124 rfl) rfl
theorem q227 : (Jvm.Cond.soleField "MiddleSheet$Bar" "part") ∈ lw_all := lw_g (lw_at lw_m1 125 rfl) rfl
theorem q228 : (Jvm.Cond.laysFinal "MiddleSheet$Bar" "MiddleSheet$Bar" "whole" "I") ∈ lw_all := lw_g (lw_at lw_m1 126 rfl) rfl
theorem q229 : (Jvm.Cond.soleField "MiddleSheet$Bar" "whole") ∈ lw_all := lw_g (lw_at lw_m1 127 rfl) rfl
theorem q230 : (Jvm.Cond.superclass "MiddleSheet$Bar" "java/lang/Object") ∈ lw_all := lw_g (lw_at lw_m1 128 rfl) rfl
theorem q672 : (Jvm.Cond.selects "MiddleSheet$Bar" ({ cls := "java/lang/Object", name := "getClass", desc := "()Ljava/lang/Class;" } : Jvm.MethodName) ({ cls := "java/lang/Object", name := "getClass", desc := "()Ljava/lang/Class;" } : Jvm.MethodName)) ∈ lw_all := lw_g (lw_at lw_m3 90 rfl) rfl
theorem q868 : (Jvm.Cond.instanceMethod ({ cls := "MiddleSheet$Bar", name := "wins", desc := "(III)Z" } : Jvm.MethodName)) ∈ lw_all := lw_g (lw_at lw_m4 46 rfl) rfl
theorem q869 : (Jvm.Cond.selects "MiddleSheet$Bar" ({ cls := "MiddleSheet$Bar", name := "wins", desc := "(III)Z" } : Jvm.MethodName) ({ cls := "MiddleSheet$Bar", name := "wins", desc := "(III)Z" } : Jvm.MethodName)) ∈ lw_all := lw_g (lw_at lw_m4 47 rfl) rfl
theorem q870 : (Jvm.Cond.code ({ cls := "MiddleSheet$Bar", name := "wins", desc := "(III)Z" } : Jvm.MethodName) prog_2_method_2_code (5 : Nat) (Option.some Jvm.ClassFile.FieldType.boolean)) ∈ lw_all := lw_g (lw_at lw_m4 48 rfl) rfl
theorem q1774 : (Jvm.Cond.castable "MiddleSheet$Bar" "java/lang/Object") ∈ lw_tbl := lw_at lw_m7 232 rfl
theorem in_X2 : ∀ w ∈ wsX20, w ∈ lw_all := lw_in wsX20 [224, 226, 228] (by decide +kernel) (by decide +kernel)
/-! MiddleSheetModel -/
def RX3 : String := "MiddleSheetModel"
def TX3 : u_T := fun k => match k with
  | 0 => ("MiddleSheetModel", "text", "[B", true)
  | 1 => ("MiddleSheetModel", "textMany", "I", false)
  | 2 => ("MiddleSheetModel", "at", "I", false)
  | 3 => ("MiddleSheetModel", "end0", "I", false)
  | 4 => ("MiddleSheetModel", "faultAt", "I", false)
  | 5 => ("MiddleSheetModel", "value0", "I", false)
  | 6 => ("MiddleSheetModel", "voterX", "[[I", true)
  | 7 => ("MiddleSheetModel", "voterY", "[[I", true)
  | 8 => ("MiddleSheetModel", "weight", "[[I", true)
  | 9 => ("MiddleSheetModel", "measure", "[[I", true)
  | 10 => ("MiddleSheetModel", "stretchA", "[[I", true)
  | 11 => ("MiddleSheetModel", "stretchB", "[[I", true)
  | 12 => ("MiddleSheetModel", "placeX", "[[I", true)
  | 13 => ("MiddleSheetModel", "placeY", "[[I", true)
  | 14 => ("MiddleSheetModel", "voterMany", "[I", true)
  | 15 => ("MiddleSheetModel", "placeMany", "[I", true)
  | 16 => ("MiddleSheetModel", "winKind", "[I", true)
  | 17 => ("MiddleSheetModel", "winA", "[I", true)
  | 18 => ("MiddleSheetModel", "winB", "[I", true)
  | 19 => ("MiddleSheetModel", "nearNow", "I", false)
  | 20 => ("MiddleSheetModel", "aNow", "I", false)
  | 21 => ("MiddleSheetModel", "bNow", "I", false)
  | 22 => ("MiddleSheetModel", "hasWin", "Z", false)
  | 23 => ("MiddleSheetModel", "measures", "[Ljava/lang/String;", true)
  | 24 => ("MiddleSheetModel", "lineA", "[I", true)
  | 25 => ("MiddleSheetModel", "lineB", "[I", true)
  | 26 => ("MiddleSheetModel", "lineC", "[I", true)
  | 27 => ("MiddleSheetModel", "lines", "I", false)
  | 28 => ("MiddleSheetModel", "middles", "I", false)
  | 29 => ("MiddleSheetModel", "isKnown", "Z", false)
  | 30 => ("MiddleSheetModel", "middleX", "[J", true)
  | 31 => ("MiddleSheetModel", "middleY", "[J", true)
  | 32 => ("MiddleSheetModel", "middleN", "[J", true)
  | 33 => ("MiddleSheetModel", "farP", "J", false)
  | 34 => ("MiddleSheetModel", "farQ", "J", false)
  | 35 => ("MiddleSheetModel", "pieceOf", "[I", true)
  | 36 => ("MiddleSheetModel", "row", "[I", true)
  | 37 => ("MiddleSheetModel", "pieceMany", "I", false)
  | 38 => ("MiddleSheetModel", "wonMany", "I", false)
  | 39 => ("MiddleSheetModel", "steps", "[I", true)
  | 40 => ("MiddleSheetModel", "gains", "[[J", true)
  | 41 => ("MiddleSheetModel", "shares", "[J", true)
  | 42 => ("MiddleSheetModel", "wasX", "[I", true)
  | 43 => ("MiddleSheetModel", "wasY", "[I", true)
  | 44 => ("MiddleSheetModel", "doubted", "I", false)
  | 45 => ("MiddleSheetModel", "surelyFor", "I", false)
  | 46 => ("MiddleSheetModel", "surelyOver", "I", false)
  | 47 => ("MiddleSheetModel", "kept", "[[I", true)
  | _ => ("MiddleSheetModel", "moves", "I", false)
def tyX3 : Nat → FieldType := fun k => match k with
  | 0 => .array .byte
  | 1 => .int
  | 2 => .int
  | 3 => .int
  | 4 => .int
  | 5 => .int
  | 6 => .array (.array .int)
  | 7 => .array (.array .int)
  | 8 => .array (.array .int)
  | 9 => .array (.array .int)
  | 10 => .array (.array .int)
  | 11 => .array (.array .int)
  | 12 => .array (.array .int)
  | 13 => .array (.array .int)
  | 14 => .array .int
  | 15 => .array .int
  | 16 => .array .int
  | 17 => .array .int
  | 18 => .array .int
  | 19 => .int
  | 20 => .int
  | 21 => .int
  | 22 => .boolean
  | 23 => .array (.object "java/lang/String")
  | 24 => .array .int
  | 25 => .array .int
  | 26 => .array .int
  | 27 => .int
  | 28 => .int
  | 29 => .boolean
  | 30 => .array .long
  | 31 => .array .long
  | 32 => .array .long
  | 33 => .long
  | 34 => .long
  | 35 => .array .int
  | 36 => .array .int
  | 37 => .int
  | 38 => .int
  | 39 => .array .int
  | 40 => .array (.array .long)
  | 41 => .array .long
  | 42 => .array .int
  | 43 => .array .int
  | 44 => .int
  | 45 => .int
  | 46 => .int
  | 47 => .array (.array .int)
  | _ => .int
abbrev wsX30 : List Cond := u_ws RX3 TX3 49
theorem nmX3 : ∀ a, a < 49 → ∀ b, b < 49 → a ≠ b → (TX3 a).2.1 ≠ (TX3 b).2.1 := by decide +kernel
theorem tyX3_ok : ∀ k, k < 49 → parseFieldDescriptor (TX3 k).2.2.1 = some (tyX3 k) := by decide +kernel
abbrev cX3_init : ByteArray := prog_15_method_1_code
def yX3_init : MethodName := ⟨RX3, "<init>", "()V"⟩
abbrev cX3_feed : ByteArray := prog_15_method_5_code
def yX3_feed : MethodName := ⟨RX3, "feed", "(IIIII)I"⟩
abbrev cX3_feeds : ByteArray := prog_15_method_4_code
def yX3_feeds : MethodName := ⟨RX3, "feeds", "(I)V"⟩
abbrev cX3_end : ByteArray := prog_15_method_6_code
def yX3_end : MethodName := ⟨RX3, "end", "(I)Z"⟩
abbrev cX3_in : ByteArray := prog_15_method_2_code
def yX3_in : MethodName := ⟨RX3, "in", "(JJJ)Z"⟩
abbrev cX3_fault : ByteArray := prog_15_method_21_code
def yX3_fault : MethodName := ⟨RX3, "fault", "()I"⟩
abbrev cX3_reads : ByteArray := prog_15_method_20_code
def yX3_reads : MethodName := ⟨RX3, "reads", "()V"⟩
abbrev cX3_skips : ByteArray := prog_15_method_9_code
def yX3_skips : MethodName := ⟨RX3, "skips", "()V"⟩
abbrev cX3_isLetter : ByteArray := prog_15_method_7_code
def yX3_isLetter : MethodName := ⟨RX3, "isLetter", "(I)Z"⟩
abbrev cX3_isDigit : ByteArray := prog_15_method_8_code
def yX3_isDigit : MethodName := ⟨RX3, "isDigit", "(I)Z"⟩
abbrev cX3_told : ByteArray := prog_15_method_19_code
def yX3_told : MethodName := ⟨RX3, "told", "()Z"⟩
abbrev cX3_isWord : ByteArray := prog_15_method_10_code
def yX3_isWord : MethodName := ⟨RX3, "isWord", "(Ljava/lang/String;)Z"⟩
abbrev cX3_passes : ByteArray := prog_15_method_12_code
def yX3_passes : MethodName := ⟨RX3, "passes", "(Z)Z"⟩
abbrev cX3_near : ByteArray := prog_15_method_14_code
def yX3_near : MethodName := ⟨RX3, "near", "()Z"⟩
abbrev cX3_isSign : ByteArray := prog_15_method_11_code
def yX3_isSign : MethodName := ⟨RX3, "isSign", "(I)Z"⟩
abbrev cX3_stretch : ByteArray := prog_15_method_15_code
def yX3_stretch : MethodName := ⟨RX3, "stretch", "()Z"⟩
abbrev cX3_number : ByteArray := prog_15_method_13_code
def yX3_number : MethodName := ⟨RX3, "number", "(II)Z"⟩
abbrev cX3_voterRead : ByteArray := prog_15_method_16_code
def yX3_voterRead : MethodName := ⟨RX3, "voterRead", "()Z"⟩
abbrev cX3_placeRead : ByteArray := prog_15_method_17_code
def yX3_placeRead : MethodName := ⟨RX3, "placeRead", "()Z"⟩
abbrev cX3_winRead : ByteArray := prog_15_method_18_code
def yX3_winRead : MethodName := ⟨RX3, "winRead", "()Z"⟩
abbrev cX3_sheet : ByteArray := prog_15_method_24_code
def yX3_sheet : MethodName := ⟨RX3, "sheet", "()I"⟩
abbrev cX3_voters : ByteArray := prog_15_method_22_code
def yX3_voters : MethodName := ⟨RX3, "voters", "()I"⟩
abbrev cX3_voter : ByteArray := prog_15_method_28_code
def yX3_voter : MethodName := ⟨RX3, "voter", "(II)I"⟩
abbrev cX3_isVoter : ByteArray := prog_15_method_26_code
def yX3_isVoter : MethodName := ⟨RX3, "isVoter", "(I)Z"⟩
abbrev cX3_place : ByteArray := prog_15_method_29_code
def yX3_place : MethodName := ⟨RX3, "place", "(II)I"⟩
abbrev cX3_isPlace : ByteArray := prog_15_method_27_code
def yX3_isPlace : MethodName := ⟨RX3, "isPlace", "(I)Z"⟩
abbrev cX3_places : ByteArray := prog_15_method_23_code
def yX3_places : MethodName := ⟨RX3, "places", "()I"⟩
abbrev cX3_propose : ByteArray := prog_15_method_30_code
def yX3_propose : MethodName := ⟨RX3, "propose", "(II)I"⟩
abbrev cX3_isPoint : ByteArray := prog_15_method_25_code
def yX3_isPoint : MethodName := ⟨RX3, "isPoint", "(II)Z"⟩
abbrev cX3_way : ByteArray := prog_15_method_33_code
def yX3_way : MethodName := ⟨RX3, "way", "(III)I"⟩
abbrev cX3_wayOf : ByteArray := prog_15_method_32_code
def yX3_wayOf : MethodName := ⟨RX3, "wayOf", "(III)I"⟩
abbrev cX3_wayFrom : ByteArray := prog_15_method_31_code
def yX3_wayFrom : MethodName := ⟨RX3, "wayFrom", "(IIIII)I"⟩
abbrev cX3_votes : ByteArray := prog_15_method_40_code
def yX3_votes : MethodName := ⟨RX3, "votes", "(II)I"⟩
abbrev cX3_votesOf : ByteArray := prog_15_method_39_code
def yX3_votesOf : MethodName := ⟨RX3, "votesOf", "(II)I"⟩
abbrev cX3_forOf : ByteArray := prog_15_method_34_code
def yX3_forOf : MethodName := ⟨RX3, "forOf", "(IIII)I"⟩
abbrev cX3_beats : ByteArray := prog_15_method_41_code
def yX3_beats : MethodName := ⟨RX3, "beats", "(II)Z"⟩
abbrev cX3_beatsOf : ByteArray := prog_15_method_38_code
def yX3_beatsOf : MethodName := ⟨RX3, "beatsOf", "(II)Z"⟩
abbrev cX3_beatsAt : ByteArray := prog_15_method_37_code
def yX3_beatsAt : MethodName := ⟨RX3, "beatsAt", "(IIII)Z"⟩
abbrev cX3_isWon : ByteArray := prog_15_method_36_code
def yX3_isWon : MethodName := ⟨RX3, "isWon", "(II)Z"⟩
abbrev cX3_total : ByteArray := prog_15_method_35_code
def yX3_total : MethodName := ⟨RX3, "total", "()I"⟩
abbrev cX3_wins : ByteArray := prog_15_method_42_code
def yX3_wins : MethodName := ⟨RX3, "wins", "(II)Z"⟩
abbrev cX3_line : ByteArray := prog_15_method_48_code
def yX3_line : MethodName := ⟨RX3, "line", "(II)I"⟩
abbrev cX3_knows : ByteArray := prog_15_method_47_code
def yX3_knows : MethodName := ⟨RX3, "knows", "()V"⟩
abbrev cX3_through : ByteArray := prog_15_method_46_code
def yX3_through : MethodName := ⟨RX3, "through", "(II)V"⟩
abbrev cX3_gcd : ByteArray := prog_15_method_3_code
def yX3_gcd : MethodName := ⟨RX3, "gcd", "(JJ)J"⟩
abbrev cX3_halves : ByteArray := prog_15_method_43_code
def yX3_halves : MethodName := ⟨RX3, "halves", "(III)Z"⟩
abbrev cX3_addsLine : ByteArray := prog_15_method_45_code
def yX3_addsLine : MethodName := ⟨RX3, "addsLine", "(III)V"⟩
abbrev cX3_isAhead : ByteArray := prog_15_method_44_code
def yX3_isAhead : MethodName := ⟨RX3, "isAhead", "(IIII)Z"⟩
abbrev cX3_findsMiddles : ByteArray := prog_15_method_52_code
def yX3_findsMiddles : MethodName := ⟨RX3, "findsMiddles", "()V"⟩
abbrev cX3_addsMiddle : ByteArray := prog_15_method_51_code
def yX3_addsMiddle : MethodName := ⟨RX3, "addsMiddle", "(JJJ)V"⟩
abbrev cX3_isMiddle : ByteArray := prog_15_method_49_code
def yX3_isMiddle : MethodName := ⟨RX3, "isMiddle", "(JJJ)Z"⟩
abbrev cX3_isBehind : ByteArray := prog_15_method_50_code
def yX3_isBehind : MethodName := ⟨RX3, "isBehind", "(IJJJ)Z"⟩
abbrev cX3_middle : ByteArray := prog_15_method_53_code
def yX3_middle : MethodName := ⟨RX3, "middle", "(II)I"⟩
abbrev cX3_proof : ByteArray := prog_15_method_55_code
def yX3_proof : MethodName := ⟨RX3, "proof", "(I)I"⟩
abbrev cX3_meet : ByteArray := prog_15_method_54_code
def yX3_meet : MethodName := ⟨RX3, "meet", "(III)Z"⟩
abbrev cX3_round : ByteArray := prog_15_method_57_code
def yX3_round : MethodName := ⟨RX3, "round", "(I)I"⟩
abbrev cX3_far : ByteArray := prog_15_method_56_code
def yX3_far : MethodName := ⟨RX3, "far", "(II)V"⟩
abbrev cX3_winSet : ByteArray := prog_15_method_60_code
def yX3_winSet : MethodName := ⟨RX3, "winSet", "(III)I"⟩
abbrev cX3_finds : ByteArray := prog_15_method_59_code
def yX3_finds : MethodName := ⟨RX3, "finds", "(II)V"⟩
abbrev cX3_floods : ByteArray := prog_15_method_58_code
def yX3_floods : MethodName := ⟨RX3, "floods", "(II)V"⟩
abbrev cX3_piece : ByteArray := prog_15_method_61_code
def yX3_piece : MethodName := ⟨RX3, "piece", "(IIII)I"⟩
abbrev cX3_led : ByteArray := prog_15_method_63_code
def yX3_led : MethodName := ⟨RX3, "led", "(III)I"⟩
abbrev cX3_leads : ByteArray := prog_15_method_62_code
def yX3_leads : MethodName := ⟨RX3, "leads", "(I)V"⟩
abbrev cX3_best : ByteArray := prog_15_method_67_code
def yX3_best : MethodName := ⟨RX3, "best", "(I)I"⟩
abbrev cX3_isReached : ByteArray := prog_15_method_64_code
def yX3_isReached : MethodName := ⟨RX3, "isReached", "(I)Z"⟩
abbrev cX3_isOpen : ByteArray := prog_15_method_66_code
def yX3_isOpen : MethodName := ⟨RX3, "isOpen", "(I)Z"⟩
abbrev cX3_covers : ByteArray := prog_15_method_65_code
def yX3_covers : MethodName := ⟨RX3, "covers", "(II)Z"⟩
abbrev cX3_between : ByteArray := prog_15_method_68_code
def yX3_between : MethodName := ⟨RX3, "between", "(II)I"⟩
abbrev cX3_rest : ByteArray := prog_15_method_71_code
def yX3_rest : MethodName := ⟨RX3, "rest", "()I"⟩
abbrev cX3_chosen : ByteArray := prog_15_method_69_code
def yX3_chosen : MethodName := ⟨RX3, "chosen", "()I"⟩
abbrev cX3_gain : ByteArray := prog_15_method_70_code
def yX3_gain : MethodName := ⟨RX3, "gain", "(II)I"⟩
abbrev cX3_lot : ByteArray := prog_15_method_75_code
def yX3_lot : MethodName := ⟨RX3, "lot", "(I)I"⟩
abbrev cX3_findsLots : ByteArray := prog_15_method_74_code
def yX3_findsLots : MethodName := ⟨RX3, "findsLots", "()Z"⟩
abbrev cX3_isLot : ByteArray := prog_15_method_73_code
def yX3_isLot : MethodName := ⟨RX3, "isLot", "(I)Z"⟩
abbrev cX3_coupled : ByteArray := prog_15_method_72_code
def yX3_coupled : MethodName := ⟨RX3, "coupled", "(I)J"⟩
abbrev cX3_need : ByteArray := prog_15_method_77_code
def yX3_need : MethodName := ⟨RX3, "need", "(I)I"⟩
abbrev cX3_needOf : ByteArray := prog_15_method_76_code
def yX3_needOf : MethodName := ⟨RX3, "needOf", "(I)I"⟩
abbrev cX3_most : ByteArray := prog_15_method_78_code
def yX3_most : MethodName := ⟨RX3, "most", "(II)I"⟩
abbrev cX3_peace : ByteArray := prog_15_method_80_code
def yX3_peace : MethodName := ⟨RX3, "peace", "()I"⟩
abbrev cX3_isUnbeaten : ByteArray := prog_15_method_79_code
def yX3_isUnbeaten : MethodName := ⟨RX3, "isUnbeaten", "(I)Z"⟩
abbrev cX3_make : ByteArray := prog_15_method_81_code
def yX3_make : MethodName := ⟨RX3, "make", "(I)I"⟩
abbrev cX3_join : ByteArray := prog_15_method_83_code
def yX3_join : MethodName := ⟨RX3, "join", "(I)I"⟩
abbrev cX3_joins : ByteArray := prog_15_method_82_code
def yX3_joins : MethodName := ⟨RX3, "joins", "(II)Z"⟩
abbrev cX3_doubt : ByteArray := prog_15_method_86_code
def yX3_doubt : MethodName := ⟨RX3, "doubt", "(II)I"⟩
abbrev cX3_asks : ByteArray := prog_15_method_85_code
def yX3_asks : MethodName := ⟨RX3, "asks", "(III)V"⟩
abbrev cX3_sure : ByteArray := prog_15_method_84_code
def yX3_sure : MethodName := ⟨RX3, "sure", "(IIII)I"⟩
abbrev cX3_move : ByteArray := prog_15_method_88_code
def yX3_move : MethodName := ⟨RX3, "move", "(III)I"⟩
abbrev cX3_pairs : ByteArray := prog_15_method_87_code
def yX3_pairs : MethodName := ⟨RX3, "pairs", "()I"⟩
abbrev cX3_undo : ByteArray := prog_15_method_89_code
def yX3_undo : MethodName := ⟨RX3, "undo", "()I"⟩
abbrev cX3_moved : ByteArray := prog_15_method_90_code
def yX3_moved : MethodName := ⟨RX3, "moved", "(II)I"⟩
abbrev cX3_count : ByteArray := prog_15_method_91_code
def yX3_count : MethodName := ⟨RX3, "count", "(I)I"⟩
theorem q109 : (Jvm.Cond.initialized "MiddleSheetModel") ∈ lw_all := lw_g (lw_at lw_m1 7 rfl) rfl
theorem q683 : (Jvm.Cond.selects "MiddleSheetModel" ({ cls := "java/lang/Object", name := "getClass", desc := "()Ljava/lang/Class;" } : Jvm.MethodName) ({ cls := "java/lang/Object", name := "getClass", desc := "()Ljava/lang/Class;" } : Jvm.MethodName)) ∈ lw_all := lw_g (lw_at lw_m3 101 rfl) rfl
theorem q1223 : (Jvm.Cond.instantiable "MiddleSheetModel" (49 : Nat)) ∈ lw_all := lw_g (lw_at lw_m5 161 rfl) rfl
theorem q1225 : (Jvm.Cond.instanceMethod ({ cls := "MiddleSheetModel", name := "<init>", desc := "()V" } : Jvm.MethodName)) ∈ lw_all := lw_g (lw_at lw_m5 163 rfl) rfl
theorem q1226 : (Jvm.Cond.code ({ cls := "MiddleSheetModel", name := "<init>", desc := "()V" } : Jvm.MethodName) prog_15_method_1_code (1 : Nat) (Option.none : Option Jvm.ClassFile.FieldType)) ∈ lw_all := lw_g (lw_at lw_m5 164 rfl) rfl
theorem q1227 : (Jvm.Cond.methodLink "MiddleSheetModel" (1 : Nat) ({ cls := "java/lang/Object", name := "<init>", desc := "()V" } : Jvm.MethodName)) ∈ lw_all := lw_g (lw_at lw_m5 165 rfl) rfl
theorem q1228 : (Jvm.Cond.classLink "MiddleSheetModel" (13 : Nat) "[[I") ∈ lw_all := lw_g (lw_at lw_m5 166 rfl) rfl
theorem q1229 : (Jvm.Cond.classLink "MiddleSheetModel" (55 : Nat) "java/lang/String") ∈ lw_all := lw_g (lw_at lw_m5 167 rfl) rfl
theorem q1231 : (Jvm.Cond.stringRef "MiddleSheetModel" (57 : Nat) "crow") ∈ lw_tbl := lw_at lw_m5 169 rfl
theorem q1232 : (Jvm.Cond.stringRef "MiddleSheetModel" (59 : Nat) "street") ∈ lw_tbl := lw_at lw_m5 170 rfl
theorem q1233 : (Jvm.Cond.stringRef "MiddleSheetModel" (61 : Nat) "side") ∈ lw_tbl := lw_at lw_m5 171 rfl
theorem q1234 : (Jvm.Cond.stringRef "MiddleSheetModel" (63 : Nat) "line") ∈ lw_tbl := lw_at lw_m5 172 rfl
theorem q1235 : (Jvm.Cond.classLink "MiddleSheetModel" (97 : Nat) "[[J") ∈ lw_all := lw_g (lw_at lw_m5 173 rfl) rfl
theorem q1237 : (Jvm.Cond.fieldLink "MiddleSheetModel" (9 : Nat) "MiddleSheetModel" "text" "[B") ∈ lw_all := lw_g (lw_at lw_m5 175 rfl) rfl
theorem q1238 : (Jvm.Cond.fieldLink "MiddleSheetModel" (114 : Nat) "MiddleSheetModel" "textMany" "I") ∈ lw_all := lw_g (lw_at lw_m5 176 rfl) rfl
theorem q1239 : (Jvm.Cond.fieldLink "MiddleSheetModel" (126 : Nat) "MiddleSheetModel" "at" "I") ∈ lw_all := lw_g (lw_at lw_m5 177 rfl) rfl
theorem q1240 : (Jvm.Cond.fieldLink "MiddleSheetModel" (129 : Nat) "MiddleSheetModel" "end0" "I") ∈ lw_all := lw_g (lw_at lw_m5 178 rfl) rfl
theorem q1241 : (Jvm.Cond.fieldLink "MiddleSheetModel" (147 : Nat) "MiddleSheetModel" "faultAt" "I") ∈ lw_all := lw_g (lw_at lw_m5 179 rfl) rfl
theorem q1242 : (Jvm.Cond.fieldLink "MiddleSheetModel" (153 : Nat) "MiddleSheetModel" "value0" "I") ∈ lw_all := lw_g (lw_at lw_m5 180 rfl) rfl
theorem q1243 : (Jvm.Cond.fieldLink "MiddleSheetModel" (15 : Nat) "MiddleSheetModel" "voterX" "[[I") ∈ lw_all := lw_g (lw_at lw_m5 181 rfl) rfl
theorem q1244 : (Jvm.Cond.fieldLink "MiddleSheetModel" (18 : Nat) "MiddleSheetModel" "voterY" "[[I") ∈ lw_all := lw_g (lw_at lw_m5 182 rfl) rfl
theorem q1245 : (Jvm.Cond.fieldLink "MiddleSheetModel" (21 : Nat) "MiddleSheetModel" "weight" "[[I") ∈ lw_all := lw_g (lw_at lw_m5 183 rfl) rfl
theorem q1246 : (Jvm.Cond.fieldLink "MiddleSheetModel" (24 : Nat) "MiddleSheetModel" "measure" "[[I") ∈ lw_all := lw_g (lw_at lw_m5 184 rfl) rfl
theorem q1247 : (Jvm.Cond.fieldLink "MiddleSheetModel" (27 : Nat) "MiddleSheetModel" "stretchA" "[[I") ∈ lw_all := lw_g (lw_at lw_m5 185 rfl) rfl
theorem q1248 : (Jvm.Cond.fieldLink "MiddleSheetModel" (30 : Nat) "MiddleSheetModel" "stretchB" "[[I") ∈ lw_all := lw_g (lw_at lw_m5 186 rfl) rfl
theorem q1249 : (Jvm.Cond.fieldLink "MiddleSheetModel" (33 : Nat) "MiddleSheetModel" "placeX" "[[I") ∈ lw_all := lw_g (lw_at lw_m5 187 rfl) rfl
theorem q1250 : (Jvm.Cond.fieldLink "MiddleSheetModel" (36 : Nat) "MiddleSheetModel" "placeY" "[[I") ∈ lw_all := lw_g (lw_at lw_m5 188 rfl) rfl
theorem q1251 : (Jvm.Cond.fieldLink "MiddleSheetModel" (39 : Nat) "MiddleSheetModel" "voterMany" "[I") ∈ lw_all := lw_g (lw_at lw_m5 189 rfl) rfl
theorem q1252 : (Jvm.Cond.fieldLink "MiddleSheetModel" (43 : Nat) "MiddleSheetModel" "placeMany" "[I") ∈ lw_all := lw_g (lw_at lw_m5 190 rfl) rfl
theorem q1253 : (Jvm.Cond.fieldLink "MiddleSheetModel" (46 : Nat) "MiddleSheetModel" "winKind" "[I") ∈ lw_all := lw_g (lw_at lw_m5 191 rfl) rfl
theorem q1254 : (Jvm.Cond.fieldLink "MiddleSheetModel" (49 : Nat) "MiddleSheetModel" "winA" "[I") ∈ lw_all := lw_g (lw_at lw_m5 192 rfl) rfl
theorem q1255 : (Jvm.Cond.fieldLink "MiddleSheetModel" (52 : Nat) "MiddleSheetModel" "winB" "[I") ∈ lw_all := lw_g (lw_at lw_m5 193 rfl) rfl
theorem q1256 : (Jvm.Cond.fieldLink "MiddleSheetModel" (164 : Nat) "MiddleSheetModel" "nearNow" "I") ∈ lw_all := lw_g (lw_at lw_m5 194 rfl) rfl
theorem q1257 : (Jvm.Cond.fieldLink "MiddleSheetModel" (174 : Nat) "MiddleSheetModel" "aNow" "I") ∈ lw_all := lw_g (lw_at lw_m5 195 rfl) rfl
theorem q1258 : (Jvm.Cond.fieldLink "MiddleSheetModel" (177 : Nat) "MiddleSheetModel" "bNow" "I") ∈ lw_all := lw_g (lw_at lw_m5 196 rfl) rfl
theorem q1259 : (Jvm.Cond.fieldLink "MiddleSheetModel" (182 : Nat) "MiddleSheetModel" "hasWin" "Z") ∈ lw_all := lw_g (lw_at lw_m5 197 rfl) rfl
theorem q1260 : (Jvm.Cond.fieldLink "MiddleSheetModel" (65 : Nat) "MiddleSheetModel" "measures" "[Ljava/lang/String;") ∈ lw_all := lw_g (lw_at lw_m5 198 rfl) rfl
theorem q1261 : (Jvm.Cond.fieldLink "MiddleSheetModel" (69 : Nat) "MiddleSheetModel" "lineA" "[I") ∈ lw_all := lw_g (lw_at lw_m5 199 rfl) rfl
theorem q1262 : (Jvm.Cond.fieldLink "MiddleSheetModel" (72 : Nat) "MiddleSheetModel" "lineB" "[I") ∈ lw_all := lw_g (lw_at lw_m5 200 rfl) rfl
theorem q1263 : (Jvm.Cond.fieldLink "MiddleSheetModel" (75 : Nat) "MiddleSheetModel" "lineC" "[I") ∈ lw_all := lw_g (lw_at lw_m5 201 rfl) rfl
theorem q1264 : (Jvm.Cond.fieldLink "MiddleSheetModel" (288 : Nat) "MiddleSheetModel" "lines" "I") ∈ lw_all := lw_g (lw_at lw_m5 202 rfl) rfl
theorem q1265 : (Jvm.Cond.fieldLink "MiddleSheetModel" (317 : Nat) "MiddleSheetModel" "middles" "I") ∈ lw_all := lw_g (lw_at lw_m5 203 rfl) rfl
theorem q1266 : (Jvm.Cond.fieldLink "MiddleSheetModel" (234 : Nat) "MiddleSheetModel" "isKnown" "Z") ∈ lw_all := lw_g (lw_at lw_m5 204 rfl) rfl
theorem q1267 : (Jvm.Cond.fieldLink "MiddleSheetModel" (78 : Nat) "MiddleSheetModel" "middleX" "[J") ∈ lw_all := lw_g (lw_at lw_m5 205 rfl) rfl
theorem q1268 : (Jvm.Cond.fieldLink "MiddleSheetModel" (82 : Nat) "MiddleSheetModel" "middleY" "[J") ∈ lw_all := lw_g (lw_at lw_m5 206 rfl) rfl
theorem q1269 : (Jvm.Cond.fieldLink "MiddleSheetModel" (85 : Nat) "MiddleSheetModel" "middleN" "[J") ∈ lw_all := lw_g (lw_at lw_m5 207 rfl) rfl
theorem q1270 : (Jvm.Cond.fieldLink "MiddleSheetModel" (336 : Nat) "MiddleSheetModel" "farP" "J") ∈ lw_all := lw_g (lw_at lw_m5 208 rfl) rfl
theorem q1271 : (Jvm.Cond.fieldLink "MiddleSheetModel" (340 : Nat) "MiddleSheetModel" "farQ" "J") ∈ lw_all := lw_g (lw_at lw_m5 209 rfl) rfl
theorem q1272 : (Jvm.Cond.fieldLink "MiddleSheetModel" (88 : Nat) "MiddleSheetModel" "pieceOf" "[I") ∈ lw_all := lw_g (lw_at lw_m5 210 rfl) rfl
theorem q1273 : (Jvm.Cond.fieldLink "MiddleSheetModel" (91 : Nat) "MiddleSheetModel" "row" "[I") ∈ lw_all := lw_g (lw_at lw_m5 211 rfl) rfl
theorem q1274 : (Jvm.Cond.fieldLink "MiddleSheetModel" (351 : Nat) "MiddleSheetModel" "pieceMany" "I") ∈ lw_all := lw_g (lw_at lw_m5 212 rfl) rfl
theorem q1275 : (Jvm.Cond.fieldLink "MiddleSheetModel" (348 : Nat) "MiddleSheetModel" "wonMany" "I") ∈ lw_all := lw_g (lw_at lw_m5 213 rfl) rfl
theorem q1276 : (Jvm.Cond.fieldLink "MiddleSheetModel" (94 : Nat) "MiddleSheetModel" "steps" "[I") ∈ lw_all := lw_g (lw_at lw_m5 214 rfl) rfl
theorem q1277 : (Jvm.Cond.fieldLink "MiddleSheetModel" (99 : Nat) "MiddleSheetModel" "gains" "[[J") ∈ lw_all := lw_g (lw_at lw_m5 215 rfl) rfl
theorem q1278 : (Jvm.Cond.fieldLink "MiddleSheetModel" (102 : Nat) "MiddleSheetModel" "shares" "[J") ∈ lw_all := lw_g (lw_at lw_m5 216 rfl) rfl
theorem q1279 : (Jvm.Cond.fieldLink "MiddleSheetModel" (105 : Nat) "MiddleSheetModel" "wasX" "[I") ∈ lw_all := lw_g (lw_at lw_m5 217 rfl) rfl
theorem q1280 : (Jvm.Cond.fieldLink "MiddleSheetModel" (108 : Nat) "MiddleSheetModel" "wasY" "[I") ∈ lw_all := lw_g (lw_at lw_m5 218 rfl) rfl
theorem q1281 : (Jvm.Cond.fieldLink "MiddleSheetModel" (410 : Nat) "MiddleSheetModel" "doubted" "I") ∈ lw_all := lw_g (lw_at lw_m5 219 rfl) rfl
theorem q1282 : (Jvm.Cond.fieldLink "MiddleSheetModel" (413 : Nat) "MiddleSheetModel" "surelyFor" "I") ∈ lw_all := lw_g (lw_at lw_m5 220 rfl) rfl
theorem q1283 : (Jvm.Cond.fieldLink "MiddleSheetModel" (416 : Nat) "MiddleSheetModel" "surelyOver" "I") ∈ lw_all := lw_g (lw_at lw_m5 221 rfl) rfl
theorem q1284 : (Jvm.Cond.fieldLink "MiddleSheetModel" (111 : Nat) "MiddleSheetModel" "kept" "[[I") ∈ lw_all := lw_g (lw_at lw_m5 222 rfl) rfl
theorem q1285 : (Jvm.Cond.fieldLink "MiddleSheetModel" (231 : Nat) "MiddleSheetModel" "moves" "I") ∈ lw_all := lw_g (lw_at lw_m5 223 rfl) rfl
theorem q1286 : (Jvm.Cond.laysFinal "MiddleSheetModel" "MiddleSheetModel" "text" "[B") ∈ lw_all := lw_g (lw_at lw_m5 224 rfl) rfl
theorem q1287 : (Jvm.Cond.soleField "MiddleSheetModel" "text") ∈ lw_all := lw_g (lw_at lw_m5 225 rfl) rfl
theorem q1288 : (Jvm.Cond.lays "MiddleSheetModel" "MiddleSheetModel" "textMany" "I") ∈ lw_all := lw_g (lw_at lw_m5 226 rfl) rfl
theorem q1289 : (Jvm.Cond.soleField "MiddleSheetModel" "textMany") ∈ lw_all := lw_g (lw_at lw_m5 227 rfl) rfl
theorem q1290 : (Jvm.Cond.lays "MiddleSheetModel" "MiddleSheetModel" "at" "I") ∈ lw_all := lw_g (lw_at lw_m5 228 rfl) rfl
theorem q1291 : (Jvm.Cond.soleField "MiddleSheetModel" "at") ∈ lw_all := lw_g (lw_at lw_m5 229 rfl) rfl
theorem q1292 : (Jvm.Cond.lays "MiddleSheetModel" "MiddleSheetModel" "end0" "I") ∈ lw_all := lw_g (lw_at lw_m5 230 rfl) rfl
theorem q1293 : (Jvm.Cond.soleField "MiddleSheetModel" "end0") ∈ lw_all := lw_g (lw_at lw_m5 231 rfl) rfl
theorem q1294 : (Jvm.Cond.lays "MiddleSheetModel" "MiddleSheetModel" "faultAt" "I") ∈ lw_all := lw_g (lw_at lw_m5 232 rfl) rfl
theorem q1295 : (Jvm.Cond.soleField "MiddleSheetModel" "faultAt") ∈ lw_all := lw_g (lw_at lw_m5 233 rfl) rfl
theorem q1296 : (Jvm.Cond.lays "MiddleSheetModel" "MiddleSheetModel" "value0" "I") ∈ lw_all := lw_g (lw_at lw_m5 234 rfl) rfl
theorem q1297 : (Jvm.Cond.soleField "MiddleSheetModel" "value0") ∈ lw_all := lw_g (lw_at lw_m5 235 rfl) rfl
theorem q1298 : (Jvm.Cond.laysFinal "MiddleSheetModel" "MiddleSheetModel" "voterX" "[[I") ∈ lw_all := lw_g (lw_at lw_m5 236 rfl) rfl
theorem q1299 : (Jvm.Cond.soleField "MiddleSheetModel" "voterX") ∈ lw_all := lw_g (lw_at lw_m5 237 rfl) rfl
theorem q1300 : (Jvm.Cond.laysFinal "MiddleSheetModel" "MiddleSheetModel" "voterY" "[[I") ∈ lw_all := lw_g (lw_at lw_m5 238 rfl) rfl
theorem q1301 : (Jvm.Cond.soleField "MiddleSheetModel" "voterY") ∈ lw_all := lw_g (lw_at lw_m5 239 rfl) rfl
theorem q1302 : (Jvm.Cond.laysFinal "MiddleSheetModel" "MiddleSheetModel" "weight" "[[I") ∈ lw_all := lw_g (lw_at lw_m6 0 rfl) rfl
theorem q1303 : (Jvm.Cond.soleField "MiddleSheetModel" "weight") ∈ lw_all := lw_g (lw_at lw_m6 1 rfl) rfl
theorem q1304 : (Jvm.Cond.laysFinal "MiddleSheetModel" "MiddleSheetModel" "measure" "[[I") ∈ lw_all := lw_g (lw_at lw_m6 2 rfl) rfl
theorem q1305 : (Jvm.Cond.soleField "MiddleSheetModel" "measure") ∈ lw_all := lw_g (lw_at lw_m6 3 rfl) rfl
theorem q1306 : (Jvm.Cond.laysFinal "MiddleSheetModel" "MiddleSheetModel" "stretchA" "[[I") ∈ lw_all := lw_g (lw_at lw_m6 4 rfl) rfl
theorem q1307 : (Jvm.Cond.soleField "MiddleSheetModel" "stretchA") ∈ lw_all := lw_g (lw_at lw_m6 5 rfl) rfl
theorem q1308 : (Jvm.Cond.laysFinal "MiddleSheetModel" "MiddleSheetModel" "stretchB" "[[I") ∈ lw_all := lw_g (lw_at lw_m6 6 rfl) rfl
theorem q1309 : (Jvm.Cond.soleField "MiddleSheetModel" "stretchB") ∈ lw_all := lw_g (lw_at lw_m6 7 rfl) rfl
theorem q1310 : (Jvm.Cond.laysFinal "MiddleSheetModel" "MiddleSheetModel" "placeX" "[[I") ∈ lw_all := lw_g (lw_at lw_m6 8 rfl) rfl
theorem q1311 : (Jvm.Cond.soleField "MiddleSheetModel" "placeX") ∈ lw_all := lw_g (lw_at lw_m6 9 rfl) rfl
theorem q1312 : (Jvm.Cond.laysFinal "MiddleSheetModel" "MiddleSheetModel" "placeY" "[[I") ∈ lw_all := lw_g (lw_at lw_m6 10 rfl) rfl
theorem q1313 : (Jvm.Cond.soleField "MiddleSheetModel" "placeY") ∈ lw_all := lw_g (lw_at lw_m6 11 rfl) rfl
theorem q1314 : (Jvm.Cond.laysFinal "MiddleSheetModel" "MiddleSheetModel" "voterMany" "[I") ∈ lw_all := lw_g (lw_at lw_m6 12 rfl) rfl
theorem q1315 : (Jvm.Cond.soleField "MiddleSheetModel" "voterMany") ∈ lw_all := lw_g (lw_at lw_m6 13 rfl) rfl
theorem q1316 : (Jvm.Cond.laysFinal "MiddleSheetModel" "MiddleSheetModel" "placeMany" "[I") ∈ lw_all := lw_g (lw_at lw_m6 14 rfl) rfl
theorem q1317 : (Jvm.Cond.soleField "MiddleSheetModel" "placeMany") ∈ lw_all := lw_g (lw_at lw_m6 15 rfl) rfl
theorem q1318 : (Jvm.Cond.laysFinal "MiddleSheetModel" "MiddleSheetModel" "winKind" "[I") ∈ lw_all := lw_g (lw_at lw_m6 16 rfl) rfl
theorem q1319 : (Jvm.Cond.soleField "MiddleSheetModel" "winKind") ∈ lw_all := lw_g (lw_at lw_m6 17 rfl) rfl
theorem q1320 : (Jvm.Cond.laysFinal "MiddleSheetModel" "MiddleSheetModel" "winA" "[I") ∈ lw_all := lw_g (lw_at lw_m6 18 rfl) rfl
theorem q1321 : (Jvm.Cond.soleField "MiddleSheetModel" "winA") ∈ lw_all := lw_g (lw_at lw_m6 19 rfl) rfl
theorem q1322 : (Jvm.Cond.laysFinal "MiddleSheetModel" "MiddleSheetModel" "winB" "[I") ∈ lw_all := lw_g (lw_at lw_m6 20 rfl) rfl
theorem q1323 : (Jvm.Cond.soleField "MiddleSheetModel" "winB") ∈ lw_all := lw_g (lw_at lw_m6 21 rfl) rfl
theorem q1324 : (Jvm.Cond.lays "MiddleSheetModel" "MiddleSheetModel" "nearNow" "I") ∈ lw_all := lw_g (lw_at lw_m6 22 rfl) rfl
theorem q1325 : (Jvm.Cond.soleField "MiddleSheetModel" "nearNow") ∈ lw_all := lw_g (lw_at lw_m6 23 rfl) rfl
theorem q1326 : (Jvm.Cond.lays "MiddleSheetModel" "MiddleSheetModel" "aNow" "I") ∈ lw_all := lw_g (lw_at lw_m6 24 rfl) rfl
theorem q1327 : (Jvm.Cond.soleField "MiddleSheetModel" "aNow") ∈ lw_all := lw_g (lw_at lw_m6 25 rfl) rfl
theorem q1328 : (Jvm.Cond.lays "MiddleSheetModel" "MiddleSheetModel" "bNow" "I") ∈ lw_all := lw_g (lw_at lw_m6 26 rfl) rfl
theorem q1329 : (Jvm.Cond.soleField "MiddleSheetModel" "bNow") ∈ lw_all := lw_g (lw_at lw_m6 27 rfl) rfl
theorem q1330 : (Jvm.Cond.lays "MiddleSheetModel" "MiddleSheetModel" "hasWin" "Z") ∈ lw_all := lw_g (lw_at lw_m6 28 rfl) rfl
theorem q1331 : (Jvm.Cond.soleField "MiddleSheetModel" "hasWin") ∈ lw_all := lw_g (lw_at lw_m6 29 rfl) rfl
theorem q1332 : (Jvm.Cond.laysFinal "MiddleSheetModel" "MiddleSheetModel" "measures" "[Ljava/lang/String;") ∈ lw_all := lw_g (lw_at lw_m6 30 rfl) rfl
theorem q1333 : (Jvm.Cond.soleField "MiddleSheetModel" "measures") ∈ lw_all := lw_g (lw_at lw_m6 31 rfl) rfl
theorem q1334 : (Jvm.Cond.laysFinal "MiddleSheetModel" "MiddleSheetModel" "lineA" "[I") ∈ lw_all := lw_g (lw_at lw_m6 32 rfl) rfl
theorem q1335 : (Jvm.Cond.soleField "MiddleSheetModel" "lineA") ∈ lw_all := lw_g (lw_at lw_m6 33 rfl) rfl
theorem q1336 : (Jvm.Cond.laysFinal "MiddleSheetModel" "MiddleSheetModel" "lineB" "[I") ∈ lw_all := lw_g (lw_at lw_m6 34 rfl) rfl
theorem q1337 : (Jvm.Cond.soleField "MiddleSheetModel" "lineB") ∈ lw_all := lw_g (lw_at lw_m6 35 rfl) rfl
theorem q1338 : (Jvm.Cond.laysFinal "MiddleSheetModel" "MiddleSheetModel" "lineC" "[I") ∈ lw_all := lw_g (lw_at lw_m6 36 rfl) rfl
theorem q1339 : (Jvm.Cond.soleField "MiddleSheetModel" "lineC") ∈ lw_all := lw_g (lw_at lw_m6 37 rfl) rfl
theorem q1340 : (Jvm.Cond.lays "MiddleSheetModel" "MiddleSheetModel" "lines" "I") ∈ lw_all := lw_g (lw_at lw_m6 38 rfl) rfl
theorem q1341 : (Jvm.Cond.soleField "MiddleSheetModel" "lines") ∈ lw_all := lw_g (lw_at lw_m6 39 rfl) rfl
theorem q1342 : (Jvm.Cond.lays "MiddleSheetModel" "MiddleSheetModel" "middles" "I") ∈ lw_all := lw_g (lw_at lw_m6 40 rfl) rfl
theorem q1343 : (Jvm.Cond.soleField "MiddleSheetModel" "middles") ∈ lw_all := lw_g (lw_at lw_m6 41 rfl) rfl
theorem q1344 : (Jvm.Cond.lays "MiddleSheetModel" "MiddleSheetModel" "isKnown" "Z") ∈ lw_all := lw_g (lw_at lw_m6 42 rfl) rfl
theorem q1345 : (Jvm.Cond.soleField "MiddleSheetModel" "isKnown") ∈ lw_all := lw_g (lw_at lw_m6 43 rfl) rfl
theorem q1346 : (Jvm.Cond.laysFinal "MiddleSheetModel" "MiddleSheetModel" "middleX" "[J") ∈ lw_all := lw_g (lw_at lw_m6 44 rfl) rfl
theorem q1347 : (Jvm.Cond.soleField "MiddleSheetModel" "middleX") ∈ lw_all := lw_g (lw_at lw_m6 45 rfl) rfl
theorem q1348 : (Jvm.Cond.laysFinal "MiddleSheetModel" "MiddleSheetModel" "middleY" "[J") ∈ lw_all := lw_g (lw_at lw_m6 46 rfl) rfl
theorem q1349 : (Jvm.Cond.soleField "MiddleSheetModel" "middleY") ∈ lw_all := lw_g (lw_at lw_m6 47 rfl) rfl
theorem q1350 : (Jvm.Cond.laysFinal "MiddleSheetModel" "MiddleSheetModel" "middleN" "[J") ∈ lw_all := lw_g (lw_at lw_m6 48 rfl) rfl
theorem q1351 : (Jvm.Cond.soleField "MiddleSheetModel" "middleN") ∈ lw_all := lw_g (lw_at lw_m6 49 rfl) rfl
theorem q1352 : (Jvm.Cond.lays "MiddleSheetModel" "MiddleSheetModel" "farP" "J") ∈ lw_all := lw_g (lw_at lw_m6 50 rfl) rfl
theorem q1353 : (Jvm.Cond.soleField "MiddleSheetModel" "farP") ∈ lw_all := lw_g (lw_at lw_m6 51 rfl) rfl
theorem q1354 : (Jvm.Cond.lays "MiddleSheetModel" "MiddleSheetModel" "farQ" "J") ∈ lw_all := lw_g (lw_at lw_m6 52 rfl) rfl
theorem q1355 : (Jvm.Cond.soleField "MiddleSheetModel" "farQ") ∈ lw_all := lw_g (lw_at lw_m6 53 rfl) rfl
theorem q1356 : (Jvm.Cond.laysFinal "MiddleSheetModel" "MiddleSheetModel" "pieceOf" "[I") ∈ lw_all := lw_g (lw_at lw_m6 54 rfl) rfl
theorem q1357 : (Jvm.Cond.soleField "MiddleSheetModel" "pieceOf") ∈ lw_all := lw_g (lw_at lw_m6 55 rfl) rfl
theorem q1358 : (Jvm.Cond.laysFinal "MiddleSheetModel" "MiddleSheetModel" "row" "[I") ∈ lw_all := lw_g (lw_at lw_m6 56 rfl) rfl
theorem q1359 : (Jvm.Cond.soleField "MiddleSheetModel" "row") ∈ lw_all := lw_g (lw_at lw_m6 57 rfl) rfl
theorem q1360 : (Jvm.Cond.lays "MiddleSheetModel" "MiddleSheetModel" "pieceMany" "I") ∈ lw_all := lw_g (lw_at lw_m6 58 rfl) rfl
theorem q1361 : (Jvm.Cond.soleField "MiddleSheetModel" "pieceMany") ∈ lw_all := lw_g (lw_at lw_m6 59 rfl) rfl
theorem q1362 : (Jvm.Cond.lays "MiddleSheetModel" "MiddleSheetModel" "wonMany" "I") ∈ lw_all := lw_g (lw_at lw_m6 60 rfl) rfl
theorem q1363 : (Jvm.Cond.soleField "MiddleSheetModel" "wonMany") ∈ lw_all := lw_g (lw_at lw_m6 61 rfl) rfl
theorem q1364 : (Jvm.Cond.laysFinal "MiddleSheetModel" "MiddleSheetModel" "steps" "[I") ∈ lw_all := lw_g (lw_at lw_m6 62 rfl) rfl
theorem q1365 : (Jvm.Cond.soleField "MiddleSheetModel" "steps") ∈ lw_all := lw_g (lw_at lw_m6 63 rfl) rfl
theorem q1366 : (Jvm.Cond.laysFinal "MiddleSheetModel" "MiddleSheetModel" "gains" "[[J") ∈ lw_all := lw_g (lw_at lw_m6 64 rfl) rfl
theorem q1367 : (Jvm.Cond.soleField "MiddleSheetModel" "gains") ∈ lw_all := lw_g (lw_at lw_m6 65 rfl) rfl
theorem q1368 : (Jvm.Cond.laysFinal "MiddleSheetModel" "MiddleSheetModel" "shares" "[J") ∈ lw_all := lw_g (lw_at lw_m6 66 rfl) rfl
theorem q1369 : (Jvm.Cond.soleField "MiddleSheetModel" "shares") ∈ lw_all := lw_g (lw_at lw_m6 67 rfl) rfl
theorem q1370 : (Jvm.Cond.laysFinal "MiddleSheetModel" "MiddleSheetModel" "wasX" "[I") ∈ lw_all := lw_g (lw_at lw_m6 68 rfl) rfl
theorem q1371 : (Jvm.Cond.soleField "MiddleSheetModel" "wasX") ∈ lw_all := lw_g (lw_at lw_m6 69 rfl) rfl
theorem q1372 : (Jvm.Cond.laysFinal "MiddleSheetModel" "MiddleSheetModel" "wasY" "[I") ∈ lw_all := lw_g (lw_at lw_m6 70 rfl) rfl
theorem q1373 : (Jvm.Cond.soleField "MiddleSheetModel" "wasY") ∈ lw_all := lw_g (lw_at lw_m6 71 rfl) rfl
theorem q1374 : (Jvm.Cond.lays "MiddleSheetModel" "MiddleSheetModel" "doubted" "I") ∈ lw_all := lw_g (lw_at lw_m6 72 rfl) rfl
theorem q1375 : (Jvm.Cond.soleField "MiddleSheetModel" "doubted") ∈ lw_all := lw_g (lw_at lw_m6 73 rfl) rfl
theorem q1376 : (Jvm.Cond.lays "MiddleSheetModel" "MiddleSheetModel" "surelyFor" "I") ∈ lw_all := lw_g (lw_at lw_m6 74 rfl) rfl
theorem q1377 : (Jvm.Cond.soleField "MiddleSheetModel" "surelyFor") ∈ lw_all := lw_g (lw_at lw_m6 75 rfl) rfl
theorem q1378 : (Jvm.Cond.lays "MiddleSheetModel" "MiddleSheetModel" "surelyOver" "I") ∈ lw_all := lw_g (lw_at lw_m6 76 rfl) rfl
theorem q1379 : (Jvm.Cond.soleField "MiddleSheetModel" "surelyOver") ∈ lw_all := lw_g (lw_at lw_m6 77 rfl) rfl
theorem q1380 : (Jvm.Cond.laysFinal "MiddleSheetModel" "MiddleSheetModel" "kept" "[[I") ∈ lw_all := lw_g (lw_at lw_m6 78 rfl) rfl
theorem q1381 : (Jvm.Cond.soleField "MiddleSheetModel" "kept") ∈ lw_all := lw_g (lw_at lw_m6 79 rfl) rfl
theorem q1382 : (Jvm.Cond.lays "MiddleSheetModel" "MiddleSheetModel" "moves" "I") ∈ lw_all := lw_g (lw_at lw_m6 80 rfl) rfl
theorem q1383 : (Jvm.Cond.soleField "MiddleSheetModel" "moves") ∈ lw_all := lw_g (lw_at lw_m6 81 rfl) rfl
theorem q1384 : (Jvm.Cond.superclass "MiddleSheetModel" "java/lang/Object") ∈ lw_all := lw_g (lw_at lw_m6 82 rfl) rfl
theorem q1386 : (Jvm.Cond.instanceMethod ({ cls := "MiddleSheetModel", name := "feed", desc := "(IIIII)I" } : Jvm.MethodName)) ∈ lw_all := lw_g (lw_at lw_m6 84 rfl) rfl
theorem q1387 : (Jvm.Cond.selects "MiddleSheetModel" ({ cls := "MiddleSheetModel", name := "feed", desc := "(IIIII)I" } : Jvm.MethodName) ({ cls := "MiddleSheetModel", name := "feed", desc := "(IIIII)I" } : Jvm.MethodName)) ∈ lw_all := lw_g (lw_at lw_m6 85 rfl) rfl
theorem q1388 : (Jvm.Cond.code ({ cls := "MiddleSheetModel", name := "feed", desc := "(IIIII)I" } : Jvm.MethodName) prog_15_method_5_code (6 : Nat) (Option.some Jvm.ClassFile.FieldType.int)) ∈ lw_all := lw_g (lw_at lw_m6 86 rfl) rfl
theorem q1389 : (Jvm.Cond.methodLink "MiddleSheetModel" (118 : Nat) ({ cls := "MiddleSheetModel", name := "feeds", desc := "(I)V" } : Jvm.MethodName)) ∈ lw_all := lw_g (lw_at lw_m6 87 rfl) rfl
theorem q1390 : (Jvm.Cond.privateMethod ({ cls := "MiddleSheetModel", name := "feeds", desc := "(I)V" } : Jvm.MethodName)) ∈ lw_tbl := lw_at lw_m6 88 rfl
theorem q1391 : (Jvm.Cond.instanceMethod ({ cls := "MiddleSheetModel", name := "feeds", desc := "(I)V" } : Jvm.MethodName)) ∈ lw_all := lw_g (lw_at lw_m6 89 rfl) rfl
theorem q1392 : (Jvm.Cond.code ({ cls := "MiddleSheetModel", name := "feeds", desc := "(I)V" } : Jvm.MethodName) prog_15_method_4_code (3 : Nat) (Option.none : Option Jvm.ClassFile.FieldType)) ∈ lw_all := lw_g (lw_at lw_m6 90 rfl) rfl
theorem q1394 : (Jvm.Cond.instanceMethod ({ cls := "MiddleSheetModel", name := "end", desc := "(I)Z" } : Jvm.MethodName)) ∈ lw_all := lw_g (lw_at lw_m6 92 rfl) rfl
theorem q1395 : (Jvm.Cond.selects "MiddleSheetModel" ({ cls := "MiddleSheetModel", name := "end", desc := "(I)Z" } : Jvm.MethodName) ({ cls := "MiddleSheetModel", name := "end", desc := "(I)Z" } : Jvm.MethodName)) ∈ lw_all := lw_g (lw_at lw_m6 93 rfl) rfl
theorem q1396 : (Jvm.Cond.code ({ cls := "MiddleSheetModel", name := "end", desc := "(I)Z" } : Jvm.MethodName) prog_15_method_6_code (2 : Nat) (Option.some Jvm.ClassFile.FieldType.boolean)) ∈ lw_all := lw_g (lw_at lw_m6 94 rfl) rfl
theorem q1397 : (Jvm.Cond.methodLink "MiddleSheetModel" (122 : Nat) ({ cls := "MiddleSheetModel", name := "in", desc := "(JJJ)Z" } : Jvm.MethodName)) ∈ lw_all := lw_g (lw_at lw_m6 95 rfl) rfl
theorem q1398 : (Jvm.Cond.static ({ cls := "MiddleSheetModel", name := "in", desc := "(JJJ)Z" } : Jvm.MethodName)) ∈ lw_all := lw_g (lw_at lw_m6 96 rfl) rfl
theorem q1399 : (Jvm.Cond.code ({ cls := "MiddleSheetModel", name := "in", desc := "(JJJ)Z" } : Jvm.MethodName) prog_15_method_2_code (6 : Nat) (Option.some Jvm.ClassFile.FieldType.boolean)) ∈ lw_all := lw_g (lw_at lw_m6 97 rfl) rfl
theorem q1401 : (Jvm.Cond.instanceMethod ({ cls := "MiddleSheetModel", name := "fault", desc := "()I" } : Jvm.MethodName)) ∈ lw_all := lw_g (lw_at lw_m6 99 rfl) rfl
theorem q1402 : (Jvm.Cond.selects "MiddleSheetModel" ({ cls := "MiddleSheetModel", name := "fault", desc := "()I" } : Jvm.MethodName) ({ cls := "MiddleSheetModel", name := "fault", desc := "()I" } : Jvm.MethodName)) ∈ lw_all := lw_g (lw_at lw_m6 100 rfl) rfl
theorem q1403 : (Jvm.Cond.code ({ cls := "MiddleSheetModel", name := "fault", desc := "()I" } : Jvm.MethodName) prog_15_method_21_code (1 : Nat) (Option.some Jvm.ClassFile.FieldType.int)) ∈ lw_all := lw_g (lw_at lw_m6 101 rfl) rfl
theorem q1404 : (Jvm.Cond.methodLink "MiddleSheetModel" (228 : Nat) ({ cls := "MiddleSheetModel", name := "reads", desc := "()V" } : Jvm.MethodName)) ∈ lw_all := lw_g (lw_at lw_m6 102 rfl) rfl
theorem q1405 : (Jvm.Cond.privateMethod ({ cls := "MiddleSheetModel", name := "reads", desc := "()V" } : Jvm.MethodName)) ∈ lw_tbl := lw_at lw_m6 103 rfl
theorem q1406 : (Jvm.Cond.instanceMethod ({ cls := "MiddleSheetModel", name := "reads", desc := "()V" } : Jvm.MethodName)) ∈ lw_all := lw_g (lw_at lw_m6 104 rfl) rfl
theorem q1407 : (Jvm.Cond.code ({ cls := "MiddleSheetModel", name := "reads", desc := "()V" } : Jvm.MethodName) prog_15_method_20_code (2 : Nat) (Option.none : Option Jvm.ClassFile.FieldType)) ∈ lw_all := lw_g (lw_at lw_m6 105 rfl) rfl
theorem q1408 : (Jvm.Cond.methodLink "MiddleSheetModel" (150 : Nat) ({ cls := "MiddleSheetModel", name := "skips", desc := "()V" } : Jvm.MethodName)) ∈ lw_all := lw_g (lw_at lw_m6 106 rfl) rfl
theorem q1409 : (Jvm.Cond.privateMethod ({ cls := "MiddleSheetModel", name := "skips", desc := "()V" } : Jvm.MethodName)) ∈ lw_tbl := lw_at lw_m6 107 rfl
theorem q1410 : (Jvm.Cond.instanceMethod ({ cls := "MiddleSheetModel", name := "skips", desc := "()V" } : Jvm.MethodName)) ∈ lw_all := lw_g (lw_at lw_m6 108 rfl) rfl
theorem q1411 : (Jvm.Cond.code ({ cls := "MiddleSheetModel", name := "skips", desc := "()V" } : Jvm.MethodName) prog_15_method_9_code (1 : Nat) (Option.none : Option Jvm.ClassFile.FieldType)) ∈ lw_all := lw_g (lw_at lw_m6 109 rfl) rfl
theorem q1412 : (Jvm.Cond.methodLink "MiddleSheetModel" (132 : Nat) ({ cls := "MiddleSheetModel", name := "isLetter", desc := "(I)Z" } : Jvm.MethodName)) ∈ lw_all := lw_g (lw_at lw_m6 110 rfl) rfl
theorem q1413 : (Jvm.Cond.static ({ cls := "MiddleSheetModel", name := "isLetter", desc := "(I)Z" } : Jvm.MethodName)) ∈ lw_all := lw_g (lw_at lw_m6 111 rfl) rfl
theorem q1414 : (Jvm.Cond.code ({ cls := "MiddleSheetModel", name := "isLetter", desc := "(I)Z" } : Jvm.MethodName) prog_15_method_7_code (1 : Nat) (Option.some Jvm.ClassFile.FieldType.boolean)) ∈ lw_all := lw_g (lw_at lw_m6 112 rfl) rfl
theorem q1415 : (Jvm.Cond.methodLink "MiddleSheetModel" (136 : Nat) ({ cls := "MiddleSheetModel", name := "isDigit", desc := "(I)Z" } : Jvm.MethodName)) ∈ lw_all := lw_g (lw_at lw_m6 113 rfl) rfl
theorem q1416 : (Jvm.Cond.static ({ cls := "MiddleSheetModel", name := "isDigit", desc := "(I)Z" } : Jvm.MethodName)) ∈ lw_all := lw_g (lw_at lw_m6 114 rfl) rfl
theorem q1417 : (Jvm.Cond.code ({ cls := "MiddleSheetModel", name := "isDigit", desc := "(I)Z" } : Jvm.MethodName) prog_15_method_8_code (1 : Nat) (Option.some Jvm.ClassFile.FieldType.boolean)) ∈ lw_all := lw_g (lw_at lw_m6 115 rfl) rfl
theorem q1418 : (Jvm.Cond.methodLink "MiddleSheetModel" (225 : Nat) ({ cls := "MiddleSheetModel", name := "told", desc := "()Z" } : Jvm.MethodName)) ∈ lw_all := lw_g (lw_at lw_m6 116 rfl) rfl
theorem q1419 : (Jvm.Cond.privateMethod ({ cls := "MiddleSheetModel", name := "told", desc := "()Z" } : Jvm.MethodName)) ∈ lw_tbl := lw_at lw_m6 117 rfl
theorem q1420 : (Jvm.Cond.instanceMethod ({ cls := "MiddleSheetModel", name := "told", desc := "()Z" } : Jvm.MethodName)) ∈ lw_all := lw_g (lw_at lw_m6 118 rfl) rfl
theorem q1421 : (Jvm.Cond.code ({ cls := "MiddleSheetModel", name := "told", desc := "()Z" } : Jvm.MethodName) prog_15_method_19_code (1 : Nat) (Option.some Jvm.ClassFile.FieldType.boolean)) ∈ lw_all := lw_g (lw_at lw_m6 119 rfl) rfl
theorem q1422 : (Jvm.Cond.stringRef "MiddleSheetModel" (201 : Nat) "near") ∈ lw_tbl := lw_at lw_m6 120 rfl
theorem q1423 : (Jvm.Cond.methodLink "MiddleSheetModel" (160 : Nat) ({ cls := "MiddleSheetModel", name := "isWord", desc := "(Ljava/lang/String;)Z" } : Jvm.MethodName)) ∈ lw_all := lw_g (lw_at lw_m6 121 rfl) rfl
theorem q1424 : (Jvm.Cond.privateMethod ({ cls := "MiddleSheetModel", name := "isWord", desc := "(Ljava/lang/String;)Z" } : Jvm.MethodName)) ∈ lw_tbl := lw_at lw_m6 122 rfl
theorem q1425 : (Jvm.Cond.instanceMethod ({ cls := "MiddleSheetModel", name := "isWord", desc := "(Ljava/lang/String;)Z" } : Jvm.MethodName)) ∈ lw_all := lw_g (lw_at lw_m6 123 rfl) rfl
theorem q1426 : (Jvm.Cond.code ({ cls := "MiddleSheetModel", name := "isWord", desc := "(Ljava/lang/String;)Z" } : Jvm.MethodName) prog_15_method_10_code (3 : Nat) (Option.some Jvm.ClassFile.FieldType.boolean)) ∈ lw_all := lw_g (lw_at lw_m6 124 rfl) rfl
theorem q1427 : (Jvm.Cond.methodLink "MiddleSheetModel" (139 : Nat) ({ cls := "java/lang/String", name := "length", desc := "()I" } : Jvm.MethodName)) ∈ lw_all := lw_g (lw_at lw_m6 125 rfl) rfl
theorem q1428 : (Jvm.Cond.methodLink "MiddleSheetModel" (143 : Nat) ({ cls := "java/lang/String", name := "charAt", desc := "(I)C" } : Jvm.MethodName)) ∈ lw_all := lw_g (lw_at lw_m6 126 rfl) rfl
theorem q1429 : (Jvm.Cond.methodLink "MiddleSheetModel" (156 : Nat) ({ cls := "MiddleSheetModel", name := "passes", desc := "(Z)Z" } : Jvm.MethodName)) ∈ lw_all := lw_g (lw_at lw_m6 127 rfl) rfl
theorem q1430 : (Jvm.Cond.privateMethod ({ cls := "MiddleSheetModel", name := "passes", desc := "(Z)Z" } : Jvm.MethodName)) ∈ lw_tbl := lw_at lw_m6 128 rfl
theorem q1431 : (Jvm.Cond.instanceMethod ({ cls := "MiddleSheetModel", name := "passes", desc := "(Z)Z" } : Jvm.MethodName)) ∈ lw_all := lw_g (lw_at lw_m6 129 rfl) rfl
theorem q1432 : (Jvm.Cond.code ({ cls := "MiddleSheetModel", name := "passes", desc := "(Z)Z" } : Jvm.MethodName) prog_15_method_12_code (2 : Nat) (Option.some Jvm.ClassFile.FieldType.boolean)) ∈ lw_all := lw_g (lw_at lw_m6 130 rfl) rfl
theorem q1433 : (Jvm.Cond.methodLink "MiddleSheetModel" (203 : Nat) ({ cls := "MiddleSheetModel", name := "near", desc := "()Z" } : Jvm.MethodName)) ∈ lw_all := lw_g (lw_at lw_m6 131 rfl) rfl
theorem q1434 : (Jvm.Cond.privateMethod ({ cls := "MiddleSheetModel", name := "near", desc := "()Z" } : Jvm.MethodName)) ∈ lw_tbl := lw_at lw_m6 132 rfl
theorem q1435 : (Jvm.Cond.instanceMethod ({ cls := "MiddleSheetModel", name := "near", desc := "()Z" } : Jvm.MethodName)) ∈ lw_all := lw_g (lw_at lw_m6 133 rfl) rfl
theorem q1436 : (Jvm.Cond.code ({ cls := "MiddleSheetModel", name := "near", desc := "()Z" } : Jvm.MethodName) prog_15_method_14_code (3 : Nat) (Option.some Jvm.ClassFile.FieldType.boolean)) ∈ lw_all := lw_g (lw_at lw_m6 134 rfl) rfl
theorem q1437 : (Jvm.Cond.methodLink "MiddleSheetModel" (167 : Nat) ({ cls := "MiddleSheetModel", name := "isSign", desc := "(I)Z" } : Jvm.MethodName)) ∈ lw_all := lw_g (lw_at lw_m6 135 rfl) rfl
theorem q1438 : (Jvm.Cond.privateMethod ({ cls := "MiddleSheetModel", name := "isSign", desc := "(I)Z" } : Jvm.MethodName)) ∈ lw_tbl := lw_at lw_m6 136 rfl
theorem q1439 : (Jvm.Cond.instanceMethod ({ cls := "MiddleSheetModel", name := "isSign", desc := "(I)Z" } : Jvm.MethodName)) ∈ lw_all := lw_g (lw_at lw_m6 137 rfl) rfl
theorem q1440 : (Jvm.Cond.code ({ cls := "MiddleSheetModel", name := "isSign", desc := "(I)Z" } : Jvm.MethodName) prog_15_method_11_code (2 : Nat) (Option.some Jvm.ClassFile.FieldType.boolean)) ∈ lw_all := lw_g (lw_at lw_m6 138 rfl) rfl
theorem q1441 : (Jvm.Cond.stringRef "MiddleSheetModel" (206 : Nat) "stretch") ∈ lw_tbl := lw_at lw_m6 139 rfl
theorem q1442 : (Jvm.Cond.methodLink "MiddleSheetModel" (208 : Nat) ({ cls := "MiddleSheetModel", name := "stretch", desc := "()Z" } : Jvm.MethodName)) ∈ lw_all := lw_g (lw_at lw_m6 140 rfl) rfl
theorem q1443 : (Jvm.Cond.privateMethod ({ cls := "MiddleSheetModel", name := "stretch", desc := "()Z" } : Jvm.MethodName)) ∈ lw_tbl := lw_at lw_m6 141 rfl
theorem q1444 : (Jvm.Cond.instanceMethod ({ cls := "MiddleSheetModel", name := "stretch", desc := "()Z" } : Jvm.MethodName)) ∈ lw_all := lw_g (lw_at lw_m6 142 rfl) rfl
theorem q1445 : (Jvm.Cond.code ({ cls := "MiddleSheetModel", name := "stretch", desc := "()Z" } : Jvm.MethodName) prog_15_method_15_code (2 : Nat) (Option.some Jvm.ClassFile.FieldType.boolean)) ∈ lw_all := lw_g (lw_at lw_m6 143 rfl) rfl
theorem q1446 : (Jvm.Cond.methodLink "MiddleSheetModel" (170 : Nat) ({ cls := "MiddleSheetModel", name := "number", desc := "(II)Z" } : Jvm.MethodName)) ∈ lw_all := lw_g (lw_at lw_m6 144 rfl) rfl
theorem q1447 : (Jvm.Cond.privateMethod ({ cls := "MiddleSheetModel", name := "number", desc := "(II)Z" } : Jvm.MethodName)) ∈ lw_tbl := lw_at lw_m6 145 rfl
theorem q1448 : (Jvm.Cond.instanceMethod ({ cls := "MiddleSheetModel", name := "number", desc := "(II)Z" } : Jvm.MethodName)) ∈ lw_all := lw_g (lw_at lw_m6 146 rfl) rfl
theorem q1449 : (Jvm.Cond.code ({ cls := "MiddleSheetModel", name := "number", desc := "(II)Z" } : Jvm.MethodName) prog_15_method_13_code (6 : Nat) (Option.some Jvm.ClassFile.FieldType.boolean)) ∈ lw_all := lw_g (lw_at lw_m6 147 rfl) rfl
theorem q1450 : (Jvm.Cond.stringRef "MiddleSheetModel" (210 : Nat) "voter") ∈ lw_tbl := lw_at lw_m6 148 rfl
theorem q1451 : (Jvm.Cond.methodLink "MiddleSheetModel" (212 : Nat) ({ cls := "MiddleSheetModel", name := "voterRead", desc := "()Z" } : Jvm.MethodName)) ∈ lw_all := lw_g (lw_at lw_m6 149 rfl) rfl
theorem q1452 : (Jvm.Cond.privateMethod ({ cls := "MiddleSheetModel", name := "voterRead", desc := "()Z" } : Jvm.MethodName)) ∈ lw_tbl := lw_at lw_m6 150 rfl
theorem q1453 : (Jvm.Cond.instanceMethod ({ cls := "MiddleSheetModel", name := "voterRead", desc := "()Z" } : Jvm.MethodName)) ∈ lw_all := lw_g (lw_at lw_m6 151 rfl) rfl
theorem q1454 : (Jvm.Cond.code ({ cls := "MiddleSheetModel", name := "voterRead", desc := "()Z" } : Jvm.MethodName) prog_15_method_16_code (2 : Nat) (Option.some Jvm.ClassFile.FieldType.boolean)) ∈ lw_all := lw_g (lw_at lw_m6 152 rfl) rfl
theorem q1455 : (Jvm.Cond.stringRef "MiddleSheetModel" (180 : Nat) "by") ∈ lw_tbl := lw_at lw_m6 153 rfl
theorem q1456 : (Jvm.Cond.stringRef "MiddleSheetModel" (215 : Nat) "place") ∈ lw_tbl := lw_at lw_m6 154 rfl
theorem q1457 : (Jvm.Cond.methodLink "MiddleSheetModel" (217 : Nat) ({ cls := "MiddleSheetModel", name := "placeRead", desc := "()Z" } : Jvm.MethodName)) ∈ lw_all := lw_g (lw_at lw_m6 155 rfl) rfl
theorem q1458 : (Jvm.Cond.privateMethod ({ cls := "MiddleSheetModel", name := "placeRead", desc := "()Z" } : Jvm.MethodName)) ∈ lw_tbl := lw_at lw_m6 156 rfl
theorem q1459 : (Jvm.Cond.instanceMethod ({ cls := "MiddleSheetModel", name := "placeRead", desc := "()Z" } : Jvm.MethodName)) ∈ lw_all := lw_g (lw_at lw_m6 157 rfl) rfl
theorem q1460 : (Jvm.Cond.code ({ cls := "MiddleSheetModel", name := "placeRead", desc := "()Z" } : Jvm.MethodName) prog_15_method_17_code (2 : Nat) (Option.some Jvm.ClassFile.FieldType.boolean)) ∈ lw_all := lw_g (lw_at lw_m6 158 rfl) rfl
theorem q1461 : (Jvm.Cond.stringRef "MiddleSheetModel" (220 : Nat) "win") ∈ lw_tbl := lw_at lw_m6 159 rfl
theorem q1462 : (Jvm.Cond.methodLink "MiddleSheetModel" (222 : Nat) ({ cls := "MiddleSheetModel", name := "winRead", desc := "()Z" } : Jvm.MethodName)) ∈ lw_all := lw_g (lw_at lw_m6 160 rfl) rfl
theorem q1463 : (Jvm.Cond.privateMethod ({ cls := "MiddleSheetModel", name := "winRead", desc := "()Z" } : Jvm.MethodName)) ∈ lw_tbl := lw_at lw_m6 161 rfl
theorem q1464 : (Jvm.Cond.instanceMethod ({ cls := "MiddleSheetModel", name := "winRead", desc := "()Z" } : Jvm.MethodName)) ∈ lw_all := lw_g (lw_at lw_m6 162 rfl) rfl
theorem q1465 : (Jvm.Cond.code ({ cls := "MiddleSheetModel", name := "winRead", desc := "()Z" } : Jvm.MethodName) prog_15_method_18_code (1 : Nat) (Option.some Jvm.ClassFile.FieldType.boolean)) ∈ lw_all := lw_g (lw_at lw_m6 163 rfl) rfl
theorem q1466 : (Jvm.Cond.stringRef "MiddleSheetModel" (186 : Nat) "more") ∈ lw_tbl := lw_at lw_m6 164 rfl
theorem q1467 : (Jvm.Cond.stringRef "MiddleSheetModel" (188 : Nat) "over") ∈ lw_tbl := lw_at lw_m6 165 rfl
theorem q1468 : (Jvm.Cond.stringRef "MiddleSheetModel" (190 : Nat) "least") ∈ lw_tbl := lw_at lw_m6 166 rfl
theorem q1469 : (Jvm.Cond.methodLink "MiddleSheetModel" (192 : Nat) ({ cls := "java/lang/Math", name := "max", desc := "(II)I" } : Jvm.MethodName)) ∈ lw_all := lw_g (lw_at lw_m6 167 rfl) rfl
theorem q1470 : (Jvm.Cond.methodLink "MiddleSheetModel" (198 : Nat) ({ cls := "java/lang/Math", name := "min", desc := "(II)I" } : Jvm.MethodName)) ∈ lw_all := lw_g (lw_at lw_m6 168 rfl) rfl
theorem q1472 : (Jvm.Cond.instanceMethod ({ cls := "MiddleSheetModel", name := "sheet", desc := "()I" } : Jvm.MethodName)) ∈ lw_all := lw_g (lw_at lw_m6 170 rfl) rfl
theorem q1473 : (Jvm.Cond.selects "MiddleSheetModel" ({ cls := "MiddleSheetModel", name := "sheet", desc := "()I" } : Jvm.MethodName) ({ cls := "MiddleSheetModel", name := "sheet", desc := "()I" } : Jvm.MethodName)) ∈ lw_all := lw_g (lw_at lw_m6 171 rfl) rfl
theorem q1474 : (Jvm.Cond.code ({ cls := "MiddleSheetModel", name := "sheet", desc := "()I" } : Jvm.MethodName) prog_15_method_24_code (2 : Nat) (Option.some Jvm.ClassFile.FieldType.int)) ∈ lw_all := lw_g (lw_at lw_m6 172 rfl) rfl
theorem q1475 : (Jvm.Cond.methodLink "MiddleSheetModel" (237 : Nat) ({ cls := "MiddleSheetModel", name := "voters", desc := "()I" } : Jvm.MethodName)) ∈ lw_all := lw_g (lw_at lw_m6 173 rfl) rfl
theorem q1476 : (Jvm.Cond.privateMethod ({ cls := "MiddleSheetModel", name := "voters", desc := "()I" } : Jvm.MethodName)) ∈ lw_tbl := lw_at lw_m6 174 rfl
theorem q1477 : (Jvm.Cond.instanceMethod ({ cls := "MiddleSheetModel", name := "voters", desc := "()I" } : Jvm.MethodName)) ∈ lw_all := lw_g (lw_at lw_m6 175 rfl) rfl
theorem q1478 : (Jvm.Cond.code ({ cls := "MiddleSheetModel", name := "voters", desc := "()I" } : Jvm.MethodName) prog_15_method_22_code (1 : Nat) (Option.some Jvm.ClassFile.FieldType.int)) ∈ lw_all := lw_g (lw_at lw_m6 176 rfl) rfl
theorem q1480 : (Jvm.Cond.instanceMethod ({ cls := "MiddleSheetModel", name := "voter", desc := "(II)I" } : Jvm.MethodName)) ∈ lw_all := lw_g (lw_at lw_m6 178 rfl) rfl
theorem q1481 : (Jvm.Cond.selects "MiddleSheetModel" ({ cls := "MiddleSheetModel", name := "voter", desc := "(II)I" } : Jvm.MethodName) ({ cls := "MiddleSheetModel", name := "voter", desc := "(II)I" } : Jvm.MethodName)) ∈ lw_all := lw_g (lw_at lw_m6 179 rfl) rfl
theorem q1482 : (Jvm.Cond.code ({ cls := "MiddleSheetModel", name := "voter", desc := "(II)I" } : Jvm.MethodName) prog_15_method_28_code (3 : Nat) (Option.some Jvm.ClassFile.FieldType.int)) ∈ lw_all := lw_g (lw_at lw_m6 180 rfl) rfl
theorem q1483 : (Jvm.Cond.methodLink "MiddleSheetModel" (245 : Nat) ({ cls := "MiddleSheetModel", name := "isVoter", desc := "(I)Z" } : Jvm.MethodName)) ∈ lw_all := lw_g (lw_at lw_m6 181 rfl) rfl
theorem q1484 : (Jvm.Cond.privateMethod ({ cls := "MiddleSheetModel", name := "isVoter", desc := "(I)Z" } : Jvm.MethodName)) ∈ lw_tbl := lw_at lw_m6 182 rfl
theorem q1485 : (Jvm.Cond.instanceMethod ({ cls := "MiddleSheetModel", name := "isVoter", desc := "(I)Z" } : Jvm.MethodName)) ∈ lw_all := lw_g (lw_at lw_m6 183 rfl) rfl
theorem q1486 : (Jvm.Cond.code ({ cls := "MiddleSheetModel", name := "isVoter", desc := "(I)Z" } : Jvm.MethodName) prog_15_method_26_code (2 : Nat) (Option.some Jvm.ClassFile.FieldType.boolean)) ∈ lw_all := lw_g (lw_at lw_m6 184 rfl) rfl
theorem q1488 : (Jvm.Cond.instanceMethod ({ cls := "MiddleSheetModel", name := "place", desc := "(II)I" } : Jvm.MethodName)) ∈ lw_all := lw_g (lw_at lw_m6 186 rfl) rfl
theorem q1489 : (Jvm.Cond.selects "MiddleSheetModel" ({ cls := "MiddleSheetModel", name := "place", desc := "(II)I" } : Jvm.MethodName) ({ cls := "MiddleSheetModel", name := "place", desc := "(II)I" } : Jvm.MethodName)) ∈ lw_all := lw_g (lw_at lw_m6 187 rfl) rfl
theorem q1490 : (Jvm.Cond.code ({ cls := "MiddleSheetModel", name := "place", desc := "(II)I" } : Jvm.MethodName) prog_15_method_29_code (3 : Nat) (Option.some Jvm.ClassFile.FieldType.int)) ∈ lw_all := lw_g (lw_at lw_m6 188 rfl) rfl
theorem q1491 : (Jvm.Cond.methodLink "MiddleSheetModel" (248 : Nat) ({ cls := "MiddleSheetModel", name := "isPlace", desc := "(I)Z" } : Jvm.MethodName)) ∈ lw_all := lw_g (lw_at lw_m6 189 rfl) rfl
theorem q1492 : (Jvm.Cond.privateMethod ({ cls := "MiddleSheetModel", name := "isPlace", desc := "(I)Z" } : Jvm.MethodName)) ∈ lw_tbl := lw_at lw_m6 190 rfl
theorem q1493 : (Jvm.Cond.instanceMethod ({ cls := "MiddleSheetModel", name := "isPlace", desc := "(I)Z" } : Jvm.MethodName)) ∈ lw_all := lw_g (lw_at lw_m6 191 rfl) rfl
theorem q1494 : (Jvm.Cond.code ({ cls := "MiddleSheetModel", name := "isPlace", desc := "(I)Z" } : Jvm.MethodName) prog_15_method_27_code (2 : Nat) (Option.some Jvm.ClassFile.FieldType.boolean)) ∈ lw_all := lw_g (lw_at lw_m6 192 rfl) rfl
theorem q1495 : (Jvm.Cond.methodLink "MiddleSheetModel" (242 : Nat) ({ cls := "MiddleSheetModel", name := "places", desc := "()I" } : Jvm.MethodName)) ∈ lw_all := lw_g (lw_at lw_m6 193 rfl) rfl
theorem q1496 : (Jvm.Cond.privateMethod ({ cls := "MiddleSheetModel", name := "places", desc := "()I" } : Jvm.MethodName)) ∈ lw_tbl := lw_at lw_m6 194 rfl
theorem q1497 : (Jvm.Cond.instanceMethod ({ cls := "MiddleSheetModel", name := "places", desc := "()I" } : Jvm.MethodName)) ∈ lw_all := lw_g (lw_at lw_m6 195 rfl) rfl
theorem q1498 : (Jvm.Cond.code ({ cls := "MiddleSheetModel", name := "places", desc := "()I" } : Jvm.MethodName) prog_15_method_23_code (1 : Nat) (Option.some Jvm.ClassFile.FieldType.int)) ∈ lw_all := lw_g (lw_at lw_m6 196 rfl) rfl
theorem q1500 : (Jvm.Cond.instanceMethod ({ cls := "MiddleSheetModel", name := "propose", desc := "(II)I" } : Jvm.MethodName)) ∈ lw_all := lw_g (lw_at lw_m6 198 rfl) rfl
theorem q1501 : (Jvm.Cond.selects "MiddleSheetModel" ({ cls := "MiddleSheetModel", name := "propose", desc := "(II)I" } : Jvm.MethodName) ({ cls := "MiddleSheetModel", name := "propose", desc := "(II)I" } : Jvm.MethodName)) ∈ lw_all := lw_g (lw_at lw_m6 199 rfl) rfl
theorem q1502 : (Jvm.Cond.code ({ cls := "MiddleSheetModel", name := "propose", desc := "(II)I" } : Jvm.MethodName) prog_15_method_30_code (3 : Nat) (Option.some Jvm.ClassFile.FieldType.int)) ∈ lw_all := lw_g (lw_at lw_m6 200 rfl) rfl
theorem q1503 : (Jvm.Cond.methodLink "MiddleSheetModel" (251 : Nat) ({ cls := "MiddleSheetModel", name := "isPoint", desc := "(II)Z" } : Jvm.MethodName)) ∈ lw_all := lw_g (lw_at lw_m6 201 rfl) rfl
theorem q1504 : (Jvm.Cond.static ({ cls := "MiddleSheetModel", name := "isPoint", desc := "(II)Z" } : Jvm.MethodName)) ∈ lw_all := lw_g (lw_at lw_m6 202 rfl) rfl
theorem q1505 : (Jvm.Cond.code ({ cls := "MiddleSheetModel", name := "isPoint", desc := "(II)Z" } : Jvm.MethodName) prog_15_method_25_code (2 : Nat) (Option.some Jvm.ClassFile.FieldType.boolean)) ∈ lw_all := lw_g (lw_at lw_m6 203 rfl) rfl
theorem q1506 : (Jvm.Cond.constantLong "MiddleSheetModel" (240 : Nat) (99 : Int64)) ∈ lw_all := lw_g (lw_at lw_m6 204 rfl) rfl
theorem q1508 : (Jvm.Cond.instanceMethod ({ cls := "MiddleSheetModel", name := "way", desc := "(III)I" } : Jvm.MethodName)) ∈ lw_all := lw_g (lw_at lw_m6 206 rfl) rfl
theorem q1509 : (Jvm.Cond.selects "MiddleSheetModel" ({ cls := "MiddleSheetModel", name := "way", desc := "(III)I" } : Jvm.MethodName) ({ cls := "MiddleSheetModel", name := "way", desc := "(III)I" } : Jvm.MethodName)) ∈ lw_all := lw_g (lw_at lw_m6 207 rfl) rfl
theorem q1510 : (Jvm.Cond.code ({ cls := "MiddleSheetModel", name := "way", desc := "(III)I" } : Jvm.MethodName) prog_15_method_33_code (4 : Nat) (Option.some Jvm.ClassFile.FieldType.int)) ∈ lw_all := lw_g (lw_at lw_m6 208 rfl) rfl
theorem q1511 : (Jvm.Cond.methodLink "MiddleSheetModel" (262 : Nat) ({ cls := "MiddleSheetModel", name := "wayOf", desc := "(III)I" } : Jvm.MethodName)) ∈ lw_all := lw_g (lw_at lw_m6 209 rfl) rfl
theorem q1512 : (Jvm.Cond.privateMethod ({ cls := "MiddleSheetModel", name := "wayOf", desc := "(III)I" } : Jvm.MethodName)) ∈ lw_tbl := lw_at lw_m6 210 rfl
theorem q1513 : (Jvm.Cond.instanceMethod ({ cls := "MiddleSheetModel", name := "wayOf", desc := "(III)I" } : Jvm.MethodName)) ∈ lw_all := lw_g (lw_at lw_m6 211 rfl) rfl
theorem q1514 : (Jvm.Cond.code ({ cls := "MiddleSheetModel", name := "wayOf", desc := "(III)I" } : Jvm.MethodName) prog_15_method_32_code (4 : Nat) (Option.some Jvm.ClassFile.FieldType.int)) ∈ lw_all := lw_g (lw_at lw_m6 212 rfl) rfl
theorem q1515 : (Jvm.Cond.methodLink "MiddleSheetModel" (258 : Nat) ({ cls := "MiddleSheetModel", name := "wayFrom", desc := "(IIIII)I" } : Jvm.MethodName)) ∈ lw_all := lw_g (lw_at lw_m6 213 rfl) rfl
theorem q1516 : (Jvm.Cond.privateMethod ({ cls := "MiddleSheetModel", name := "wayFrom", desc := "(IIIII)I" } : Jvm.MethodName)) ∈ lw_tbl := lw_at lw_m6 214 rfl
theorem q1517 : (Jvm.Cond.instanceMethod ({ cls := "MiddleSheetModel", name := "wayFrom", desc := "(IIIII)I" } : Jvm.MethodName)) ∈ lw_all := lw_g (lw_at lw_m6 215 rfl) rfl
theorem q1518 : (Jvm.Cond.code ({ cls := "MiddleSheetModel", name := "wayFrom", desc := "(IIIII)I" } : Jvm.MethodName) prog_15_method_31_code (8 : Nat) (Option.some Jvm.ClassFile.FieldType.int)) ∈ lw_all := lw_g (lw_at lw_m6 216 rfl) rfl
theorem q1519 : (Jvm.Cond.methodLink "MiddleSheetModel" (254 : Nat) ({ cls := "java/lang/Math", name := "abs", desc := "(I)I" } : Jvm.MethodName)) ∈ lw_all := lw_g (lw_at lw_m6 217 rfl) rfl
theorem q1521 : (Jvm.Cond.instanceMethod ({ cls := "MiddleSheetModel", name := "votes", desc := "(II)I" } : Jvm.MethodName)) ∈ lw_all := lw_g (lw_at lw_m6 219 rfl) rfl
theorem q1522 : (Jvm.Cond.selects "MiddleSheetModel" ({ cls := "MiddleSheetModel", name := "votes", desc := "(II)I" } : Jvm.MethodName) ({ cls := "MiddleSheetModel", name := "votes", desc := "(II)I" } : Jvm.MethodName)) ∈ lw_all := lw_g (lw_at lw_m6 220 rfl) rfl
theorem q1523 : (Jvm.Cond.code ({ cls := "MiddleSheetModel", name := "votes", desc := "(II)I" } : Jvm.MethodName) prog_15_method_40_code (3 : Nat) (Option.some Jvm.ClassFile.FieldType.int)) ∈ lw_all := lw_g (lw_at lw_m6 221 rfl) rfl
theorem q1524 : (Jvm.Cond.methodLink "MiddleSheetModel" (280 : Nat) ({ cls := "MiddleSheetModel", name := "votesOf", desc := "(II)I" } : Jvm.MethodName)) ∈ lw_all := lw_g (lw_at lw_m6 222 rfl) rfl
theorem q1525 : (Jvm.Cond.privateMethod ({ cls := "MiddleSheetModel", name := "votesOf", desc := "(II)I" } : Jvm.MethodName)) ∈ lw_tbl := lw_at lw_m6 223 rfl
theorem q1526 : (Jvm.Cond.instanceMethod ({ cls := "MiddleSheetModel", name := "votesOf", desc := "(II)I" } : Jvm.MethodName)) ∈ lw_all := lw_g (lw_at lw_m6 224 rfl) rfl
theorem q1527 : (Jvm.Cond.code ({ cls := "MiddleSheetModel", name := "votesOf", desc := "(II)I" } : Jvm.MethodName) prog_15_method_39_code (3 : Nat) (Option.some Jvm.ClassFile.FieldType.int)) ∈ lw_all := lw_g (lw_at lw_m6 225 rfl) rfl
theorem q1528 : (Jvm.Cond.methodLink "MiddleSheetModel" (269 : Nat) ({ cls := "MiddleSheetModel", name := "forOf", desc := "(IIII)I" } : Jvm.MethodName)) ∈ lw_all := lw_g (lw_at lw_m6 226 rfl) rfl
theorem q1529 : (Jvm.Cond.privateMethod ({ cls := "MiddleSheetModel", name := "forOf", desc := "(IIII)I" } : Jvm.MethodName)) ∈ lw_tbl := lw_at lw_m6 227 rfl
theorem q1530 : (Jvm.Cond.instanceMethod ({ cls := "MiddleSheetModel", name := "forOf", desc := "(IIII)I" } : Jvm.MethodName)) ∈ lw_all := lw_g (lw_at lw_m6 228 rfl) rfl
theorem q1531 : (Jvm.Cond.code ({ cls := "MiddleSheetModel", name := "forOf", desc := "(IIII)I" } : Jvm.MethodName) prog_15_method_34_code (7 : Nat) (Option.some Jvm.ClassFile.FieldType.int)) ∈ lw_all := lw_g (lw_at lw_m6 229 rfl) rfl
theorem q1533 : (Jvm.Cond.instanceMethod ({ cls := "MiddleSheetModel", name := "beats", desc := "(II)Z" } : Jvm.MethodName)) ∈ lw_all := lw_g (lw_at lw_m6 231 rfl) rfl
theorem q1534 : (Jvm.Cond.selects "MiddleSheetModel" ({ cls := "MiddleSheetModel", name := "beats", desc := "(II)Z" } : Jvm.MethodName) ({ cls := "MiddleSheetModel", name := "beats", desc := "(II)Z" } : Jvm.MethodName)) ∈ lw_all := lw_g (lw_at lw_m6 232 rfl) rfl
theorem q1535 : (Jvm.Cond.code ({ cls := "MiddleSheetModel", name := "beats", desc := "(II)Z" } : Jvm.MethodName) prog_15_method_41_code (3 : Nat) (Option.some Jvm.ClassFile.FieldType.boolean)) ∈ lw_all := lw_g (lw_at lw_m6 233 rfl) rfl
theorem q1536 : (Jvm.Cond.methodLink "MiddleSheetModel" (283 : Nat) ({ cls := "MiddleSheetModel", name := "beatsOf", desc := "(II)Z" } : Jvm.MethodName)) ∈ lw_all := lw_g (lw_at lw_m6 234 rfl) rfl
theorem q1537 : (Jvm.Cond.privateMethod ({ cls := "MiddleSheetModel", name := "beatsOf", desc := "(II)Z" } : Jvm.MethodName)) ∈ lw_tbl := lw_at lw_m6 235 rfl
theorem q1538 : (Jvm.Cond.instanceMethod ({ cls := "MiddleSheetModel", name := "beatsOf", desc := "(II)Z" } : Jvm.MethodName)) ∈ lw_all := lw_g (lw_at lw_m6 236 rfl) rfl
theorem q1539 : (Jvm.Cond.code ({ cls := "MiddleSheetModel", name := "beatsOf", desc := "(II)Z" } : Jvm.MethodName) prog_15_method_38_code (3 : Nat) (Option.some Jvm.ClassFile.FieldType.boolean)) ∈ lw_all := lw_g (lw_at lw_m6 237 rfl) rfl
theorem q1540 : (Jvm.Cond.methodLink "MiddleSheetModel" (276 : Nat) ({ cls := "MiddleSheetModel", name := "beatsAt", desc := "(IIII)Z" } : Jvm.MethodName)) ∈ lw_all := lw_g (lw_at lw_m6 238 rfl) rfl
theorem q1541 : (Jvm.Cond.privateMethod ({ cls := "MiddleSheetModel", name := "beatsAt", desc := "(IIII)Z" } : Jvm.MethodName)) ∈ lw_tbl := lw_at lw_m6 239 rfl
theorem q1542 : (Jvm.Cond.instanceMethod ({ cls := "MiddleSheetModel", name := "beatsAt", desc := "(IIII)Z" } : Jvm.MethodName)) ∈ lw_all := lw_g (lw_at lw_m7 0 rfl) rfl
theorem q1543 : (Jvm.Cond.code ({ cls := "MiddleSheetModel", name := "beatsAt", desc := "(IIII)Z" } : Jvm.MethodName) prog_15_method_37_code (5 : Nat) (Option.some Jvm.ClassFile.FieldType.boolean)) ∈ lw_all := lw_g (lw_at lw_m7 1 rfl) rfl
theorem q1544 : (Jvm.Cond.methodLink "MiddleSheetModel" (273 : Nat) ({ cls := "MiddleSheetModel", name := "isWon", desc := "(II)Z" } : Jvm.MethodName)) ∈ lw_all := lw_g (lw_at lw_m7 2 rfl) rfl
theorem q1545 : (Jvm.Cond.privateMethod ({ cls := "MiddleSheetModel", name := "isWon", desc := "(II)Z" } : Jvm.MethodName)) ∈ lw_tbl := lw_at lw_m7 3 rfl
theorem q1546 : (Jvm.Cond.instanceMethod ({ cls := "MiddleSheetModel", name := "isWon", desc := "(II)Z" } : Jvm.MethodName)) ∈ lw_all := lw_g (lw_at lw_m7 4 rfl) rfl
theorem q1547 : (Jvm.Cond.code ({ cls := "MiddleSheetModel", name := "isWon", desc := "(II)Z" } : Jvm.MethodName) prog_15_method_36_code (4 : Nat) (Option.some Jvm.ClassFile.FieldType.boolean)) ∈ lw_all := lw_g (lw_at lw_m7 5 rfl) rfl
theorem q1548 : (Jvm.Cond.methodLink "MiddleSheetModel" (266 : Nat) ({ cls := "MiddleSheetModel", name := "total", desc := "()I" } : Jvm.MethodName)) ∈ lw_all := lw_g (lw_at lw_m7 6 rfl) rfl
theorem q1549 : (Jvm.Cond.privateMethod ({ cls := "MiddleSheetModel", name := "total", desc := "()I" } : Jvm.MethodName)) ∈ lw_tbl := lw_at lw_m7 7 rfl
theorem q1550 : (Jvm.Cond.instanceMethod ({ cls := "MiddleSheetModel", name := "total", desc := "()I" } : Jvm.MethodName)) ∈ lw_all := lw_g (lw_at lw_m7 8 rfl) rfl
theorem q1551 : (Jvm.Cond.code ({ cls := "MiddleSheetModel", name := "total", desc := "()I" } : Jvm.MethodName) prog_15_method_35_code (3 : Nat) (Option.some Jvm.ClassFile.FieldType.int)) ∈ lw_all := lw_g (lw_at lw_m7 9 rfl) rfl
theorem q1553 : (Jvm.Cond.instanceMethod ({ cls := "MiddleSheetModel", name := "wins", desc := "(II)Z" } : Jvm.MethodName)) ∈ lw_all := lw_g (lw_at lw_m7 11 rfl) rfl
theorem q1554 : (Jvm.Cond.selects "MiddleSheetModel" ({ cls := "MiddleSheetModel", name := "wins", desc := "(II)Z" } : Jvm.MethodName) ({ cls := "MiddleSheetModel", name := "wins", desc := "(II)Z" } : Jvm.MethodName)) ∈ lw_all := lw_g (lw_at lw_m7 12 rfl) rfl
theorem q1555 : (Jvm.Cond.code ({ cls := "MiddleSheetModel", name := "wins", desc := "(II)Z" } : Jvm.MethodName) prog_15_method_42_code (3 : Nat) (Option.some Jvm.ClassFile.FieldType.boolean)) ∈ lw_all := lw_g (lw_at lw_m7 13 rfl) rfl
theorem q1556 : (Jvm.Cond.constantLong "MiddleSheetModel" (286 : Nat) (9999 : Int64)) ∈ lw_all := lw_g (lw_at lw_m7 14 rfl) rfl
theorem q1558 : (Jvm.Cond.instanceMethod ({ cls := "MiddleSheetModel", name := "line", desc := "(II)I" } : Jvm.MethodName)) ∈ lw_all := lw_g (lw_at lw_m7 16 rfl) rfl
theorem q1559 : (Jvm.Cond.selects "MiddleSheetModel" ({ cls := "MiddleSheetModel", name := "line", desc := "(II)I" } : Jvm.MethodName) ({ cls := "MiddleSheetModel", name := "line", desc := "(II)I" } : Jvm.MethodName)) ∈ lw_all := lw_g (lw_at lw_m7 17 rfl) rfl
theorem q1560 : (Jvm.Cond.code ({ cls := "MiddleSheetModel", name := "line", desc := "(II)I" } : Jvm.MethodName) prog_15_method_48_code (3 : Nat) (Option.some Jvm.ClassFile.FieldType.int)) ∈ lw_all := lw_g (lw_at lw_m7 18 rfl) rfl
theorem q1561 : (Jvm.Cond.methodLink "MiddleSheetModel" (313 : Nat) ({ cls := "MiddleSheetModel", name := "knows", desc := "()V" } : Jvm.MethodName)) ∈ lw_all := lw_g (lw_at lw_m7 19 rfl) rfl
theorem q1562 : (Jvm.Cond.privateMethod ({ cls := "MiddleSheetModel", name := "knows", desc := "()V" } : Jvm.MethodName)) ∈ lw_tbl := lw_at lw_m7 20 rfl
theorem q1563 : (Jvm.Cond.instanceMethod ({ cls := "MiddleSheetModel", name := "knows", desc := "()V" } : Jvm.MethodName)) ∈ lw_all := lw_g (lw_at lw_m7 21 rfl) rfl
theorem q1564 : (Jvm.Cond.code ({ cls := "MiddleSheetModel", name := "knows", desc := "()V" } : Jvm.MethodName) prog_15_method_47_code (3 : Nat) (Option.none : Option Jvm.ClassFile.FieldType)) ∈ lw_all := lw_g (lw_at lw_m7 22 rfl) rfl
theorem q1565 : (Jvm.Cond.methodLink "MiddleSheetModel" (306 : Nat) ({ cls := "MiddleSheetModel", name := "through", desc := "(II)V" } : Jvm.MethodName)) ∈ lw_all := lw_g (lw_at lw_m7 23 rfl) rfl
theorem q1566 : (Jvm.Cond.privateMethod ({ cls := "MiddleSheetModel", name := "through", desc := "(II)V" } : Jvm.MethodName)) ∈ lw_tbl := lw_at lw_m7 24 rfl
theorem q1567 : (Jvm.Cond.instanceMethod ({ cls := "MiddleSheetModel", name := "through", desc := "(II)V" } : Jvm.MethodName)) ∈ lw_all := lw_g (lw_at lw_m7 25 rfl) rfl
theorem q1568 : (Jvm.Cond.code ({ cls := "MiddleSheetModel", name := "through", desc := "(II)V" } : Jvm.MethodName) prog_15_method_46_code (7 : Nat) (Option.none : Option Jvm.ClassFile.FieldType)) ∈ lw_all := lw_g (lw_at lw_m7 26 rfl) rfl
theorem q1569 : (Jvm.Cond.methodLink "MiddleSheetModel" (294 : Nat) ({ cls := "MiddleSheetModel", name := "gcd", desc := "(JJ)J" } : Jvm.MethodName)) ∈ lw_all := lw_g (lw_at lw_m7 27 rfl) rfl
theorem q1570 : (Jvm.Cond.static ({ cls := "MiddleSheetModel", name := "gcd", desc := "(JJ)J" } : Jvm.MethodName)) ∈ lw_all := lw_g (lw_at lw_m7 28 rfl) rfl
theorem q1571 : (Jvm.Cond.code ({ cls := "MiddleSheetModel", name := "gcd", desc := "(JJ)J" } : Jvm.MethodName) prog_15_method_3_code (10 : Nat) (Option.some Jvm.ClassFile.FieldType.long)) ∈ lw_all := lw_g (lw_at lw_m7 29 rfl) rfl
theorem q1572 : (Jvm.Cond.methodLink "MiddleSheetModel" (298 : Nat) ({ cls := "MiddleSheetModel", name := "halves", desc := "(III)Z" } : Jvm.MethodName)) ∈ lw_all := lw_g (lw_at lw_m7 30 rfl) rfl
theorem q1573 : (Jvm.Cond.privateMethod ({ cls := "MiddleSheetModel", name := "halves", desc := "(III)Z" } : Jvm.MethodName)) ∈ lw_tbl := lw_at lw_m7 31 rfl
theorem q1574 : (Jvm.Cond.instanceMethod ({ cls := "MiddleSheetModel", name := "halves", desc := "(III)Z" } : Jvm.MethodName)) ∈ lw_all := lw_g (lw_at lw_m7 32 rfl) rfl
theorem q1575 : (Jvm.Cond.code ({ cls := "MiddleSheetModel", name := "halves", desc := "(III)Z" } : Jvm.MethodName) prog_15_method_43_code (8 : Nat) (Option.some Jvm.ClassFile.FieldType.boolean)) ∈ lw_all := lw_g (lw_at lw_m7 33 rfl) rfl
theorem q1576 : (Jvm.Cond.methodLink "MiddleSheetModel" (302 : Nat) ({ cls := "MiddleSheetModel", name := "addsLine", desc := "(III)V" } : Jvm.MethodName)) ∈ lw_all := lw_g (lw_at lw_m7 34 rfl) rfl
theorem q1577 : (Jvm.Cond.privateMethod ({ cls := "MiddleSheetModel", name := "addsLine", desc := "(III)V" } : Jvm.MethodName)) ∈ lw_tbl := lw_at lw_m7 35 rfl
theorem q1578 : (Jvm.Cond.instanceMethod ({ cls := "MiddleSheetModel", name := "addsLine", desc := "(III)V" } : Jvm.MethodName)) ∈ lw_all := lw_g (lw_at lw_m7 36 rfl) rfl
theorem q1579 : (Jvm.Cond.code ({ cls := "MiddleSheetModel", name := "addsLine", desc := "(III)V" } : Jvm.MethodName) prog_15_method_45_code (5 : Nat) (Option.none : Option Jvm.ClassFile.FieldType)) ∈ lw_all := lw_g (lw_at lw_m7 37 rfl) rfl
theorem q1580 : (Jvm.Cond.methodLink "MiddleSheetModel" (291 : Nat) ({ cls := "MiddleSheetModel", name := "isAhead", desc := "(IIII)Z" } : Jvm.MethodName)) ∈ lw_all := lw_g (lw_at lw_m7 38 rfl) rfl
theorem q1581 : (Jvm.Cond.privateMethod ({ cls := "MiddleSheetModel", name := "isAhead", desc := "(IIII)Z" } : Jvm.MethodName)) ∈ lw_tbl := lw_at lw_m7 39 rfl
theorem q1582 : (Jvm.Cond.instanceMethod ({ cls := "MiddleSheetModel", name := "isAhead", desc := "(IIII)Z" } : Jvm.MethodName)) ∈ lw_all := lw_g (lw_at lw_m7 40 rfl) rfl
theorem q1583 : (Jvm.Cond.code ({ cls := "MiddleSheetModel", name := "isAhead", desc := "(IIII)Z" } : Jvm.MethodName) prog_15_method_44_code (6 : Nat) (Option.some Jvm.ClassFile.FieldType.boolean)) ∈ lw_all := lw_g (lw_at lw_m7 41 rfl) rfl
theorem q1584 : (Jvm.Cond.methodLink "MiddleSheetModel" (310 : Nat) ({ cls := "MiddleSheetModel", name := "findsMiddles", desc := "()V" } : Jvm.MethodName)) ∈ lw_all := lw_g (lw_at lw_m7 42 rfl) rfl
theorem q1585 : (Jvm.Cond.privateMethod ({ cls := "MiddleSheetModel", name := "findsMiddles", desc := "()V" } : Jvm.MethodName)) ∈ lw_tbl := lw_at lw_m7 43 rfl
theorem q1586 : (Jvm.Cond.instanceMethod ({ cls := "MiddleSheetModel", name := "findsMiddles", desc := "()V" } : Jvm.MethodName)) ∈ lw_all := lw_g (lw_at lw_m7 44 rfl) rfl
theorem q1587 : (Jvm.Cond.code ({ cls := "MiddleSheetModel", name := "findsMiddles", desc := "()V" } : Jvm.MethodName) prog_15_method_52_code (5 : Nat) (Option.none : Option Jvm.ClassFile.FieldType)) ∈ lw_all := lw_g (lw_at lw_m7 45 rfl) rfl
theorem q1588 : (Jvm.Cond.methodLink "MiddleSheetModel" (327 : Nat) ({ cls := "MiddleSheetModel", name := "addsMiddle", desc := "(JJJ)V" } : Jvm.MethodName)) ∈ lw_all := lw_g (lw_at lw_m7 46 rfl) rfl
theorem q1589 : (Jvm.Cond.privateMethod ({ cls := "MiddleSheetModel", name := "addsMiddle", desc := "(JJJ)V" } : Jvm.MethodName)) ∈ lw_tbl := lw_at lw_m7 47 rfl
theorem q1590 : (Jvm.Cond.instanceMethod ({ cls := "MiddleSheetModel", name := "addsMiddle", desc := "(JJJ)V" } : Jvm.MethodName)) ∈ lw_all := lw_g (lw_at lw_m7 48 rfl) rfl
theorem q1591 : (Jvm.Cond.code ({ cls := "MiddleSheetModel", name := "addsMiddle", desc := "(JJJ)V" } : Jvm.MethodName) prog_15_method_51_code (16 : Nat) (Option.none : Option Jvm.ClassFile.FieldType)) ∈ lw_all := lw_g (lw_at lw_m7 49 rfl) rfl
theorem q1592 : (Jvm.Cond.methodLink "MiddleSheetModel" (320 : Nat) ({ cls := "MiddleSheetModel", name := "isMiddle", desc := "(JJJ)Z" } : Jvm.MethodName)) ∈ lw_all := lw_g (lw_at lw_m7 50 rfl) rfl
theorem q1593 : (Jvm.Cond.privateMethod ({ cls := "MiddleSheetModel", name := "isMiddle", desc := "(JJJ)Z" } : Jvm.MethodName)) ∈ lw_tbl := lw_at lw_m7 51 rfl
theorem q1594 : (Jvm.Cond.instanceMethod ({ cls := "MiddleSheetModel", name := "isMiddle", desc := "(JJJ)Z" } : Jvm.MethodName)) ∈ lw_all := lw_g (lw_at lw_m7 52 rfl) rfl
theorem q1595 : (Jvm.Cond.code ({ cls := "MiddleSheetModel", name := "isMiddle", desc := "(JJJ)Z" } : Jvm.MethodName) prog_15_method_49_code (27 : Nat) (Option.some Jvm.ClassFile.FieldType.boolean)) ∈ lw_all := lw_g (lw_at lw_m7 53 rfl) rfl
theorem q1596 : (Jvm.Cond.methodLink "MiddleSheetModel" (323 : Nat) ({ cls := "MiddleSheetModel", name := "isBehind", desc := "(IJJJ)Z" } : Jvm.MethodName)) ∈ lw_all := lw_g (lw_at lw_m7 54 rfl) rfl
theorem q1597 : (Jvm.Cond.privateMethod ({ cls := "MiddleSheetModel", name := "isBehind", desc := "(IJJJ)Z" } : Jvm.MethodName)) ∈ lw_tbl := lw_at lw_m7 55 rfl
theorem q1598 : (Jvm.Cond.instanceMethod ({ cls := "MiddleSheetModel", name := "isBehind", desc := "(IJJJ)Z" } : Jvm.MethodName)) ∈ lw_all := lw_g (lw_at lw_m7 56 rfl) rfl
theorem q1599 : (Jvm.Cond.code ({ cls := "MiddleSheetModel", name := "isBehind", desc := "(IJJJ)Z" } : Jvm.MethodName) prog_15_method_50_code (10 : Nat) (Option.some Jvm.ClassFile.FieldType.boolean)) ∈ lw_all := lw_g (lw_at lw_m7 57 rfl) rfl
theorem q1600 : (Jvm.Cond.constant "MiddleSheetModel" (316 : Nat) (-2147483648 : Int32)) ∈ lw_all := lw_g (lw_at lw_m7 58 rfl) rfl
theorem q1602 : (Jvm.Cond.instanceMethod ({ cls := "MiddleSheetModel", name := "middle", desc := "(II)I" } : Jvm.MethodName)) ∈ lw_all := lw_g (lw_at lw_m7 60 rfl) rfl
theorem q1603 : (Jvm.Cond.selects "MiddleSheetModel" ({ cls := "MiddleSheetModel", name := "middle", desc := "(II)I" } : Jvm.MethodName) ({ cls := "MiddleSheetModel", name := "middle", desc := "(II)I" } : Jvm.MethodName)) ∈ lw_all := lw_g (lw_at lw_m7 61 rfl) rfl
theorem q1604 : (Jvm.Cond.code ({ cls := "MiddleSheetModel", name := "middle", desc := "(II)I" } : Jvm.MethodName) prog_15_method_53_code (3 : Nat) (Option.some Jvm.ClassFile.FieldType.int)) ∈ lw_all := lw_g (lw_at lw_m7 62 rfl) rfl
theorem q1606 : (Jvm.Cond.instanceMethod ({ cls := "MiddleSheetModel", name := "proof", desc := "(I)I" } : Jvm.MethodName)) ∈ lw_all := lw_g (lw_at lw_m7 64 rfl) rfl
theorem q1607 : (Jvm.Cond.selects "MiddleSheetModel" ({ cls := "MiddleSheetModel", name := "proof", desc := "(I)I" } : Jvm.MethodName) ({ cls := "MiddleSheetModel", name := "proof", desc := "(I)I" } : Jvm.MethodName)) ∈ lw_all := lw_g (lw_at lw_m7 65 rfl) rfl
theorem q1608 : (Jvm.Cond.code ({ cls := "MiddleSheetModel", name := "proof", desc := "(I)I" } : Jvm.MethodName) prog_15_method_55_code (5 : Nat) (Option.some Jvm.ClassFile.FieldType.int)) ∈ lw_all := lw_g (lw_at lw_m7 66 rfl) rfl
theorem q1609 : (Jvm.Cond.constantLong "MiddleSheetModel" (331 : Nat) (2 : Int64)) ∈ lw_all := lw_g (lw_at lw_m7 67 rfl) rfl
theorem q1610 : (Jvm.Cond.methodLink "MiddleSheetModel" (333 : Nat) ({ cls := "MiddleSheetModel", name := "meet", desc := "(III)Z" } : Jvm.MethodName)) ∈ lw_all := lw_g (lw_at lw_m7 68 rfl) rfl
theorem q1611 : (Jvm.Cond.privateMethod ({ cls := "MiddleSheetModel", name := "meet", desc := "(III)Z" } : Jvm.MethodName)) ∈ lw_tbl := lw_at lw_m7 69 rfl
theorem q1612 : (Jvm.Cond.instanceMethod ({ cls := "MiddleSheetModel", name := "meet", desc := "(III)Z" } : Jvm.MethodName)) ∈ lw_all := lw_g (lw_at lw_m7 70 rfl) rfl
theorem q1613 : (Jvm.Cond.code ({ cls := "MiddleSheetModel", name := "meet", desc := "(III)Z" } : Jvm.MethodName) prog_15_method_54_code (10 : Nat) (Option.some Jvm.ClassFile.FieldType.boolean)) ∈ lw_all := lw_g (lw_at lw_m7 71 rfl) rfl
theorem q1615 : (Jvm.Cond.instanceMethod ({ cls := "MiddleSheetModel", name := "round", desc := "(I)I" } : Jvm.MethodName)) ∈ lw_all := lw_g (lw_at lw_m7 73 rfl) rfl
theorem q1616 : (Jvm.Cond.selects "MiddleSheetModel" ({ cls := "MiddleSheetModel", name := "round", desc := "(I)I" } : Jvm.MethodName) ({ cls := "MiddleSheetModel", name := "round", desc := "(I)I" } : Jvm.MethodName)) ∈ lw_all := lw_g (lw_at lw_m7 74 rfl) rfl
theorem q1617 : (Jvm.Cond.code ({ cls := "MiddleSheetModel", name := "round", desc := "(I)I" } : Jvm.MethodName) prog_15_method_57_code (9 : Nat) (Option.some Jvm.ClassFile.FieldType.int)) ∈ lw_all := lw_g (lw_at lw_m7 75 rfl) rfl
theorem q1618 : (Jvm.Cond.constantLong "MiddleSheetModel" (343 : Nat) (3 : Int64)) ∈ lw_all := lw_g (lw_at lw_m7 76 rfl) rfl
theorem q1619 : (Jvm.Cond.methodLink "MiddleSheetModel" (345 : Nat) ({ cls := "MiddleSheetModel", name := "far", desc := "(II)V" } : Jvm.MethodName)) ∈ lw_all := lw_g (lw_at lw_m7 77 rfl) rfl
theorem q1620 : (Jvm.Cond.privateMethod ({ cls := "MiddleSheetModel", name := "far", desc := "(II)V" } : Jvm.MethodName)) ∈ lw_tbl := lw_at lw_m7 78 rfl
theorem q1621 : (Jvm.Cond.instanceMethod ({ cls := "MiddleSheetModel", name := "far", desc := "(II)V" } : Jvm.MethodName)) ∈ lw_all := lw_g (lw_at lw_m7 79 rfl) rfl
theorem q1622 : (Jvm.Cond.code ({ cls := "MiddleSheetModel", name := "far", desc := "(II)V" } : Jvm.MethodName) prog_15_method_56_code (8 : Nat) (Option.none : Option Jvm.ClassFile.FieldType)) ∈ lw_all := lw_g (lw_at lw_m7 80 rfl) rfl
theorem q1624 : (Jvm.Cond.instanceMethod ({ cls := "MiddleSheetModel", name := "winSet", desc := "(III)I" } : Jvm.MethodName)) ∈ lw_all := lw_g (lw_at lw_m7 82 rfl) rfl
theorem q1625 : (Jvm.Cond.selects "MiddleSheetModel" ({ cls := "MiddleSheetModel", name := "winSet", desc := "(III)I" } : Jvm.MethodName) ({ cls := "MiddleSheetModel", name := "winSet", desc := "(III)I" } : Jvm.MethodName)) ∈ lw_all := lw_g (lw_at lw_m7 83 rfl) rfl
theorem q1626 : (Jvm.Cond.code ({ cls := "MiddleSheetModel", name := "winSet", desc := "(III)I" } : Jvm.MethodName) prog_15_method_60_code (4 : Nat) (Option.some Jvm.ClassFile.FieldType.int)) ∈ lw_all := lw_g (lw_at lw_m7 84 rfl) rfl
theorem q1627 : (Jvm.Cond.methodLink "MiddleSheetModel" (357 : Nat) ({ cls := "MiddleSheetModel", name := "finds", desc := "(II)V" } : Jvm.MethodName)) ∈ lw_all := lw_g (lw_at lw_m7 85 rfl) rfl
theorem q1628 : (Jvm.Cond.privateMethod ({ cls := "MiddleSheetModel", name := "finds", desc := "(II)V" } : Jvm.MethodName)) ∈ lw_tbl := lw_at lw_m7 86 rfl
theorem q1629 : (Jvm.Cond.instanceMethod ({ cls := "MiddleSheetModel", name := "finds", desc := "(II)V" } : Jvm.MethodName)) ∈ lw_all := lw_g (lw_at lw_m7 87 rfl) rfl
theorem q1630 : (Jvm.Cond.code ({ cls := "MiddleSheetModel", name := "finds", desc := "(II)V" } : Jvm.MethodName) prog_15_method_59_code (5 : Nat) (Option.none : Option Jvm.ClassFile.FieldType)) ∈ lw_all := lw_g (lw_at lw_m7 88 rfl) rfl
theorem q1631 : (Jvm.Cond.methodLink "MiddleSheetModel" (354 : Nat) ({ cls := "MiddleSheetModel", name := "floods", desc := "(II)V" } : Jvm.MethodName)) ∈ lw_all := lw_g (lw_at lw_m7 89 rfl) rfl
theorem q1632 : (Jvm.Cond.privateMethod ({ cls := "MiddleSheetModel", name := "floods", desc := "(II)V" } : Jvm.MethodName)) ∈ lw_tbl := lw_at lw_m7 90 rfl
theorem q1633 : (Jvm.Cond.instanceMethod ({ cls := "MiddleSheetModel", name := "floods", desc := "(II)V" } : Jvm.MethodName)) ∈ lw_all := lw_g (lw_at lw_m7 91 rfl) rfl
theorem q1634 : (Jvm.Cond.code ({ cls := "MiddleSheetModel", name := "floods", desc := "(II)V" } : Jvm.MethodName) prog_15_method_58_code (10 : Nat) (Option.none : Option Jvm.ClassFile.FieldType)) ∈ lw_all := lw_g (lw_at lw_m7 92 rfl) rfl
theorem q1636 : (Jvm.Cond.instanceMethod ({ cls := "MiddleSheetModel", name := "piece", desc := "(IIII)I" } : Jvm.MethodName)) ∈ lw_all := lw_g (lw_at lw_m7 94 rfl) rfl
theorem q1637 : (Jvm.Cond.selects "MiddleSheetModel" ({ cls := "MiddleSheetModel", name := "piece", desc := "(IIII)I" } : Jvm.MethodName) ({ cls := "MiddleSheetModel", name := "piece", desc := "(IIII)I" } : Jvm.MethodName)) ∈ lw_all := lw_g (lw_at lw_m7 95 rfl) rfl
theorem q1638 : (Jvm.Cond.code ({ cls := "MiddleSheetModel", name := "piece", desc := "(IIII)I" } : Jvm.MethodName) prog_15_method_61_code (8 : Nat) (Option.some Jvm.ClassFile.FieldType.int)) ∈ lw_all := lw_g (lw_at lw_m7 96 rfl) rfl
theorem q1640 : (Jvm.Cond.instanceMethod ({ cls := "MiddleSheetModel", name := "led", desc := "(III)I" } : Jvm.MethodName)) ∈ lw_all := lw_g (lw_at lw_m7 98 rfl) rfl
theorem q1641 : (Jvm.Cond.selects "MiddleSheetModel" ({ cls := "MiddleSheetModel", name := "led", desc := "(III)I" } : Jvm.MethodName) ({ cls := "MiddleSheetModel", name := "led", desc := "(III)I" } : Jvm.MethodName)) ∈ lw_all := lw_g (lw_at lw_m7 99 rfl) rfl
theorem q1642 : (Jvm.Cond.code ({ cls := "MiddleSheetModel", name := "led", desc := "(III)I" } : Jvm.MethodName) prog_15_method_63_code (7 : Nat) (Option.some Jvm.ClassFile.FieldType.int)) ∈ lw_all := lw_g (lw_at lw_m7 100 rfl) rfl
theorem q1643 : (Jvm.Cond.methodLink "MiddleSheetModel" (360 : Nat) ({ cls := "MiddleSheetModel", name := "leads", desc := "(I)V" } : Jvm.MethodName)) ∈ lw_all := lw_g (lw_at lw_m7 101 rfl) rfl
theorem q1644 : (Jvm.Cond.privateMethod ({ cls := "MiddleSheetModel", name := "leads", desc := "(I)V" } : Jvm.MethodName)) ∈ lw_tbl := lw_at lw_m7 102 rfl
theorem q1645 : (Jvm.Cond.instanceMethod ({ cls := "MiddleSheetModel", name := "leads", desc := "(I)V" } : Jvm.MethodName)) ∈ lw_all := lw_g (lw_at lw_m7 103 rfl) rfl
theorem q1646 : (Jvm.Cond.code ({ cls := "MiddleSheetModel", name := "leads", desc := "(I)V" } : Jvm.MethodName) prog_15_method_62_code (5 : Nat) (Option.none : Option Jvm.ClassFile.FieldType)) ∈ lw_all := lw_g (lw_at lw_m7 104 rfl) rfl
theorem q1648 : (Jvm.Cond.instanceMethod ({ cls := "MiddleSheetModel", name := "best", desc := "(I)I" } : Jvm.MethodName)) ∈ lw_all := lw_g (lw_at lw_m7 106 rfl) rfl
theorem q1649 : (Jvm.Cond.selects "MiddleSheetModel" ({ cls := "MiddleSheetModel", name := "best", desc := "(I)I" } : Jvm.MethodName) ({ cls := "MiddleSheetModel", name := "best", desc := "(I)I" } : Jvm.MethodName)) ∈ lw_all := lw_g (lw_at lw_m7 107 rfl) rfl
theorem q1650 : (Jvm.Cond.code ({ cls := "MiddleSheetModel", name := "best", desc := "(I)I" } : Jvm.MethodName) prog_15_method_67_code (4 : Nat) (Option.some Jvm.ClassFile.FieldType.int)) ∈ lw_all := lw_g (lw_at lw_m7 108 rfl) rfl
theorem q1651 : (Jvm.Cond.methodLink "MiddleSheetModel" (366 : Nat) ({ cls := "MiddleSheetModel", name := "isReached", desc := "(I)Z" } : Jvm.MethodName)) ∈ lw_all := lw_g (lw_at lw_m7 109 rfl) rfl
theorem q1652 : (Jvm.Cond.privateMethod ({ cls := "MiddleSheetModel", name := "isReached", desc := "(I)Z" } : Jvm.MethodName)) ∈ lw_tbl := lw_at lw_m7 110 rfl
theorem q1653 : (Jvm.Cond.instanceMethod ({ cls := "MiddleSheetModel", name := "isReached", desc := "(I)Z" } : Jvm.MethodName)) ∈ lw_all := lw_g (lw_at lw_m7 111 rfl) rfl
theorem q1654 : (Jvm.Cond.code ({ cls := "MiddleSheetModel", name := "isReached", desc := "(I)Z" } : Jvm.MethodName) prog_15_method_64_code (3 : Nat) (Option.some Jvm.ClassFile.FieldType.boolean)) ∈ lw_all := lw_g (lw_at lw_m7 112 rfl) rfl
theorem q1655 : (Jvm.Cond.methodLink "MiddleSheetModel" (369 : Nat) ({ cls := "MiddleSheetModel", name := "isOpen", desc := "(I)Z" } : Jvm.MethodName)) ∈ lw_all := lw_g (lw_at lw_m7 113 rfl) rfl
theorem q1656 : (Jvm.Cond.privateMethod ({ cls := "MiddleSheetModel", name := "isOpen", desc := "(I)Z" } : Jvm.MethodName)) ∈ lw_tbl := lw_at lw_m7 114 rfl
theorem q1657 : (Jvm.Cond.instanceMethod ({ cls := "MiddleSheetModel", name := "isOpen", desc := "(I)Z" } : Jvm.MethodName)) ∈ lw_all := lw_g (lw_at lw_m7 115 rfl) rfl
theorem q1658 : (Jvm.Cond.code ({ cls := "MiddleSheetModel", name := "isOpen", desc := "(I)Z" } : Jvm.MethodName) prog_15_method_66_code (3 : Nat) (Option.some Jvm.ClassFile.FieldType.boolean)) ∈ lw_all := lw_g (lw_at lw_m7 116 rfl) rfl
theorem q1659 : (Jvm.Cond.methodLink "MiddleSheetModel" (363 : Nat) ({ cls := "MiddleSheetModel", name := "covers", desc := "(II)Z" } : Jvm.MethodName)) ∈ lw_all := lw_g (lw_at lw_m7 117 rfl) rfl
theorem q1660 : (Jvm.Cond.privateMethod ({ cls := "MiddleSheetModel", name := "covers", desc := "(II)Z" } : Jvm.MethodName)) ∈ lw_tbl := lw_at lw_m7 118 rfl
theorem q1661 : (Jvm.Cond.instanceMethod ({ cls := "MiddleSheetModel", name := "covers", desc := "(II)Z" } : Jvm.MethodName)) ∈ lw_all := lw_g (lw_at lw_m7 119 rfl) rfl
theorem q1662 : (Jvm.Cond.code ({ cls := "MiddleSheetModel", name := "covers", desc := "(II)Z" } : Jvm.MethodName) prog_15_method_65_code (4 : Nat) (Option.some Jvm.ClassFile.FieldType.boolean)) ∈ lw_all := lw_g (lw_at lw_m7 120 rfl) rfl
theorem q1664 : (Jvm.Cond.instanceMethod ({ cls := "MiddleSheetModel", name := "between", desc := "(II)I" } : Jvm.MethodName)) ∈ lw_all := lw_g (lw_at lw_m7 122 rfl) rfl
theorem q1665 : (Jvm.Cond.selects "MiddleSheetModel" ({ cls := "MiddleSheetModel", name := "between", desc := "(II)I" } : Jvm.MethodName) ({ cls := "MiddleSheetModel", name := "between", desc := "(II)I" } : Jvm.MethodName)) ∈ lw_all := lw_g (lw_at lw_m7 123 rfl) rfl
theorem q1666 : (Jvm.Cond.code ({ cls := "MiddleSheetModel", name := "between", desc := "(II)I" } : Jvm.MethodName) prog_15_method_68_code (6 : Nat) (Option.some Jvm.ClassFile.FieldType.int)) ∈ lw_all := lw_g (lw_at lw_m7 124 rfl) rfl
theorem q1668 : (Jvm.Cond.instanceMethod ({ cls := "MiddleSheetModel", name := "rest", desc := "()I" } : Jvm.MethodName)) ∈ lw_all := lw_g (lw_at lw_m7 126 rfl) rfl
theorem q1669 : (Jvm.Cond.selects "MiddleSheetModel" ({ cls := "MiddleSheetModel", name := "rest", desc := "()I" } : Jvm.MethodName) ({ cls := "MiddleSheetModel", name := "rest", desc := "()I" } : Jvm.MethodName)) ∈ lw_all := lw_g (lw_at lw_m7 127 rfl) rfl
theorem q1670 : (Jvm.Cond.code ({ cls := "MiddleSheetModel", name := "rest", desc := "()I" } : Jvm.MethodName) prog_15_method_71_code (4 : Nat) (Option.some Jvm.ClassFile.FieldType.int)) ∈ lw_all := lw_g (lw_at lw_m7 128 rfl) rfl
theorem q1671 : (Jvm.Cond.methodLink "MiddleSheetModel" (372 : Nat) ({ cls := "MiddleSheetModel", name := "chosen", desc := "()I" } : Jvm.MethodName)) ∈ lw_all := lw_g (lw_at lw_m7 129 rfl) rfl
theorem q1672 : (Jvm.Cond.privateMethod ({ cls := "MiddleSheetModel", name := "chosen", desc := "()I" } : Jvm.MethodName)) ∈ lw_tbl := lw_at lw_m7 130 rfl
theorem q1673 : (Jvm.Cond.instanceMethod ({ cls := "MiddleSheetModel", name := "chosen", desc := "()I" } : Jvm.MethodName)) ∈ lw_all := lw_g (lw_at lw_m7 131 rfl) rfl
theorem q1674 : (Jvm.Cond.code ({ cls := "MiddleSheetModel", name := "chosen", desc := "()I" } : Jvm.MethodName) prog_15_method_69_code (1 : Nat) (Option.some Jvm.ClassFile.FieldType.int)) ∈ lw_all := lw_g (lw_at lw_m7 132 rfl) rfl
theorem q1675 : (Jvm.Cond.methodLink "MiddleSheetModel" (375 : Nat) ({ cls := "MiddleSheetModel", name := "gain", desc := "(II)I" } : Jvm.MethodName)) ∈ lw_all := lw_g (lw_at lw_m7 133 rfl) rfl
theorem q1676 : (Jvm.Cond.privateMethod ({ cls := "MiddleSheetModel", name := "gain", desc := "(II)I" } : Jvm.MethodName)) ∈ lw_tbl := lw_at lw_m7 134 rfl
theorem q1677 : (Jvm.Cond.instanceMethod ({ cls := "MiddleSheetModel", name := "gain", desc := "(II)I" } : Jvm.MethodName)) ∈ lw_all := lw_g (lw_at lw_m7 135 rfl) rfl
theorem q1678 : (Jvm.Cond.code ({ cls := "MiddleSheetModel", name := "gain", desc := "(II)I" } : Jvm.MethodName) prog_15_method_70_code (3 : Nat) (Option.some Jvm.ClassFile.FieldType.int)) ∈ lw_all := lw_g (lw_at lw_m7 136 rfl) rfl
theorem q1680 : (Jvm.Cond.instanceMethod ({ cls := "MiddleSheetModel", name := "lot", desc := "(I)I" } : Jvm.MethodName)) ∈ lw_all := lw_g (lw_at lw_m7 138 rfl) rfl
theorem q1681 : (Jvm.Cond.selects "MiddleSheetModel" ({ cls := "MiddleSheetModel", name := "lot", desc := "(I)I" } : Jvm.MethodName) ({ cls := "MiddleSheetModel", name := "lot", desc := "(I)I" } : Jvm.MethodName)) ∈ lw_all := lw_g (lw_at lw_m7 139 rfl) rfl
theorem q1682 : (Jvm.Cond.code ({ cls := "MiddleSheetModel", name := "lot", desc := "(I)I" } : Jvm.MethodName) prog_15_method_75_code (5 : Nat) (Option.some Jvm.ClassFile.FieldType.int)) ∈ lw_all := lw_g (lw_at lw_m7 140 rfl) rfl
theorem q1683 : (Jvm.Cond.constantLong "MiddleSheetModel" (393 : Nat) (-1 : Int64)) ∈ lw_all := lw_g (lw_at lw_m7 141 rfl) rfl
theorem q1684 : (Jvm.Cond.methodLink "MiddleSheetModel" (395 : Nat) ({ cls := "MiddleSheetModel", name := "findsLots", desc := "()Z" } : Jvm.MethodName)) ∈ lw_all := lw_g (lw_at lw_m7 142 rfl) rfl
theorem q1685 : (Jvm.Cond.privateMethod ({ cls := "MiddleSheetModel", name := "findsLots", desc := "()Z" } : Jvm.MethodName)) ∈ lw_tbl := lw_at lw_m7 143 rfl
theorem q1686 : (Jvm.Cond.instanceMethod ({ cls := "MiddleSheetModel", name := "findsLots", desc := "()Z" } : Jvm.MethodName)) ∈ lw_all := lw_g (lw_at lw_m7 144 rfl) rfl
theorem q1687 : (Jvm.Cond.code ({ cls := "MiddleSheetModel", name := "findsLots", desc := "()Z" } : Jvm.MethodName) prog_15_method_74_code (3 : Nat) (Option.some Jvm.ClassFile.FieldType.boolean)) ∈ lw_all := lw_g (lw_at lw_m7 145 rfl) rfl
theorem q1688 : (Jvm.Cond.methodLink "MiddleSheetModel" (387 : Nat) ({ cls := "java/lang/Integer", name := "bitCount", desc := "(I)I" } : Jvm.MethodName)) ∈ lw_all := lw_g (lw_at lw_m7 146 rfl) rfl
theorem q1689 : (Jvm.Cond.methodLink "MiddleSheetModel" (390 : Nat) ({ cls := "MiddleSheetModel", name := "isLot", desc := "(I)Z" } : Jvm.MethodName)) ∈ lw_all := lw_g (lw_at lw_m7 147 rfl) rfl
theorem q1690 : (Jvm.Cond.privateMethod ({ cls := "MiddleSheetModel", name := "isLot", desc := "(I)Z" } : Jvm.MethodName)) ∈ lw_tbl := lw_at lw_m7 148 rfl
theorem q1691 : (Jvm.Cond.instanceMethod ({ cls := "MiddleSheetModel", name := "isLot", desc := "(I)Z" } : Jvm.MethodName)) ∈ lw_all := lw_g (lw_at lw_m7 149 rfl) rfl
theorem q1692 : (Jvm.Cond.code ({ cls := "MiddleSheetModel", name := "isLot", desc := "(I)Z" } : Jvm.MethodName) prog_15_method_73_code (12 : Nat) (Option.some Jvm.ClassFile.FieldType.boolean)) ∈ lw_all := lw_g (lw_at lw_m7 150 rfl) rfl
theorem q1693 : (Jvm.Cond.methodLink "MiddleSheetModel" (383 : Nat) ({ cls := "MiddleSheetModel", name := "coupled", desc := "(I)J" } : Jvm.MethodName)) ∈ lw_all := lw_g (lw_at lw_m7 151 rfl) rfl
theorem q1694 : (Jvm.Cond.privateMethod ({ cls := "MiddleSheetModel", name := "coupled", desc := "(I)J" } : Jvm.MethodName)) ∈ lw_tbl := lw_at lw_m7 152 rfl
theorem q1695 : (Jvm.Cond.instanceMethod ({ cls := "MiddleSheetModel", name := "coupled", desc := "(I)J" } : Jvm.MethodName)) ∈ lw_all := lw_g (lw_at lw_m7 153 rfl) rfl
theorem q1696 : (Jvm.Cond.code ({ cls := "MiddleSheetModel", name := "coupled", desc := "(I)J" } : Jvm.MethodName) prog_15_method_72_code (8 : Nat) (Option.some Jvm.ClassFile.FieldType.long)) ∈ lw_all := lw_g (lw_at lw_m7 154 rfl) rfl
theorem q1697 : (Jvm.Cond.methodLink "MiddleSheetModel" (378 : Nat) ({ cls := "java/lang/Integer", name := "numberOfTrailingZeros", desc := "(I)I" } : Jvm.MethodName)) ∈ lw_all := lw_g (lw_at lw_m7 155 rfl) rfl
theorem q1699 : (Jvm.Cond.instanceMethod ({ cls := "MiddleSheetModel", name := "need", desc := "(I)I" } : Jvm.MethodName)) ∈ lw_all := lw_g (lw_at lw_m7 157 rfl) rfl
theorem q1700 : (Jvm.Cond.selects "MiddleSheetModel" ({ cls := "MiddleSheetModel", name := "need", desc := "(I)I" } : Jvm.MethodName) ({ cls := "MiddleSheetModel", name := "need", desc := "(I)I" } : Jvm.MethodName)) ∈ lw_all := lw_g (lw_at lw_m7 158 rfl) rfl
theorem q1701 : (Jvm.Cond.code ({ cls := "MiddleSheetModel", name := "need", desc := "(I)I" } : Jvm.MethodName) prog_15_method_77_code (4 : Nat) (Option.some Jvm.ClassFile.FieldType.int)) ∈ lw_all := lw_g (lw_at lw_m7 159 rfl) rfl
theorem q1702 : (Jvm.Cond.methodLink "MiddleSheetModel" (398 : Nat) ({ cls := "MiddleSheetModel", name := "needOf", desc := "(I)I" } : Jvm.MethodName)) ∈ lw_all := lw_g (lw_at lw_m7 160 rfl) rfl
theorem q1703 : (Jvm.Cond.privateMethod ({ cls := "MiddleSheetModel", name := "needOf", desc := "(I)I" } : Jvm.MethodName)) ∈ lw_tbl := lw_at lw_m7 161 rfl
theorem q1704 : (Jvm.Cond.instanceMethod ({ cls := "MiddleSheetModel", name := "needOf", desc := "(I)I" } : Jvm.MethodName)) ∈ lw_all := lw_g (lw_at lw_m7 162 rfl) rfl
theorem q1705 : (Jvm.Cond.code ({ cls := "MiddleSheetModel", name := "needOf", desc := "(I)I" } : Jvm.MethodName) prog_15_method_76_code (4 : Nat) (Option.some Jvm.ClassFile.FieldType.int)) ∈ lw_all := lw_g (lw_at lw_m7 163 rfl) rfl
theorem q1707 : (Jvm.Cond.instanceMethod ({ cls := "MiddleSheetModel", name := "most", desc := "(II)I" } : Jvm.MethodName)) ∈ lw_all := lw_g (lw_at lw_m7 165 rfl) rfl
theorem q1708 : (Jvm.Cond.selects "MiddleSheetModel" ({ cls := "MiddleSheetModel", name := "most", desc := "(II)I" } : Jvm.MethodName) ({ cls := "MiddleSheetModel", name := "most", desc := "(II)I" } : Jvm.MethodName)) ∈ lw_all := lw_g (lw_at lw_m7 166 rfl) rfl
theorem q1709 : (Jvm.Cond.code ({ cls := "MiddleSheetModel", name := "most", desc := "(II)I" } : Jvm.MethodName) prog_15_method_78_code (5 : Nat) (Option.some Jvm.ClassFile.FieldType.int)) ∈ lw_all := lw_g (lw_at lw_m7 167 rfl) rfl
theorem q1711 : (Jvm.Cond.instanceMethod ({ cls := "MiddleSheetModel", name := "peace", desc := "()I" } : Jvm.MethodName)) ∈ lw_all := lw_g (lw_at lw_m7 169 rfl) rfl
theorem q1712 : (Jvm.Cond.selects "MiddleSheetModel" ({ cls := "MiddleSheetModel", name := "peace", desc := "()I" } : Jvm.MethodName) ({ cls := "MiddleSheetModel", name := "peace", desc := "()I" } : Jvm.MethodName)) ∈ lw_all := lw_g (lw_at lw_m7 170 rfl) rfl
theorem q1713 : (Jvm.Cond.code ({ cls := "MiddleSheetModel", name := "peace", desc := "()I" } : Jvm.MethodName) prog_15_method_80_code (2 : Nat) (Option.some Jvm.ClassFile.FieldType.int)) ∈ lw_all := lw_g (lw_at lw_m7 171 rfl) rfl
theorem q1714 : (Jvm.Cond.methodLink "MiddleSheetModel" (401 : Nat) ({ cls := "MiddleSheetModel", name := "isUnbeaten", desc := "(I)Z" } : Jvm.MethodName)) ∈ lw_all := lw_g (lw_at lw_m7 172 rfl) rfl
theorem q1715 : (Jvm.Cond.privateMethod ({ cls := "MiddleSheetModel", name := "isUnbeaten", desc := "(I)Z" } : Jvm.MethodName)) ∈ lw_tbl := lw_at lw_m7 173 rfl
theorem q1716 : (Jvm.Cond.instanceMethod ({ cls := "MiddleSheetModel", name := "isUnbeaten", desc := "(I)Z" } : Jvm.MethodName)) ∈ lw_all := lw_g (lw_at lw_m7 174 rfl) rfl
theorem q1717 : (Jvm.Cond.code ({ cls := "MiddleSheetModel", name := "isUnbeaten", desc := "(I)Z" } : Jvm.MethodName) prog_15_method_79_code (3 : Nat) (Option.some Jvm.ClassFile.FieldType.boolean)) ∈ lw_all := lw_g (lw_at lw_m7 175 rfl) rfl
theorem q1719 : (Jvm.Cond.instanceMethod ({ cls := "MiddleSheetModel", name := "make", desc := "(I)I" } : Jvm.MethodName)) ∈ lw_all := lw_g (lw_at lw_m7 177 rfl) rfl
theorem q1720 : (Jvm.Cond.selects "MiddleSheetModel" ({ cls := "MiddleSheetModel", name := "make", desc := "(I)I" } : Jvm.MethodName) ({ cls := "MiddleSheetModel", name := "make", desc := "(I)I" } : Jvm.MethodName)) ∈ lw_all := lw_g (lw_at lw_m7 178 rfl) rfl
theorem q1721 : (Jvm.Cond.code ({ cls := "MiddleSheetModel", name := "make", desc := "(I)I" } : Jvm.MethodName) prog_15_method_81_code (12 : Nat) (Option.some Jvm.ClassFile.FieldType.int)) ∈ lw_all := lw_g (lw_at lw_m7 179 rfl) rfl
theorem q1722 : (Jvm.Cond.methodLink "MiddleSheetModel" (404 : Nat) ({ cls := "MiddleSheetModel", name := "peace", desc := "()I" } : Jvm.MethodName)) ∈ lw_all := lw_g (lw_at lw_m7 180 rfl) rfl
theorem q1724 : (Jvm.Cond.instanceMethod ({ cls := "MiddleSheetModel", name := "join", desc := "(I)I" } : Jvm.MethodName)) ∈ lw_all := lw_g (lw_at lw_m7 182 rfl) rfl
theorem q1725 : (Jvm.Cond.selects "MiddleSheetModel" ({ cls := "MiddleSheetModel", name := "join", desc := "(I)I" } : Jvm.MethodName) ({ cls := "MiddleSheetModel", name := "join", desc := "(I)I" } : Jvm.MethodName)) ∈ lw_all := lw_g (lw_at lw_m7 183 rfl) rfl
theorem q1726 : (Jvm.Cond.code ({ cls := "MiddleSheetModel", name := "join", desc := "(I)I" } : Jvm.MethodName) prog_15_method_83_code (5 : Nat) (Option.some Jvm.ClassFile.FieldType.int)) ∈ lw_all := lw_g (lw_at lw_m7 184 rfl) rfl
theorem q1727 : (Jvm.Cond.methodLink "MiddleSheetModel" (407 : Nat) ({ cls := "MiddleSheetModel", name := "joins", desc := "(II)Z" } : Jvm.MethodName)) ∈ lw_all := lw_g (lw_at lw_m7 185 rfl) rfl
theorem q1728 : (Jvm.Cond.privateMethod ({ cls := "MiddleSheetModel", name := "joins", desc := "(II)Z" } : Jvm.MethodName)) ∈ lw_tbl := lw_at lw_m7 186 rfl
theorem q1729 : (Jvm.Cond.instanceMethod ({ cls := "MiddleSheetModel", name := "joins", desc := "(II)Z" } : Jvm.MethodName)) ∈ lw_all := lw_g (lw_at lw_m7 187 rfl) rfl
theorem q1730 : (Jvm.Cond.code ({ cls := "MiddleSheetModel", name := "joins", desc := "(II)Z" } : Jvm.MethodName) prog_15_method_82_code (5 : Nat) (Option.some Jvm.ClassFile.FieldType.boolean)) ∈ lw_all := lw_g (lw_at lw_m7 188 rfl) rfl
theorem q1732 : (Jvm.Cond.instanceMethod ({ cls := "MiddleSheetModel", name := "doubt", desc := "(II)I" } : Jvm.MethodName)) ∈ lw_all := lw_g (lw_at lw_m7 190 rfl) rfl
theorem q1733 : (Jvm.Cond.selects "MiddleSheetModel" ({ cls := "MiddleSheetModel", name := "doubt", desc := "(II)I" } : Jvm.MethodName) ({ cls := "MiddleSheetModel", name := "doubt", desc := "(II)I" } : Jvm.MethodName)) ∈ lw_all := lw_g (lw_at lw_m7 191 rfl) rfl
theorem q1734 : (Jvm.Cond.code ({ cls := "MiddleSheetModel", name := "doubt", desc := "(II)I" } : Jvm.MethodName) prog_15_method_86_code (5 : Nat) (Option.some Jvm.ClassFile.FieldType.int)) ∈ lw_all := lw_g (lw_at lw_m7 192 rfl) rfl
theorem q1735 : (Jvm.Cond.constantLong "MiddleSheetModel" (422 : Nat) (5 : Int64)) ∈ lw_all := lw_g (lw_at lw_m7 193 rfl) rfl
theorem q1736 : (Jvm.Cond.methodLink "MiddleSheetModel" (424 : Nat) ({ cls := "MiddleSheetModel", name := "asks", desc := "(III)V" } : Jvm.MethodName)) ∈ lw_all := lw_g (lw_at lw_m7 194 rfl) rfl
theorem q1737 : (Jvm.Cond.privateMethod ({ cls := "MiddleSheetModel", name := "asks", desc := "(III)V" } : Jvm.MethodName)) ∈ lw_tbl := lw_at lw_m7 195 rfl
theorem q1738 : (Jvm.Cond.instanceMethod ({ cls := "MiddleSheetModel", name := "asks", desc := "(III)V" } : Jvm.MethodName)) ∈ lw_all := lw_g (lw_at lw_m7 196 rfl) rfl
theorem q1739 : (Jvm.Cond.code ({ cls := "MiddleSheetModel", name := "asks", desc := "(III)V" } : Jvm.MethodName) prog_15_method_85_code (6 : Nat) (Option.none : Option Jvm.ClassFile.FieldType)) ∈ lw_all := lw_g (lw_at lw_m7 197 rfl) rfl
theorem q1740 : (Jvm.Cond.methodLink "MiddleSheetModel" (419 : Nat) ({ cls := "MiddleSheetModel", name := "sure", desc := "(IIII)I" } : Jvm.MethodName)) ∈ lw_all := lw_g (lw_at lw_m7 198 rfl) rfl
theorem q1741 : (Jvm.Cond.privateMethod ({ cls := "MiddleSheetModel", name := "sure", desc := "(IIII)I" } : Jvm.MethodName)) ∈ lw_tbl := lw_at lw_m7 199 rfl
theorem q1742 : (Jvm.Cond.instanceMethod ({ cls := "MiddleSheetModel", name := "sure", desc := "(IIII)I" } : Jvm.MethodName)) ∈ lw_all := lw_g (lw_at lw_m7 200 rfl) rfl
theorem q1743 : (Jvm.Cond.code ({ cls := "MiddleSheetModel", name := "sure", desc := "(IIII)I" } : Jvm.MethodName) prog_15_method_84_code (11 : Nat) (Option.some Jvm.ClassFile.FieldType.int)) ∈ lw_all := lw_g (lw_at lw_m7 201 rfl) rfl
theorem q1745 : (Jvm.Cond.instanceMethod ({ cls := "MiddleSheetModel", name := "move", desc := "(III)I" } : Jvm.MethodName)) ∈ lw_all := lw_g (lw_at lw_m7 203 rfl) rfl
theorem q1746 : (Jvm.Cond.selects "MiddleSheetModel" ({ cls := "MiddleSheetModel", name := "move", desc := "(III)I" } : Jvm.MethodName) ({ cls := "MiddleSheetModel", name := "move", desc := "(III)I" } : Jvm.MethodName)) ∈ lw_all := lw_g (lw_at lw_m7 204 rfl) rfl
theorem q1747 : (Jvm.Cond.code ({ cls := "MiddleSheetModel", name := "move", desc := "(III)I" } : Jvm.MethodName) prog_15_method_88_code (5 : Nat) (Option.some Jvm.ClassFile.FieldType.int)) ∈ lw_all := lw_g (lw_at lw_m7 205 rfl) rfl
theorem q1748 : (Jvm.Cond.methodLink "MiddleSheetModel" (427 : Nat) ({ cls := "MiddleSheetModel", name := "pairs", desc := "()I" } : Jvm.MethodName)) ∈ lw_all := lw_g (lw_at lw_m7 206 rfl) rfl
theorem q1749 : (Jvm.Cond.privateMethod ({ cls := "MiddleSheetModel", name := "pairs", desc := "()I" } : Jvm.MethodName)) ∈ lw_tbl := lw_at lw_m7 207 rfl
theorem q1750 : (Jvm.Cond.instanceMethod ({ cls := "MiddleSheetModel", name := "pairs", desc := "()I" } : Jvm.MethodName)) ∈ lw_all := lw_g (lw_at lw_m7 208 rfl) rfl
theorem q1751 : (Jvm.Cond.code ({ cls := "MiddleSheetModel", name := "pairs", desc := "()I" } : Jvm.MethodName) prog_15_method_87_code (4 : Nat) (Option.some Jvm.ClassFile.FieldType.int)) ∈ lw_all := lw_g (lw_at lw_m7 209 rfl) rfl
theorem q1753 : (Jvm.Cond.instanceMethod ({ cls := "MiddleSheetModel", name := "undo", desc := "()I" } : Jvm.MethodName)) ∈ lw_all := lw_g (lw_at lw_m7 211 rfl) rfl
theorem q1754 : (Jvm.Cond.selects "MiddleSheetModel" ({ cls := "MiddleSheetModel", name := "undo", desc := "()I" } : Jvm.MethodName) ({ cls := "MiddleSheetModel", name := "undo", desc := "()I" } : Jvm.MethodName)) ∈ lw_all := lw_g (lw_at lw_m7 212 rfl) rfl
theorem q1755 : (Jvm.Cond.code ({ cls := "MiddleSheetModel", name := "undo", desc := "()I" } : Jvm.MethodName) prog_15_method_89_code (2 : Nat) (Option.some Jvm.ClassFile.FieldType.int)) ∈ lw_all := lw_g (lw_at lw_m7 213 rfl) rfl
theorem q1757 : (Jvm.Cond.instanceMethod ({ cls := "MiddleSheetModel", name := "moved", desc := "(II)I" } : Jvm.MethodName)) ∈ lw_all := lw_g (lw_at lw_m7 215 rfl) rfl
theorem q1758 : (Jvm.Cond.selects "MiddleSheetModel" ({ cls := "MiddleSheetModel", name := "moved", desc := "(II)I" } : Jvm.MethodName) ({ cls := "MiddleSheetModel", name := "moved", desc := "(II)I" } : Jvm.MethodName)) ∈ lw_all := lw_g (lw_at lw_m7 216 rfl) rfl
theorem q1759 : (Jvm.Cond.code ({ cls := "MiddleSheetModel", name := "moved", desc := "(II)I" } : Jvm.MethodName) prog_15_method_90_code (3 : Nat) (Option.some Jvm.ClassFile.FieldType.int)) ∈ lw_all := lw_g (lw_at lw_m7 217 rfl) rfl
theorem q1760 : (Jvm.Cond.constantLong "MiddleSheetModel" (430 : Nat) (8 : Int64)) ∈ lw_all := lw_g (lw_at lw_m7 218 rfl) rfl
theorem q1762 : (Jvm.Cond.instanceMethod ({ cls := "MiddleSheetModel", name := "count", desc := "(I)I" } : Jvm.MethodName)) ∈ lw_all := lw_g (lw_at lw_m7 220 rfl) rfl
theorem q1763 : (Jvm.Cond.selects "MiddleSheetModel" ({ cls := "MiddleSheetModel", name := "count", desc := "(I)I" } : Jvm.MethodName) ({ cls := "MiddleSheetModel", name := "count", desc := "(I)I" } : Jvm.MethodName)) ∈ lw_all := lw_g (lw_at lw_m7 221 rfl) rfl
theorem q1764 : (Jvm.Cond.code ({ cls := "MiddleSheetModel", name := "count", desc := "(I)I" } : Jvm.MethodName) prog_15_method_91_code (2 : Nat) (Option.some Jvm.ClassFile.FieldType.int)) ∈ lw_all := lw_g (lw_at lw_m7 222 rfl) rfl
theorem q1775 : (Jvm.Cond.castable "MiddleSheetModel" "java/lang/Object") ∈ lw_tbl := lw_at lw_m7 233 rfl
theorem in_X3 : ∀ w ∈ wsX30, w ∈ lw_all := lw_in wsX30 [1286, 1288, 1290, 1292, 1294, 1296, 1298, 1300, 1302, 1304, 1306, 1308, 1310, 1312, 1314, 1316, 1318, 1320, 1322, 1324, 1326, 1328, 1330, 1332, 1334, 1336, 1338, 1340, 1342, 1344, 1346, 1348, 1350, 1352, 1354, 1356, 1358, 1360, 1362, 1364, 1366, 1368, 1370, 1372, 1374, 1376, 1378, 1380, 1382] (by decide +kernel) (by decide +kernel)
/-! MiddleSheet$Fault -/
def RX4 : String := "MiddleSheet$Fault"
def TX4 : u_T := fun k => match k with
  | 0 => ("java/lang/Throwable", "cause", "Ljava/lang/Throwable;", false)
  | 1 => ("java/lang/Throwable", "stackTrace", "[Ljava/lang/StackTraceElement;", false)
  | 2 => ("java/lang/Throwable", "suppressedExceptions", "Ljava/util/List;", false)
  | 3 => ("java/lang/Throwable", "detailMessage", "Ljava/lang/String;", false)
  | 4 => ("java/lang/Throwable", "backtrace", "Ljava/lang/Object;", false)
  | 5 => ("java/lang/Throwable", "depth", "I", false)
  | _ => ("MiddleSheet$Fault", "place", "I", true)
def tyX4 : Nat → FieldType := fun k => match k with
  | 0 => .object "java/lang/Throwable"
  | 1 => .array (.object "java/lang/StackTraceElement")
  | 2 => .object "java/util/List"
  | 3 => .object "java/lang/String"
  | 4 => .object "java/lang/Object"
  | 5 => .int
  | _ => .int
abbrev wsX40 : List Cond := u_ws RX4 TX4 7
theorem nmX4 : ∀ a, a < 7 → ∀ b, b < 7 → a ≠ b → (TX4 a).2.1 ≠ (TX4 b).2.1 := by decide +kernel
theorem tyX4_ok : ∀ k, k < 7 → parseFieldDescriptor (TX4 k).2.2.1 = some (tyX4 k) := by decide +kernel
abbrev cX4_init : ByteArray := prog_4_method_1_code
def yX4_init : MethodName := ⟨RX4, "<init>", "(I)V"⟩
theorem q113 : (Jvm.Cond.initialized "MiddleSheet$Fault") ∈ lw_all := lw_g (lw_at lw_m1 11 rfl) rfl
theorem q368 : (Jvm.Cond.instantiable "MiddleSheet$Fault" (7 : Nat)) ∈ lw_all := lw_g (lw_at lw_m2 26 rfl) rfl
theorem q369 : (Jvm.Cond.castable "MiddleSheet$Fault" "MiddleSheet$Fault") ∈ lw_tbl := lw_at lw_m2 27 rfl
theorem q376 : (Jvm.Cond.selects "MiddleSheet$Fault" ({ cls := "java/lang/Throwable", name := "fillInStackTrace", desc := "(I)Ljava/lang/Throwable;" } : Jvm.MethodName) ({ cls := "java/lang/Throwable", name := "fillInStackTrace", desc := "(I)Ljava/lang/Throwable;" } : Jvm.MethodName)) ∈ lw_all := lw_g (lw_at lw_m2 34 rfl) rfl
theorem q377 : (Jvm.Cond.selects "MiddleSheet$Fault" ({ cls := "java/lang/Throwable", name := "fillInStackTrace", desc := "()Ljava/lang/Throwable;" } : Jvm.MethodName) ({ cls := "java/lang/Throwable", name := "fillInStackTrace", desc := "()Ljava/lang/Throwable;" } : Jvm.MethodName)) ∈ lw_all := lw_g (lw_at lw_m2 35 rfl) rfl
theorem q378 : (Jvm.Cond.lays "MiddleSheet$Fault" "java/lang/Throwable" "cause" "Ljava/lang/Throwable;") ∈ lw_all := lw_g (lw_at lw_m2 36 rfl) rfl
theorem q380 : (Jvm.Cond.lays "MiddleSheet$Fault" "java/lang/Throwable" "stackTrace" "[Ljava/lang/StackTraceElement;") ∈ lw_all := lw_g (lw_at lw_m2 38 rfl) rfl
theorem q382 : (Jvm.Cond.lays "MiddleSheet$Fault" "java/lang/Throwable" "suppressedExceptions" "Ljava/util/List;") ∈ lw_all := lw_g (lw_at lw_m2 40 rfl) rfl
theorem q384 : (Jvm.Cond.lays "MiddleSheet$Fault" "java/lang/Throwable" "detailMessage" "Ljava/lang/String;") ∈ lw_all := lw_g (lw_at lw_m2 42 rfl) rfl
theorem q386 : (Jvm.Cond.lays "MiddleSheet$Fault" "java/lang/Throwable" "backtrace" "Ljava/lang/Object;") ∈ lw_all := lw_g (lw_at lw_m2 44 rfl) rfl
theorem q407 : (Jvm.Cond.instanceMethod ({ cls := "MiddleSheet$Fault", name := "<init>", desc := "(I)V" } : Jvm.MethodName)) ∈ lw_all := lw_g (lw_at lw_m2 65 rfl) rfl
theorem q408 : (Jvm.Cond.code ({ cls := "MiddleSheet$Fault", name := "<init>", desc := "(I)V" } : Jvm.MethodName) prog_4_method_1_code (2 : Nat) (Option.none : Option Jvm.ClassFile.FieldType)) ∈ lw_all := lw_g (lw_at lw_m2 66 rfl) rfl
theorem q409 : (Jvm.Cond.methodLink "MiddleSheet$Fault" (1 : Nat) ({ cls := "java/lang/RuntimeException", name := "<init>", desc := "(Ljava/lang/String;Ljava/lang/Throwable;ZZ)V" } : Jvm.MethodName)) ∈ lw_all := lw_g (lw_at lw_m2 67 rfl) rfl
theorem q418 : (Jvm.Cond.fieldLink "MiddleSheet$Fault" (7 : Nat) "MiddleSheet$Fault" "place" "I") ∈ lw_all := lw_g (lw_at lw_m2 76 rfl) rfl
theorem q425 : (Jvm.Cond.laysFinal "MiddleSheet$Fault" "MiddleSheet$Fault" "place" "I") ∈ lw_all := lw_g (lw_at lw_m2 83 rfl) rfl
theorem q426 : (Jvm.Cond.soleField "MiddleSheet$Fault" "place") ∈ lw_all := lw_g (lw_at lw_m2 84 rfl) rfl
theorem q431 : (Jvm.Cond.lays "MiddleSheet$Fault" "java/lang/Throwable" "depth" "I") ∈ lw_all := lw_g (lw_at lw_m2 89 rfl) rfl
theorem q434 : (Jvm.Cond.superclass "MiddleSheet$Fault" "java/lang/RuntimeException") ∈ lw_all := lw_g (lw_at lw_m2 92 rfl) rfl
theorem q674 : (Jvm.Cond.selects "MiddleSheet$Fault" ({ cls := "java/lang/Object", name := "getClass", desc := "()Ljava/lang/Class;" } : Jvm.MethodName) ({ cls := "java/lang/Object", name := "getClass", desc := "()Ljava/lang/Class;" } : Jvm.MethodName)) ∈ lw_all := lw_g (lw_at lw_m3 92 rfl) rfl
theorem q1776 : (Jvm.Cond.castable "MiddleSheet$Fault" "java/lang/Object") ∈ lw_tbl := lw_at lw_m7 234 rfl
theorem in_X4 : ∀ w ∈ wsX40, w ∈ lw_all := lw_in wsX40 [378, 380, 382, 384, 386, 431, 425] (by decide +kernel) (by decide +kernel)
/-! MiddleSheet$Voter -/
def RX5 : String := "MiddleSheet$Voter"
abbrev cX5_init : ByteArray := prog_13_method_1_code
def yX5_init : MethodName := ⟨RX5, "<init>", "(IIIII)V"⟩
abbrev cX5_way : ByteArray := prog_13_method_5_code
def yX5_way : MethodName := ⟨RX5, "way", "(II)I"⟩
abbrev cX5_wayFrom : ByteArray := prog_13_method_4_code
def yX5_wayFrom : MethodName := ⟨RX5, "wayFrom", "(IIII)I"⟩
abbrev cX5_rather : ByteArray := prog_13_method_6_code
def yX5_rather : MethodName := ⟨RX5, "rather", "(IIII)I"⟩
abbrev cX5_far : ByteArray := prog_13_method_7_code
def yX5_far : MethodName := ⟨RX5, "far", "(II)I"⟩
theorem q120 : (Jvm.Cond.initialized "MiddleSheet$Voter") ∈ lw_all := lw_g (lw_at lw_m1 18 rfl) rfl
theorem q581 : (Jvm.Cond.instanceMethod ({ cls := "MiddleSheet$Voter", name := "<init>", desc := "(IIIII)V" } : Jvm.MethodName)) ∈ lw_all := lw_g (lw_at lw_m2 239 rfl) rfl
theorem q582 : (Jvm.Cond.code ({ cls := "MiddleSheet$Voter", name := "<init>", desc := "(IIIII)V" } : Jvm.MethodName) prog_13_method_1_code (6 : Nat) (Option.none : Option Jvm.ClassFile.FieldType)) ∈ lw_all := lw_g (lw_at lw_m3 0 rfl) rfl
theorem q583 : (Jvm.Cond.methodLink "MiddleSheet$Voter" (1 : Nat) ({ cls := "java/lang/Object", name := "<init>", desc := "()V" } : Jvm.MethodName)) ∈ lw_all := lw_g (lw_at lw_m3 1 rfl) rfl
theorem q584 : (Jvm.Cond.fieldLink "MiddleSheet$Voter" (16 : Nat) "MiddleSheet$Voter" "weight" "I") ∈ lw_all := lw_g (lw_at lw_m3 2 rfl) rfl
theorem q586 : (Jvm.Cond.fieldLink "MiddleSheet$Voter" (19 : Nat) "MiddleSheet$Voter" "wide" "I") ∈ lw_all := lw_g (lw_at lw_m3 4 rfl) rfl
theorem q588 : (Jvm.Cond.fieldLink "MiddleSheet$Voter" (22 : Nat) "MiddleSheet$Voter" "tall" "I") ∈ lw_all := lw_g (lw_at lw_m3 6 rfl) rfl
theorem q590 : (Jvm.Cond.fieldLink "MiddleSheet$Voter" (7 : Nat) "MiddleSheet$Voter" "x" "I") ∈ lw_all := lw_g (lw_at lw_m3 8 rfl) rfl
theorem q592 : (Jvm.Cond.fieldLink "MiddleSheet$Voter" (13 : Nat) "MiddleSheet$Voter" "y" "I") ∈ lw_all := lw_g (lw_at lw_m3 10 rfl) rfl
theorem q595 : (Jvm.Cond.soleField "MiddleSheet$Voter" "weight") ∈ lw_all := lw_g (lw_at lw_m3 13 rfl) rfl
theorem q597 : (Jvm.Cond.soleField "MiddleSheet$Voter" "wide") ∈ lw_all := lw_g (lw_at lw_m3 15 rfl) rfl
theorem q599 : (Jvm.Cond.soleField "MiddleSheet$Voter" "tall") ∈ lw_all := lw_g (lw_at lw_m3 17 rfl) rfl
theorem q601 : (Jvm.Cond.soleField "MiddleSheet$Voter" "x") ∈ lw_all := lw_g (lw_at lw_m3 19 rfl) rfl
theorem q603 : (Jvm.Cond.soleField "MiddleSheet$Voter" "y") ∈ lw_all := lw_g (lw_at lw_m3 21 rfl) rfl
theorem q761 : (Jvm.Cond.declares ({ cls := "MiddleSheet$Voter", name := "measure", desc := "()I" } : Jvm.MethodName)) ∈ lw_tbl := lw_at lw_m3 179 rfl
theorem q762 : (Jvm.Cond.sameMethod "MiddleSheet$Voter" "MiddleSheet$Voter" "measure" "()I") ∈ lw_all := lw_g (lw_at lw_m3 180 rfl) rfl
theorem q797 : (Jvm.Cond.instanceMethod ({ cls := "MiddleSheet$Voter", name := "way", desc := "(II)I" } : Jvm.MethodName)) ∈ lw_all := lw_g (lw_at lw_m3 215 rfl) rfl
theorem q798 : (Jvm.Cond.sameMethod "MiddleSheet$Voter" "MiddleSheet$Voter" "way" "(II)I") ∈ lw_all := lw_g (lw_at lw_m3 216 rfl) rfl
theorem q803 : (Jvm.Cond.code ({ cls := "MiddleSheet$Voter", name := "way", desc := "(II)I" } : Jvm.MethodName) prog_13_method_5_code (3 : Nat) (Option.some Jvm.ClassFile.FieldType.int)) ∈ lw_all := lw_g (lw_at lw_m3 221 rfl) rfl
theorem q804 : (Jvm.Cond.methodLink "MiddleSheet$Voter" (35 : Nat) ({ cls := "MiddleSheet$Voter", name := "wayFrom", desc := "(IIII)I" } : Jvm.MethodName)) ∈ lw_all := lw_g (lw_at lw_m3 222 rfl) rfl
theorem q805 : (Jvm.Cond.instanceMethod ({ cls := "MiddleSheet$Voter", name := "wayFrom", desc := "(IIII)I" } : Jvm.MethodName)) ∈ lw_all := lw_g (lw_at lw_m3 223 rfl) rfl
theorem q806 : (Jvm.Cond.sameMethod "MiddleSheet$Voter" "MiddleSheet$Voter" "wayFrom" "(IIII)I") ∈ lw_all := lw_g (lw_at lw_m3 224 rfl) rfl
theorem q811 : (Jvm.Cond.code ({ cls := "MiddleSheet$Voter", name := "wayFrom", desc := "(IIII)I" } : Jvm.MethodName) prog_13_method_4_code (5 : Nat) (Option.some Jvm.ClassFile.FieldType.int)) ∈ lw_all := lw_g (lw_at lw_m3 229 rfl) rfl
theorem q812 : (Jvm.Cond.methodLink "MiddleSheet$Voter" (25 : Nat) ({ cls := "java/lang/Math", name := "abs", desc := "(I)I" } : Jvm.MethodName)) ∈ lw_all := lw_g (lw_at lw_m3 230 rfl) rfl
theorem q815 : (Jvm.Cond.methodLink "MiddleSheet$Voter" (31 : Nat) ({ cls := "MiddleSheet$Voter", name := "joined", desc := "(II)I" } : Jvm.MethodName)) ∈ lw_all := lw_g (lw_at lw_m3 233 rfl) rfl
theorem q816 : (Jvm.Cond.declares ({ cls := "MiddleSheet$Voter", name := "joined", desc := "(II)I" } : Jvm.MethodName)) ∈ lw_tbl := lw_at lw_m3 234 rfl
theorem q817 : (Jvm.Cond.sameMethod "MiddleSheet$Voter" "MiddleSheet$Voter" "joined" "(II)I") ∈ lw_all := lw_g (lw_at lw_m3 235 rfl) rfl
theorem q844 : (Jvm.Cond.instanceMethod ({ cls := "MiddleSheet$Voter", name := "rather", desc := "(IIII)I" } : Jvm.MethodName)) ∈ lw_all := lw_g (lw_at lw_m4 22 rfl) rfl
theorem q845 : (Jvm.Cond.sameMethod "MiddleSheet$Voter" "MiddleSheet$Voter" "rather" "(IIII)I") ∈ lw_all := lw_g (lw_at lw_m4 23 rfl) rfl
theorem q850 : (Jvm.Cond.code ({ cls := "MiddleSheet$Voter", name := "rather", desc := "(IIII)I" } : Jvm.MethodName) prog_13_method_6_code (5 : Nat) (Option.some Jvm.ClassFile.FieldType.int)) ∈ lw_all := lw_g (lw_at lw_m4 28 rfl) rfl
theorem q851 : (Jvm.Cond.methodLink "MiddleSheet$Voter" (39 : Nat) ({ cls := "MiddleSheet$Voter", name := "way", desc := "(II)I" } : Jvm.MethodName)) ∈ lw_all := lw_g (lw_at lw_m4 29 rfl) rfl
theorem q852 : (Jvm.Cond.methodLink "MiddleSheet$Voter" (42 : Nat) ({ cls := "java/lang/Integer", name := "compare", desc := "(II)I" } : Jvm.MethodName)) ∈ lw_all := lw_g (lw_at lw_m4 30 rfl) rfl
theorem q1128 : (Jvm.Cond.instanceMethod ({ cls := "MiddleSheet$Voter", name := "far", desc := "(II)I" } : Jvm.MethodName)) ∈ lw_all := lw_g (lw_at lw_m5 66 rfl) rfl
theorem q1129 : (Jvm.Cond.sameMethod "MiddleSheet$Voter" "MiddleSheet$Voter" "far" "(II)I") ∈ lw_all := lw_g (lw_at lw_m5 67 rfl) rfl
theorem q1134 : (Jvm.Cond.code ({ cls := "MiddleSheet$Voter", name := "far", desc := "(II)I" } : Jvm.MethodName) prog_13_method_7_code (3 : Nat) (Option.some Jvm.ClassFile.FieldType.int)) ∈ lw_all := lw_g (lw_at lw_m5 72 rfl) rfl
/-! MiddleSheet$Crow -/
def RX6 : String := "MiddleSheet$Crow"
def TX6 : u_T := fun k => match k with
  | 0 => ("MiddleSheet$Voter", "weight", "I", true)
  | 1 => ("MiddleSheet$Voter", "wide", "I", true)
  | 2 => ("MiddleSheet$Voter", "tall", "I", true)
  | 3 => ("MiddleSheet$Voter", "x", "I", false)
  | _ => ("MiddleSheet$Voter", "y", "I", false)
def tyX6 : Nat → FieldType := fun k => match k with
  | 0 => .int
  | 1 => .int
  | 2 => .int
  | 3 => .int
  | _ => .int
abbrev wsX60 : List Cond := u_ws RX6 TX6 5
theorem nmX6 : ∀ a, a < 5 → ∀ b, b < 5 → a ≠ b → (TX6 a).2.1 ≠ (TX6 b).2.1 := by decide +kernel
theorem tyX6_ok : ∀ k, k < 5 → parseFieldDescriptor (TX6 k).2.2.1 = some (tyX6 k) := by decide +kernel
abbrev cX6_init : ByteArray := prog_3_method_1_code
def yX6_init : MethodName := ⟨RX6, "<init>", "(IIIII)V"⟩
abbrev cX6_measure : ByteArray := prog_3_method_2_code
def yX6_measure : MethodName := ⟨RX6, "measure", "()I"⟩
abbrev cX6_joined : ByteArray := prog_3_method_3_code
def yX6_joined : MethodName := ⟨RX6, "joined", "(II)I"⟩
theorem q121 : (Jvm.Cond.initialized "MiddleSheet$Crow") ∈ lw_all := lw_g (lw_at lw_m1 19 rfl) rfl
theorem q576 : (Jvm.Cond.instantiable "MiddleSheet$Crow" (5 : Nat)) ∈ lw_all := lw_g (lw_at lw_m2 234 rfl) rfl
theorem q578 : (Jvm.Cond.instanceMethod ({ cls := "MiddleSheet$Crow", name := "<init>", desc := "(IIIII)V" } : Jvm.MethodName)) ∈ lw_all := lw_g (lw_at lw_m2 236 rfl) rfl
theorem q579 : (Jvm.Cond.code ({ cls := "MiddleSheet$Crow", name := "<init>", desc := "(IIIII)V" } : Jvm.MethodName) prog_3_method_1_code (6 : Nat) (Option.none : Option Jvm.ClassFile.FieldType)) ∈ lw_all := lw_g (lw_at lw_m2 237 rfl) rfl
theorem q580 : (Jvm.Cond.methodLink "MiddleSheet$Crow" (1 : Nat) ({ cls := "MiddleSheet$Voter", name := "<init>", desc := "(IIIII)V" } : Jvm.MethodName)) ∈ lw_all := lw_g (lw_at lw_m2 238 rfl) rfl
theorem q594 : (Jvm.Cond.laysFinal "MiddleSheet$Crow" "MiddleSheet$Voter" "weight" "I") ∈ lw_all := lw_g (lw_at lw_m3 12 rfl) rfl
theorem q596 : (Jvm.Cond.laysFinal "MiddleSheet$Crow" "MiddleSheet$Voter" "wide" "I") ∈ lw_all := lw_g (lw_at lw_m3 14 rfl) rfl
theorem q598 : (Jvm.Cond.laysFinal "MiddleSheet$Crow" "MiddleSheet$Voter" "tall" "I") ∈ lw_all := lw_g (lw_at lw_m3 16 rfl) rfl
theorem q600 : (Jvm.Cond.lays "MiddleSheet$Crow" "MiddleSheet$Voter" "x" "I") ∈ lw_all := lw_g (lw_at lw_m3 18 rfl) rfl
theorem q602 : (Jvm.Cond.lays "MiddleSheet$Crow" "MiddleSheet$Voter" "y" "I") ∈ lw_all := lw_g (lw_at lw_m3 20 rfl) rfl
theorem q604 : (Jvm.Cond.superclass "MiddleSheet$Crow" "MiddleSheet$Voter") ∈ lw_all := lw_g (lw_at lw_m3 22 rfl) rfl
theorem q673 : (Jvm.Cond.selects "MiddleSheet$Crow" ({ cls := "java/lang/Object", name := "getClass", desc := "()Ljava/lang/Class;" } : Jvm.MethodName) ({ cls := "java/lang/Object", name := "getClass", desc := "()Ljava/lang/Class;" } : Jvm.MethodName)) ∈ lw_all := lw_g (lw_at lw_m3 91 rfl) rfl
theorem q763 : (Jvm.Cond.selects "MiddleSheet$Crow" ({ cls := "MiddleSheet$Voter", name := "measure", desc := "()I" } : Jvm.MethodName) ({ cls := "MiddleSheet$Crow", name := "measure", desc := "()I" } : Jvm.MethodName)) ∈ lw_all := lw_g (lw_at lw_m3 181 rfl) rfl
theorem q764 : (Jvm.Cond.instanceMethod ({ cls := "MiddleSheet$Crow", name := "measure", desc := "()I" } : Jvm.MethodName)) ∈ lw_all := lw_g (lw_at lw_m3 182 rfl) rfl
theorem q765 : (Jvm.Cond.code ({ cls := "MiddleSheet$Crow", name := "measure", desc := "()I" } : Jvm.MethodName) prog_3_method_2_code (1 : Nat) (Option.some Jvm.ClassFile.FieldType.int)) ∈ lw_all := lw_g (lw_at lw_m3 183 rfl) rfl
theorem q799 : (Jvm.Cond.selects "MiddleSheet$Crow" ({ cls := "MiddleSheet$Voter", name := "way", desc := "(II)I" } : Jvm.MethodName) ({ cls := "MiddleSheet$Voter", name := "way", desc := "(II)I" } : Jvm.MethodName)) ∈ lw_all := lw_g (lw_at lw_m3 217 rfl) rfl
theorem q807 : (Jvm.Cond.selects "MiddleSheet$Crow" ({ cls := "MiddleSheet$Voter", name := "wayFrom", desc := "(IIII)I" } : Jvm.MethodName) ({ cls := "MiddleSheet$Voter", name := "wayFrom", desc := "(IIII)I" } : Jvm.MethodName)) ∈ lw_all := lw_g (lw_at lw_m3 225 rfl) rfl
theorem q818 : (Jvm.Cond.selects "MiddleSheet$Crow" ({ cls := "MiddleSheet$Voter", name := "joined", desc := "(II)I" } : Jvm.MethodName) ({ cls := "MiddleSheet$Crow", name := "joined", desc := "(II)I" } : Jvm.MethodName)) ∈ lw_all := lw_g (lw_at lw_m3 236 rfl) rfl
theorem q819 : (Jvm.Cond.instanceMethod ({ cls := "MiddleSheet$Crow", name := "joined", desc := "(II)I" } : Jvm.MethodName)) ∈ lw_all := lw_g (lw_at lw_m3 237 rfl) rfl
theorem q820 : (Jvm.Cond.code ({ cls := "MiddleSheet$Crow", name := "joined", desc := "(II)I" } : Jvm.MethodName) prog_3_method_3_code (3 : Nat) (Option.some Jvm.ClassFile.FieldType.int)) ∈ lw_all := lw_g (lw_at lw_m3 238 rfl) rfl
theorem q846 : (Jvm.Cond.selects "MiddleSheet$Crow" ({ cls := "MiddleSheet$Voter", name := "rather", desc := "(IIII)I" } : Jvm.MethodName) ({ cls := "MiddleSheet$Voter", name := "rather", desc := "(IIII)I" } : Jvm.MethodName)) ∈ lw_all := lw_g (lw_at lw_m4 24 rfl) rfl
theorem q1130 : (Jvm.Cond.selects "MiddleSheet$Crow" ({ cls := "MiddleSheet$Voter", name := "far", desc := "(II)I" } : Jvm.MethodName) ({ cls := "MiddleSheet$Voter", name := "far", desc := "(II)I" } : Jvm.MethodName)) ∈ lw_all := lw_g (lw_at lw_m5 68 rfl) rfl
theorem q1766 : (Jvm.Cond.castable "MiddleSheet$Crow" "MiddleSheet$Voter") ∈ lw_tbl := lw_at lw_m7 224 rfl
theorem q1777 : (Jvm.Cond.castable "MiddleSheet$Crow" "java/lang/Object") ∈ lw_tbl := lw_at lw_m7 235 rfl
theorem in_X6 : ∀ w ∈ wsX60, w ∈ lw_all := lw_in wsX60 [594, 596, 598, 600, 602] (by decide +kernel) (by decide +kernel)
/-! MiddleSheet$Street -/
def RX7 : String := "MiddleSheet$Street"
def TX7 : u_T := fun k => match k with
  | 0 => ("MiddleSheet$Voter", "weight", "I", true)
  | 1 => ("MiddleSheet$Voter", "wide", "I", true)
  | 2 => ("MiddleSheet$Voter", "tall", "I", true)
  | 3 => ("MiddleSheet$Voter", "x", "I", false)
  | _ => ("MiddleSheet$Voter", "y", "I", false)
def tyX7 : Nat → FieldType := fun k => match k with
  | 0 => .int
  | 1 => .int
  | 2 => .int
  | 3 => .int
  | _ => .int
abbrev wsX70 : List Cond := u_ws RX7 TX7 5
theorem nmX7 : ∀ a, a < 5 → ∀ b, b < 5 → a ≠ b → (TX7 a).2.1 ≠ (TX7 b).2.1 := by decide +kernel
theorem tyX7_ok : ∀ k, k < 5 → parseFieldDescriptor (TX7 k).2.2.1 = some (tyX7 k) := by decide +kernel
abbrev cX7_init : ByteArray := prog_12_method_1_code
def yX7_init : MethodName := ⟨RX7, "<init>", "(IIIII)V"⟩
abbrev cX7_measure : ByteArray := prog_12_method_2_code
def yX7_measure : MethodName := ⟨RX7, "measure", "()I"⟩
abbrev cX7_joined : ByteArray := prog_12_method_3_code
def yX7_joined : MethodName := ⟨RX7, "joined", "(II)I"⟩
theorem q122 : (Jvm.Cond.initialized "MiddleSheet$Street") ∈ lw_all := lw_g (lw_at lw_m1 20 rfl) rfl
theorem q606 : (Jvm.Cond.instantiable "MiddleSheet$Street" (5 : Nat)) ∈ lw_all := lw_g (lw_at lw_m3 24 rfl) rfl
theorem q608 : (Jvm.Cond.instanceMethod ({ cls := "MiddleSheet$Street", name := "<init>", desc := "(IIIII)V" } : Jvm.MethodName)) ∈ lw_all := lw_g (lw_at lw_m3 26 rfl) rfl
theorem q609 : (Jvm.Cond.code ({ cls := "MiddleSheet$Street", name := "<init>", desc := "(IIIII)V" } : Jvm.MethodName) prog_12_method_1_code (6 : Nat) (Option.none : Option Jvm.ClassFile.FieldType)) ∈ lw_all := lw_g (lw_at lw_m3 27 rfl) rfl
theorem q610 : (Jvm.Cond.methodLink "MiddleSheet$Street" (1 : Nat) ({ cls := "MiddleSheet$Voter", name := "<init>", desc := "(IIIII)V" } : Jvm.MethodName)) ∈ lw_all := lw_g (lw_at lw_m3 28 rfl) rfl
theorem q611 : (Jvm.Cond.laysFinal "MiddleSheet$Street" "MiddleSheet$Voter" "weight" "I") ∈ lw_all := lw_g (lw_at lw_m3 29 rfl) rfl
theorem q612 : (Jvm.Cond.laysFinal "MiddleSheet$Street" "MiddleSheet$Voter" "wide" "I") ∈ lw_all := lw_g (lw_at lw_m3 30 rfl) rfl
theorem q613 : (Jvm.Cond.laysFinal "MiddleSheet$Street" "MiddleSheet$Voter" "tall" "I") ∈ lw_all := lw_g (lw_at lw_m3 31 rfl) rfl
theorem q614 : (Jvm.Cond.lays "MiddleSheet$Street" "MiddleSheet$Voter" "x" "I") ∈ lw_all := lw_g (lw_at lw_m3 32 rfl) rfl
theorem q615 : (Jvm.Cond.lays "MiddleSheet$Street" "MiddleSheet$Voter" "y" "I") ∈ lw_all := lw_g (lw_at lw_m3 33 rfl) rfl
theorem q616 : (Jvm.Cond.superclass "MiddleSheet$Street" "MiddleSheet$Voter") ∈ lw_all := lw_g (lw_at lw_m3 34 rfl) rfl
theorem q682 : (Jvm.Cond.selects "MiddleSheet$Street" ({ cls := "java/lang/Object", name := "getClass", desc := "()Ljava/lang/Class;" } : Jvm.MethodName) ({ cls := "java/lang/Object", name := "getClass", desc := "()Ljava/lang/Class;" } : Jvm.MethodName)) ∈ lw_all := lw_g (lw_at lw_m3 100 rfl) rfl
theorem q772 : (Jvm.Cond.selects "MiddleSheet$Street" ({ cls := "MiddleSheet$Voter", name := "measure", desc := "()I" } : Jvm.MethodName) ({ cls := "MiddleSheet$Street", name := "measure", desc := "()I" } : Jvm.MethodName)) ∈ lw_all := lw_g (lw_at lw_m3 190 rfl) rfl
theorem q773 : (Jvm.Cond.instanceMethod ({ cls := "MiddleSheet$Street", name := "measure", desc := "()I" } : Jvm.MethodName)) ∈ lw_all := lw_g (lw_at lw_m3 191 rfl) rfl
theorem q774 : (Jvm.Cond.code ({ cls := "MiddleSheet$Street", name := "measure", desc := "()I" } : Jvm.MethodName) prog_12_method_2_code (1 : Nat) (Option.some Jvm.ClassFile.FieldType.int)) ∈ lw_all := lw_g (lw_at lw_m3 192 rfl) rfl
theorem q802 : (Jvm.Cond.selects "MiddleSheet$Street" ({ cls := "MiddleSheet$Voter", name := "way", desc := "(II)I" } : Jvm.MethodName) ({ cls := "MiddleSheet$Voter", name := "way", desc := "(II)I" } : Jvm.MethodName)) ∈ lw_all := lw_g (lw_at lw_m3 220 rfl) rfl
theorem q810 : (Jvm.Cond.selects "MiddleSheet$Street" ({ cls := "MiddleSheet$Voter", name := "wayFrom", desc := "(IIII)I" } : Jvm.MethodName) ({ cls := "MiddleSheet$Voter", name := "wayFrom", desc := "(IIII)I" } : Jvm.MethodName)) ∈ lw_all := lw_g (lw_at lw_m3 228 rfl) rfl
theorem q828 : (Jvm.Cond.selects "MiddleSheet$Street" ({ cls := "MiddleSheet$Voter", name := "joined", desc := "(II)I" } : Jvm.MethodName) ({ cls := "MiddleSheet$Street", name := "joined", desc := "(II)I" } : Jvm.MethodName)) ∈ lw_all := lw_g (lw_at lw_m4 6 rfl) rfl
theorem q829 : (Jvm.Cond.instanceMethod ({ cls := "MiddleSheet$Street", name := "joined", desc := "(II)I" } : Jvm.MethodName)) ∈ lw_all := lw_g (lw_at lw_m4 7 rfl) rfl
theorem q830 : (Jvm.Cond.code ({ cls := "MiddleSheet$Street", name := "joined", desc := "(II)I" } : Jvm.MethodName) prog_12_method_3_code (3 : Nat) (Option.some Jvm.ClassFile.FieldType.int)) ∈ lw_all := lw_g (lw_at lw_m4 8 rfl) rfl
theorem q849 : (Jvm.Cond.selects "MiddleSheet$Street" ({ cls := "MiddleSheet$Voter", name := "rather", desc := "(IIII)I" } : Jvm.MethodName) ({ cls := "MiddleSheet$Voter", name := "rather", desc := "(IIII)I" } : Jvm.MethodName)) ∈ lw_all := lw_g (lw_at lw_m4 27 rfl) rfl
theorem q1133 : (Jvm.Cond.selects "MiddleSheet$Street" ({ cls := "MiddleSheet$Voter", name := "far", desc := "(II)I" } : Jvm.MethodName) ({ cls := "MiddleSheet$Voter", name := "far", desc := "(II)I" } : Jvm.MethodName)) ∈ lw_all := lw_g (lw_at lw_m5 71 rfl) rfl
theorem q1769 : (Jvm.Cond.castable "MiddleSheet$Street" "MiddleSheet$Voter") ∈ lw_tbl := lw_at lw_m7 227 rfl
theorem q1778 : (Jvm.Cond.castable "MiddleSheet$Street" "java/lang/Object") ∈ lw_tbl := lw_at lw_m7 236 rfl
theorem in_X7 : ∀ w ∈ wsX70, w ∈ lw_all := lw_in wsX70 [611, 612, 613, 614, 615] (by decide +kernel) (by decide +kernel)
/-! MiddleSheet$Greater -/
def RX8 : String := "MiddleSheet$Greater"
def TX8 : u_T := fun k => match k with
  | 0 => ("MiddleSheet$Voter", "weight", "I", true)
  | 1 => ("MiddleSheet$Voter", "wide", "I", true)
  | 2 => ("MiddleSheet$Voter", "tall", "I", true)
  | 3 => ("MiddleSheet$Voter", "x", "I", false)
  | _ => ("MiddleSheet$Voter", "y", "I", false)
def tyX8 : Nat → FieldType := fun k => match k with
  | 0 => .int
  | 1 => .int
  | 2 => .int
  | 3 => .int
  | _ => .int
abbrev wsX80 : List Cond := u_ws RX8 TX8 5
theorem nmX8 : ∀ a, a < 5 → ∀ b, b < 5 → a ≠ b → (TX8 a).2.1 ≠ (TX8 b).2.1 := by decide +kernel
theorem tyX8_ok : ∀ k, k < 5 → parseFieldDescriptor (TX8 k).2.2.1 = some (tyX8 k) := by decide +kernel
abbrev cX8_init : ByteArray := prog_5_method_1_code
def yX8_init : MethodName := ⟨RX8, "<init>", "(IIIII)V"⟩
abbrev cX8_measure : ByteArray := prog_5_method_2_code
def yX8_measure : MethodName := ⟨RX8, "measure", "()I"⟩
abbrev cX8_joined : ByteArray := prog_5_method_3_code
def yX8_joined : MethodName := ⟨RX8, "joined", "(II)I"⟩
theorem q123 : (Jvm.Cond.initialized "MiddleSheet$Greater") ∈ lw_all := lw_g (lw_at lw_m1 21 rfl) rfl
theorem q618 : (Jvm.Cond.instantiable "MiddleSheet$Greater" (5 : Nat)) ∈ lw_all := lw_g (lw_at lw_m3 36 rfl) rfl
theorem q620 : (Jvm.Cond.instanceMethod ({ cls := "MiddleSheet$Greater", name := "<init>", desc := "(IIIII)V" } : Jvm.MethodName)) ∈ lw_all := lw_g (lw_at lw_m3 38 rfl) rfl
theorem q621 : (Jvm.Cond.code ({ cls := "MiddleSheet$Greater", name := "<init>", desc := "(IIIII)V" } : Jvm.MethodName) prog_5_method_1_code (6 : Nat) (Option.none : Option Jvm.ClassFile.FieldType)) ∈ lw_all := lw_g (lw_at lw_m3 39 rfl) rfl
theorem q622 : (Jvm.Cond.methodLink "MiddleSheet$Greater" (1 : Nat) ({ cls := "MiddleSheet$Street", name := "<init>", desc := "(IIIII)V" } : Jvm.MethodName)) ∈ lw_all := lw_g (lw_at lw_m3 40 rfl) rfl
theorem q623 : (Jvm.Cond.laysFinal "MiddleSheet$Greater" "MiddleSheet$Voter" "weight" "I") ∈ lw_all := lw_g (lw_at lw_m3 41 rfl) rfl
theorem q624 : (Jvm.Cond.laysFinal "MiddleSheet$Greater" "MiddleSheet$Voter" "wide" "I") ∈ lw_all := lw_g (lw_at lw_m3 42 rfl) rfl
theorem q625 : (Jvm.Cond.laysFinal "MiddleSheet$Greater" "MiddleSheet$Voter" "tall" "I") ∈ lw_all := lw_g (lw_at lw_m3 43 rfl) rfl
theorem q626 : (Jvm.Cond.lays "MiddleSheet$Greater" "MiddleSheet$Voter" "x" "I") ∈ lw_all := lw_g (lw_at lw_m3 44 rfl) rfl
theorem q627 : (Jvm.Cond.lays "MiddleSheet$Greater" "MiddleSheet$Voter" "y" "I") ∈ lw_all := lw_g (lw_at lw_m3 45 rfl) rfl
theorem q628 : (Jvm.Cond.superclass "MiddleSheet$Greater" "MiddleSheet$Street") ∈ lw_all := lw_g (lw_at lw_m3 46 rfl) rfl
theorem q675 : (Jvm.Cond.selects "MiddleSheet$Greater" ({ cls := "java/lang/Object", name := "getClass", desc := "()Ljava/lang/Class;" } : Jvm.MethodName) ({ cls := "java/lang/Object", name := "getClass", desc := "()Ljava/lang/Class;" } : Jvm.MethodName)) ∈ lw_all := lw_g (lw_at lw_m3 93 rfl) rfl
theorem q766 : (Jvm.Cond.selects "MiddleSheet$Greater" ({ cls := "MiddleSheet$Voter", name := "measure", desc := "()I" } : Jvm.MethodName) ({ cls := "MiddleSheet$Greater", name := "measure", desc := "()I" } : Jvm.MethodName)) ∈ lw_all := lw_g (lw_at lw_m3 184 rfl) rfl
theorem q767 : (Jvm.Cond.instanceMethod ({ cls := "MiddleSheet$Greater", name := "measure", desc := "()I" } : Jvm.MethodName)) ∈ lw_all := lw_g (lw_at lw_m3 185 rfl) rfl
theorem q768 : (Jvm.Cond.code ({ cls := "MiddleSheet$Greater", name := "measure", desc := "()I" } : Jvm.MethodName) prog_5_method_2_code (1 : Nat) (Option.some Jvm.ClassFile.FieldType.int)) ∈ lw_all := lw_g (lw_at lw_m3 186 rfl) rfl
theorem q800 : (Jvm.Cond.selects "MiddleSheet$Greater" ({ cls := "MiddleSheet$Voter", name := "way", desc := "(II)I" } : Jvm.MethodName) ({ cls := "MiddleSheet$Voter", name := "way", desc := "(II)I" } : Jvm.MethodName)) ∈ lw_all := lw_g (lw_at lw_m3 218 rfl) rfl
theorem q808 : (Jvm.Cond.selects "MiddleSheet$Greater" ({ cls := "MiddleSheet$Voter", name := "wayFrom", desc := "(IIII)I" } : Jvm.MethodName) ({ cls := "MiddleSheet$Voter", name := "wayFrom", desc := "(IIII)I" } : Jvm.MethodName)) ∈ lw_all := lw_g (lw_at lw_m3 226 rfl) rfl
theorem q821 : (Jvm.Cond.selects "MiddleSheet$Greater" ({ cls := "MiddleSheet$Voter", name := "joined", desc := "(II)I" } : Jvm.MethodName) ({ cls := "MiddleSheet$Greater", name := "joined", desc := "(II)I" } : Jvm.MethodName)) ∈ lw_all := lw_g (lw_at lw_m3 239 rfl) rfl
theorem q822 : (Jvm.Cond.instanceMethod ({ cls := "MiddleSheet$Greater", name := "joined", desc := "(II)I" } : Jvm.MethodName)) ∈ lw_all := lw_g (lw_at lw_m4 0 rfl) rfl
theorem q823 : (Jvm.Cond.code ({ cls := "MiddleSheet$Greater", name := "joined", desc := "(II)I" } : Jvm.MethodName) prog_5_method_3_code (3 : Nat) (Option.some Jvm.ClassFile.FieldType.int)) ∈ lw_all := lw_g (lw_at lw_m4 1 rfl) rfl
theorem q824 : (Jvm.Cond.methodLink "MiddleSheet$Greater" (7 : Nat) ({ cls := "java/lang/Math", name := "max", desc := "(II)I" } : Jvm.MethodName)) ∈ lw_all := lw_g (lw_at lw_m4 2 rfl) rfl
theorem q847 : (Jvm.Cond.selects "MiddleSheet$Greater" ({ cls := "MiddleSheet$Voter", name := "rather", desc := "(IIII)I" } : Jvm.MethodName) ({ cls := "MiddleSheet$Voter", name := "rather", desc := "(IIII)I" } : Jvm.MethodName)) ∈ lw_all := lw_g (lw_at lw_m4 25 rfl) rfl
theorem q1131 : (Jvm.Cond.selects "MiddleSheet$Greater" ({ cls := "MiddleSheet$Voter", name := "far", desc := "(II)I" } : Jvm.MethodName) ({ cls := "MiddleSheet$Voter", name := "far", desc := "(II)I" } : Jvm.MethodName)) ∈ lw_all := lw_g (lw_at lw_m5 69 rfl) rfl
theorem q1767 : (Jvm.Cond.castable "MiddleSheet$Greater" "MiddleSheet$Voter") ∈ lw_tbl := lw_at lw_m7 225 rfl
theorem q1779 : (Jvm.Cond.castable "MiddleSheet$Greater" "java/lang/Object") ∈ lw_tbl := lw_at lw_m7 237 rfl
theorem in_X8 : ∀ w ∈ wsX80, w ∈ lw_all := lw_in wsX80 [623, 624, 625, 626, 627] (by decide +kernel) (by decide +kernel)
/-! MiddleSheet$OneWay -/
def RX9 : String := "MiddleSheet$OneWay"
def TX9 : u_T := fun k => match k with
  | 0 => ("MiddleSheet$Voter", "weight", "I", true)
  | 1 => ("MiddleSheet$Voter", "wide", "I", true)
  | 2 => ("MiddleSheet$Voter", "tall", "I", true)
  | 3 => ("MiddleSheet$Voter", "x", "I", false)
  | _ => ("MiddleSheet$Voter", "y", "I", false)
def tyX9 : Nat → FieldType := fun k => match k with
  | 0 => .int
  | 1 => .int
  | 2 => .int
  | 3 => .int
  | _ => .int
abbrev wsX90 : List Cond := u_ws RX9 TX9 5
theorem nmX9 : ∀ a, a < 5 → ∀ b, b < 5 → a ≠ b → (TX9 a).2.1 ≠ (TX9 b).2.1 := by decide +kernel
theorem tyX9_ok : ∀ k, k < 5 → parseFieldDescriptor (TX9 k).2.2.1 = some (tyX9 k) := by decide +kernel
abbrev cX9_init : ByteArray := prog_8_method_1_code
def yX9_init : MethodName := ⟨RX9, "<init>", "(IIIII)V"⟩
abbrev cX9_measure : ByteArray := prog_8_method_2_code
def yX9_measure : MethodName := ⟨RX9, "measure", "()I"⟩
abbrev cX9_joined : ByteArray := prog_8_method_3_code
def yX9_joined : MethodName := ⟨RX9, "joined", "(II)I"⟩
theorem q124 : (Jvm.Cond.initialized "MiddleSheet$OneWay") ∈ lw_all := lw_g (lw_at lw_m1 22 rfl) rfl
theorem q630 : (Jvm.Cond.instantiable "MiddleSheet$OneWay" (5 : Nat)) ∈ lw_all := lw_g (lw_at lw_m3 48 rfl) rfl
theorem q632 : (Jvm.Cond.instanceMethod ({ cls := "MiddleSheet$OneWay", name := "<init>", desc := "(IIIII)V" } : Jvm.MethodName)) ∈ lw_all := lw_g (lw_at lw_m3 50 rfl) rfl
theorem q633 : (Jvm.Cond.code ({ cls := "MiddleSheet$OneWay", name := "<init>", desc := "(IIIII)V" } : Jvm.MethodName) prog_8_method_1_code (6 : Nat) (Option.none : Option Jvm.ClassFile.FieldType)) ∈ lw_all := lw_g (lw_at lw_m3 51 rfl) rfl
theorem q634 : (Jvm.Cond.methodLink "MiddleSheet$OneWay" (1 : Nat) ({ cls := "MiddleSheet$Street", name := "<init>", desc := "(IIIII)V" } : Jvm.MethodName)) ∈ lw_all := lw_g (lw_at lw_m3 52 rfl) rfl
theorem q635 : (Jvm.Cond.laysFinal "MiddleSheet$OneWay" "MiddleSheet$Voter" "weight" "I") ∈ lw_all := lw_g (lw_at lw_m3 53 rfl) rfl
theorem q636 : (Jvm.Cond.laysFinal "MiddleSheet$OneWay" "MiddleSheet$Voter" "wide" "I") ∈ lw_all := lw_g (lw_at lw_m3 54 rfl) rfl
theorem q637 : (Jvm.Cond.laysFinal "MiddleSheet$OneWay" "MiddleSheet$Voter" "tall" "I") ∈ lw_all := lw_g (lw_at lw_m3 55 rfl) rfl
theorem q638 : (Jvm.Cond.lays "MiddleSheet$OneWay" "MiddleSheet$Voter" "x" "I") ∈ lw_all := lw_g (lw_at lw_m3 56 rfl) rfl
theorem q639 : (Jvm.Cond.lays "MiddleSheet$OneWay" "MiddleSheet$Voter" "y" "I") ∈ lw_all := lw_g (lw_at lw_m3 57 rfl) rfl
theorem q640 : (Jvm.Cond.superclass "MiddleSheet$OneWay" "MiddleSheet$Street") ∈ lw_all := lw_g (lw_at lw_m3 58 rfl) rfl
theorem q678 : (Jvm.Cond.selects "MiddleSheet$OneWay" ({ cls := "java/lang/Object", name := "getClass", desc := "()Ljava/lang/Class;" } : Jvm.MethodName) ({ cls := "java/lang/Object", name := "getClass", desc := "()Ljava/lang/Class;" } : Jvm.MethodName)) ∈ lw_all := lw_g (lw_at lw_m3 96 rfl) rfl
theorem q769 : (Jvm.Cond.selects "MiddleSheet$OneWay" ({ cls := "MiddleSheet$Voter", name := "measure", desc := "()I" } : Jvm.MethodName) ({ cls := "MiddleSheet$OneWay", name := "measure", desc := "()I" } : Jvm.MethodName)) ∈ lw_all := lw_g (lw_at lw_m3 187 rfl) rfl
theorem q770 : (Jvm.Cond.instanceMethod ({ cls := "MiddleSheet$OneWay", name := "measure", desc := "()I" } : Jvm.MethodName)) ∈ lw_all := lw_g (lw_at lw_m3 188 rfl) rfl
theorem q771 : (Jvm.Cond.code ({ cls := "MiddleSheet$OneWay", name := "measure", desc := "()I" } : Jvm.MethodName) prog_8_method_2_code (1 : Nat) (Option.some Jvm.ClassFile.FieldType.int)) ∈ lw_all := lw_g (lw_at lw_m3 189 rfl) rfl
theorem q801 : (Jvm.Cond.selects "MiddleSheet$OneWay" ({ cls := "MiddleSheet$Voter", name := "way", desc := "(II)I" } : Jvm.MethodName) ({ cls := "MiddleSheet$Voter", name := "way", desc := "(II)I" } : Jvm.MethodName)) ∈ lw_all := lw_g (lw_at lw_m3 219 rfl) rfl
theorem q809 : (Jvm.Cond.selects "MiddleSheet$OneWay" ({ cls := "MiddleSheet$Voter", name := "wayFrom", desc := "(IIII)I" } : Jvm.MethodName) ({ cls := "MiddleSheet$Voter", name := "wayFrom", desc := "(IIII)I" } : Jvm.MethodName)) ∈ lw_all := lw_g (lw_at lw_m3 227 rfl) rfl
theorem q825 : (Jvm.Cond.selects "MiddleSheet$OneWay" ({ cls := "MiddleSheet$Voter", name := "joined", desc := "(II)I" } : Jvm.MethodName) ({ cls := "MiddleSheet$OneWay", name := "joined", desc := "(II)I" } : Jvm.MethodName)) ∈ lw_all := lw_g (lw_at lw_m4 3 rfl) rfl
theorem q826 : (Jvm.Cond.instanceMethod ({ cls := "MiddleSheet$OneWay", name := "joined", desc := "(II)I" } : Jvm.MethodName)) ∈ lw_all := lw_g (lw_at lw_m4 4 rfl) rfl
theorem q827 : (Jvm.Cond.code ({ cls := "MiddleSheet$OneWay", name := "joined", desc := "(II)I" } : Jvm.MethodName) prog_8_method_3_code (3 : Nat) (Option.some Jvm.ClassFile.FieldType.int)) ∈ lw_all := lw_g (lw_at lw_m4 5 rfl) rfl
theorem q848 : (Jvm.Cond.selects "MiddleSheet$OneWay" ({ cls := "MiddleSheet$Voter", name := "rather", desc := "(IIII)I" } : Jvm.MethodName) ({ cls := "MiddleSheet$Voter", name := "rather", desc := "(IIII)I" } : Jvm.MethodName)) ∈ lw_all := lw_g (lw_at lw_m4 26 rfl) rfl
theorem q1132 : (Jvm.Cond.selects "MiddleSheet$OneWay" ({ cls := "MiddleSheet$Voter", name := "far", desc := "(II)I" } : Jvm.MethodName) ({ cls := "MiddleSheet$Voter", name := "far", desc := "(II)I" } : Jvm.MethodName)) ∈ lw_all := lw_g (lw_at lw_m5 70 rfl) rfl
theorem q1768 : (Jvm.Cond.castable "MiddleSheet$OneWay" "MiddleSheet$Voter") ∈ lw_tbl := lw_at lw_m7 226 rfl
theorem q1780 : (Jvm.Cond.castable "MiddleSheet$OneWay" "java/lang/Object") ∈ lw_tbl := lw_at lw_m7 238 rfl
theorem in_X9 : ∀ w ∈ wsX90, w ∈ lw_all := lw_in wsX90 [635, 636, 637, 638, 639] (by decide +kernel) (by decide +kernel)
theorem q102 : (Jvm.Cond.initialized "MiddleSheetLaw") ∈ lw_all := lw_g (lw_at lw_m1 0 rfl) rfl
theorem q135 : (Jvm.Cond.classLink "MiddleSheetLaw" (7 : Nat) "MiddleSheet") ∈ lw_all := lw_g (lw_at lw_m1 33 rfl) rfl
theorem q137 : (Jvm.Cond.methodLink "MiddleSheetLaw" (9 : Nat) ({ cls := "MiddleSheet", name := "<init>", desc := "()V" } : Jvm.MethodName)) ∈ lw_all := lw_g (lw_at lw_m1 35 rfl) rfl
theorem q323 : (Jvm.Cond.methodLink "MiddleSheetLaw" (13 : Nat) ({ cls := "MiddleSheet", name := "feed", desc := "(IIIII)I" } : Jvm.MethodName)) ∈ lw_all := lw_g (lw_at lw_m1 221 rfl) rfl
theorem q331 : (Jvm.Cond.methodLink "MiddleSheetLaw" (18 : Nat) ({ cls := "MiddleSheet", name := "end", desc := "(I)Z" } : Jvm.MethodName)) ∈ lw_all := lw_g (lw_at lw_m1 229 rfl) rfl
theorem q338 : (Jvm.Cond.methodLink "MiddleSheetLaw" (23 : Nat) ({ cls := "MiddleSheet", name := "fault", desc := "()I" } : Jvm.MethodName)) ∈ lw_all := lw_g (lw_at lw_m1 236 rfl) rfl
theorem q726 : (Jvm.Cond.methodLink "MiddleSheetLaw" (28 : Nat) ({ cls := "MiddleSheet", name := "sheet", desc := "()I" } : Jvm.MethodName)) ∈ lw_all := lw_g (lw_at lw_m3 144 rfl) rfl
theorem q752 : (Jvm.Cond.methodLink "MiddleSheetLaw" (32 : Nat) ({ cls := "MiddleSheet", name := "voter", desc := "(II)I" } : Jvm.MethodName)) ∈ lw_all := lw_g (lw_at lw_m3 170 rfl) rfl
theorem q775 : (Jvm.Cond.methodLink "MiddleSheetLaw" (37 : Nat) ({ cls := "MiddleSheet", name := "place", desc := "(II)I" } : Jvm.MethodName)) ∈ lw_all := lw_g (lw_at lw_m3 193 rfl) rfl
theorem q783 : (Jvm.Cond.methodLink "MiddleSheetLaw" (41 : Nat) ({ cls := "MiddleSheet", name := "propose", desc := "(II)I" } : Jvm.MethodName)) ∈ lw_all := lw_g (lw_at lw_m3 201 rfl) rfl
theorem q792 : (Jvm.Cond.methodLink "MiddleSheetLaw" (45 : Nat) ({ cls := "MiddleSheet", name := "way", desc := "(III)I" } : Jvm.MethodName)) ∈ lw_all := lw_g (lw_at lw_m3 210 rfl) rfl
theorem q831 : (Jvm.Cond.methodLink "MiddleSheetLaw" (50 : Nat) ({ cls := "MiddleSheet", name := "votes", desc := "(II)I" } : Jvm.MethodName)) ∈ lw_all := lw_g (lw_at lw_m4 9 rfl) rfl
theorem q855 : (Jvm.Cond.methodLink "MiddleSheetLaw" (54 : Nat) ({ cls := "MiddleSheet", name := "beats", desc := "(II)Z" } : Jvm.MethodName)) ∈ lw_all := lw_g (lw_at lw_m4 33 rfl) rfl
theorem q871 : (Jvm.Cond.methodLink "MiddleSheetLaw" (59 : Nat) ({ cls := "MiddleSheet", name := "wins", desc := "(II)Z" } : Jvm.MethodName)) ∈ lw_all := lw_g (lw_at lw_m4 49 rfl) rfl
theorem q875 : (Jvm.Cond.methodLink "MiddleSheetLaw" (63 : Nat) ({ cls := "MiddleSheet", name := "line", desc := "(II)I" } : Jvm.MethodName)) ∈ lw_all := lw_g (lw_at lw_m4 53 rfl) rfl
theorem q940 : (Jvm.Cond.methodLink "MiddleSheetLaw" (67 : Nat) ({ cls := "MiddleSheet", name := "middle", desc := "(II)I" } : Jvm.MethodName)) ∈ lw_all := lw_g (lw_at lw_m4 118 rfl) rfl
theorem q1002 : (Jvm.Cond.methodLink "MiddleSheetLaw" (71 : Nat) ({ cls := "MiddleSheet", name := "proof", desc := "(I)I" } : Jvm.MethodName)) ∈ lw_all := lw_g (lw_at lw_m4 180 rfl) rfl
theorem q1006 : (Jvm.Cond.methodLink "MiddleSheetLaw" (76 : Nat) ({ cls := "MiddleSheet", name := "round", desc := "(I)I" } : Jvm.MethodName)) ∈ lw_all := lw_g (lw_at lw_m4 184 rfl) rfl
theorem q1016 : (Jvm.Cond.methodLink "MiddleSheetLaw" (80 : Nat) ({ cls := "MiddleSheet", name := "winSet", desc := "(III)I" } : Jvm.MethodName)) ∈ lw_all := lw_g (lw_at lw_m4 194 rfl) rfl
theorem q1032 : (Jvm.Cond.methodLink "MiddleSheetLaw" (84 : Nat) ({ cls := "MiddleSheet", name := "piece", desc := "(IIII)I" } : Jvm.MethodName)) ∈ lw_all := lw_g (lw_at lw_m4 210 rfl) rfl
theorem q1036 : (Jvm.Cond.methodLink "MiddleSheetLaw" (89 : Nat) ({ cls := "MiddleSheet", name := "led", desc := "(III)I" } : Jvm.MethodName)) ∈ lw_all := lw_g (lw_at lw_m4 214 rfl) rfl
theorem q1044 : (Jvm.Cond.methodLink "MiddleSheetLaw" (93 : Nat) ({ cls := "MiddleSheet", name := "best", desc := "(I)I" } : Jvm.MethodName)) ∈ lw_all := lw_g (lw_at lw_m4 222 rfl) rfl
theorem q1060 : (Jvm.Cond.methodLink "MiddleSheetLaw" (97 : Nat) ({ cls := "MiddleSheet", name := "between", desc := "(II)I" } : Jvm.MethodName)) ∈ lw_all := lw_g (lw_at lw_m4 238 rfl) rfl
theorem q1064 : (Jvm.Cond.methodLink "MiddleSheetLaw" (101 : Nat) ({ cls := "MiddleSheet", name := "rest", desc := "()I" } : Jvm.MethodName)) ∈ lw_all := lw_g (lw_at lw_m5 2 rfl) rfl
theorem q1073 : (Jvm.Cond.methodLink "MiddleSheetLaw" (105 : Nat) ({ cls := "MiddleSheet", name := "lot", desc := "(I)I" } : Jvm.MethodName)) ∈ lw_all := lw_g (lw_at lw_m5 11 rfl) rfl
theorem q1103 : (Jvm.Cond.methodLink "MiddleSheetLaw" (109 : Nat) ({ cls := "MiddleSheet", name := "need", desc := "(I)I" } : Jvm.MethodName)) ∈ lw_all := lw_g (lw_at lw_m5 41 rfl) rfl
theorem q1111 : (Jvm.Cond.methodLink "MiddleSheetLaw" (113 : Nat) ({ cls := "MiddleSheet", name := "most", desc := "(II)I" } : Jvm.MethodName)) ∈ lw_all := lw_g (lw_at lw_m5 49 rfl) rfl
theorem q1115 : (Jvm.Cond.methodLink "MiddleSheetLaw" (117 : Nat) ({ cls := "MiddleSheet", name := "peace", desc := "()I" } : Jvm.MethodName)) ∈ lw_all := lw_g (lw_at lw_m5 53 rfl) rfl
theorem q1123 : (Jvm.Cond.methodLink "MiddleSheetLaw" (121 : Nat) ({ cls := "MiddleSheet", name := "make", desc := "(I)I" } : Jvm.MethodName)) ∈ lw_all := lw_g (lw_at lw_m5 61 rfl) rfl
theorem q1136 : (Jvm.Cond.methodLink "MiddleSheetLaw" (125 : Nat) ({ cls := "MiddleSheet", name := "join", desc := "(I)I" } : Jvm.MethodName)) ∈ lw_all := lw_g (lw_at lw_m5 74 rfl) rfl
theorem q1140 : (Jvm.Cond.methodLink "MiddleSheetLaw" (129 : Nat) ({ cls := "MiddleSheet", name := "doubt", desc := "(II)I" } : Jvm.MethodName)) ∈ lw_all := lw_g (lw_at lw_m5 78 rfl) rfl
theorem q1149 : (Jvm.Cond.methodLink "MiddleSheetLaw" (133 : Nat) ({ cls := "MiddleSheet", name := "move", desc := "(III)I" } : Jvm.MethodName)) ∈ lw_all := lw_g (lw_at lw_m5 87 rfl) rfl
theorem q1202 : (Jvm.Cond.methodLink "MiddleSheetLaw" (137 : Nat) ({ cls := "MiddleSheet", name := "undo", desc := "()I" } : Jvm.MethodName)) ∈ lw_all := lw_g (lw_at lw_m5 140 rfl) rfl
theorem q1214 : (Jvm.Cond.methodLink "MiddleSheetLaw" (141 : Nat) ({ cls := "MiddleSheet", name := "moved", desc := "(II)I" } : Jvm.MethodName)) ∈ lw_all := lw_g (lw_at lw_m5 152 rfl) rfl
theorem q1218 : (Jvm.Cond.methodLink "MiddleSheetLaw" (145 : Nat) ({ cls := "MiddleSheet", name := "count", desc := "(I)I" } : Jvm.MethodName)) ∈ lw_all := lw_g (lw_at lw_m5 156 rfl) rfl
theorem q1222 : (Jvm.Cond.classLink "MiddleSheetLaw" (10 : Nat) "MiddleSheetModel") ∈ lw_all := lw_g (lw_at lw_m5 160 rfl) rfl
theorem q1224 : (Jvm.Cond.methodLink "MiddleSheetLaw" (12 : Nat) ({ cls := "MiddleSheetModel", name := "<init>", desc := "()V" } : Jvm.MethodName)) ∈ lw_all := lw_g (lw_at lw_m5 162 rfl) rfl
theorem q1385 : (Jvm.Cond.methodLink "MiddleSheetLaw" (17 : Nat) ({ cls := "MiddleSheetModel", name := "feed", desc := "(IIIII)I" } : Jvm.MethodName)) ∈ lw_all := lw_g (lw_at lw_m6 83 rfl) rfl
theorem q1393 : (Jvm.Cond.methodLink "MiddleSheetLaw" (22 : Nat) ({ cls := "MiddleSheetModel", name := "end", desc := "(I)Z" } : Jvm.MethodName)) ∈ lw_all := lw_g (lw_at lw_m6 91 rfl) rfl
theorem q1400 : (Jvm.Cond.methodLink "MiddleSheetLaw" (27 : Nat) ({ cls := "MiddleSheetModel", name := "fault", desc := "()I" } : Jvm.MethodName)) ∈ lw_all := lw_g (lw_at lw_m6 98 rfl) rfl
theorem q1471 : (Jvm.Cond.methodLink "MiddleSheetLaw" (31 : Nat) ({ cls := "MiddleSheetModel", name := "sheet", desc := "()I" } : Jvm.MethodName)) ∈ lw_all := lw_g (lw_at lw_m6 169 rfl) rfl
theorem q1479 : (Jvm.Cond.methodLink "MiddleSheetLaw" (36 : Nat) ({ cls := "MiddleSheetModel", name := "voter", desc := "(II)I" } : Jvm.MethodName)) ∈ lw_all := lw_g (lw_at lw_m6 177 rfl) rfl
theorem q1487 : (Jvm.Cond.methodLink "MiddleSheetLaw" (40 : Nat) ({ cls := "MiddleSheetModel", name := "place", desc := "(II)I" } : Jvm.MethodName)) ∈ lw_all := lw_g (lw_at lw_m6 185 rfl) rfl
theorem q1499 : (Jvm.Cond.methodLink "MiddleSheetLaw" (44 : Nat) ({ cls := "MiddleSheetModel", name := "propose", desc := "(II)I" } : Jvm.MethodName)) ∈ lw_all := lw_g (lw_at lw_m6 197 rfl) rfl
theorem q1507 : (Jvm.Cond.methodLink "MiddleSheetLaw" (49 : Nat) ({ cls := "MiddleSheetModel", name := "way", desc := "(III)I" } : Jvm.MethodName)) ∈ lw_all := lw_g (lw_at lw_m6 205 rfl) rfl
theorem q1520 : (Jvm.Cond.methodLink "MiddleSheetLaw" (53 : Nat) ({ cls := "MiddleSheetModel", name := "votes", desc := "(II)I" } : Jvm.MethodName)) ∈ lw_all := lw_g (lw_at lw_m6 218 rfl) rfl
theorem q1532 : (Jvm.Cond.methodLink "MiddleSheetLaw" (58 : Nat) ({ cls := "MiddleSheetModel", name := "beats", desc := "(II)Z" } : Jvm.MethodName)) ∈ lw_all := lw_g (lw_at lw_m6 230 rfl) rfl
theorem q1552 : (Jvm.Cond.methodLink "MiddleSheetLaw" (62 : Nat) ({ cls := "MiddleSheetModel", name := "wins", desc := "(II)Z" } : Jvm.MethodName)) ∈ lw_all := lw_g (lw_at lw_m7 10 rfl) rfl
theorem q1557 : (Jvm.Cond.methodLink "MiddleSheetLaw" (66 : Nat) ({ cls := "MiddleSheetModel", name := "line", desc := "(II)I" } : Jvm.MethodName)) ∈ lw_all := lw_g (lw_at lw_m7 15 rfl) rfl
theorem q1601 : (Jvm.Cond.methodLink "MiddleSheetLaw" (70 : Nat) ({ cls := "MiddleSheetModel", name := "middle", desc := "(II)I" } : Jvm.MethodName)) ∈ lw_all := lw_g (lw_at lw_m7 59 rfl) rfl
theorem q1605 : (Jvm.Cond.methodLink "MiddleSheetLaw" (75 : Nat) ({ cls := "MiddleSheetModel", name := "proof", desc := "(I)I" } : Jvm.MethodName)) ∈ lw_all := lw_g (lw_at lw_m7 63 rfl) rfl
theorem q1614 : (Jvm.Cond.methodLink "MiddleSheetLaw" (79 : Nat) ({ cls := "MiddleSheetModel", name := "round", desc := "(I)I" } : Jvm.MethodName)) ∈ lw_all := lw_g (lw_at lw_m7 72 rfl) rfl
theorem q1623 : (Jvm.Cond.methodLink "MiddleSheetLaw" (83 : Nat) ({ cls := "MiddleSheetModel", name := "winSet", desc := "(III)I" } : Jvm.MethodName)) ∈ lw_all := lw_g (lw_at lw_m7 81 rfl) rfl
theorem q1635 : (Jvm.Cond.methodLink "MiddleSheetLaw" (88 : Nat) ({ cls := "MiddleSheetModel", name := "piece", desc := "(IIII)I" } : Jvm.MethodName)) ∈ lw_all := lw_g (lw_at lw_m7 93 rfl) rfl
theorem q1639 : (Jvm.Cond.methodLink "MiddleSheetLaw" (92 : Nat) ({ cls := "MiddleSheetModel", name := "led", desc := "(III)I" } : Jvm.MethodName)) ∈ lw_all := lw_g (lw_at lw_m7 97 rfl) rfl
theorem q1647 : (Jvm.Cond.methodLink "MiddleSheetLaw" (96 : Nat) ({ cls := "MiddleSheetModel", name := "best", desc := "(I)I" } : Jvm.MethodName)) ∈ lw_all := lw_g (lw_at lw_m7 105 rfl) rfl
theorem q1663 : (Jvm.Cond.methodLink "MiddleSheetLaw" (100 : Nat) ({ cls := "MiddleSheetModel", name := "between", desc := "(II)I" } : Jvm.MethodName)) ∈ lw_all := lw_g (lw_at lw_m7 121 rfl) rfl
theorem q1667 : (Jvm.Cond.methodLink "MiddleSheetLaw" (104 : Nat) ({ cls := "MiddleSheetModel", name := "rest", desc := "()I" } : Jvm.MethodName)) ∈ lw_all := lw_g (lw_at lw_m7 125 rfl) rfl
theorem q1679 : (Jvm.Cond.methodLink "MiddleSheetLaw" (108 : Nat) ({ cls := "MiddleSheetModel", name := "lot", desc := "(I)I" } : Jvm.MethodName)) ∈ lw_all := lw_g (lw_at lw_m7 137 rfl) rfl
theorem q1698 : (Jvm.Cond.methodLink "MiddleSheetLaw" (112 : Nat) ({ cls := "MiddleSheetModel", name := "need", desc := "(I)I" } : Jvm.MethodName)) ∈ lw_all := lw_g (lw_at lw_m7 156 rfl) rfl
theorem q1706 : (Jvm.Cond.methodLink "MiddleSheetLaw" (116 : Nat) ({ cls := "MiddleSheetModel", name := "most", desc := "(II)I" } : Jvm.MethodName)) ∈ lw_all := lw_g (lw_at lw_m7 164 rfl) rfl
theorem q1710 : (Jvm.Cond.methodLink "MiddleSheetLaw" (120 : Nat) ({ cls := "MiddleSheetModel", name := "peace", desc := "()I" } : Jvm.MethodName)) ∈ lw_all := lw_g (lw_at lw_m7 168 rfl) rfl
theorem q1718 : (Jvm.Cond.methodLink "MiddleSheetLaw" (124 : Nat) ({ cls := "MiddleSheetModel", name := "make", desc := "(I)I" } : Jvm.MethodName)) ∈ lw_all := lw_g (lw_at lw_m7 176 rfl) rfl
theorem q1723 : (Jvm.Cond.methodLink "MiddleSheetLaw" (128 : Nat) ({ cls := "MiddleSheetModel", name := "join", desc := "(I)I" } : Jvm.MethodName)) ∈ lw_all := lw_g (lw_at lw_m7 181 rfl) rfl
theorem q1731 : (Jvm.Cond.methodLink "MiddleSheetLaw" (132 : Nat) ({ cls := "MiddleSheetModel", name := "doubt", desc := "(II)I" } : Jvm.MethodName)) ∈ lw_all := lw_g (lw_at lw_m7 189 rfl) rfl
theorem q1744 : (Jvm.Cond.methodLink "MiddleSheetLaw" (136 : Nat) ({ cls := "MiddleSheetModel", name := "move", desc := "(III)I" } : Jvm.MethodName)) ∈ lw_all := lw_g (lw_at lw_m7 202 rfl) rfl
theorem q1752 : (Jvm.Cond.methodLink "MiddleSheetLaw" (140 : Nat) ({ cls := "MiddleSheetModel", name := "undo", desc := "()I" } : Jvm.MethodName)) ∈ lw_all := lw_g (lw_at lw_m7 210 rfl) rfl
theorem q1756 : (Jvm.Cond.methodLink "MiddleSheetLaw" (144 : Nat) ({ cls := "MiddleSheetModel", name := "moved", desc := "(II)I" } : Jvm.MethodName)) ∈ lw_all := lw_g (lw_at lw_m7 214 rfl) rfl
theorem q1761 : (Jvm.Cond.methodLink "MiddleSheetLaw" (148 : Nat) ({ cls := "MiddleSheetModel", name := "count", desc := "(I)I" } : Jvm.MethodName)) ∈ lw_all := lw_g (lw_at lw_m7 219 rfl) rfl
theorem q1789 : (Jvm.Cond.castable "[B" "java/lang/Object") ∈ lw_tbl := lw_at lw_m8 7 rfl
theorem q1791 : (Jvm.Cond.castable "[I" "java/lang/Object") ∈ lw_tbl := lw_at lw_m8 9 rfl
theorem q1792 : (Jvm.Cond.castable "[J" "java/lang/Object") ∈ lw_tbl := lw_at lw_m8 10 rfl
theorem q1786 : (Jvm.Cond.sameMethod "[Ljava/lang/Object;" "java/lang/Object" "getClass" "()Ljava/lang/Class;") ∈ lw_all := lw_g (lw_at lw_m8 4 rfl) rfl
theorem q1787 : (Jvm.Cond.selects "[Ljava/lang/Object;" ({ cls := "java/lang/Object", name := "getClass", desc := "()Ljava/lang/Class;" } : Jvm.MethodName) ({ cls := "java/lang/Object", name := "getClass", desc := "()Ljava/lang/Class;" } : Jvm.MethodName)) ∈ lw_all := lw_g (lw_at lw_m8 5 rfl) rfl
theorem q1793 : (Jvm.Cond.castable "[Ljava/lang/Object;" "java/lang/Object") ∈ lw_tbl := lw_at lw_m8 11 rfl
theorem q1794 : (Jvm.Cond.castable "[Ljava/lang/String;" "java/lang/Object") ∈ lw_tbl := lw_at lw_m8 12 rfl
theorem q1790 : (Jvm.Cond.castable "[[I" "java/lang/Object") ∈ lw_tbl := lw_at lw_m8 8 rfl
theorem q1795 : (Jvm.Cond.castable "[[J" "java/lang/Object") ∈ lw_tbl := lw_at lw_m8 13 rfl
theorem q127 : (Jvm.Cond.initialized "java/lang/System") ∈ lw_all := lw_g (lw_at lw_m1 25 rfl) rfl
theorem q694 : (Jvm.Cond.static ({ cls := "java/lang/System", name := "arraycopy", desc := "(Ljava/lang/Object;ILjava/lang/Object;II)V" } : Jvm.MethodName)) ∈ lw_all := lw_g (lw_at lw_m3 112 rfl) rfl
theorem q695 : (Jvm.Cond.native ({ cls := "java/lang/System", name := "arraycopy", desc := "(Ljava/lang/Object;ILjava/lang/Object;II)V" } : Jvm.MethodName)) ∈ lw_all := lw_g (lw_at lw_m3 113 rfl) rfl
theorem q175 : (Jvm.Cond.arrayClass Jvm.ClassFile.FieldType.byte) ∈ lw_all := lw_g (lw_at lw_m1 73 rfl) rfl
theorem q232 : (Jvm.Cond.arrayOver (Jvm.ClassFile.FieldType.array Jvm.ClassFile.FieldType.int)) ∈ lw_tbl := lw_at lw_m1 130 rfl
theorem q321 : (Jvm.Cond.arrayClass Jvm.ClassFile.FieldType.int) ∈ lw_all := lw_g (lw_at lw_m1 219 rfl) rfl
theorem q322 : (Jvm.Cond.arrayClass Jvm.ClassFile.FieldType.long) ∈ lw_all := lw_g (lw_at lw_m1 220 rfl) rfl
theorem q690 : (Jvm.Cond.arrayOver (Jvm.ClassFile.FieldType.object "java/lang/Object")) ∈ lw_tbl := lw_at lw_m3 108 rfl
theorem q1230 : (Jvm.Cond.arrayOver (Jvm.ClassFile.FieldType.object "java/lang/String")) ∈ lw_tbl := lw_at lw_m5 168 rfl
theorem q1236 : (Jvm.Cond.arrayOver (Jvm.ClassFile.FieldType.array Jvm.ClassFile.FieldType.long)) ∈ lw_tbl := lw_at lw_m5 174 rfl
