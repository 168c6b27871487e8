set_option maxRecDepth 100000
theorem q916 : (Jvm.Cond.interfaceMethod "ClogHouse$Condition" "ClogHouse$Condition" "holds" "([I)Z") ∈ lw_tbl := lw_at lw_m4 121 rfl
theorem q917 : (Jvm.Cond.declares ({ cls := "ClogHouse$Condition", name := "holds", desc := "([I)Z" } : Jvm.MethodName)) ∈ lw_tbl := lw_at lw_m4 122 rfl

theorem q104 : (Jvm.Cond.initialized "java/lang/System") ∈ lw_all := lw_g (lw_at lw_m1 29 rfl) rfl
theorem q1079 : (Jvm.Cond.static ({ cls := "java/lang/System", name := "arraycopy", desc := "(Ljava/lang/Object;ILjava/lang/Object;II)V" } : Jvm.MethodName)) ∈ lw_all := lw_g (lw_at lw_m5 44 rfl) rfl
theorem q1080 : (Jvm.Cond.native ({ cls := "java/lang/System", name := "arraycopy", desc := "(Ljava/lang/Object;ILjava/lang/Object;II)V" } : Jvm.MethodName)) ∈ lw_all := lw_g (lw_at lw_m5 45 rfl) rfl

theorem q134 : (Jvm.Cond.arrayClass Jvm.ClassFile.FieldType.int) ∈ lw_all := lw_g (lw_at lw_m1 59 rfl) rfl
theorem q136 : (Jvm.Cond.arrayOver (Jvm.ClassFile.FieldType.object "ClogHouse$Filter")) ∈ lw_tbl := lw_at lw_m1 61 rfl
theorem q138 : (Jvm.Cond.arrayOver (Jvm.ClassFile.FieldType.object "ClogHouse$Clause")) ∈ lw_tbl := lw_at lw_m1 63 rfl
theorem q141 : (Jvm.Cond.arrayOver (Jvm.ClassFile.FieldType.object "ClogHouse$Cell")) ∈ lw_tbl := lw_at lw_m1 66 rfl
theorem q166 : (Jvm.Cond.arrayClass Jvm.ClassFile.FieldType.byte) ∈ lw_all := lw_g (lw_at lw_m1 91 rfl) rfl
theorem q1376 : (Jvm.Cond.arrayClass Jvm.ClassFile.FieldType.boolean) ∈ lw_all := lw_g (lw_at lw_m6 101 rfl) rfl
theorem q1377 : (Jvm.Cond.arrayClass Jvm.ClassFile.FieldType.long) ∈ lw_all := lw_g (lw_at lw_m6 102 rfl) rfl

/-! java/lang/Math -/
def RJ0 : String := "java/lang/Math"
abbrev cJ0_max : ByteArray := prog_27_method_65_code
def yJ0_max : MethodName := ⟨RJ0, "max", "(II)I"⟩
abbrev cJ0_min : ByteArray := prog_27_method_69_code
def yJ0_min : MethodName := ⟨RJ0, "min", "(II)I"⟩
abbrev cJ0_min_2 : ByteArray := prog_27_method_70_code
def yJ0_min_2 : MethodName := ⟨RJ0, "min", "(JJ)J"⟩
abbrev cJ0_max_2 : ByteArray := prog_27_method_66_code
def yJ0_max_2 : MethodName := ⟨RJ0, "max", "(JJ)J"⟩
theorem q83 : (Jvm.Cond.initialized "java/lang/Math") ∈ lw_all := lw_g (lw_at lw_m1 8 rfl) rfl
theorem q435 : (Jvm.Cond.static ({ cls := "java/lang/Math", name := "max", desc := "(II)I" } : Jvm.MethodName)) ∈ lw_all := lw_g (lw_at lw_m2 120 rfl) rfl
theorem q436 : (Jvm.Cond.code ({ cls := "java/lang/Math", name := "max", desc := "(II)I" } : Jvm.MethodName) prog_27_method_65_code (2 : Nat) (Option.some Jvm.ClassFile.FieldType.int)) ∈ lw_all := lw_g (lw_at lw_m2 121 rfl) rfl
theorem q571 : (Jvm.Cond.static ({ cls := "java/lang/Math", name := "min", desc := "(II)I" } : Jvm.MethodName)) ∈ lw_all := lw_g (lw_at lw_m3 16 rfl) rfl
theorem q572 : (Jvm.Cond.code ({ cls := "java/lang/Math", name := "min", desc := "(II)I" } : Jvm.MethodName) prog_27_method_69_code (2 : Nat) (Option.some Jvm.ClassFile.FieldType.int)) ∈ lw_all := lw_g (lw_at lw_m3 17 rfl) rfl
theorem q945 : (Jvm.Cond.static ({ cls := "java/lang/Math", name := "min", desc := "(JJ)J" } : Jvm.MethodName)) ∈ lw_all := lw_g (lw_at lw_m4 150 rfl) rfl
theorem q946 : (Jvm.Cond.code ({ cls := "java/lang/Math", name := "min", desc := "(JJ)J" } : Jvm.MethodName) prog_27_method_70_code (4 : Nat) (Option.some Jvm.ClassFile.FieldType.long)) ∈ lw_all := lw_g (lw_at lw_m4 151 rfl) rfl
theorem q948 : (Jvm.Cond.static ({ cls := "java/lang/Math", name := "max", desc := "(JJ)J" } : Jvm.MethodName)) ∈ lw_all := lw_g (lw_at lw_m4 153 rfl) rfl
theorem q949 : (Jvm.Cond.code ({ cls := "java/lang/Math", name := "max", desc := "(JJ)J" } : Jvm.MethodName) prog_27_method_66_code (4 : Nat) (Option.some Jvm.ClassFile.FieldType.long)) ∈ lw_all := lw_g (lw_at lw_m4 154 rfl) rfl

/-! java/lang/String -/
def RJ1 : String := "java/lang/String"
abbrev cJ1_indexOf : ByteArray := prog_29_method_79_code
def yJ1_indexOf : MethodName := ⟨RJ1, "indexOf", "(I)I"⟩
abbrev cJ1_indexOf_2 : ByteArray := prog_29_method_80_code
def yJ1_indexOf_2 : MethodName := ⟨RJ1, "indexOf", "(II)I"⟩
abbrev cJ1_isLatin1 : ByteArray := prog_29_method_154_code
def yJ1_isLatin1 : MethodName := ⟨RJ1, "isLatin1", "()Z"⟩
abbrev cJ1_length : ByteArray := prog_29_method_54_code
def yJ1_length : MethodName := ⟨RJ1, "length", "()I"⟩
abbrev cJ1_coder : ByteArray := prog_29_method_152_code
def yJ1_coder : MethodName := ⟨RJ1, "coder", "()B"⟩
abbrev cJ1_checkBoundsBeginEnd : ByteArray := prog_29_method_158_code
def yJ1_checkBoundsBeginEnd : MethodName := ⟨RJ1, "checkBoundsBeginEnd", "(III)V"⟩
theorem q85 : (Jvm.Cond.initialized "java/lang/String") ∈ lw_all := lw_g (lw_at lw_m1 10 rfl) rfl
theorem q542 : (Jvm.Cond.instanceMethod ({ cls := "java/lang/String", name := "indexOf", desc := "(I)I" } : Jvm.MethodName)) ∈ lw_all := lw_g (lw_at lw_m2 227 rfl) rfl
theorem q543 : (Jvm.Cond.selects "java/lang/String" ({ cls := "java/lang/String", name := "indexOf", desc := "(I)I" } : Jvm.MethodName) ({ cls := "java/lang/String", name := "indexOf", desc := "(I)I" } : Jvm.MethodName)) ∈ lw_all := lw_g (lw_at lw_m2 228 rfl) rfl
theorem q544 : (Jvm.Cond.code ({ cls := "java/lang/String", name := "indexOf", desc := "(I)I" } : Jvm.MethodName) prog_29_method_79_code (2 : Nat) (Option.some Jvm.ClassFile.FieldType.int)) ∈ lw_all := lw_g (lw_at lw_m2 229 rfl) rfl
theorem q545 : (Jvm.Cond.methodLink "java/lang/String" (633 : Nat) ({ cls := "java/lang/String", name := "indexOf", desc := "(II)I" } : Jvm.MethodName)) ∈ lw_all := lw_g (lw_at lw_m2 230 rfl) rfl
theorem q546 : (Jvm.Cond.instanceMethod ({ cls := "java/lang/String", name := "indexOf", desc := "(II)I" } : Jvm.MethodName)) ∈ lw_all := lw_g (lw_at lw_m2 231 rfl) rfl
theorem q547 : (Jvm.Cond.selects "java/lang/String" ({ cls := "java/lang/String", name := "indexOf", desc := "(II)I" } : Jvm.MethodName) ({ cls := "java/lang/String", name := "indexOf", desc := "(II)I" } : Jvm.MethodName)) ∈ lw_all := lw_g (lw_at lw_m2 232 rfl) rfl
theorem q548 : (Jvm.Cond.code ({ cls := "java/lang/String", name := "indexOf", desc := "(II)I" } : Jvm.MethodName) prog_29_method_80_code (3 : Nat) (Option.some Jvm.ClassFile.FieldType.int)) ∈ lw_all := lw_g (lw_at lw_m2 233 rfl) rfl
theorem q549 : (Jvm.Cond.methodLink "java/lang/String" (492 : Nat) ({ cls := "java/lang/String", name := "isLatin1", desc := "()Z" } : Jvm.MethodName)) ∈ lw_all := lw_g (lw_at lw_m2 234 rfl) rfl
theorem q550 : (Jvm.Cond.instanceMethod ({ cls := "java/lang/String", name := "isLatin1", desc := "()Z" } : Jvm.MethodName)) ∈ lw_all := lw_g (lw_at lw_m2 235 rfl) rfl
theorem q551 : (Jvm.Cond.selects "java/lang/String" ({ cls := "java/lang/String", name := "isLatin1", desc := "()Z" } : Jvm.MethodName) ({ cls := "java/lang/String", name := "isLatin1", desc := "()Z" } : Jvm.MethodName)) ∈ lw_all := lw_g (lw_at lw_m2 236 rfl) rfl
theorem q552 : (Jvm.Cond.code ({ cls := "java/lang/String", name := "isLatin1", desc := "()Z" } : Jvm.MethodName) prog_29_method_154_code (1 : Nat) (Option.some Jvm.ClassFile.FieldType.boolean)) ∈ lw_all := lw_g (lw_at lw_m2 237 rfl) rfl
theorem q553 : (Jvm.Cond.fieldLink "java/lang/String" (38 : Nat) "java/lang/String" "COMPACT_STRINGS" "Z") ∈ lw_all := lw_g (lw_at lw_m2 238 rfl) rfl
theorem q554 : (Jvm.Cond.laysStatic "java/lang/String" "COMPACT_STRINGS" "Z") ∈ lw_tbl := lw_at lw_m2 239 rfl
theorem q555 : (Jvm.Cond.methodLink "java/lang/String" (505 : Nat) ({ cls := "java/lang/String", name := "length", desc := "()I" } : Jvm.MethodName)) ∈ lw_all := lw_g (lw_at lw_m3 0 rfl) rfl
theorem q556 : (Jvm.Cond.instanceMethod ({ cls := "java/lang/String", name := "length", desc := "()I" } : Jvm.MethodName)) ∈ lw_all := lw_g (lw_at lw_m3 1 rfl) rfl
theorem q557 : (Jvm.Cond.selects "java/lang/String" ({ cls := "java/lang/String", name := "length", desc := "()I" } : Jvm.MethodName) ({ cls := "java/lang/String", name := "length", desc := "()I" } : Jvm.MethodName)) ∈ lw_all := lw_g (lw_at lw_m3 2 rfl) rfl
theorem q558 : (Jvm.Cond.code ({ cls := "java/lang/String", name := "length", desc := "()I" } : Jvm.MethodName) prog_29_method_54_code (1 : Nat) (Option.some Jvm.ClassFile.FieldType.int)) ∈ lw_all := lw_g (lw_at lw_m3 3 rfl) rfl
theorem q559 : (Jvm.Cond.methodLink "java/lang/String" (335 : Nat) ({ cls := "java/lang/String", name := "coder", desc := "()B" } : Jvm.MethodName)) ∈ lw_all := lw_g (lw_at lw_m3 4 rfl) rfl
theorem q560 : (Jvm.Cond.instanceMethod ({ cls := "java/lang/String", name := "coder", desc := "()B" } : Jvm.MethodName)) ∈ lw_all := lw_g (lw_at lw_m3 5 rfl) rfl
theorem q561 : (Jvm.Cond.selects "java/lang/String" ({ cls := "java/lang/String", name := "coder", desc := "()B" } : Jvm.MethodName) ({ cls := "java/lang/String", name := "coder", desc := "()B" } : Jvm.MethodName)) ∈ lw_all := lw_g (lw_at lw_m3 6 rfl) rfl
theorem q562 : (Jvm.Cond.code ({ cls := "java/lang/String", name := "coder", desc := "()B" } : Jvm.MethodName) prog_29_method_152_code (1 : Nat) (Option.some Jvm.ClassFile.FieldType.byte)) ∈ lw_all := lw_g (lw_at lw_m3 7 rfl) rfl
theorem q563 : (Jvm.Cond.methodLink "java/lang/String" (637 : Nat) ({ cls := "java/lang/StringLatin1", name := "indexOf", desc := "([BIII)I" } : Jvm.MethodName)) ∈ lw_all := lw_g (lw_at lw_m3 8 rfl) rfl
theorem q576 : (Jvm.Cond.methodLink "java/lang/String" (640 : Nat) ({ cls := "java/lang/StringUTF16", name := "indexOf", desc := "([BIII)I" } : Jvm.MethodName)) ∈ lw_all := lw_g (lw_at lw_m3 21 rfl) rfl
theorem q592 : (Jvm.Cond.static ({ cls := "java/lang/String", name := "checkBoundsBeginEnd", desc := "(III)V" } : Jvm.MethodName)) ∈ lw_all := lw_g (lw_at lw_m3 37 rfl) rfl
theorem q593 : (Jvm.Cond.code ({ cls := "java/lang/String", name := "checkBoundsBeginEnd", desc := "(III)V" } : Jvm.MethodName) prog_29_method_158_code (3 : Nat) (Option.none : Option Jvm.ClassFile.FieldType)) ∈ lw_all := lw_g (lw_at lw_m3 38 rfl) rfl
theorem q594 : (Jvm.Cond.fieldLink "java/lang/String" (1053 : Nat) "jdk/internal/util/Preconditions" "SIOOBE_FORMATTER" "Ljava/util/function/BiFunction;") ∈ lw_all := lw_g (lw_at lw_m3 39 rfl) rfl
theorem q596 : (Jvm.Cond.methodLink "java/lang/String" (1062 : Nat) ({ cls := "jdk/internal/util/Preconditions", name := "checkFromToIndex", desc := "(IIILjava/util/function/BiFunction;)I" } : Jvm.MethodName)) ∈ lw_all := lw_g (lw_at lw_m3 41 rfl) rfl
theorem q1746 : (Jvm.Cond.castable "java/lang/String" "java/lang/Object") ∈ lw_tbl := lw_at lw_m7 231 rfl
theorem q1747 : (Jvm.Cond.fieldLink "java/lang/String" (15 : Nat) "java/lang/String" "coder" "B") ∈ lw_all := lw_g (lw_at lw_m7 232 rfl) rfl
theorem q1748 : (Jvm.Cond.fieldLink "java/lang/String" (9 : Nat) "java/lang/String" "value" "[B") ∈ lw_all := lw_g (lw_at lw_m7 233 rfl) rfl

/-! java/lang/Object -/
def RJ10 : String := "java/lang/Object"
abbrev cJ10_init : ByteArray := object_method_1_code
def yJ10_init : MethodName := ⟨RJ10, "<init>", "()V"⟩
theorem q111 : (Jvm.Cond.instanceMethod ({ cls := "java/lang/Object", name := "<init>", desc := "()V" } : Jvm.MethodName)) ∈ lw_all := lw_g (lw_at lw_m1 36 rfl) rfl
theorem q112 : (Jvm.Cond.code ({ cls := "java/lang/Object", name := "<init>", desc := "()V" } : Jvm.MethodName) object_method_1_code (1 : Nat) (Option.none : Option Jvm.ClassFile.FieldType)) ∈ lw_all := lw_g (lw_at lw_m1 37 rfl) rfl

/-! java/lang/StringLatin1 -/
def RJ2 : String := "java/lang/StringLatin1"
abbrev cJ2_indexOf : ByteArray := prog_30_method_22_code
def yJ2_indexOf : MethodName := ⟨RJ2, "indexOf", "([BIII)I"⟩
abbrev cJ2_canEncode : ByteArray := prog_30_method_4_code
def yJ2_canEncode : MethodName := ⟨RJ2, "canEncode", "(I)Z"⟩
abbrev cJ2_indexOfChar : ByteArray := prog_30_method_23_code
def yJ2_indexOfChar : MethodName := ⟨RJ2, "indexOfChar", "([BIII)I"⟩
theorem q86 : (Jvm.Cond.initialized "java/lang/StringLatin1") ∈ lw_all := lw_g (lw_at lw_m1 11 rfl) rfl
theorem q564 : (Jvm.Cond.static ({ cls := "java/lang/StringLatin1", name := "indexOf", desc := "([BIII)I" } : Jvm.MethodName)) ∈ lw_all := lw_g (lw_at lw_m3 9 rfl) rfl
theorem q565 : (Jvm.Cond.code ({ cls := "java/lang/StringLatin1", name := "indexOf", desc := "([BIII)I" } : Jvm.MethodName) prog_30_method_22_code (4 : Nat) (Option.some Jvm.ClassFile.FieldType.int)) ∈ lw_all := lw_g (lw_at lw_m3 10 rfl) rfl
theorem q566 : (Jvm.Cond.methodLink "java/lang/StringLatin1" (88 : Nat) ({ cls := "java/lang/StringLatin1", name := "canEncode", desc := "(I)Z" } : Jvm.MethodName)) ∈ lw_all := lw_g (lw_at lw_m3 11 rfl) rfl
theorem q567 : (Jvm.Cond.static ({ cls := "java/lang/StringLatin1", name := "canEncode", desc := "(I)Z" } : Jvm.MethodName)) ∈ lw_all := lw_g (lw_at lw_m3 12 rfl) rfl
theorem q568 : (Jvm.Cond.code ({ cls := "java/lang/StringLatin1", name := "canEncode", desc := "(I)Z" } : Jvm.MethodName) prog_30_method_4_code (1 : Nat) (Option.some Jvm.ClassFile.FieldType.boolean)) ∈ lw_all := lw_g (lw_at lw_m3 13 rfl) rfl
theorem q569 : (Jvm.Cond.methodLink "java/lang/StringLatin1" (92 : Nat) ({ cls := "java/lang/Math", name := "max", desc := "(II)I" } : Jvm.MethodName)) ∈ lw_all := lw_g (lw_at lw_m3 14 rfl) rfl
theorem q570 : (Jvm.Cond.methodLink "java/lang/StringLatin1" (38 : Nat) ({ cls := "java/lang/Math", name := "min", desc := "(II)I" } : Jvm.MethodName)) ∈ lw_all := lw_g (lw_at lw_m3 15 rfl) rfl
theorem q573 : (Jvm.Cond.methodLink "java/lang/StringLatin1" (95 : Nat) ({ cls := "java/lang/StringLatin1", name := "indexOfChar", desc := "([BIII)I" } : Jvm.MethodName)) ∈ lw_all := lw_g (lw_at lw_m3 18 rfl) rfl
theorem q574 : (Jvm.Cond.static ({ cls := "java/lang/StringLatin1", name := "indexOfChar", desc := "([BIII)I" } : Jvm.MethodName)) ∈ lw_all := lw_g (lw_at lw_m3 19 rfl) rfl
theorem q575 : (Jvm.Cond.code ({ cls := "java/lang/StringLatin1", name := "indexOfChar", desc := "([BIII)I" } : Jvm.MethodName) prog_30_method_23_code (6 : Nat) (Option.some Jvm.ClassFile.FieldType.int)) ∈ lw_all := lw_g (lw_at lw_m3 20 rfl) rfl

/-! java/lang/StringUTF16 -/
def RJ3 : String := "java/lang/StringUTF16"
abbrev cJ3_indexOf : ByteArray := prog_31_method_40_code
def yJ3_indexOf : MethodName := ⟨RJ3, "indexOf", "([BIII)I"⟩
abbrev cJ3_indexOfChar : ByteArray := prog_31_method_47_code
def yJ3_indexOfChar : MethodName := ⟨RJ3, "indexOfChar", "([BIII)I"⟩
abbrev cJ3_checkBoundsBeginEnd : ByteArray := prog_31_method_93_code
def yJ3_checkBoundsBeginEnd : MethodName := ⟨RJ3, "checkBoundsBeginEnd", "(II[B)V"⟩
abbrev cJ3_length : ByteArray := prog_31_method_6_code
def yJ3_length : MethodName := ⟨RJ3, "length", "([B)I"⟩
abbrev cJ3_indexOfCharUnsafe : ByteArray := prog_31_method_48_code
def yJ3_indexOfCharUnsafe : MethodName := ⟨RJ3, "indexOfCharUnsafe", "([BIII)I"⟩
abbrev cJ3_getChar : ByteArray := prog_31_method_5_code
def yJ3_getChar : MethodName := ⟨RJ3, "getChar", "([BI)C"⟩
abbrev cJ3_indexOfSupplementary : ByteArray := prog_31_method_49_code
def yJ3_indexOfSupplementary : MethodName := ⟨RJ3, "indexOfSupplementary", "([BIII)I"⟩
theorem q87 : (Jvm.Cond.initialized "java/lang/StringUTF16") ∈ lw_all := lw_g (lw_at lw_m1 12 rfl) rfl
theorem q577 : (Jvm.Cond.static ({ cls := "java/lang/StringUTF16", name := "indexOf", desc := "([BIII)I" } : Jvm.MethodName)) ∈ lw_all := lw_g (lw_at lw_m3 22 rfl) rfl
theorem q578 : (Jvm.Cond.code ({ cls := "java/lang/StringUTF16", name := "indexOf", desc := "([BIII)I" } : Jvm.MethodName) prog_31_method_40_code (4 : Nat) (Option.some Jvm.ClassFile.FieldType.int)) ∈ lw_all := lw_g (lw_at lw_m3 23 rfl) rfl
theorem q579 : (Jvm.Cond.methodLink "java/lang/StringUTF16" (224 : Nat) ({ cls := "java/lang/Math", name := "max", desc := "(II)I" } : Jvm.MethodName)) ∈ lw_all := lw_g (lw_at lw_m3 24 rfl) rfl
theorem q580 : (Jvm.Cond.methodLink "java/lang/StringUTF16" (183 : Nat) ({ cls := "java/lang/Math", name := "min", desc := "(II)I" } : Jvm.MethodName)) ∈ lw_all := lw_g (lw_at lw_m3 25 rfl) rfl
theorem q581 : (Jvm.Cond.constant "java/lang/StringUTF16" (227 : Nat) (65536 : Int32)) ∈ lw_all := lw_g (lw_at lw_m3 26 rfl) rfl
theorem q582 : (Jvm.Cond.methodLink "java/lang/StringUTF16" (228 : Nat) ({ cls := "java/lang/StringUTF16", name := "indexOfChar", desc := "([BIII)I" } : Jvm.MethodName)) ∈ lw_all := lw_g (lw_at lw_m3 27 rfl) rfl
theorem q583 : (Jvm.Cond.static ({ cls := "java/lang/StringUTF16", name := "indexOfChar", desc := "([BIII)I" } : Jvm.MethodName)) ∈ lw_all := lw_g (lw_at lw_m3 28 rfl) rfl
theorem q584 : (Jvm.Cond.code ({ cls := "java/lang/StringUTF16", name := "indexOfChar", desc := "([BIII)I" } : Jvm.MethodName) prog_31_method_47_code (4 : Nat) (Option.some Jvm.ClassFile.FieldType.int)) ∈ lw_all := lw_g (lw_at lw_m3 29 rfl) rfl
theorem q585 : (Jvm.Cond.methodLink "java/lang/StringUTF16" (96 : Nat) ({ cls := "java/lang/StringUTF16", name := "checkBoundsBeginEnd", desc := "(II[B)V" } : Jvm.MethodName)) ∈ lw_all := lw_g (lw_at lw_m3 30 rfl) rfl
theorem q586 : (Jvm.Cond.static ({ cls := "java/lang/StringUTF16", name := "checkBoundsBeginEnd", desc := "(II[B)V" } : Jvm.MethodName)) ∈ lw_all := lw_g (lw_at lw_m3 31 rfl) rfl
theorem q587 : (Jvm.Cond.code ({ cls := "java/lang/StringUTF16", name := "checkBoundsBeginEnd", desc := "(II[B)V" } : Jvm.MethodName) prog_31_method_93_code (3 : Nat) (Option.none : Option Jvm.ClassFile.FieldType)) ∈ lw_all := lw_g (lw_at lw_m3 32 rfl) rfl
theorem q588 : (Jvm.Cond.methodLink "java/lang/StringUTF16" (48 : Nat) ({ cls := "java/lang/StringUTF16", name := "length", desc := "([B)I" } : Jvm.MethodName)) ∈ lw_all := lw_g (lw_at lw_m3 33 rfl) rfl
theorem q589 : (Jvm.Cond.static ({ cls := "java/lang/StringUTF16", name := "length", desc := "([B)I" } : Jvm.MethodName)) ∈ lw_all := lw_g (lw_at lw_m3 34 rfl) rfl
theorem q590 : (Jvm.Cond.code ({ cls := "java/lang/StringUTF16", name := "length", desc := "([B)I" } : Jvm.MethodName) prog_31_method_6_code (1 : Nat) (Option.some Jvm.ClassFile.FieldType.int)) ∈ lw_all := lw_g (lw_at lw_m3 35 rfl) rfl
theorem q591 : (Jvm.Cond.methodLink "java/lang/StringUTF16" (241 : Nat) ({ cls := "java/lang/String", name := "checkBoundsBeginEnd", desc := "(III)V" } : Jvm.MethodName)) ∈ lw_all := lw_g (lw_at lw_m3 36 rfl) rfl
theorem q599 : (Jvm.Cond.methodLink "java/lang/StringUTF16" (244 : Nat) ({ cls := "java/lang/StringUTF16", name := "indexOfCharUnsafe", desc := "([BIII)I" } : Jvm.MethodName)) ∈ lw_all := lw_g (lw_at lw_m3 44 rfl) rfl
theorem q600 : (Jvm.Cond.static ({ cls := "java/lang/StringUTF16", name := "indexOfCharUnsafe", desc := "([BIII)I" } : Jvm.MethodName)) ∈ lw_all := lw_g (lw_at lw_m3 45 rfl) rfl
theorem q601 : (Jvm.Cond.code ({ cls := "java/lang/StringUTF16", name := "indexOfCharUnsafe", desc := "([BIII)I" } : Jvm.MethodName) prog_31_method_48_code (5 : Nat) (Option.some Jvm.ClassFile.FieldType.int)) ∈ lw_all := lw_g (lw_at lw_m3 46 rfl) rfl
theorem q602 : (Jvm.Cond.methodLink "java/lang/StringUTF16" (71 : Nat) ({ cls := "java/lang/StringUTF16", name := "getChar", desc := "([BI)C" } : Jvm.MethodName)) ∈ lw_all := lw_g (lw_at lw_m3 47 rfl) rfl
theorem q603 : (Jvm.Cond.static ({ cls := "java/lang/StringUTF16", name := "getChar", desc := "([BI)C" } : Jvm.MethodName)) ∈ lw_all := lw_g (lw_at lw_m3 48 rfl) rfl
theorem q604 : (Jvm.Cond.code ({ cls := "java/lang/StringUTF16", name := "getChar", desc := "([BI)C" } : Jvm.MethodName) prog_31_method_5_code (2 : Nat) (Option.some Jvm.ClassFile.FieldType.char)) ∈ lw_all := lw_g (lw_at lw_m3 49 rfl) rfl
theorem q605 : (Jvm.Cond.fieldLink "java/lang/StringUTF16" (44 : Nat) "java/lang/StringUTF16" "$assertionsDisabled" "Z") ∈ lw_all := lw_g (lw_at lw_m3 50 rfl) rfl
theorem q606 : (Jvm.Cond.laysStatic "java/lang/StringUTF16" "$assertionsDisabled" "Z") ∈ lw_tbl := lw_at lw_m3 51 rfl
theorem q607 : (Jvm.Cond.fieldLink "java/lang/StringUTF16" (59 : Nat) "java/lang/StringUTF16" "HI_BYTE_SHIFT" "I") ∈ lw_all := lw_g (lw_at lw_m3 52 rfl) rfl
theorem q608 : (Jvm.Cond.laysStatic "java/lang/StringUTF16" "HI_BYTE_SHIFT" "I") ∈ lw_tbl := lw_at lw_m3 53 rfl
theorem q609 : (Jvm.Cond.fieldLink "java/lang/StringUTF16" (63 : Nat) "java/lang/StringUTF16" "LO_BYTE_SHIFT" "I") ∈ lw_all := lw_g (lw_at lw_m3 54 rfl) rfl
theorem q610 : (Jvm.Cond.laysStatic "java/lang/StringUTF16" "LO_BYTE_SHIFT" "I") ∈ lw_tbl := lw_at lw_m3 55 rfl
theorem q611 : (Jvm.Cond.methodLink "java/lang/StringUTF16" (232 : Nat) ({ cls := "java/lang/StringUTF16", name := "indexOfSupplementary", desc := "([BIII)I" } : Jvm.MethodName)) ∈ lw_all := lw_g (lw_at lw_m3 56 rfl) rfl
theorem q612 : (Jvm.Cond.static ({ cls := "java/lang/StringUTF16", name := "indexOfSupplementary", desc := "([BIII)I" } : Jvm.MethodName)) ∈ lw_all := lw_g (lw_at lw_m3 57 rfl) rfl
theorem q613 : (Jvm.Cond.code ({ cls := "java/lang/StringUTF16", name := "indexOfSupplementary", desc := "([BIII)I" } : Jvm.MethodName) prog_31_method_49_code (7 : Nat) (Option.some Jvm.ClassFile.FieldType.int)) ∈ lw_all := lw_g (lw_at lw_m3 58 rfl) rfl
theorem q614 : (Jvm.Cond.methodLink "java/lang/StringUTF16" (164 : Nat) ({ cls := "java/lang/Character", name := "isValidCodePoint", desc := "(I)Z" } : Jvm.MethodName)) ∈ lw_all := lw_g (lw_at lw_m3 59 rfl) rfl
theorem q617 : (Jvm.Cond.methodLink "java/lang/StringUTF16" (157 : Nat) ({ cls := "java/lang/Character", name := "highSurrogate", desc := "(I)C" } : Jvm.MethodName)) ∈ lw_all := lw_g (lw_at lw_m3 62 rfl) rfl
theorem q621 : (Jvm.Cond.methodLink "java/lang/StringUTF16" (161 : Nat) ({ cls := "java/lang/Character", name := "lowSurrogate", desc := "(I)C" } : Jvm.MethodName)) ∈ lw_all := lw_g (lw_at lw_m3 66 rfl) rfl

/-! jdk/internal/util/Preconditions -/
def RJ4 : String := "jdk/internal/util/Preconditions"
abbrev cJ4_checkFromToIndex : ByteArray := prog_37_method_12_code
def yJ4_checkFromToIndex : MethodName := ⟨RJ4, "checkFromToIndex", "(IIILjava/util/function/BiFunction;)I"⟩
theorem q88 : (Jvm.Cond.initialized "jdk/internal/util/Preconditions") ∈ lw_all := lw_g (lw_at lw_m1 13 rfl) rfl
theorem q595 : (Jvm.Cond.laysStatic "jdk/internal/util/Preconditions" "SIOOBE_FORMATTER" "Ljava/util/function/BiFunction;") ∈ lw_tbl := lw_at lw_m3 40 rfl
theorem q597 : (Jvm.Cond.static ({ cls := "jdk/internal/util/Preconditions", name := "checkFromToIndex", desc := "(IIILjava/util/function/BiFunction;)I" } : Jvm.MethodName)) ∈ lw_all := lw_g (lw_at lw_m3 42 rfl) rfl
theorem q598 : (Jvm.Cond.code ({ cls := "jdk/internal/util/Preconditions", name := "checkFromToIndex", desc := "(IIILjava/util/function/BiFunction;)I" } : Jvm.MethodName) prog_37_method_12_code (4 : Nat) (Option.some Jvm.ClassFile.FieldType.int)) ∈ lw_all := lw_g (lw_at lw_m3 43 rfl) rfl

/-! java/lang/Character -/
def RJ5 : String := "java/lang/Character"
abbrev cJ5_isValidCodePoint : ByteArray := prog_24_method_11_code
def yJ5_isValidCodePoint : MethodName := ⟨RJ5, "isValidCodePoint", "(I)Z"⟩
abbrev cJ5_highSurrogate : ByteArray := prog_24_method_28_code
def yJ5_highSurrogate : MethodName := ⟨RJ5, "highSurrogate", "(I)C"⟩
abbrev cJ5_lowSurrogate : ByteArray := prog_24_method_29_code
def yJ5_lowSurrogate : MethodName := ⟨RJ5, "lowSurrogate", "(I)C"⟩
theorem q89 : (Jvm.Cond.initialized "java/lang/Character") ∈ lw_all := lw_g (lw_at lw_m1 14 rfl) rfl
theorem q615 : (Jvm.Cond.static ({ cls := "java/lang/Character", name := "isValidCodePoint", desc := "(I)Z" } : Jvm.MethodName)) ∈ lw_all := lw_g (lw_at lw_m3 60 rfl) rfl
theorem q616 : (Jvm.Cond.code ({ cls := "java/lang/Character", name := "isValidCodePoint", desc := "(I)Z" } : Jvm.MethodName) prog_24_method_11_code (2 : Nat) (Option.some Jvm.ClassFile.FieldType.boolean)) ∈ lw_all := lw_g (lw_at lw_m3 61 rfl) rfl
theorem q618 : (Jvm.Cond.static ({ cls := "java/lang/Character", name := "highSurrogate", desc := "(I)C" } : Jvm.MethodName)) ∈ lw_all := lw_g (lw_at lw_m3 63 rfl) rfl
theorem q619 : (Jvm.Cond.code ({ cls := "java/lang/Character", name := "highSurrogate", desc := "(I)C" } : Jvm.MethodName) prog_24_method_28_code (1 : Nat) (Option.some Jvm.ClassFile.FieldType.char)) ∈ lw_all := lw_g (lw_at lw_m3 64 rfl) rfl
theorem q620 : (Jvm.Cond.constant "java/lang/Character" (110 : Nat) (55232 : Int32)) ∈ lw_all := lw_g (lw_at lw_m3 65 rfl) rfl
theorem q622 : (Jvm.Cond.static ({ cls := "java/lang/Character", name := "lowSurrogate", desc := "(I)C" } : Jvm.MethodName)) ∈ lw_all := lw_g (lw_at lw_m3 67 rfl) rfl
theorem q623 : (Jvm.Cond.code ({ cls := "java/lang/Character", name := "lowSurrogate", desc := "(I)C" } : Jvm.MethodName) prog_24_method_29_code (1 : Nat) (Option.some Jvm.ClassFile.FieldType.char)) ∈ lw_all := lw_g (lw_at lw_m3 68 rfl) rfl
theorem q624 : (Jvm.Cond.constant "java/lang/Character" (76 : Nat) (56320 : Int32)) ∈ lw_all := lw_g (lw_at lw_m3 69 rfl) rfl

/-! java/lang/Throwable -/
def RJ6 : String := "java/lang/Throwable"
def TJ6 : u_T := fun k => match k with
  | 0 => ("java/lang/Throwable", "cause", "Ljava/lang/Throwable;", false)
  | 1 => ("java/lang/Throwable", "stackTrace", "[Ljava/lang/StackTraceElement;", false)
  | 2 => ("java/lang/Throwable", "suppressedExceptions", "Ljava/util/List;", false)
  | 3 => ("java/lang/Throwable", "detailMessage", "Ljava/lang/String;", false)
  | _ => ("java/lang/Throwable", "backtrace", "Ljava/lang/Object;", false)
def tyJ6 : Nat → FieldType := fun k => match k with
  | 0 => .object "java/lang/Throwable"
  | 1 => .array (.object "java/lang/StackTraceElement")
  | 2 => .object "java/util/List"
  | 3 => .object "java/lang/String"
  | _ => .object "java/lang/Object"
abbrev wsJ60 : List Cond := u_ws RJ6 TJ6 5
theorem nmJ6 : ∀ a, a < 5 → ∀ b, b < 5 → a ≠ b → (TJ6 a).2.1 ≠ (TJ6 b).2.1 := by decide +kernel
theorem tyJ6_ok : ∀ k, k < 5 → parseFieldDescriptor (TJ6 k).2.2.1 = some (tyJ6 k) := by decide +kernel
abbrev cJ6_init : ByteArray := prog_33_method_1_code
def yJ6_init : MethodName := ⟨RJ6, "<init>", "()V"⟩
abbrev cJ6_init_2 : ByteArray := prog_33_method_5_code
def yJ6_init_2 : MethodName := ⟨RJ6, "<init>", "(Ljava/lang/String;Ljava/lang/Throwable;ZZ)V"⟩
theorem q90 : (Jvm.Cond.initialized "java/lang/Throwable") ∈ lw_all := lw_g (lw_at lw_m1 15 rfl) rfl
theorem q636 : (Jvm.Cond.declares ({ cls := "java/lang/Throwable", name := "<init>", desc := "()V" } : Jvm.MethodName)) ∈ lw_tbl := lw_at lw_m3 81 rfl
theorem q637 : (Jvm.Cond.declares ({ cls := "java/lang/Throwable", name := "<init>", desc := "(Ljava/lang/String;)V" } : Jvm.MethodName)) ∈ lw_tbl := lw_at lw_m3 82 rfl
theorem q641 : (Jvm.Cond.lays "java/lang/Throwable" "java/lang/Throwable" "cause" "Ljava/lang/Throwable;") ∈ lw_all := lw_g (lw_at lw_m3 86 rfl) rfl
theorem q643 : (Jvm.Cond.lays "java/lang/Throwable" "java/lang/Throwable" "stackTrace" "[Ljava/lang/StackTraceElement;") ∈ lw_all := lw_g (lw_at lw_m3 88 rfl) rfl
theorem q645 : (Jvm.Cond.lays "java/lang/Throwable" "java/lang/Throwable" "suppressedExceptions" "Ljava/util/List;") ∈ lw_all := lw_g (lw_at lw_m3 90 rfl) rfl
theorem q647 : (Jvm.Cond.lays "java/lang/Throwable" "java/lang/Throwable" "detailMessage" "Ljava/lang/String;") ∈ lw_all := lw_g (lw_at lw_m3 92 rfl) rfl
theorem q649 : (Jvm.Cond.lays "java/lang/Throwable" "java/lang/Throwable" "backtrace" "Ljava/lang/Object;") ∈ lw_all := lw_g (lw_at lw_m3 94 rfl) rfl
theorem q650 : (Jvm.Cond.fieldLink "java/lang/Throwable" (198 : Nat) "java/lang/Throwable" "backtrace" "Ljava/lang/Object;") ∈ lw_all := lw_g (lw_at lw_m3 95 rfl) rfl
theorem q651 : (Jvm.Cond.superclass "java/lang/Throwable" "java/lang/Object") ∈ lw_all := lw_g (lw_at lw_m3 96 rfl) rfl
theorem q652 : (Jvm.Cond.instanceMethod ({ cls := "java/lang/Throwable", name := "<init>", desc := "()V" } : Jvm.MethodName)) ∈ lw_all := lw_g (lw_at lw_m3 97 rfl) rfl
theorem q653 : (Jvm.Cond.code ({ cls := "java/lang/Throwable", name := "<init>", desc := "()V" } : Jvm.MethodName) prog_33_method_1_code (1 : Nat) (Option.none : Option Jvm.ClassFile.FieldType)) ∈ lw_all := lw_g (lw_at lw_m3 98 rfl) rfl
theorem q654 : (Jvm.Cond.methodLink "java/lang/Throwable" (1 : Nat) ({ cls := "java/lang/Object", name := "<init>", desc := "()V" } : Jvm.MethodName)) ∈ lw_all := lw_g (lw_at lw_m3 99 rfl) rfl
theorem q655 : (Jvm.Cond.fieldLink "java/lang/Throwable" (13 : Nat) "java/lang/Throwable" "UNASSIGNED_STACK" "[Ljava/lang/StackTraceElement;") ∈ lw_all := lw_g (lw_at lw_m3 100 rfl) rfl
theorem q656 : (Jvm.Cond.laysStatic "java/lang/Throwable" "UNASSIGNED_STACK" "[Ljava/lang/StackTraceElement;") ∈ lw_tbl := lw_at lw_m3 101 rfl
theorem q657 : (Jvm.Cond.fieldLink "java/lang/Throwable" (20 : Nat) "java/lang/Throwable" "SUPPRESSED_SENTINEL" "Ljava/util/List;") ∈ lw_all := lw_g (lw_at lw_m3 102 rfl) rfl
theorem q658 : (Jvm.Cond.laysStatic "java/lang/Throwable" "SUPPRESSED_SENTINEL" "Ljava/util/List;") ∈ lw_tbl := lw_at lw_m3 103 rfl
theorem q659 : (Jvm.Cond.methodLink "java/lang/Throwable" (27 : Nat) ({ cls := "java/lang/Throwable", name := "fillInStackTrace", desc := "()Ljava/lang/Throwable;" } : Jvm.MethodName)) ∈ lw_all := lw_g (lw_at lw_m3 104 rfl) rfl
theorem q660 : (Jvm.Cond.instanceMethod ({ cls := "java/lang/Throwable", name := "fillInStackTrace", desc := "()Ljava/lang/Throwable;" } : Jvm.MethodName)) ∈ lw_all := lw_g (lw_at lw_m3 105 rfl) rfl
theorem q661 : (Jvm.Cond.sameMethod "java/lang/Throwable" "java/lang/Throwable" "fillInStackTrace" "()Ljava/lang/Throwable;") ∈ lw_all := lw_g (lw_at lw_m3 106 rfl) rfl
theorem q663 : (Jvm.Cond.codeSync ({ cls := "java/lang/Throwable", name := "fillInStackTrace", desc := "()Ljava/lang/Throwable;" } : Jvm.MethodName) prog_33_method_18_code (1 : Nat) (Option.some (Jvm.ClassFile.FieldType.object "java/lang/Throwable"))) ∈ lw_all := lw_g (lw_at lw_m3 108 rfl) rfl
theorem q664 : (Jvm.Cond.methodLink "java/lang/Throwable" (202 : Nat) ({ cls := "java/lang/Throwable", name := "fillInStackTrace", desc := "(I)Ljava/lang/Throwable;" } : Jvm.MethodName)) ∈ lw_all := lw_g (lw_at lw_m3 109 rfl) rfl
theorem q665 : (Jvm.Cond.privateMethod ({ cls := "java/lang/Throwable", name := "fillInStackTrace", desc := "(I)Ljava/lang/Throwable;" } : Jvm.MethodName)) ∈ lw_tbl := lw_at lw_m3 110 rfl
theorem q666 : (Jvm.Cond.instanceMethod ({ cls := "java/lang/Throwable", name := "fillInStackTrace", desc := "(I)Ljava/lang/Throwable;" } : Jvm.MethodName)) ∈ lw_all := lw_g (lw_at lw_m3 111 rfl) rfl
theorem q667 : (Jvm.Cond.instantiable "java/lang/Throwable" (6 : Nat)) ∈ lw_all := lw_g (lw_at lw_m3 112 rfl) rfl
theorem q668 : (Jvm.Cond.native ({ cls := "java/lang/Throwable", name := "fillInStackTrace", desc := "(I)Ljava/lang/Throwable;" } : Jvm.MethodName)) ∈ lw_all := lw_g (lw_at lw_m3 113 rfl) rfl
theorem q679 : (Jvm.Cond.instanceMethod ({ cls := "java/lang/Throwable", name := "<init>", desc := "(Ljava/lang/String;Ljava/lang/Throwable;ZZ)V" } : Jvm.MethodName)) ∈ lw_all := lw_g (lw_at lw_m3 124 rfl) rfl
theorem q680 : (Jvm.Cond.code ({ cls := "java/lang/Throwable", name := "<init>", desc := "(Ljava/lang/String;Ljava/lang/Throwable;ZZ)V" } : Jvm.MethodName) prog_33_method_5_code (5 : Nat) (Option.none : Option Jvm.ClassFile.FieldType)) ∈ lw_all := lw_g (lw_at lw_m3 125 rfl) rfl
theorem q683 : (Jvm.Cond.fieldLink "java/lang/Throwable" (198 : Nat) "java/lang/Throwable" "backtrace" "Ljava/lang/Object;") ∈ lw_all := lw_g (lw_at lw_m3 128 rfl) rfl
theorem q684 : (Jvm.Cond.fieldLink "java/lang/Throwable" (31 : Nat) "java/lang/Throwable" "detailMessage" "Ljava/lang/String;") ∈ lw_all := lw_g (lw_at lw_m3 129 rfl) rfl
theorem q685 : (Jvm.Cond.fieldLink "java/lang/Throwable" (7 : Nat) "java/lang/Throwable" "cause" "Ljava/lang/Throwable;") ∈ lw_all := lw_g (lw_at lw_m3 130 rfl) rfl
theorem q686 : (Jvm.Cond.fieldLink "java/lang/Throwable" (17 : Nat) "java/lang/Throwable" "stackTrace" "[Ljava/lang/StackTraceElement;") ∈ lw_all := lw_g (lw_at lw_m3 131 rfl) rfl
theorem q687 : (Jvm.Cond.fieldLink "java/lang/Throwable" (24 : Nat) "java/lang/Throwable" "suppressedExceptions" "Ljava/util/List;") ∈ lw_all := lw_g (lw_at lw_m3 132 rfl) rfl
theorem q690 : (Jvm.Cond.soleField "java/lang/Throwable" "backtrace") ∈ lw_all := lw_g (lw_at lw_m3 135 rfl) rfl
theorem q691 : (Jvm.Cond.soleField "java/lang/Throwable" "detailMessage") ∈ lw_all := lw_g (lw_at lw_m3 136 rfl) rfl
theorem q692 : (Jvm.Cond.soleField "java/lang/Throwable" "cause") ∈ lw_all := lw_g (lw_at lw_m3 137 rfl) rfl
theorem q693 : (Jvm.Cond.soleField "java/lang/Throwable" "stackTrace") ∈ lw_all := lw_g (lw_at lw_m3 138 rfl) rfl
theorem q695 : (Jvm.Cond.soleField "java/lang/Throwable" "depth") ∈ lw_all := lw_g (lw_at lw_m3 140 rfl) rfl
theorem q696 : (Jvm.Cond.soleField "java/lang/Throwable" "suppressedExceptions") ∈ lw_all := lw_g (lw_at lw_m3 141 rfl) rfl
theorem q1726 : (Jvm.Cond.sameMethod "java/lang/Throwable" "java/lang/Throwable" "fillInStackTrace" "(I)Ljava/lang/Throwable;") ∈ lw_all := lw_g (lw_at lw_m7 211 rfl) rfl
theorem q1745 : (Jvm.Cond.castable "java/lang/Throwable" "java/lang/Object") ∈ lw_tbl := lw_at lw_m7 230 rfl
theorem in_J6 : ∀ w ∈ wsJ60, w ∈ lw_all := lw_in wsJ60 [641, 643, 645, 647, 649] (by decide +kernel) (by decide +kernel)

/-! java/lang/Exception -/
def RJ7 : String := "java/lang/Exception"
abbrev cJ7_init : ByteArray := prog_26_method_5_code
def yJ7_init : MethodName := ⟨RJ7, "<init>", "(Ljava/lang/String;Ljava/lang/Throwable;ZZ)V"⟩
abbrev cJ7_init_2 : ByteArray := prog_26_method_1_code
def yJ7_init_2 : MethodName := ⟨RJ7, "<init>", "()V"⟩
theorem q91 : (Jvm.Cond.initialized "java/lang/Exception") ∈ lw_all := lw_g (lw_at lw_m1 16 rfl) rfl
theorem q634 : (Jvm.Cond.declares ({ cls := "java/lang/Exception", name := "<init>", desc := "()V" } : Jvm.MethodName)) ∈ lw_tbl := lw_at lw_m3 79 rfl
theorem q635 : (Jvm.Cond.declares ({ cls := "java/lang/Exception", name := "<init>", desc := "(Ljava/lang/String;)V" } : Jvm.MethodName)) ∈ lw_tbl := lw_at lw_m3 80 rfl
theorem q676 : (Jvm.Cond.instanceMethod ({ cls := "java/lang/Exception", name := "<init>", desc := "(Ljava/lang/String;Ljava/lang/Throwable;ZZ)V" } : Jvm.MethodName)) ∈ lw_all := lw_g (lw_at lw_m3 121 rfl) rfl
theorem q677 : (Jvm.Cond.code ({ cls := "java/lang/Exception", name := "<init>", desc := "(Ljava/lang/String;Ljava/lang/Throwable;ZZ)V" } : Jvm.MethodName) prog_26_method_5_code (5 : Nat) (Option.none : Option Jvm.ClassFile.FieldType)) ∈ lw_all := lw_g (lw_at lw_m3 122 rfl) rfl
theorem q678 : (Jvm.Cond.methodLink "java/lang/Exception" (16 : Nat) ({ cls := "java/lang/Throwable", name := "<init>", desc := "(Ljava/lang/String;Ljava/lang/Throwable;ZZ)V" } : Jvm.MethodName)) ∈ lw_all := lw_g (lw_at lw_m3 123 rfl) rfl
theorem q1174 : (Jvm.Cond.instanceMethod ({ cls := "java/lang/Exception", name := "<init>", desc := "()V" } : Jvm.MethodName)) ∈ lw_all := lw_g (lw_at lw_m5 139 rfl) rfl
theorem q1175 : (Jvm.Cond.code ({ cls := "java/lang/Exception", name := "<init>", desc := "()V" } : Jvm.MethodName) prog_26_method_1_code (1 : Nat) (Option.none : Option Jvm.ClassFile.FieldType)) ∈ lw_all := lw_g (lw_at lw_m5 140 rfl) rfl
theorem q1176 : (Jvm.Cond.methodLink "java/lang/Exception" (1 : Nat) ({ cls := "java/lang/Throwable", name := "<init>", desc := "()V" } : Jvm.MethodName)) ∈ lw_all := lw_g (lw_at lw_m5 141 rfl) rfl

/-! java/lang/RuntimeException -/
def RJ8 : String := "java/lang/RuntimeException"
abbrev cJ8_init : ByteArray := prog_28_method_5_code
def yJ8_init : MethodName := ⟨RJ8, "<init>", "(Ljava/lang/String;Ljava/lang/Throwable;ZZ)V"⟩
abbrev cJ8_init_2 : ByteArray := prog_28_method_1_code
def yJ8_init_2 : MethodName := ⟨RJ8, "<init>", "()V"⟩
theorem q92 : (Jvm.Cond.initialized "java/lang/RuntimeException") ∈ lw_all := lw_g (lw_at lw_m1 17 rfl) rfl
theorem q632 : (Jvm.Cond.declares ({ cls := "java/lang/RuntimeException", name := "<init>", desc := "()V" } : Jvm.MethodName)) ∈ lw_tbl := lw_at lw_m3 77 rfl
theorem q633 : (Jvm.Cond.declares ({ cls := "java/lang/RuntimeException", name := "<init>", desc := "(Ljava/lang/String;)V" } : Jvm.MethodName)) ∈ lw_tbl := lw_at lw_m3 78 rfl
theorem q673 : (Jvm.Cond.instanceMethod ({ cls := "java/lang/RuntimeException", name := "<init>", desc := "(Ljava/lang/String;Ljava/lang/Throwable;ZZ)V" } : Jvm.MethodName)) ∈ lw_all := lw_g (lw_at lw_m3 118 rfl) rfl
theorem q674 : (Jvm.Cond.code ({ cls := "java/lang/RuntimeException", name := "<init>", desc := "(Ljava/lang/String;Ljava/lang/Throwable;ZZ)V" } : Jvm.MethodName) prog_28_method_5_code (5 : Nat) (Option.none : Option Jvm.ClassFile.FieldType)) ∈ lw_all := lw_g (lw_at lw_m3 119 rfl) rfl
theorem q675 : (Jvm.Cond.methodLink "java/lang/RuntimeException" (16 : Nat) ({ cls := "java/lang/Exception", name := "<init>", desc := "(Ljava/lang/String;Ljava/lang/Throwable;ZZ)V" } : Jvm.MethodName)) ∈ lw_all := lw_g (lw_at lw_m3 120 rfl) rfl
theorem q1171 : (Jvm.Cond.instanceMethod ({ cls := "java/lang/RuntimeException", name := "<init>", desc := "()V" } : Jvm.MethodName)) ∈ lw_all := lw_g (lw_at lw_m5 136 rfl) rfl
theorem q1172 : (Jvm.Cond.code ({ cls := "java/lang/RuntimeException", name := "<init>", desc := "()V" } : Jvm.MethodName) prog_28_method_1_code (1 : Nat) (Option.none : Option Jvm.ClassFile.FieldType)) ∈ lw_all := lw_g (lw_at lw_m5 137 rfl) rfl
theorem q1173 : (Jvm.Cond.methodLink "java/lang/RuntimeException" (1 : Nat) ({ cls := "java/lang/Exception", name := "<init>", desc := "()V" } : Jvm.MethodName)) ∈ lw_all := lw_g (lw_at lw_m5 138 rfl) rfl

/-! java/util/NoSuchElementException -/
def RJ9 : String := "java/util/NoSuchElementException"
def TJ9 : u_T := fun k => match k with
  | 0 => ("java/lang/Throwable", "cause", "Ljava/lang/Throwable;", false)
  | 1 => ("java/lang/Throwable", "stackTrace", "[Ljava/lang/StackTraceElement;", false)
  | 2 => ("java/lang/Throwable", "suppressedExceptions", "Ljava/util/List;", false)
  | 3 => ("java/lang/Throwable", "detailMessage", "Ljava/lang/String;", false)
  | 4 => ("java/lang/Throwable", "backtrace", "Ljava/lang/Object;", false)
  | _ => ("java/lang/Throwable", "depth", "I", false)
def tyJ9 : Nat → FieldType := fun k => match k with
  | 0 => .object "java/lang/Throwable"
  | 1 => .array (.object "java/lang/StackTraceElement")
  | 2 => .object "java/util/List"
  | 3 => .object "java/lang/String"
  | 4 => .object "java/lang/Object"
  | _ => .int
abbrev wsJ90 : List Cond := u_ws RJ9 TJ9 6
theorem nmJ9 : ∀ a, a < 6 → ∀ b, b < 6 → a ≠ b → (TJ9 a).2.1 ≠ (TJ9 b).2.1 := by decide +kernel
theorem tyJ9_ok : ∀ k, k < 6 → parseFieldDescriptor (TJ9 k).2.2.1 = some (tyJ9 k) := by decide +kernel
abbrev cJ9_init : ByteArray := prog_36_method_1_code
def yJ9_init : MethodName := ⟨RJ9, "<init>", "()V"⟩
theorem q103 : (Jvm.Cond.initialized "java/util/NoSuchElementException") ∈ lw_all := lw_g (lw_at lw_m1 28 rfl) rfl
theorem q662 : (Jvm.Cond.selects "java/util/NoSuchElementException" ({ cls := "java/lang/Throwable", name := "fillInStackTrace", desc := "()Ljava/lang/Throwable;" } : Jvm.MethodName) ({ cls := "java/lang/Throwable", name := "fillInStackTrace", desc := "()Ljava/lang/Throwable;" } : Jvm.MethodName)) ∈ lw_all := lw_g (lw_at lw_m3 107 rfl) rfl
theorem q1159 : (Jvm.Cond.instantiable "java/util/NoSuchElementException" (6 : Nat)) ∈ lw_all := lw_g (lw_at lw_m5 124 rfl) rfl
theorem q1160 : (Jvm.Cond.castable "java/util/NoSuchElementException" "java/util/NoSuchElementException") ∈ lw_tbl := lw_at lw_m5 125 rfl
theorem q1161 : (Jvm.Cond.selects "java/util/NoSuchElementException" ({ cls := "java/lang/Throwable", name := "fillInStackTrace", desc := "(I)Ljava/lang/Throwable;" } : Jvm.MethodName) ({ cls := "java/lang/Throwable", name := "fillInStackTrace", desc := "(I)Ljava/lang/Throwable;" } : Jvm.MethodName)) ∈ lw_all := lw_g (lw_at lw_m5 126 rfl) rfl
theorem q1162 : (Jvm.Cond.lays "java/util/NoSuchElementException" "java/lang/Throwable" "cause" "Ljava/lang/Throwable;") ∈ lw_all := lw_g (lw_at lw_m5 127 rfl) rfl
theorem q1163 : (Jvm.Cond.lays "java/util/NoSuchElementException" "java/lang/Throwable" "stackTrace" "[Ljava/lang/StackTraceElement;") ∈ lw_all := lw_g (lw_at lw_m5 128 rfl) rfl
theorem q1164 : (Jvm.Cond.lays "java/util/NoSuchElementException" "java/lang/Throwable" "suppressedExceptions" "Ljava/util/List;") ∈ lw_all := lw_g (lw_at lw_m5 129 rfl) rfl
theorem q1165 : (Jvm.Cond.lays "java/util/NoSuchElementException" "java/lang/Throwable" "detailMessage" "Ljava/lang/String;") ∈ lw_all := lw_g (lw_at lw_m5 130 rfl) rfl
theorem q1166 : (Jvm.Cond.lays "java/util/NoSuchElementException" "java/lang/Throwable" "backtrace" "Ljava/lang/Object;") ∈ lw_all := lw_g (lw_at lw_m5 131 rfl) rfl
theorem q1168 : (Jvm.Cond.instanceMethod ({ cls := "java/util/NoSuchElementException", name := "<init>", desc := "()V" } : Jvm.MethodName)) ∈ lw_all := lw_g (lw_at lw_m5 133 rfl) rfl
theorem q1169 : (Jvm.Cond.code ({ cls := "java/util/NoSuchElementException", name := "<init>", desc := "()V" } : Jvm.MethodName) prog_36_method_1_code (1 : Nat) (Option.none : Option Jvm.ClassFile.FieldType)) ∈ lw_all := lw_g (lw_at lw_m5 134 rfl) rfl
theorem q1170 : (Jvm.Cond.methodLink "java/util/NoSuchElementException" (1 : Nat) ({ cls := "java/lang/RuntimeException", name := "<init>", desc := "()V" } : Jvm.MethodName)) ∈ lw_all := lw_g (lw_at lw_m5 135 rfl) rfl
theorem q1177 : (Jvm.Cond.lays "java/util/NoSuchElementException" "java/lang/Throwable" "depth" "I") ∈ lw_all := lw_g (lw_at lw_m5 142 rfl) rfl
theorem q1178 : (Jvm.Cond.superclass "java/util/NoSuchElementException" "java/lang/RuntimeException") ∈ lw_all := lw_g (lw_at lw_m5 143 rfl) rfl
theorem q1744 : (Jvm.Cond.castable "java/util/NoSuchElementException" "java/lang/Object") ∈ lw_tbl := lw_at lw_m7 229 rfl
theorem in_J9 : ∀ w ∈ wsJ90, w ∈ lw_all := lw_in wsJ90 [1162, 1163, 1164, 1165, 1166, 1177] (by decide +kernel) (by decide +kernel)

/-! ClogHouseLaw -/
def RX0 : String := "ClogHouseLaw"
abbrev cX0_worth : ByteArray := method_3_code
def yX0_worth : MethodName := ⟨RX0, "worth", "(LClogHouse;IIIIIIII[J)I"⟩
theorem q75 : (Jvm.Cond.initialized "ClogHouseLaw") ∈ lw_all := lw_g (lw_at lw_m1 0 rfl) rfl
theorem q105 : (Jvm.Cond.classLink "ClogHouseLaw" (8 : Nat) "ClogHouse") ∈ lw_all := lw_g (lw_at lw_m1 30 rfl) rfl
theorem q107 : (Jvm.Cond.methodLink "ClogHouseLaw" (15 : Nat) ({ cls := "ClogHouse", name := "<init>", desc := "()V" } : Jvm.MethodName)) ∈ lw_all := lw_g (lw_at lw_m1 32 rfl) rfl
theorem q346 : (Jvm.Cond.methodLink "ClogHouseLaw" (19 : Nat) ({ cls := "ClogHouse", name := "grain", desc := "(III)Z" } : Jvm.MethodName)) ∈ lw_all := lw_g (lw_at lw_m2 31 rfl) rfl
theorem q359 : (Jvm.Cond.methodLink "ClogHouseLaw" (24 : Nat) ({ cls := "ClogHouse", name := "filter", desc := "()I" } : Jvm.MethodName)) ∈ lw_all := lw_g (lw_at lw_m2 44 rfl) rfl
theorem q363 : (Jvm.Cond.methodLink "ClogHouseLaw" (29 : Nat) ({ cls := "ClogHouse", name := "cell", desc := "(III)I" } : Jvm.MethodName)) ∈ lw_all := lw_g (lw_at lw_m2 48 rfl) rfl
theorem q395 : (Jvm.Cond.methodLink "ClogHouseLaw" (34 : Nat) ({ cls := "ClogHouse", name := "set", desc := "(III)Z" } : Jvm.MethodName)) ∈ lw_all := lw_g (lw_at lw_m2 80 rfl) rfl
theorem q400 : (Jvm.Cond.methodLink "ClogHouseLaw" (38 : Nat) ({ cls := "ClogHouse", name := "celled", desc := "(III)I" } : Jvm.MethodName)) ∈ lw_all := lw_g (lw_at lw_m2 85 rfl) rfl
theorem q445 : (Jvm.Cond.methodLink "ClogHouseLaw" (42 : Nat) ({ cls := "ClogHouse", name := "held", desc := "(IIII)I" } : Jvm.MethodName)) ∈ lw_all := lw_g (lw_at lw_m2 130 rfl) rfl
theorem q449 : (Jvm.Cond.methodLink "ClogHouseLaw" (47 : Nat) ({ cls := "ClogHouse", name := "told", desc := "(II)I" } : Jvm.MethodName)) ∈ lw_all := lw_g (lw_at lw_m2 134 rfl) rfl
theorem q464 : (Jvm.Cond.methodLink "ClogHouseLaw" (52 : Nat) ({ cls := "ClogHouse", name := "push", desc := "(II)I" } : Jvm.MethodName)) ∈ lw_all := lw_g (lw_at lw_m2 149 rfl) rfl
theorem q489 : (Jvm.Cond.methodLink "ClogHouseLaw" (56 : Nat) ({ cls := "ClogHouse", name := "feed", desc := "(IIIII)I" } : Jvm.MethodName)) ∈ lw_all := lw_g (lw_at lw_m2 174 rfl) rfl
theorem q500 : (Jvm.Cond.methodLink "ClogHouseLaw" (61 : Nat) ({ cls := "ClogHouse", name := "end", desc := "(I)Z" } : Jvm.MethodName)) ∈ lw_all := lw_g (lw_at lw_m2 185 rfl) rfl
theorem q504 : (Jvm.Cond.methodLink "ClogHouseLaw" (66 : Nat) ({ cls := "ClogHouse", name := "fault", desc := "()I" } : Jvm.MethodName)) ∈ lw_all := lw_g (lw_at lw_m2 189 rfl) rfl
theorem q869 : (Jvm.Cond.methodLink "ClogHouseLaw" (70 : Nat) ({ cls := "ClogHouse", name := "rules", desc := "()I" } : Jvm.MethodName)) ∈ lw_all := lw_g (lw_at lw_m4 74 rfl) rfl
theorem q873 : (Jvm.Cond.methodLink "ClogHouseLaw" (74 : Nat) ({ cls := "ClogHouse", name := "rule", desc := "(II)Z" } : Jvm.MethodName)) ∈ lw_all := lw_g (lw_at lw_m4 78 rfl) rfl
theorem q881 : (Jvm.Cond.methodLink "ClogHouseLaw" (88 : Nat) ({ cls := "ClogHouse", name := "stream", desc := "(I)Z" } : Jvm.MethodName)) ∈ lw_all := lw_g (lw_at lw_m4 86 rfl) rfl
theorem q885 : (Jvm.Cond.methodLink "ClogHouseLaw" (92 : Nat) ({ cls := "ClogHouse", name := "come", desc := "(II)Z" } : Jvm.MethodName)) ∈ lw_all := lw_g (lw_at lw_m4 90 rfl) rfl
theorem q890 : (Jvm.Cond.methodLink "ClogHouseLaw" (96 : Nat) ({ cls := "ClogHouse", name := "hours", desc := "(I)I" } : Jvm.MethodName)) ∈ lw_all := lw_g (lw_at lw_m4 95 rfl) rfl
theorem q1025 : (Jvm.Cond.methodLink "ClogHouseLaw" (101 : Nat) ({ cls := "ClogHouse", name := "hand", desc := "(II)Z" } : Jvm.MethodName)) ∈ lw_all := lw_g (lw_at lw_m4 230 rfl) rfl
theorem q1029 : (Jvm.Cond.methodLink "ClogHouseLaw" (105 : Nat) ({ cls := "ClogHouse", name := "history", desc := "(III)I" } : Jvm.MethodName)) ∈ lw_all := lw_g (lw_at lw_m4 234 rfl) rfl
theorem q1033 : (Jvm.Cond.methodLink "ClogHouseLaw" (109 : Nat) ({ cls := "ClogHouse", name := "breaks", desc := "(II)I" } : Jvm.MethodName)) ∈ lw_all := lw_g (lw_at lw_m4 238 rfl) rfl
theorem q1038 : (Jvm.Cond.methodLink "ClogHouseLaw" (113 : Nat) ({ cls := "ClogHouse", name := "ripe", desc := "(I)I" } : Jvm.MethodName)) ∈ lw_all := lw_g (lw_at lw_m5 3 rfl) rfl
theorem q1042 : (Jvm.Cond.methodLink "ClogHouseLaw" (117 : Nat) ({ cls := "ClogHouse", name := "share", desc := "(IIII)J" } : Jvm.MethodName)) ∈ lw_all := lw_g (lw_at lw_m5 7 rfl) rfl
theorem q1057 : (Jvm.Cond.methodLink "ClogHouseLaw" (122 : Nat) ({ cls := "ClogHouse", name := "drops", desc := "(III)I" } : Jvm.MethodName)) ∈ lw_all := lw_g (lw_at lw_m5 22 rfl) rfl
theorem q1062 : (Jvm.Cond.methodLink "ClogHouseLaw" (126 : Nat) ({ cls := "ClogHouse", name := "layer", desc := "(II)I" } : Jvm.MethodName)) ∈ lw_all := lw_g (lw_at lw_m5 27 rfl) rfl
theorem q1066 : (Jvm.Cond.methodLink "ClogHouseLaw" (130 : Nat) ({ cls := "ClogHouse", name := "order", desc := "(II)I" } : Jvm.MethodName)) ∈ lw_all := lw_g (lw_at lw_m5 31 rfl) rfl
theorem q1081 : (Jvm.Cond.methodLink "ClogHouseLaw" (134 : Nat) ({ cls := "ClogHouse", name := "cost", desc := "(II)Z" } : Jvm.MethodName)) ∈ lw_all := lw_g (lw_at lw_m5 46 rfl) rfl
theorem q1087 : (Jvm.Cond.methodLink "ClogHouseLaw" (138 : Nat) ({ cls := "ClogHouse", name := "cheapest", desc := "(III)I" } : Jvm.MethodName)) ∈ lw_all := lw_g (lw_at lw_m5 52 rfl) rfl
theorem q1107 : (Jvm.Cond.methodLink "ClogHouseLaw" (142 : Nat) ({ cls := "ClogHouse", name := "gauge", desc := "(IIII)I" } : Jvm.MethodName)) ∈ lw_all := lw_g (lw_at lw_m5 72 rfl) rfl
theorem q1111 : (Jvm.Cond.methodLink "ClogHouseLaw" (146 : Nat) ({ cls := "ClogHouse", name := "back", desc := "(IIII)I" } : Jvm.MethodName)) ∈ lw_all := lw_g (lw_at lw_m5 76 rfl) rfl
theorem q1120 : (Jvm.Cond.methodLink "ClogHouseLaw" (150 : Nat) ({ cls := "ClogHouse", name := "barred", desc := "(III)I" } : Jvm.MethodName)) ∈ lw_all := lw_g (lw_at lw_m5 85 rfl) rfl
theorem q1124 : (Jvm.Cond.methodLink "ClogHouseLaw" (154 : Nat) ({ cls := "ClogHouse", name := "led", desc := "(II)I" } : Jvm.MethodName)) ∈ lw_all := lw_g (lw_at lw_m5 89 rfl) rfl
theorem q1136 : (Jvm.Cond.methodLink "ClogHouseLaw" (158 : Nat) ({ cls := "ClogHouse", name := "digest", desc := "()I" } : Jvm.MethodName)) ∈ lw_all := lw_g (lw_at lw_m5 101 rfl) rfl
theorem q1140 : (Jvm.Cond.methodLink "ClogHouseLaw" (162 : Nat) ({ cls := "ClogHouse", name := "count", desc := "(I)I" } : Jvm.MethodName)) ∈ lw_all := lw_g (lw_at lw_m5 105 rfl) rfl
theorem q1148 : (Jvm.Cond.methodLink "ClogHouseLaw" (79 : Nat) ({ cls := "ClogHouseLaw", name := "worth", desc := "(LClogHouse;IIIIIIII[J)I" } : Jvm.MethodName)) ∈ lw_all := lw_g (lw_at lw_m5 113 rfl) rfl
theorem q1149 : (Jvm.Cond.static ({ cls := "ClogHouseLaw", name := "worth", desc := "(LClogHouse;IIIIIIII[J)I" } : Jvm.MethodName)) ∈ lw_all := lw_g (lw_at lw_m5 114 rfl) rfl
theorem q1150 : (Jvm.Cond.codeWith ({ cls := "ClogHouseLaw", name := "worth", desc := "(LClogHouse;IIIIIIII[J)I" } : Jvm.MethodName) method_3_code (11 : Nat) (Option.some Jvm.ClassFile.FieldType.int) [((0 : Nat), (22 : Nat), (25 : Nat), (13 : Nat))]) ∈ lw_all := lw_g (lw_at lw_m5 115 rfl) rfl
theorem q1151 : (Jvm.Cond.classLink "ClogHouseLaw" (13 : Nat) "java/util/NoSuchElementException") ∈ lw_all := lw_g (lw_at lw_m5 116 rfl) rfl
theorem q1152 : (Jvm.Cond.methodLink "ClogHouseLaw" (7 : Nat) ({ cls := "ClogHouse", name := "worth", desc := "(IIIIIIII)I" } : Jvm.MethodName)) ∈ lw_all := lw_g (lw_at lw_m5 117 rfl) rfl
theorem q1179 : (Jvm.Cond.classLink "ClogHouseLaw" (16 : Nat) "ClogHouseModel") ∈ lw_all := lw_g (lw_at lw_m5 144 rfl) rfl
theorem q1181 : (Jvm.Cond.methodLink "ClogHouseLaw" (18 : Nat) ({ cls := "ClogHouseModel", name := "<init>", desc := "()V" } : Jvm.MethodName)) ∈ lw_all := lw_g (lw_at lw_m5 146 rfl) rfl
theorem q1378 : (Jvm.Cond.methodLink "ClogHouseLaw" (85 : Nat) ({ cls := "ClogHouseModel", name := "thrown", desc := "()I" } : Jvm.MethodName)) ∈ lw_all := lw_g (lw_at lw_m6 103 rfl) rfl
theorem q1382 : (Jvm.Cond.methodLink "ClogHouseLaw" (23 : Nat) ({ cls := "ClogHouseModel", name := "grain", desc := "(III)Z" } : Jvm.MethodName)) ∈ lw_all := lw_g (lw_at lw_m6 107 rfl) rfl
theorem q1389 : (Jvm.Cond.methodLink "ClogHouseLaw" (28 : Nat) ({ cls := "ClogHouseModel", name := "filter", desc := "()I" } : Jvm.MethodName)) ∈ lw_all := lw_g (lw_at lw_m6 114 rfl) rfl
theorem q1393 : (Jvm.Cond.methodLink "ClogHouseLaw" (33 : Nat) ({ cls := "ClogHouseModel", name := "cell", desc := "(III)I" } : Jvm.MethodName)) ∈ lw_all := lw_g (lw_at lw_m6 118 rfl) rfl
theorem q1401 : (Jvm.Cond.methodLink "ClogHouseLaw" (37 : Nat) ({ cls := "ClogHouseModel", name := "set", desc := "(III)Z" } : Jvm.MethodName)) ∈ lw_all := lw_g (lw_at lw_m6 126 rfl) rfl
theorem q1405 : (Jvm.Cond.methodLink "ClogHouseLaw" (55 : Nat) ({ cls := "ClogHouseModel", name := "push", desc := "(II)I" } : Jvm.MethodName)) ∈ lw_all := lw_g (lw_at lw_m6 130 rfl) rfl
theorem q1440 : (Jvm.Cond.methodLink "ClogHouseLaw" (41 : Nat) ({ cls := "ClogHouseModel", name := "celled", desc := "(III)I" } : Jvm.MethodName)) ∈ lw_all := lw_g (lw_at lw_m6 165 rfl) rfl
theorem q1448 : (Jvm.Cond.methodLink "ClogHouseLaw" (46 : Nat) ({ cls := "ClogHouseModel", name := "held", desc := "(IIII)I" } : Jvm.MethodName)) ∈ lw_all := lw_g (lw_at lw_m6 173 rfl) rfl
theorem q1452 : (Jvm.Cond.methodLink "ClogHouseLaw" (51 : Nat) ({ cls := "ClogHouseModel", name := "told", desc := "(II)I" } : Jvm.MethodName)) ∈ lw_all := lw_g (lw_at lw_m6 177 rfl) rfl
theorem q1456 : (Jvm.Cond.methodLink "ClogHouseLaw" (60 : Nat) ({ cls := "ClogHouseModel", name := "feed", desc := "(IIIII)I" } : Jvm.MethodName)) ∈ lw_all := lw_g (lw_at lw_m6 181 rfl) rfl
theorem q1463 : (Jvm.Cond.methodLink "ClogHouseLaw" (65 : Nat) ({ cls := "ClogHouseModel", name := "end", desc := "(I)Z" } : Jvm.MethodName)) ∈ lw_all := lw_g (lw_at lw_m6 188 rfl) rfl
theorem q1467 : (Jvm.Cond.methodLink "ClogHouseLaw" (69 : Nat) ({ cls := "ClogHouseModel", name := "fault", desc := "()I" } : Jvm.MethodName)) ∈ lw_all := lw_g (lw_at lw_m6 192 rfl) rfl
theorem q1539 : (Jvm.Cond.methodLink "ClogHouseLaw" (73 : Nat) ({ cls := "ClogHouseModel", name := "rules", desc := "()I" } : Jvm.MethodName)) ∈ lw_all := lw_g (lw_at lw_m7 24 rfl) rfl
theorem q1544 : (Jvm.Cond.methodLink "ClogHouseLaw" (78 : Nat) ({ cls := "ClogHouseModel", name := "rule", desc := "(II)Z" } : Jvm.MethodName)) ∈ lw_all := lw_g (lw_at lw_m7 29 rfl) rfl
theorem q1548 : (Jvm.Cond.methodLink "ClogHouseLaw" (84 : Nat) ({ cls := "ClogHouseModel", name := "worth", desc := "(IIIIIIII)I" } : Jvm.MethodName)) ∈ lw_all := lw_g (lw_at lw_m7 33 rfl) rfl
theorem q1569 : (Jvm.Cond.methodLink "ClogHouseLaw" (91 : Nat) ({ cls := "ClogHouseModel", name := "stream", desc := "(I)Z" } : Jvm.MethodName)) ∈ lw_all := lw_g (lw_at lw_m7 54 rfl) rfl
theorem q1573 : (Jvm.Cond.methodLink "ClogHouseLaw" (95 : Nat) ({ cls := "ClogHouseModel", name := "come", desc := "(II)Z" } : Jvm.MethodName)) ∈ lw_all := lw_g (lw_at lw_m7 58 rfl) rfl
theorem q1577 : (Jvm.Cond.methodLink "ClogHouseLaw" (100 : Nat) ({ cls := "ClogHouseModel", name := "hours", desc := "(I)I" } : Jvm.MethodName)) ∈ lw_all := lw_g (lw_at lw_m7 62 rfl) rfl
theorem q1628 : (Jvm.Cond.methodLink "ClogHouseLaw" (104 : Nat) ({ cls := "ClogHouseModel", name := "hand", desc := "(II)Z" } : Jvm.MethodName)) ∈ lw_all := lw_g (lw_at lw_m7 113 rfl) rfl
theorem q1632 : (Jvm.Cond.methodLink "ClogHouseLaw" (108 : Nat) ({ cls := "ClogHouseModel", name := "history", desc := "(III)I" } : Jvm.MethodName)) ∈ lw_all := lw_g (lw_at lw_m7 117 rfl) rfl
theorem q1636 : (Jvm.Cond.methodLink "ClogHouseLaw" (112 : Nat) ({ cls := "ClogHouseModel", name := "breaks", desc := "(II)I" } : Jvm.MethodName)) ∈ lw_all := lw_g (lw_at lw_m7 121 rfl) rfl
theorem q1640 : (Jvm.Cond.methodLink "ClogHouseLaw" (116 : Nat) ({ cls := "ClogHouseModel", name := "ripe", desc := "(I)I" } : Jvm.MethodName)) ∈ lw_all := lw_g (lw_at lw_m7 125 rfl) rfl
theorem q1644 : (Jvm.Cond.methodLink "ClogHouseLaw" (157 : Nat) ({ cls := "ClogHouseModel", name := "led", desc := "(II)I" } : Jvm.MethodName)) ∈ lw_all := lw_g (lw_at lw_m7 129 rfl) rfl
theorem q1648 : (Jvm.Cond.methodLink "ClogHouseLaw" (161 : Nat) ({ cls := "ClogHouseModel", name := "digest", desc := "()I" } : Jvm.MethodName)) ∈ lw_all := lw_g (lw_at lw_m7 133 rfl) rfl
theorem q1652 : (Jvm.Cond.methodLink "ClogHouseLaw" (121 : Nat) ({ cls := "ClogHouseModel", name := "share", desc := "(IIII)J" } : Jvm.MethodName)) ∈ lw_all := lw_g (lw_at lw_m7 137 rfl) rfl
theorem q1666 : (Jvm.Cond.methodLink "ClogHouseLaw" (125 : Nat) ({ cls := "ClogHouseModel", name := "drops", desc := "(III)I" } : Jvm.MethodName)) ∈ lw_all := lw_g (lw_at lw_m7 151 rfl) rfl
theorem q1670 : (Jvm.Cond.methodLink "ClogHouseLaw" (129 : Nat) ({ cls := "ClogHouseModel", name := "layer", desc := "(II)I" } : Jvm.MethodName)) ∈ lw_all := lw_g (lw_at lw_m7 155 rfl) rfl
theorem q1674 : (Jvm.Cond.methodLink "ClogHouseLaw" (133 : Nat) ({ cls := "ClogHouseModel", name := "order", desc := "(II)I" } : Jvm.MethodName)) ∈ lw_all := lw_g (lw_at lw_m7 159 rfl) rfl
theorem q1686 : (Jvm.Cond.methodLink "ClogHouseLaw" (137 : Nat) ({ cls := "ClogHouseModel", name := "cost", desc := "(II)Z" } : Jvm.MethodName)) ∈ lw_all := lw_g (lw_at lw_m7 171 rfl) rfl
theorem q1690 : (Jvm.Cond.methodLink "ClogHouseLaw" (141 : Nat) ({ cls := "ClogHouseModel", name := "cheapest", desc := "(III)I" } : Jvm.MethodName)) ∈ lw_all := lw_g (lw_at lw_m7 175 rfl) rfl
theorem q1698 : (Jvm.Cond.methodLink "ClogHouseLaw" (145 : Nat) ({ cls := "ClogHouseModel", name := "gauge", desc := "(IIII)I" } : Jvm.MethodName)) ∈ lw_all := lw_g (lw_at lw_m7 183 rfl) rfl
theorem q1702 : (Jvm.Cond.methodLink "ClogHouseLaw" (149 : Nat) ({ cls := "ClogHouseModel", name := "back", desc := "(IIII)I" } : Jvm.MethodName)) ∈ lw_all := lw_g (lw_at lw_m7 187 rfl) rfl
theorem q1718 : (Jvm.Cond.methodLink "ClogHouseLaw" (153 : Nat) ({ cls := "ClogHouseModel", name := "barred", desc := "(III)I" } : Jvm.MethodName)) ∈ lw_all := lw_g (lw_at lw_m7 203 rfl) rfl
theorem q1722 : (Jvm.Cond.methodLink "ClogHouseLaw" (165 : Nat) ({ cls := "ClogHouseModel", name := "count", desc := "(I)I" } : Jvm.MethodName)) ∈ lw_all := lw_g (lw_at lw_m7 207 rfl) rfl

/-! ClogHouse -/
def RX1 : String := "ClogHouse"
def TX1 : u_T := fun k => match k with
  | 0 => ("ClogHouse", "now", "I", false)
  | 1 => ("ClogHouse", "grains", "LClogHouse$Grains;", true)
  | 2 => ("ClogHouse", "filters", "[LClogHouse$Filter;", true)
  | 3 => ("ClogHouse", "filterMany", "I", false)
  | 4 => ("ClogHouse", "tape", "[B", true)
  | 5 => ("ClogHouse", "texts", "[LClogHouse$Clause;", true)
  | 6 => ("ClogHouse", "letters", "[I", true)
  | 7 => ("ClogHouse", "length", "I", false)
  | 8 => ("ClogHouse", "textMany", "I", false)
  | 9 => ("ClogHouse", "comes", "[I", true)
  | 10 => ("ClogHouse", "waste", "[I", true)
  | 11 => ("ClogHouse", "came", "[I", true)
  | 12 => ("ClogHouse", "washedOff", "[I", true)
  | 13 => ("ClogHouse", "carriedOff", "[I", true)
  | 14 => ("ClogHouse", "wentOut", "[I", true)
  | 15 => ("ClogHouse", "wentRound", "[I", true)
  | 16 => ("ClogHouse", "outs", "[I", true)
  | 17 => ("ClogHouse", "round", "[I", true)
  | 18 => ("ClogHouse", "strength", "[I", true)
  | 19 => ("ClogHouse", "ran", "[I", true)
  | 20 => ("ClogHouse", "history", "[I", true)
  | 21 => ("ClogHouse", "stream", "I", false)
  | 22 => ("ClogHouse", "layerPore", "[I", true)
  | 23 => ("ClogHouse", "layerTake", "[I", true)
  | 24 => ("ClogHouse", "tried", "[I", true)
  | 25 => ("ClogHouse", "bestOrder", "[I", true)
  | 26 => ("ClogHouse", "layerMany", "I", false)
  | 27 => ("ClogHouse", "bestHours", "I", false)
  | 28 => ("ClogHouse", "bench", "[LClogHouse$Cell;", true)
  | 29 => ("ClogHouse", "alone", "LClogHouse$Filter;", true)
  | 30 => ("ClogHouse", "costs", "[I", true)
  | 31 => ("ClogHouse", "cheap", "[I", true)
  | 32 => ("ClogHouse", "price", "I", false)
  | 33 => ("ClogHouse", "gaugeFilter", "[I", true)
  | 34 => ("ClogHouse", "gaugeCell", "[I", true)
  | 35 => ("ClogHouse", "gaugeFrom", "[I", true)
  | 36 => ("ClogHouse", "gaugeTo", "[I", true)
  | 37 => ("ClogHouse", "gaugeTold", "[I", true)
  | _ => ("ClogHouse", "readings", "I", false)
def tyX1 : Nat → FieldType := fun k => match k with
  | 0 => .int
  | 1 => .object "ClogHouse$Grains"
  | 2 => .array (.object "ClogHouse$Filter")
  | 3 => .int
  | 4 => .array .byte
  | 5 => .array (.object "ClogHouse$Clause")
  | 6 => .array .int
  | 7 => .int
  | 8 => .int
  | 9 => .array .int
  | 10 => .array .int
  | 11 => .array .int
  | 12 => .array .int
  | 13 => .array .int
  | 14 => .array .int
  | 15 => .array .int
  | 16 => .array .int
  | 17 => .array .int
  | 18 => .array .int
  | 19 => .array .int
  | 20 => .array .int
  | 21 => .int
  | 22 => .array .int
  | 23 => .array .int
  | 24 => .array .int
  | 25 => .array .int
  | 26 => .int
  | 27 => .int
  | 28 => .array (.object "ClogHouse$Cell")
  | 29 => .object "ClogHouse$Filter"
  | 30 => .array .int
  | 31 => .array .int
  | 32 => .int
  | 33 => .array .int
  | 34 => .array .int
  | 35 => .array .int
  | 36 => .array .int
  | 37 => .array .int
  | _ => .int
abbrev wsX10 : List Cond := u_ws RX1 TX1 39
set_option maxRecDepth 100000 in
theorem nmX1 : ∀ a, a < 39 → ∀ b, b < 39 → a ≠ b → (TX1 a).2.1 ≠ (TX1 b).2.1 := by decide +kernel
set_option maxRecDepth 100000 in
theorem tyX1_ok : ∀ k, k < 39 → parseFieldDescriptor (TX1 k).2.2.1 = some (tyX1 k) := by decide +kernel
abbrev cX1_init : ByteArray := prog_1_method_3_code
def yX1_init : MethodName := ⟨RX1, "<init>", "()V"⟩
abbrev cX1_grain : ByteArray := prog_1_method_4_code
def yX1_grain : MethodName := ⟨RX1, "grain", "(III)Z"⟩
abbrev cX1_isSize : ByteArray := prog_1_method_2_code
def yX1_isSize : MethodName := ⟨RX1, "isSize", "(I)Z"⟩
abbrev cX1_isIn : ByteArray := prog_1_method_1_code
def yX1_isIn : MethodName := ⟨RX1, "isIn", "(JJJ)Z"⟩
abbrev cX1_filter : ByteArray := prog_1_method_7_code
def yX1_filter : MethodName := ⟨RX1, "filter", "()I"⟩
abbrev cX1_cell : ByteArray := prog_1_method_8_code
def yX1_cell : MethodName := ⟨RX1, "cell", "(III)I"⟩
abbrev cX1_isFilter : ByteArray := prog_1_method_5_code
def yX1_isFilter : MethodName := ⟨RX1, "isFilter", "(I)Z"⟩
abbrev cX1_set : ByteArray := prog_1_method_9_code
def yX1_set : MethodName := ⟨RX1, "set", "(III)Z"⟩
abbrev cX1_celled : ByteArray := prog_1_method_10_code
def yX1_celled : MethodName := ⟨RX1, "celled", "(III)I"⟩
abbrev cX1_isCell : ByteArray := prog_1_method_6_code
def yX1_isCell : MethodName := ⟨RX1, "isCell", "(II)Z"⟩
abbrev cX1_held : ByteArray := prog_1_method_11_code
def yX1_held : MethodName := ⟨RX1, "held", "(IIII)I"⟩
abbrev cX1_told : ByteArray := prog_1_method_12_code
def yX1_told : MethodName := ⟨RX1, "told", "(II)I"⟩
abbrev cX1_push : ByteArray := prog_1_method_13_code
def yX1_push : MethodName := ⟨RX1, "push", "(II)I"⟩
abbrev cX1_feed : ByteArray := prog_1_method_15_code
def yX1_feed : MethodName := ⟨RX1, "feed", "(IIIII)I"⟩
abbrev cX1_bytes : ByteArray := prog_1_method_16_code
def yX1_bytes : MethodName := ⟨RX1, "bytes", "(I)I"⟩
abbrev cX1_put : ByteArray := prog_1_method_17_code
def yX1_put : MethodName := ⟨RX1, "put", "(I)V"⟩
abbrev cX1_end : ByteArray := prog_1_method_18_code
def yX1_end : MethodName := ⟨RX1, "end", "(I)Z"⟩
abbrev cX1_fault : ByteArray := prog_1_method_19_code
def yX1_fault : MethodName := ⟨RX1, "fault", "()I"⟩
abbrev cX1_rules : ByteArray := prog_1_method_20_code
def yX1_rules : MethodName := ⟨RX1, "rules", "()I"⟩
abbrev cX1_rule : ByteArray := prog_1_method_22_code
def yX1_rule : MethodName := ⟨RX1, "rule", "(II)Z"⟩
abbrev cX1_isText : ByteArray := prog_1_method_21_code
def yX1_isText : MethodName := ⟨RX1, "isText", "(I)Z"⟩
abbrev cX1_stream : ByteArray := prog_1_method_25_code
def yX1_stream : MethodName := ⟨RX1, "stream", "(I)Z"⟩
abbrev cX1_come : ByteArray := prog_1_method_26_code
def yX1_come : MethodName := ⟨RX1, "come", "(II)Z"⟩
abbrev cX1_hours : ByteArray := prog_1_method_27_code
def yX1_hours : MethodName := ⟨RX1, "hours", "(I)I"⟩
abbrev cX1_hour : ByteArray := prog_1_method_28_code
def yX1_hour : MethodName := ⟨RX1, "hour", "()V"⟩
abbrev cX1_begins : ByteArray := prog_1_method_29_code
def yX1_begins : MethodName := ⟨RX1, "begins", "(I)V"⟩
abbrev cX1_decides : ByteArray := prog_1_method_30_code
def yX1_decides : MethodName := ⟨RX1, "decides", "(I)V"⟩
abbrev cX1_let : ByteArray := prog_1_method_23_code
def yX1_let : MethodName := ⟨RX1, "let", "(IIIIII)V"⟩
abbrev cX1_bound : ByteArray := prog_1_method_14_code
def yX1_bound : MethodName := ⟨RX1, "bound", "(J)I"⟩
abbrev cX1_runs : ByteArray := prog_1_method_31_code
def yX1_runs : MethodName := ⟨RX1, "runs", "()V"⟩
abbrev cX1_parts : ByteArray := prog_1_method_32_code
def yX1_parts : MethodName := ⟨RX1, "parts", "()V"⟩
abbrev cX1_goes : ByteArray := prog_1_method_33_code
def yX1_goes : MethodName := ⟨RX1, "goes", "(LClogHouse$Filter;)V"⟩
abbrev cX1_hand : ByteArray := prog_1_method_34_code
def yX1_hand : MethodName := ⟨RX1, "hand", "(II)Z"⟩
abbrev cX1_history : ByteArray := prog_1_method_35_code
def yX1_history : MethodName := ⟨RX1, "history", "(III)I"⟩
abbrev cX1_breaks : ByteArray := prog_1_method_36_code
def yX1_breaks : MethodName := ⟨RX1, "breaks", "(II)I"⟩
abbrev cX1_ripe : ByteArray := prog_1_method_37_code
def yX1_ripe : MethodName := ⟨RX1, "ripe", "(I)I"⟩
abbrev cX1_share : ByteArray := prog_1_method_41_code
def yX1_share : MethodName := ⟨RX1, "share", "(IIII)J"⟩
abbrev cX1_isTest : ByteArray := prog_1_method_40_code
def yX1_isTest : MethodName := ⟨RX1, "isTest", "(III)Z"⟩
abbrev cX1_ways : ByteArray := prog_1_method_38_code
def yX1_ways : MethodName := ⟨RX1, "ways", "(II)J"⟩
abbrev cX1_gcd : ByteArray := prog_1_method_39_code
def yX1_gcd : MethodName := ⟨RX1, "gcd", "(JJ)J"⟩
abbrev cX1_drops : ByteArray := prog_1_method_42_code
def yX1_drops : MethodName := ⟨RX1, "drops", "(III)I"⟩
abbrev cX1_layer : ByteArray := prog_1_method_43_code
def yX1_layer : MethodName := ⟨RX1, "layer", "(II)I"⟩
abbrev cX1_order : ByteArray := prog_1_method_46_code
def yX1_order : MethodName := ⟨RX1, "order", "(II)I"⟩
abbrev cX1_tryLayers : ByteArray := prog_1_method_44_code
def yX1_tryLayers : MethodName := ⟨RX1, "tryLayers", "(III)V"⟩
abbrev cX1_lasts : ByteArray := prog_1_method_45_code
def yX1_lasts : MethodName := ⟨RX1, "lasts", "(I)I"⟩
abbrev cX1_cost : ByteArray := prog_1_method_47_code
def yX1_cost : MethodName := ⟨RX1, "cost", "(II)Z"⟩
abbrev cX1_cheapest : ByteArray := prog_1_method_52_code
def yX1_cheapest : MethodName := ⟨RX1, "cheapest", "(III)I"⟩
abbrev cX1_stays : ByteArray := prog_1_method_50_code
def yX1_stays : MethodName := ⟨RX1, "stays", "(II)I"⟩
abbrev cX1_costOf : ByteArray := prog_1_method_48_code
def yX1_costOf : MethodName := ⟨RX1, "costOf", "(I)I"⟩
abbrev cX1_cheapAt : ByteArray := prog_1_method_49_code
def yX1_cheapAt : MethodName := ⟨RX1, "cheapAt", "(II)I"⟩
abbrev cX1_changes : ByteArray := prog_1_method_51_code
def yX1_changes : MethodName := ⟨RX1, "changes", "(I)I"⟩
abbrev cX1_gauge : ByteArray := prog_1_method_53_code
def yX1_gauge : MethodName := ⟨RX1, "gauge", "(IIII)I"⟩
abbrev cX1_back : ByteArray := prog_1_method_55_code
def yX1_back : MethodName := ⟨RX1, "back", "(IIII)I"⟩
abbrev cX1_goes_2 : ByteArray := prog_1_method_54_code
def yX1_goes_2 : MethodName := ⟨RX1, "goes", "(IIIII)Z"⟩
abbrev cX1_barred : ByteArray := prog_1_method_56_code
def yX1_barred : MethodName := ⟨RX1, "barred", "(III)I"⟩
abbrev cX1_led : ByteArray := prog_1_method_57_code
def yX1_led : MethodName := ⟨RX1, "led", "(II)I"⟩
abbrev cX1_digest : ByteArray := prog_1_method_58_code
def yX1_digest : MethodName := ⟨RX1, "digest", "()I"⟩
abbrev cX1_count : ByteArray := prog_1_method_60_code
def yX1_count : MethodName := ⟨RX1, "count", "(I)I"⟩
abbrev cX1_countOf : ByteArray := prog_1_method_59_code
def yX1_countOf : MethodName := ⟨RX1, "countOf", "(I)I"⟩
abbrev cX1_worth : ByteArray := prog_1_method_24_code
def yX1_worth : MethodName := ⟨RX1, "worth", "(IIIIIIII)I"⟩
theorem q76 : (Jvm.Cond.initialized "ClogHouse") ∈ lw_all := lw_g (lw_at lw_m1 1 rfl) rfl
theorem q106 : (Jvm.Cond.instantiable "ClogHouse" (39 : Nat)) ∈ lw_all := lw_g (lw_at lw_m1 31 rfl) rfl
theorem q108 : (Jvm.Cond.instanceMethod ({ cls := "ClogHouse", name := "<init>", desc := "()V" } : Jvm.MethodName)) ∈ lw_all := lw_g (lw_at lw_m1 33 rfl) rfl
theorem q109 : (Jvm.Cond.code ({ cls := "ClogHouse", name := "<init>", desc := "()V" } : Jvm.MethodName) prog_1_method_3_code (2 : Nat) (Option.none : Option Jvm.ClassFile.FieldType)) ∈ lw_all := lw_g (lw_at lw_m1 34 rfl) rfl
theorem q110 : (Jvm.Cond.methodLink "ClogHouse" (9 : Nat) ({ cls := "java/lang/Object", name := "<init>", desc := "()V" } : Jvm.MethodName)) ∈ lw_all := lw_g (lw_at lw_m1 35 rfl) rfl
theorem q113 : (Jvm.Cond.classLink "ClogHouse" (15 : Nat) "ClogHouse$Grains") ∈ lw_all := lw_g (lw_at lw_m1 38 rfl) rfl
theorem q115 : (Jvm.Cond.methodLinkNest "ClogHouse" (17 : Nat) ({ cls := "ClogHouse$Grains", name := "<init>", desc := "()V" } : Jvm.MethodName) "ClogHouse") ∈ lw_tbl := lw_at lw_m1 40 rfl
theorem q120 : (Jvm.Cond.fieldLinkNest "ClogHouse" (123 : Nat) "ClogHouse$Grains" "stick" "[I" "ClogHouse") ∈ lw_tbl := lw_at lw_m1 45 rfl
theorem q122 : (Jvm.Cond.fieldLinkNest "ClogHouse" (126 : Nat) "ClogHouse$Grains" "off" "[I" "ClogHouse") ∈ lw_tbl := lw_at lw_m1 47 rfl
theorem q125 : (Jvm.Cond.fieldLinkNest "ClogHouse" (129 : Nat) "ClogHouse$Grains" "stay" "[I" "ClogHouse") ∈ lw_tbl := lw_at lw_m1 50 rfl
theorem q135 : (Jvm.Cond.classLink "ClogHouse" (22 : Nat) "ClogHouse$Filter") ∈ lw_all := lw_g (lw_at lw_m1 60 rfl) rfl
theorem q137 : (Jvm.Cond.classLink "ClogHouse" (32 : Nat) "ClogHouse$Clause") ∈ lw_all := lw_g (lw_at lw_m1 62 rfl) rfl
theorem q139 : (Jvm.Cond.constant "ClogHouse" (75 : Nat) (48024 : Int32)) ∈ lw_all := lw_g (lw_at lw_m1 64 rfl) rfl
theorem q140 : (Jvm.Cond.classLink "ClogHouse" (91 : Nat) "ClogHouse$Cell") ∈ lw_all := lw_g (lw_at lw_m1 65 rfl) rfl
theorem q143 : (Jvm.Cond.methodLinkNest "ClogHouse" (97 : Nat) ({ cls := "ClogHouse$Filter", name := "<init>", desc := "()V" } : Jvm.MethodName) "ClogHouse") ∈ lw_tbl := lw_at lw_m1 68 rfl
theorem q162 : (Jvm.Cond.fieldLink "ClogHouse" (187 : Nat) "ClogHouse$Cell" "held" "[I") ∈ lw_all := lw_g (lw_at lw_m1 87 rfl) rfl
theorem q168 : (Jvm.Cond.fieldLinkNest "ClogHouse" (156 : Nat) "ClogHouse$Filter" "cells" "[LClogHouse$Cell;" "ClogHouse") ∈ lw_tbl := lw_at lw_m1 93 rfl
theorem q170 : (Jvm.Cond.fieldLinkNest "ClogHouse" (202 : Nat) "ClogHouse$Filter" "cake" "LClogHouse$Cake;" "ClogHouse") ∈ lw_tbl := lw_at lw_m1 95 rfl
theorem q172 : (Jvm.Cond.fieldLinkNest "ClogHouse" (164 : Nat) "ClogHouse$Filter" "set" "[I" "ClogHouse") ∈ lw_tbl := lw_at lw_m1 97 rfl
theorem q174 : (Jvm.Cond.fieldLinkNest "ClogHouse" (330 : Nat) "ClogHouse$Filter" "gets" "[I" "ClogHouse") ∈ lw_tbl := lw_at lw_m1 99 rfl
theorem q177 : (Jvm.Cond.fieldLinkNest "ClogHouse" (147 : Nat) "ClogHouse$Filter" "cellMany" "I" "ClogHouse") ∈ lw_tbl := lw_at lw_m1 102 rfl
theorem q178 : (Jvm.Cond.fieldLinkNest "ClogHouse" (193 : Nat) "ClogHouse$Filter" "state" "I" "ClogHouse") ∈ lw_tbl := lw_at lw_m1 103 rfl
theorem q180 : (Jvm.Cond.fieldLinkNest "ClogHouse" (196 : Nat) "ClogHouse$Filter" "since" "I" "ClogHouse") ∈ lw_tbl := lw_at lw_m1 105 rfl
theorem q182 : (Jvm.Cond.fieldLinkNest "ClogHouse" (199 : Nat) "ClogHouse$Filter" "washes" "I" "ClogHouse") ∈ lw_tbl := lw_at lw_m1 107 rfl
theorem q183 : (Jvm.Cond.fieldLinkNest "ClogHouse" (216 : Nat) "ClogHouse$Filter" "share" "I" "ClogHouse") ∈ lw_tbl := lw_at lw_m1 108 rfl
theorem q184 : (Jvm.Cond.fieldLinkNest "ClogHouse" (219 : Nat) "ClogHouse$Filter" "push" "I" "ClogHouse") ∈ lw_tbl := lw_at lw_m1 109 rfl
theorem q186 : (Jvm.Cond.fieldLinkNest "ClogHouse" (222 : Nat) "ClogHouse$Filter" "out" "I" "ClogHouse") ∈ lw_tbl := lw_at lw_m1 111 rfl
theorem q188 : (Jvm.Cond.fieldLinkNest "ClogHouse" (347 : Nat) "ClogHouse$Filter" "best" "I" "ClogHouse") ∈ lw_tbl := lw_at lw_m1 113 rfl
theorem q189 : (Jvm.Cond.fieldLinkNest "ClogHouse" (350 : Nat) "ClogHouse$Filter" "bestOut" "I" "ClogHouse") ∈ lw_tbl := lw_at lw_m1 114 rfl
theorem q190 : (Jvm.Cond.fieldLinkNest "ClogHouse" (337 : Nat) "ClogHouse$Filter" "weight" "I" "ClogHouse") ∈ lw_tbl := lw_at lw_m1 115 rfl
theorem q191 : (Jvm.Cond.fieldLinkNest "ClogHouse" (152 : Nat) "ClogHouse$Filter" "hasRun" "Z" "ClogHouse") ∈ lw_tbl := lw_at lw_m1 116 rfl
theorem q192 : (Jvm.Cond.fieldLinkNest "ClogHouse" (272 : Nat) "ClogHouse$Filter" "rules" "LClogHouse$Clause;" "ClogHouse") ∈ lw_tbl := lw_at lw_m1 117 rfl
theorem q228 : (Jvm.Cond.fieldLink "ClogHouse" (299 : Nat) "ClogHouse" "now" "I") ∈ lw_all := lw_g (lw_at lw_m1 153 rfl) rfl
theorem q229 : (Jvm.Cond.fieldLink "ClogHouse" (18 : Nat) "ClogHouse" "grains" "LClogHouse$Grains;") ∈ lw_all := lw_g (lw_at lw_m1 154 rfl) rfl
theorem q230 : (Jvm.Cond.fieldLink "ClogHouse" (24 : Nat) "ClogHouse" "filters" "[LClogHouse$Filter;") ∈ lw_all := lw_g (lw_at lw_m1 155 rfl) rfl
theorem q231 : (Jvm.Cond.fieldLink "ClogHouse" (140 : Nat) "ClogHouse" "filterMany" "I") ∈ lw_all := lw_g (lw_at lw_m1 156 rfl) rfl
theorem q232 : (Jvm.Cond.fieldLink "ClogHouse" (28 : Nat) "ClogHouse" "tape" "[B") ∈ lw_all := lw_g (lw_at lw_m1 157 rfl) rfl
theorem q233 : (Jvm.Cond.fieldLink "ClogHouse" (34 : Nat) "ClogHouse" "texts" "[LClogHouse$Clause;") ∈ lw_all := lw_g (lw_at lw_m1 158 rfl) rfl
theorem q234 : (Jvm.Cond.fieldLink "ClogHouse" (38 : Nat) "ClogHouse" "letters" "[I") ∈ lw_all := lw_g (lw_at lw_m1 159 rfl) rfl
theorem q235 : (Jvm.Cond.fieldLink "ClogHouse" (245 : Nat) "ClogHouse" "length" "I") ∈ lw_all := lw_g (lw_at lw_m1 160 rfl) rfl
theorem q236 : (Jvm.Cond.fieldLink "ClogHouse" (266 : Nat) "ClogHouse" "textMany" "I") ∈ lw_all := lw_g (lw_at lw_m1 161 rfl) rfl
theorem q237 : (Jvm.Cond.fieldLink "ClogHouse" (42 : Nat) "ClogHouse" "comes" "[I") ∈ lw_all := lw_g (lw_at lw_m1 162 rfl) rfl
theorem q238 : (Jvm.Cond.fieldLink "ClogHouse" (45 : Nat) "ClogHouse" "waste" "[I") ∈ lw_all := lw_g (lw_at lw_m1 163 rfl) rfl
theorem q239 : (Jvm.Cond.fieldLink "ClogHouse" (48 : Nat) "ClogHouse" "came" "[I") ∈ lw_all := lw_g (lw_at lw_m1 164 rfl) rfl
theorem q240 : (Jvm.Cond.fieldLink "ClogHouse" (51 : Nat) "ClogHouse" "washedOff" "[I") ∈ lw_all := lw_g (lw_at lw_m1 165 rfl) rfl
theorem q241 : (Jvm.Cond.fieldLink "ClogHouse" (54 : Nat) "ClogHouse" "carriedOff" "[I") ∈ lw_all := lw_g (lw_at lw_m1 166 rfl) rfl
theorem q242 : (Jvm.Cond.fieldLink "ClogHouse" (57 : Nat) "ClogHouse" "wentOut" "[I") ∈ lw_all := lw_g (lw_at lw_m1 167 rfl) rfl
theorem q243 : (Jvm.Cond.fieldLink "ClogHouse" (60 : Nat) "ClogHouse" "wentRound" "[I") ∈ lw_all := lw_g (lw_at lw_m1 168 rfl) rfl
theorem q244 : (Jvm.Cond.fieldLink "ClogHouse" (63 : Nat) "ClogHouse" "outs" "[I") ∈ lw_all := lw_g (lw_at lw_m1 169 rfl) rfl
theorem q245 : (Jvm.Cond.fieldLink "ClogHouse" (66 : Nat) "ClogHouse" "round" "[I") ∈ lw_all := lw_g (lw_at lw_m1 170 rfl) rfl
theorem q246 : (Jvm.Cond.fieldLink "ClogHouse" (69 : Nat) "ClogHouse" "strength" "[I") ∈ lw_all := lw_g (lw_at lw_m1 171 rfl) rfl
theorem q247 : (Jvm.Cond.fieldLink "ClogHouse" (72 : Nat) "ClogHouse" "ran" "[I") ∈ lw_all := lw_g (lw_at lw_m1 172 rfl) rfl
theorem q248 : (Jvm.Cond.fieldLink "ClogHouse" (76 : Nat) "ClogHouse" "history" "[I") ∈ lw_all := lw_g (lw_at lw_m1 173 rfl) rfl
theorem q249 : (Jvm.Cond.fieldLink "ClogHouse" (294 : Nat) "ClogHouse" "stream" "I") ∈ lw_all := lw_g (lw_at lw_m1 174 rfl) rfl
theorem q250 : (Jvm.Cond.fieldLink "ClogHouse" (79 : Nat) "ClogHouse" "layerPore" "[I") ∈ lw_all := lw_g (lw_at lw_m1 175 rfl) rfl
theorem q251 : (Jvm.Cond.fieldLink "ClogHouse" (82 : Nat) "ClogHouse" "layerTake" "[I") ∈ lw_all := lw_g (lw_at lw_m1 176 rfl) rfl
theorem q252 : (Jvm.Cond.fieldLink "ClogHouse" (85 : Nat) "ClogHouse" "tried" "[I") ∈ lw_all := lw_g (lw_at lw_m1 177 rfl) rfl
theorem q253 : (Jvm.Cond.fieldLink "ClogHouse" (88 : Nat) "ClogHouse" "bestOrder" "[I") ∈ lw_all := lw_g (lw_at lw_m1 178 rfl) rfl
theorem q254 : (Jvm.Cond.fieldLink "ClogHouse" (374 : Nat) "ClogHouse" "layerMany" "I") ∈ lw_all := lw_g (lw_at lw_m1 179 rfl) rfl
theorem q255 : (Jvm.Cond.fieldLink "ClogHouse" (380 : Nat) "ClogHouse" "bestHours" "I") ∈ lw_all := lw_g (lw_at lw_m1 180 rfl) rfl
theorem q256 : (Jvm.Cond.fieldLink "ClogHouse" (93 : Nat) "ClogHouse" "bench" "[LClogHouse$Cell;") ∈ lw_all := lw_g (lw_at lw_m1 181 rfl) rfl
theorem q257 : (Jvm.Cond.fieldLink "ClogHouse" (98 : Nat) "ClogHouse" "alone" "LClogHouse$Filter;") ∈ lw_all := lw_g (lw_at lw_m1 182 rfl) rfl
theorem q258 : (Jvm.Cond.fieldLink "ClogHouse" (102 : Nat) "ClogHouse" "costs" "[I") ∈ lw_all := lw_g (lw_at lw_m1 183 rfl) rfl
theorem q259 : (Jvm.Cond.fieldLink "ClogHouse" (105 : Nat) "ClogHouse" "cheap" "[I") ∈ lw_all := lw_g (lw_at lw_m1 184 rfl) rfl
theorem q260 : (Jvm.Cond.fieldLink "ClogHouse" (397 : Nat) "ClogHouse" "price" "I") ∈ lw_all := lw_g (lw_at lw_m1 185 rfl) rfl
theorem q261 : (Jvm.Cond.fieldLink "ClogHouse" (108 : Nat) "ClogHouse" "gaugeFilter" "[I") ∈ lw_all := lw_g (lw_at lw_m1 186 rfl) rfl
theorem q262 : (Jvm.Cond.fieldLink "ClogHouse" (111 : Nat) "ClogHouse" "gaugeCell" "[I") ∈ lw_all := lw_g (lw_at lw_m1 187 rfl) rfl
theorem q263 : (Jvm.Cond.fieldLink "ClogHouse" (114 : Nat) "ClogHouse" "gaugeFrom" "[I") ∈ lw_all := lw_g (lw_at lw_m1 188 rfl) rfl
theorem q264 : (Jvm.Cond.fieldLink "ClogHouse" (117 : Nat) "ClogHouse" "gaugeTo" "[I") ∈ lw_all := lw_g (lw_at lw_m1 189 rfl) rfl
theorem q265 : (Jvm.Cond.fieldLink "ClogHouse" (120 : Nat) "ClogHouse" "gaugeTold" "[I") ∈ lw_all := lw_g (lw_at lw_m1 190 rfl) rfl
theorem q266 : (Jvm.Cond.fieldLink "ClogHouse" (412 : Nat) "ClogHouse" "readings" "I") ∈ lw_all := lw_g (lw_at lw_m1 191 rfl) rfl
theorem q267 : (Jvm.Cond.lays "ClogHouse" "ClogHouse" "now" "I") ∈ lw_all := lw_g (lw_at lw_m1 192 rfl) rfl
theorem q268 : (Jvm.Cond.soleField "ClogHouse" "now") ∈ lw_all := lw_g (lw_at lw_m1 193 rfl) rfl
theorem q269 : (Jvm.Cond.laysFinal "ClogHouse" "ClogHouse" "grains" "LClogHouse$Grains;") ∈ lw_all := lw_g (lw_at lw_m1 194 rfl) rfl
theorem q270 : (Jvm.Cond.soleField "ClogHouse" "grains") ∈ lw_all := lw_g (lw_at lw_m1 195 rfl) rfl
theorem q271 : (Jvm.Cond.laysFinal "ClogHouse" "ClogHouse" "filters" "[LClogHouse$Filter;") ∈ lw_all := lw_g (lw_at lw_m1 196 rfl) rfl
theorem q272 : (Jvm.Cond.soleField "ClogHouse" "filters") ∈ lw_all := lw_g (lw_at lw_m1 197 rfl) rfl
theorem q273 : (Jvm.Cond.lays "ClogHouse" "ClogHouse" "filterMany" "I") ∈ lw_all := lw_g (lw_at lw_m1 198 rfl) rfl
theorem q274 : (Jvm.Cond.soleField "ClogHouse" "filterMany") ∈ lw_all := lw_g (lw_at lw_m1 199 rfl) rfl
theorem q275 : (Jvm.Cond.laysFinal "ClogHouse" "ClogHouse" "tape" "[B") ∈ lw_all := lw_g (lw_at lw_m1 200 rfl) rfl
theorem q276 : (Jvm.Cond.soleField "ClogHouse" "tape") ∈ lw_all := lw_g (lw_at lw_m1 201 rfl) rfl
theorem q277 : (Jvm.Cond.laysFinal "ClogHouse" "ClogHouse" "texts" "[LClogHouse$Clause;") ∈ lw_all := lw_g (lw_at lw_m1 202 rfl) rfl
theorem q278 : (Jvm.Cond.soleField "ClogHouse" "texts") ∈ lw_all := lw_g (lw_at lw_m1 203 rfl) rfl
theorem q279 : (Jvm.Cond.laysFinal "ClogHouse" "ClogHouse" "letters" "[I") ∈ lw_all := lw_g (lw_at lw_m1 204 rfl) rfl
theorem q280 : (Jvm.Cond.soleField "ClogHouse" "letters") ∈ lw_all := lw_g (lw_at lw_m1 205 rfl) rfl
theorem q281 : (Jvm.Cond.lays "ClogHouse" "ClogHouse" "length" "I") ∈ lw_all := lw_g (lw_at lw_m1 206 rfl) rfl
theorem q282 : (Jvm.Cond.soleField "ClogHouse" "length") ∈ lw_all := lw_g (lw_at lw_m1 207 rfl) rfl
theorem q283 : (Jvm.Cond.lays "ClogHouse" "ClogHouse" "textMany" "I") ∈ lw_all := lw_g (lw_at lw_m1 208 rfl) rfl
theorem q284 : (Jvm.Cond.soleField "ClogHouse" "textMany") ∈ lw_all := lw_g (lw_at lw_m1 209 rfl) rfl
theorem q285 : (Jvm.Cond.laysFinal "ClogHouse" "ClogHouse" "comes" "[I") ∈ lw_all := lw_g (lw_at lw_m1 210 rfl) rfl
theorem q286 : (Jvm.Cond.soleField "ClogHouse" "comes") ∈ lw_all := lw_g (lw_at lw_m1 211 rfl) rfl
theorem q287 : (Jvm.Cond.laysFinal "ClogHouse" "ClogHouse" "waste" "[I") ∈ lw_all := lw_g (lw_at lw_m1 212 rfl) rfl
theorem q288 : (Jvm.Cond.soleField "ClogHouse" "waste") ∈ lw_all := lw_g (lw_at lw_m1 213 rfl) rfl
theorem q289 : (Jvm.Cond.laysFinal "ClogHouse" "ClogHouse" "came" "[I") ∈ lw_all := lw_g (lw_at lw_m1 214 rfl) rfl
theorem q290 : (Jvm.Cond.soleField "ClogHouse" "came") ∈ lw_all := lw_g (lw_at lw_m1 215 rfl) rfl
theorem q291 : (Jvm.Cond.laysFinal "ClogHouse" "ClogHouse" "washedOff" "[I") ∈ lw_all := lw_g (lw_at lw_m1 216 rfl) rfl
theorem q292 : (Jvm.Cond.soleField "ClogHouse" "washedOff") ∈ lw_all := lw_g (lw_at lw_m1 217 rfl) rfl
theorem q293 : (Jvm.Cond.laysFinal "ClogHouse" "ClogHouse" "carriedOff" "[I") ∈ lw_all := lw_g (lw_at lw_m1 218 rfl) rfl
theorem q294 : (Jvm.Cond.soleField "ClogHouse" "carriedOff") ∈ lw_all := lw_g (lw_at lw_m1 219 rfl) rfl
theorem q295 : (Jvm.Cond.laysFinal "ClogHouse" "ClogHouse" "wentOut" "[I") ∈ lw_all := lw_g (lw_at lw_m1 220 rfl) rfl
theorem q296 : (Jvm.Cond.soleField "ClogHouse" "wentOut") ∈ lw_all := lw_g (lw_at lw_m1 221 rfl) rfl
theorem q297 : (Jvm.Cond.laysFinal "ClogHouse" "ClogHouse" "wentRound" "[I") ∈ lw_all := lw_g (lw_at lw_m1 222 rfl) rfl
theorem q298 : (Jvm.Cond.soleField "ClogHouse" "wentRound") ∈ lw_all := lw_g (lw_at lw_m1 223 rfl) rfl
theorem q299 : (Jvm.Cond.laysFinal "ClogHouse" "ClogHouse" "outs" "[I") ∈ lw_all := lw_g (lw_at lw_m1 224 rfl) rfl
theorem q300 : (Jvm.Cond.soleField "ClogHouse" "outs") ∈ lw_all := lw_g (lw_at lw_m1 225 rfl) rfl
theorem q301 : (Jvm.Cond.laysFinal "ClogHouse" "ClogHouse" "round" "[I") ∈ lw_all := lw_g (lw_at lw_m1 226 rfl) rfl
theorem q302 : (Jvm.Cond.soleField "ClogHouse" "round") ∈ lw_all := lw_g (lw_at lw_m1 227 rfl) rfl
theorem q303 : (Jvm.Cond.laysFinal "ClogHouse" "ClogHouse" "strength" "[I") ∈ lw_all := lw_g (lw_at lw_m1 228 rfl) rfl
theorem q304 : (Jvm.Cond.soleField "ClogHouse" "strength") ∈ lw_all := lw_g (lw_at lw_m1 229 rfl) rfl
theorem q305 : (Jvm.Cond.laysFinal "ClogHouse" "ClogHouse" "ran" "[I") ∈ lw_all := lw_g (lw_at lw_m1 230 rfl) rfl
theorem q306 : (Jvm.Cond.soleField "ClogHouse" "ran") ∈ lw_all := lw_g (lw_at lw_m1 231 rfl) rfl
theorem q307 : (Jvm.Cond.laysFinal "ClogHouse" "ClogHouse" "history" "[I") ∈ lw_all := lw_g (lw_at lw_m1 232 rfl) rfl
theorem q308 : (Jvm.Cond.soleField "ClogHouse" "history") ∈ lw_all := lw_g (lw_at lw_m1 233 rfl) rfl
theorem q309 : (Jvm.Cond.lays "ClogHouse" "ClogHouse" "stream" "I") ∈ lw_all := lw_g (lw_at lw_m1 234 rfl) rfl
theorem q310 : (Jvm.Cond.soleField "ClogHouse" "stream") ∈ lw_all := lw_g (lw_at lw_m1 235 rfl) rfl
theorem q311 : (Jvm.Cond.laysFinal "ClogHouse" "ClogHouse" "layerPore" "[I") ∈ lw_all := lw_g (lw_at lw_m1 236 rfl) rfl
theorem q312 : (Jvm.Cond.soleField "ClogHouse" "layerPore") ∈ lw_all := lw_g (lw_at lw_m1 237 rfl) rfl
theorem q313 : (Jvm.Cond.laysFinal "ClogHouse" "ClogHouse" "layerTake" "[I") ∈ lw_all := lw_g (lw_at lw_m1 238 rfl) rfl
theorem q314 : (Jvm.Cond.soleField "ClogHouse" "layerTake") ∈ lw_all := lw_g (lw_at lw_m1 239 rfl) rfl
theorem q315 : (Jvm.Cond.laysFinal "ClogHouse" "ClogHouse" "tried" "[I") ∈ lw_all := lw_g (lw_at lw_m2 0 rfl) rfl
theorem q316 : (Jvm.Cond.soleField "ClogHouse" "tried") ∈ lw_all := lw_g (lw_at lw_m2 1 rfl) rfl
theorem q317 : (Jvm.Cond.laysFinal "ClogHouse" "ClogHouse" "bestOrder" "[I") ∈ lw_all := lw_g (lw_at lw_m2 2 rfl) rfl
theorem q318 : (Jvm.Cond.soleField "ClogHouse" "bestOrder") ∈ lw_all := lw_g (lw_at lw_m2 3 rfl) rfl
theorem q319 : (Jvm.Cond.lays "ClogHouse" "ClogHouse" "layerMany" "I") ∈ lw_all := lw_g (lw_at lw_m2 4 rfl) rfl
theorem q320 : (Jvm.Cond.soleField "ClogHouse" "layerMany") ∈ lw_all := lw_g (lw_at lw_m2 5 rfl) rfl
theorem q321 : (Jvm.Cond.lays "ClogHouse" "ClogHouse" "bestHours" "I") ∈ lw_all := lw_g (lw_at lw_m2 6 rfl) rfl
theorem q322 : (Jvm.Cond.soleField "ClogHouse" "bestHours") ∈ lw_all := lw_g (lw_at lw_m2 7 rfl) rfl
theorem q323 : (Jvm.Cond.laysFinal "ClogHouse" "ClogHouse" "bench" "[LClogHouse$Cell;") ∈ lw_all := lw_g (lw_at lw_m2 8 rfl) rfl
theorem q324 : (Jvm.Cond.soleField "ClogHouse" "bench") ∈ lw_all := lw_g (lw_at lw_m2 9 rfl) rfl
theorem q325 : (Jvm.Cond.laysFinal "ClogHouse" "ClogHouse" "alone" "LClogHouse$Filter;") ∈ lw_all := lw_g (lw_at lw_m2 10 rfl) rfl
theorem q326 : (Jvm.Cond.soleField "ClogHouse" "alone") ∈ lw_all := lw_g (lw_at lw_m2 11 rfl) rfl
theorem q327 : (Jvm.Cond.laysFinal "ClogHouse" "ClogHouse" "costs" "[I") ∈ lw_all := lw_g (lw_at lw_m2 12 rfl) rfl
theorem q328 : (Jvm.Cond.soleField "ClogHouse" "costs") ∈ lw_all := lw_g (lw_at lw_m2 13 rfl) rfl
theorem q329 : (Jvm.Cond.laysFinal "ClogHouse" "ClogHouse" "cheap" "[I") ∈ lw_all := lw_g (lw_at lw_m2 14 rfl) rfl
theorem q330 : (Jvm.Cond.soleField "ClogHouse" "cheap") ∈ lw_all := lw_g (lw_at lw_m2 15 rfl) rfl
theorem q331 : (Jvm.Cond.lays "ClogHouse" "ClogHouse" "price" "I") ∈ lw_all := lw_g (lw_at lw_m2 16 rfl) rfl
theorem q332 : (Jvm.Cond.soleField "ClogHouse" "price") ∈ lw_all := lw_g (lw_at lw_m2 17 rfl) rfl
theorem q333 : (Jvm.Cond.laysFinal "ClogHouse" "ClogHouse" "gaugeFilter" "[I") ∈ lw_all := lw_g (lw_at lw_m2 18 rfl) rfl
theorem q334 : (Jvm.Cond.soleField "ClogHouse" "gaugeFilter") ∈ lw_all := lw_g (lw_at lw_m2 19 rfl) rfl
theorem q335 : (Jvm.Cond.laysFinal "ClogHouse" "ClogHouse" "gaugeCell" "[I") ∈ lw_all := lw_g (lw_at lw_m2 20 rfl) rfl
theorem q336 : (Jvm.Cond.soleField "ClogHouse" "gaugeCell") ∈ lw_all := lw_g (lw_at lw_m2 21 rfl) rfl
theorem q337 : (Jvm.Cond.laysFinal "ClogHouse" "ClogHouse" "gaugeFrom" "[I") ∈ lw_all := lw_g (lw_at lw_m2 22 rfl) rfl
theorem q338 : (Jvm.Cond.soleField "ClogHouse" "gaugeFrom") ∈ lw_all := lw_g (lw_at lw_m2 23 rfl) rfl
theorem q339 : (Jvm.Cond.laysFinal "ClogHouse" "ClogHouse" "gaugeTo" "[I") ∈ lw_all := lw_g (lw_at lw_m2 24 rfl) rfl
theorem q340 : (Jvm.Cond.soleField "ClogHouse" "gaugeTo") ∈ lw_all := lw_g (lw_at lw_m2 25 rfl) rfl
theorem q341 : (Jvm.Cond.laysFinal "ClogHouse" "ClogHouse" "gaugeTold" "[I") ∈ lw_all := lw_g (lw_at lw_m2 26 rfl) rfl
theorem q342 : (Jvm.Cond.soleField "ClogHouse" "gaugeTold") ∈ lw_all := lw_g (lw_at lw_m2 27 rfl) rfl
theorem q343 : (Jvm.Cond.lays "ClogHouse" "ClogHouse" "readings" "I") ∈ lw_all := lw_g (lw_at lw_m2 28 rfl) rfl
theorem q344 : (Jvm.Cond.soleField "ClogHouse" "readings") ∈ lw_all := lw_g (lw_at lw_m2 29 rfl) rfl
theorem q345 : (Jvm.Cond.superclass "ClogHouse" "java/lang/Object") ∈ lw_all := lw_g (lw_at lw_m2 30 rfl) rfl
theorem q347 : (Jvm.Cond.instanceMethod ({ cls := "ClogHouse", name := "grain", desc := "(III)Z" } : Jvm.MethodName)) ∈ lw_all := lw_g (lw_at lw_m2 32 rfl) rfl
theorem q348 : (Jvm.Cond.selects "ClogHouse" ({ cls := "ClogHouse", name := "grain", desc := "(III)Z" } : Jvm.MethodName) ({ cls := "ClogHouse", name := "grain", desc := "(III)Z" } : Jvm.MethodName)) ∈ lw_all := lw_g (lw_at lw_m2 33 rfl) rfl
theorem q349 : (Jvm.Cond.code ({ cls := "ClogHouse", name := "grain", desc := "(III)Z" } : Jvm.MethodName) prog_1_method_4_code (5 : Nat) (Option.some Jvm.ClassFile.FieldType.boolean)) ∈ lw_all := lw_g (lw_at lw_m2 34 rfl) rfl
theorem q350 : (Jvm.Cond.methodLink "ClogHouse" (132 : Nat) ({ cls := "ClogHouse", name := "isSize", desc := "(I)Z" } : Jvm.MethodName)) ∈ lw_all := lw_g (lw_at lw_m2 35 rfl) rfl
theorem q351 : (Jvm.Cond.static ({ cls := "ClogHouse", name := "isSize", desc := "(I)Z" } : Jvm.MethodName)) ∈ lw_all := lw_g (lw_at lw_m2 36 rfl) rfl
theorem q352 : (Jvm.Cond.code ({ cls := "ClogHouse", name := "isSize", desc := "(I)Z" } : Jvm.MethodName) prog_1_method_2_code (1 : Nat) (Option.some Jvm.ClassFile.FieldType.boolean)) ∈ lw_all := lw_g (lw_at lw_m2 37 rfl) rfl
theorem q353 : (Jvm.Cond.constantLong "ClogHouse" (3 : Nat) (7 : Int64)) ∈ lw_all := lw_g (lw_at lw_m2 38 rfl) rfl
theorem q354 : (Jvm.Cond.methodLink "ClogHouse" (5 : Nat) ({ cls := "ClogHouse", name := "isIn", desc := "(JJJ)Z" } : Jvm.MethodName)) ∈ lw_all := lw_g (lw_at lw_m2 39 rfl) rfl
theorem q355 : (Jvm.Cond.static ({ cls := "ClogHouse", name := "isIn", desc := "(JJJ)Z" } : Jvm.MethodName)) ∈ lw_all := lw_g (lw_at lw_m2 40 rfl) rfl
theorem q356 : (Jvm.Cond.code ({ cls := "ClogHouse", name := "isIn", desc := "(JJJ)Z" } : Jvm.MethodName) prog_1_method_1_code (6 : Nat) (Option.some Jvm.ClassFile.FieldType.boolean)) ∈ lw_all := lw_g (lw_at lw_m2 41 rfl) rfl
theorem q357 : (Jvm.Cond.constantLong "ClogHouse" (136 : Nat) (2 : Int64)) ∈ lw_all := lw_g (lw_at lw_m2 42 rfl) rfl
theorem q358 : (Jvm.Cond.constantLong "ClogHouse" (138 : Nat) (1000 : Int64)) ∈ lw_all := lw_g (lw_at lw_m2 43 rfl) rfl
theorem q360 : (Jvm.Cond.instanceMethod ({ cls := "ClogHouse", name := "filter", desc := "()I" } : Jvm.MethodName)) ∈ lw_all := lw_g (lw_at lw_m2 45 rfl) rfl
theorem q361 : (Jvm.Cond.selects "ClogHouse" ({ cls := "ClogHouse", name := "filter", desc := "()I" } : Jvm.MethodName) ({ cls := "ClogHouse", name := "filter", desc := "()I" } : Jvm.MethodName)) ∈ lw_all := lw_g (lw_at lw_m2 46 rfl) rfl
theorem q362 : (Jvm.Cond.code ({ cls := "ClogHouse", name := "filter", desc := "()I" } : Jvm.MethodName) prog_1_method_7_code (1 : Nat) (Option.some Jvm.ClassFile.FieldType.int)) ∈ lw_all := lw_g (lw_at lw_m2 47 rfl) rfl
theorem q364 : (Jvm.Cond.instanceMethod ({ cls := "ClogHouse", name := "cell", desc := "(III)I" } : Jvm.MethodName)) ∈ lw_all := lw_g (lw_at lw_m2 49 rfl) rfl
theorem q365 : (Jvm.Cond.selects "ClogHouse" ({ cls := "ClogHouse", name := "cell", desc := "(III)I" } : Jvm.MethodName) ({ cls := "ClogHouse", name := "cell", desc := "(III)I" } : Jvm.MethodName)) ∈ lw_all := lw_g (lw_at lw_m2 50 rfl) rfl
theorem q366 : (Jvm.Cond.code ({ cls := "ClogHouse", name := "cell", desc := "(III)I" } : Jvm.MethodName) prog_1_method_8_code (5 : Nat) (Option.some Jvm.ClassFile.FieldType.int)) ∈ lw_all := lw_g (lw_at lw_m2 51 rfl) rfl
theorem q367 : (Jvm.Cond.methodLink "ClogHouse" (144 : Nat) ({ cls := "ClogHouse", name := "isFilter", desc := "(I)Z" } : Jvm.MethodName)) ∈ lw_all := lw_g (lw_at lw_m2 52 rfl) rfl
theorem q368 : (Jvm.Cond.privateMethod ({ cls := "ClogHouse", name := "isFilter", desc := "(I)Z" } : Jvm.MethodName)) ∈ lw_tbl := lw_at lw_m2 53 rfl
theorem q369 : (Jvm.Cond.instanceMethod ({ cls := "ClogHouse", name := "isFilter", desc := "(I)Z" } : Jvm.MethodName)) ∈ lw_all := lw_g (lw_at lw_m2 54 rfl) rfl
theorem q370 : (Jvm.Cond.code ({ cls := "ClogHouse", name := "isFilter", desc := "(I)Z" } : Jvm.MethodName) prog_1_method_5_code (2 : Nat) (Option.some Jvm.ClassFile.FieldType.boolean)) ∈ lw_all := lw_g (lw_at lw_m2 55 rfl) rfl
theorem q371 : (Jvm.Cond.constantLong "ClogHouse" (150 : Nat) (20 : Int64)) ∈ lw_all := lw_g (lw_at lw_m2 56 rfl) rfl
theorem q373 : (Jvm.Cond.methodLink "ClogHouse" (159 : Nat) ({ cls := "ClogHouse$Cell", name := "<init>", desc := "(II)V" } : Jvm.MethodName)) ∈ lw_all := lw_g (lw_at lw_m2 58 rfl) rfl
theorem q379 : (Jvm.Cond.fieldLinkNest "ClogHouse" (174 : Nat) "ClogHouse$Cell" "take" "I" "ClogHouse") ∈ lw_tbl := lw_at lw_m2 64 rfl
theorem q381 : (Jvm.Cond.fieldLinkNest "ClogHouse" (190 : Nat) "ClogHouse$Cell" "stuck" "[I" "ClogHouse") ∈ lw_tbl := lw_at lw_m2 66 rfl
theorem q384 : (Jvm.Cond.fieldLinkNest "ClogHouse" (171 : Nat) "ClogHouse$Cell" "pore" "I" "ClogHouse") ∈ lw_tbl := lw_at lw_m2 69 rfl
theorem q396 : (Jvm.Cond.instanceMethod ({ cls := "ClogHouse", name := "set", desc := "(III)Z" } : Jvm.MethodName)) ∈ lw_all := lw_g (lw_at lw_m2 81 rfl) rfl
theorem q397 : (Jvm.Cond.selects "ClogHouse" ({ cls := "ClogHouse", name := "set", desc := "(III)Z" } : Jvm.MethodName) ({ cls := "ClogHouse", name := "set", desc := "(III)Z" } : Jvm.MethodName)) ∈ lw_all := lw_g (lw_at lw_m2 82 rfl) rfl
theorem q398 : (Jvm.Cond.code ({ cls := "ClogHouse", name := "set", desc := "(III)Z" } : Jvm.MethodName) prog_1_method_9_code (4 : Nat) (Option.some Jvm.ClassFile.FieldType.boolean)) ∈ lw_all := lw_g (lw_at lw_m2 83 rfl) rfl
theorem q399 : (Jvm.Cond.constantLong "ClogHouse" (162 : Nat) (200 : Int64)) ∈ lw_all := lw_g (lw_at lw_m2 84 rfl) rfl
theorem q401 : (Jvm.Cond.instanceMethod ({ cls := "ClogHouse", name := "celled", desc := "(III)I" } : Jvm.MethodName)) ∈ lw_all := lw_g (lw_at lw_m2 86 rfl) rfl
theorem q402 : (Jvm.Cond.selects "ClogHouse" ({ cls := "ClogHouse", name := "celled", desc := "(III)I" } : Jvm.MethodName) ({ cls := "ClogHouse", name := "celled", desc := "(III)I" } : Jvm.MethodName)) ∈ lw_all := lw_g (lw_at lw_m2 87 rfl) rfl
theorem q403 : (Jvm.Cond.code ({ cls := "ClogHouse", name := "celled", desc := "(III)I" } : Jvm.MethodName) prog_1_method_10_code (5 : Nat) (Option.some Jvm.ClassFile.FieldType.int)) ∈ lw_all := lw_g (lw_at lw_m2 88 rfl) rfl
theorem q404 : (Jvm.Cond.methodLink "ClogHouse" (167 : Nat) ({ cls := "ClogHouse", name := "isCell", desc := "(II)Z" } : Jvm.MethodName)) ∈ lw_all := lw_g (lw_at lw_m2 89 rfl) rfl
theorem q405 : (Jvm.Cond.privateMethod ({ cls := "ClogHouse", name := "isCell", desc := "(II)Z" } : Jvm.MethodName)) ∈ lw_tbl := lw_at lw_m2 90 rfl
theorem q406 : (Jvm.Cond.instanceMethod ({ cls := "ClogHouse", name := "isCell", desc := "(II)Z" } : Jvm.MethodName)) ∈ lw_all := lw_g (lw_at lw_m2 91 rfl) rfl
theorem q407 : (Jvm.Cond.code ({ cls := "ClogHouse", name := "isCell", desc := "(II)Z" } : Jvm.MethodName) prog_1_method_6_code (3 : Nat) (Option.some Jvm.ClassFile.FieldType.boolean)) ∈ lw_all := lw_g (lw_at lw_m2 92 rfl) rfl
theorem q408 : (Jvm.Cond.methodLink "ClogHouse" (177 : Nat) ({ cls := "ClogHouse$Cell", name := "width", desc := "()I" } : Jvm.MethodName)) ∈ lw_all := lw_g (lw_at lw_m2 93 rfl) rfl
theorem q437 : (Jvm.Cond.methodLink "ClogHouse" (181 : Nat) ({ cls := "ClogHouse$Cell", name := "resist", desc := "()I" } : Jvm.MethodName)) ∈ lw_all := lw_g (lw_at lw_m2 122 rfl) rfl
theorem q446 : (Jvm.Cond.instanceMethod ({ cls := "ClogHouse", name := "held", desc := "(IIII)I" } : Jvm.MethodName)) ∈ lw_all := lw_g (lw_at lw_m2 131 rfl) rfl
theorem q447 : (Jvm.Cond.selects "ClogHouse" ({ cls := "ClogHouse", name := "held", desc := "(IIII)I" } : Jvm.MethodName) ({ cls := "ClogHouse", name := "held", desc := "(IIII)I" } : Jvm.MethodName)) ∈ lw_all := lw_g (lw_at lw_m2 132 rfl) rfl
theorem q448 : (Jvm.Cond.code ({ cls := "ClogHouse", name := "held", desc := "(IIII)I" } : Jvm.MethodName) prog_1_method_11_code (6 : Nat) (Option.some Jvm.ClassFile.FieldType.int)) ∈ lw_all := lw_g (lw_at lw_m2 133 rfl) rfl
theorem q450 : (Jvm.Cond.instanceMethod ({ cls := "ClogHouse", name := "told", desc := "(II)I" } : Jvm.MethodName)) ∈ lw_all := lw_g (lw_at lw_m2 135 rfl) rfl
theorem q451 : (Jvm.Cond.selects "ClogHouse" ({ cls := "ClogHouse", name := "told", desc := "(II)I" } : Jvm.MethodName) ({ cls := "ClogHouse", name := "told", desc := "(II)I" } : Jvm.MethodName)) ∈ lw_all := lw_g (lw_at lw_m2 136 rfl) rfl
theorem q452 : (Jvm.Cond.code ({ cls := "ClogHouse", name := "told", desc := "(II)I" } : Jvm.MethodName) prog_1_method_12_code (4 : Nat) (Option.some Jvm.ClassFile.FieldType.int)) ∈ lw_all := lw_g (lw_at lw_m2 137 rfl) rfl
theorem q454 : (Jvm.Cond.methodLink "ClogHouse" (209 : Nat) ({ cls := "ClogHouse$Filter", name := "isOpen", desc := "()Z" } : Jvm.MethodName)) ∈ lw_all := lw_g (lw_at lw_m2 139 rfl) rfl
theorem q459 : (Jvm.Cond.methodLink "ClogHouse" (213 : Nat) ({ cls := "ClogHouse$Filter", name := "bed", desc := "()I" } : Jvm.MethodName)) ∈ lw_all := lw_g (lw_at lw_m2 144 rfl) rfl
theorem q465 : (Jvm.Cond.instanceMethod ({ cls := "ClogHouse", name := "push", desc := "(II)I" } : Jvm.MethodName)) ∈ lw_all := lw_g (lw_at lw_m2 150 rfl) rfl
theorem q466 : (Jvm.Cond.selects "ClogHouse" ({ cls := "ClogHouse", name := "push", desc := "(II)I" } : Jvm.MethodName) ({ cls := "ClogHouse", name := "push", desc := "(II)I" } : Jvm.MethodName)) ∈ lw_all := lw_g (lw_at lw_m2 151 rfl) rfl
theorem q467 : (Jvm.Cond.code ({ cls := "ClogHouse", name := "push", desc := "(II)I" } : Jvm.MethodName) prog_1_method_13_code (3 : Nat) (Option.some Jvm.ClassFile.FieldType.int)) ∈ lw_all := lw_g (lw_at lw_m2 152 rfl) rfl
theorem q468 : (Jvm.Cond.methodLink "ClogHouse" (225 : Nat) ({ cls := "ClogHouse$Filter", name := "pushWith", desc := "(I)I" } : Jvm.MethodName)) ∈ lw_all := lw_g (lw_at lw_m2 153 rfl) rfl
theorem q490 : (Jvm.Cond.instanceMethod ({ cls := "ClogHouse", name := "feed", desc := "(IIIII)I" } : Jvm.MethodName)) ∈ lw_all := lw_g (lw_at lw_m2 175 rfl) rfl
theorem q491 : (Jvm.Cond.selects "ClogHouse" ({ cls := "ClogHouse", name := "feed", desc := "(IIIII)I" } : Jvm.MethodName) ({ cls := "ClogHouse", name := "feed", desc := "(IIIII)I" } : Jvm.MethodName)) ∈ lw_all := lw_g (lw_at lw_m2 176 rfl) rfl
theorem q492 : (Jvm.Cond.code ({ cls := "ClogHouse", name := "feed", desc := "(IIIII)I" } : Jvm.MethodName) prog_1_method_15_code (7 : Nat) (Option.some Jvm.ClassFile.FieldType.int)) ∈ lw_all := lw_g (lw_at lw_m2 177 rfl) rfl
theorem q493 : (Jvm.Cond.methodLink "ClogHouse" (242 : Nat) ({ cls := "ClogHouse", name := "bytes", desc := "(I)I" } : Jvm.MethodName)) ∈ lw_all := lw_g (lw_at lw_m2 178 rfl) rfl
theorem q494 : (Jvm.Cond.static ({ cls := "ClogHouse", name := "bytes", desc := "(I)I" } : Jvm.MethodName)) ∈ lw_all := lw_g (lw_at lw_m2 179 rfl) rfl
theorem q495 : (Jvm.Cond.code ({ cls := "ClogHouse", name := "bytes", desc := "(I)I" } : Jvm.MethodName) prog_1_method_16_code (3 : Nat) (Option.some Jvm.ClassFile.FieldType.int)) ∈ lw_all := lw_g (lw_at lw_m2 180 rfl) rfl
theorem q496 : (Jvm.Cond.methodLink "ClogHouse" (248 : Nat) ({ cls := "ClogHouse", name := "put", desc := "(I)V" } : Jvm.MethodName)) ∈ lw_all := lw_g (lw_at lw_m2 181 rfl) rfl
theorem q497 : (Jvm.Cond.privateMethod ({ cls := "ClogHouse", name := "put", desc := "(I)V" } : Jvm.MethodName)) ∈ lw_tbl := lw_at lw_m2 182 rfl
theorem q498 : (Jvm.Cond.instanceMethod ({ cls := "ClogHouse", name := "put", desc := "(I)V" } : Jvm.MethodName)) ∈ lw_all := lw_g (lw_at lw_m2 183 rfl) rfl
theorem q499 : (Jvm.Cond.code ({ cls := "ClogHouse", name := "put", desc := "(I)V" } : Jvm.MethodName) prog_1_method_17_code (3 : Nat) (Option.none : Option Jvm.ClassFile.FieldType)) ∈ lw_all := lw_g (lw_at lw_m2 184 rfl) rfl
theorem q501 : (Jvm.Cond.instanceMethod ({ cls := "ClogHouse", name := "end", desc := "(I)Z" } : Jvm.MethodName)) ∈ lw_all := lw_g (lw_at lw_m2 186 rfl) rfl
theorem q502 : (Jvm.Cond.selects "ClogHouse" ({ cls := "ClogHouse", name := "end", desc := "(I)Z" } : Jvm.MethodName) ({ cls := "ClogHouse", name := "end", desc := "(I)Z" } : Jvm.MethodName)) ∈ lw_all := lw_g (lw_at lw_m2 187 rfl) rfl
theorem q503 : (Jvm.Cond.code ({ cls := "ClogHouse", name := "end", desc := "(I)Z" } : Jvm.MethodName) prog_1_method_18_code (2 : Nat) (Option.some Jvm.ClassFile.FieldType.boolean)) ∈ lw_all := lw_g (lw_at lw_m2 188 rfl) rfl
theorem q505 : (Jvm.Cond.instanceMethod ({ cls := "ClogHouse", name := "fault", desc := "()I" } : Jvm.MethodName)) ∈ lw_all := lw_g (lw_at lw_m2 190 rfl) rfl
theorem q506 : (Jvm.Cond.selects "ClogHouse" ({ cls := "ClogHouse", name := "fault", desc := "()I" } : Jvm.MethodName) ({ cls := "ClogHouse", name := "fault", desc := "()I" } : Jvm.MethodName)) ∈ lw_all := lw_g (lw_at lw_m2 191 rfl) rfl
theorem q507 : (Jvm.Cond.codeWith ({ cls := "ClogHouse", name := "fault", desc := "()I" } : Jvm.MethodName) prog_1_method_19_code (2 : Nat) (Option.some Jvm.ClassFile.FieldType.int) [((0 : Nat), (20 : Nat), (21 : Nat), (261 : Nat))]) ∈ lw_all := lw_g (lw_at lw_m2 192 rfl) rfl
theorem q508 : (Jvm.Cond.classLink "ClogHouse" (261 : Nat) "ClogHouse$Wrong") ∈ lw_all := lw_g (lw_at lw_m2 193 rfl) rfl
theorem q509 : (Jvm.Cond.classLink "ClogHouse" (252 : Nat) "ClogHouse$Reader") ∈ lw_all := lw_g (lw_at lw_m2 194 rfl) rfl
theorem q511 : (Jvm.Cond.methodLink "ClogHouse" (254 : Nat) ({ cls := "ClogHouse$Reader", name := "<init>", desc := "([BI)V" } : Jvm.MethodName)) ∈ lw_all := lw_g (lw_at lw_m2 196 rfl) rfl
theorem q528 : (Jvm.Cond.methodLink "ClogHouse" (257 : Nat) ({ cls := "ClogHouse$Reader", name := "whole", desc := "()LClogHouse$Clause;" } : Jvm.MethodName)) ∈ lw_all := lw_g (lw_at lw_m2 213 rfl) rfl
theorem q682 : (Jvm.Cond.fieldLinkNest "ClogHouse" (263 : Nat) "ClogHouse$Wrong" "at" "I" "ClogHouse") ∈ lw_tbl := lw_at lw_m3 127 rfl
theorem q870 : (Jvm.Cond.instanceMethod ({ cls := "ClogHouse", name := "rules", desc := "()I" } : Jvm.MethodName)) ∈ lw_all := lw_g (lw_at lw_m4 75 rfl) rfl
theorem q871 : (Jvm.Cond.selects "ClogHouse" ({ cls := "ClogHouse", name := "rules", desc := "()I" } : Jvm.MethodName) ({ cls := "ClogHouse", name := "rules", desc := "()I" } : Jvm.MethodName)) ∈ lw_all := lw_g (lw_at lw_m4 76 rfl) rfl
theorem q872 : (Jvm.Cond.codeWith ({ cls := "ClogHouse", name := "rules", desc := "()I" } : Jvm.MethodName) prog_1_method_20_code (2 : Nat) (Option.some Jvm.ClassFile.FieldType.int) [((11 : Nat), (38 : Nat), (41 : Nat), (261 : Nat))]) ∈ lw_all := lw_g (lw_at lw_m4 77 rfl) rfl
theorem q874 : (Jvm.Cond.instanceMethod ({ cls := "ClogHouse", name := "rule", desc := "(II)Z" } : Jvm.MethodName)) ∈ lw_all := lw_g (lw_at lw_m4 79 rfl) rfl
theorem q875 : (Jvm.Cond.selects "ClogHouse" ({ cls := "ClogHouse", name := "rule", desc := "(II)Z" } : Jvm.MethodName) ({ cls := "ClogHouse", name := "rule", desc := "(II)Z" } : Jvm.MethodName)) ∈ lw_all := lw_g (lw_at lw_m4 80 rfl) rfl
theorem q876 : (Jvm.Cond.code ({ cls := "ClogHouse", name := "rule", desc := "(II)Z" } : Jvm.MethodName) prog_1_method_22_code (3 : Nat) (Option.some Jvm.ClassFile.FieldType.boolean)) ∈ lw_all := lw_g (lw_at lw_m4 81 rfl) rfl
theorem q877 : (Jvm.Cond.methodLink "ClogHouse" (269 : Nat) ({ cls := "ClogHouse", name := "isText", desc := "(I)Z" } : Jvm.MethodName)) ∈ lw_all := lw_g (lw_at lw_m4 82 rfl) rfl
theorem q878 : (Jvm.Cond.privateMethod ({ cls := "ClogHouse", name := "isText", desc := "(I)Z" } : Jvm.MethodName)) ∈ lw_tbl := lw_at lw_m4 83 rfl
theorem q879 : (Jvm.Cond.instanceMethod ({ cls := "ClogHouse", name := "isText", desc := "(I)Z" } : Jvm.MethodName)) ∈ lw_all := lw_g (lw_at lw_m4 84 rfl) rfl
theorem q880 : (Jvm.Cond.code ({ cls := "ClogHouse", name := "isText", desc := "(I)Z" } : Jvm.MethodName) prog_1_method_21_code (2 : Nat) (Option.some Jvm.ClassFile.FieldType.boolean)) ∈ lw_all := lw_g (lw_at lw_m4 85 rfl) rfl
theorem q882 : (Jvm.Cond.instanceMethod ({ cls := "ClogHouse", name := "stream", desc := "(I)Z" } : Jvm.MethodName)) ∈ lw_all := lw_g (lw_at lw_m4 87 rfl) rfl
theorem q883 : (Jvm.Cond.selects "ClogHouse" ({ cls := "ClogHouse", name := "stream", desc := "(I)Z" } : Jvm.MethodName) ({ cls := "ClogHouse", name := "stream", desc := "(I)Z" } : Jvm.MethodName)) ∈ lw_all := lw_g (lw_at lw_m4 88 rfl) rfl
theorem q884 : (Jvm.Cond.code ({ cls := "ClogHouse", name := "stream", desc := "(I)Z" } : Jvm.MethodName) prog_1_method_25_code (2 : Nat) (Option.some Jvm.ClassFile.FieldType.boolean)) ∈ lw_all := lw_g (lw_at lw_m4 89 rfl) rfl
theorem q886 : (Jvm.Cond.instanceMethod ({ cls := "ClogHouse", name := "come", desc := "(II)Z" } : Jvm.MethodName)) ∈ lw_all := lw_g (lw_at lw_m4 91 rfl) rfl
theorem q887 : (Jvm.Cond.selects "ClogHouse" ({ cls := "ClogHouse", name := "come", desc := "(II)Z" } : Jvm.MethodName) ({ cls := "ClogHouse", name := "come", desc := "(II)Z" } : Jvm.MethodName)) ∈ lw_all := lw_g (lw_at lw_m4 92 rfl) rfl
theorem q888 : (Jvm.Cond.code ({ cls := "ClogHouse", name := "come", desc := "(II)Z" } : Jvm.MethodName) prog_1_method_26_code (3 : Nat) (Option.some Jvm.ClassFile.FieldType.boolean)) ∈ lw_all := lw_g (lw_at lw_m4 93 rfl) rfl
theorem q889 : (Jvm.Cond.constantLong "ClogHouse" (297 : Nat) (9999 : Int64)) ∈ lw_all := lw_g (lw_at lw_m4 94 rfl) rfl
theorem q891 : (Jvm.Cond.instanceMethod ({ cls := "ClogHouse", name := "hours", desc := "(I)I" } : Jvm.MethodName)) ∈ lw_all := lw_g (lw_at lw_m4 96 rfl) rfl
theorem q892 : (Jvm.Cond.selects "ClogHouse" ({ cls := "ClogHouse", name := "hours", desc := "(I)I" } : Jvm.MethodName) ({ cls := "ClogHouse", name := "hours", desc := "(I)I" } : Jvm.MethodName)) ∈ lw_all := lw_g (lw_at lw_m4 97 rfl) rfl
theorem q893 : (Jvm.Cond.code ({ cls := "ClogHouse", name := "hours", desc := "(I)I" } : Jvm.MethodName) prog_1_method_27_code (3 : Nat) (Option.some Jvm.ClassFile.FieldType.int)) ∈ lw_all := lw_g (lw_at lw_m4 98 rfl) rfl
theorem q894 : (Jvm.Cond.methodLink "ClogHouse" (302 : Nat) ({ cls := "ClogHouse", name := "hour", desc := "()V" } : Jvm.MethodName)) ∈ lw_all := lw_g (lw_at lw_m4 99 rfl) rfl
theorem q895 : (Jvm.Cond.privateMethod ({ cls := "ClogHouse", name := "hour", desc := "()V" } : Jvm.MethodName)) ∈ lw_tbl := lw_at lw_m4 100 rfl
theorem q896 : (Jvm.Cond.instanceMethod ({ cls := "ClogHouse", name := "hour", desc := "()V" } : Jvm.MethodName)) ∈ lw_all := lw_g (lw_at lw_m4 101 rfl) rfl
theorem q897 : (Jvm.Cond.code ({ cls := "ClogHouse", name := "hour", desc := "()V" } : Jvm.MethodName) prog_1_method_28_code (3 : Nat) (Option.none : Option Jvm.ClassFile.FieldType)) ∈ lw_all := lw_g (lw_at lw_m4 102 rfl) rfl
theorem q898 : (Jvm.Cond.methodLink "ClogHouse" (305 : Nat) ({ cls := "ClogHouse", name := "begins", desc := "(I)V" } : Jvm.MethodName)) ∈ lw_all := lw_g (lw_at lw_m4 103 rfl) rfl
theorem q899 : (Jvm.Cond.privateMethod ({ cls := "ClogHouse", name := "begins", desc := "(I)V" } : Jvm.MethodName)) ∈ lw_tbl := lw_at lw_m4 104 rfl
theorem q900 : (Jvm.Cond.instanceMethod ({ cls := "ClogHouse", name := "begins", desc := "(I)V" } : Jvm.MethodName)) ∈ lw_all := lw_g (lw_at lw_m4 105 rfl) rfl
theorem q901 : (Jvm.Cond.code ({ cls := "ClogHouse", name := "begins", desc := "(I)V" } : Jvm.MethodName) prog_1_method_29_code (3 : Nat) (Option.none : Option Jvm.ClassFile.FieldType)) ∈ lw_all := lw_g (lw_at lw_m4 106 rfl) rfl
theorem q902 : (Jvm.Cond.methodLink "ClogHouse" (315 : Nat) ({ cls := "ClogHouse", name := "decides", desc := "(I)V" } : Jvm.MethodName)) ∈ lw_all := lw_g (lw_at lw_m4 107 rfl) rfl
theorem q903 : (Jvm.Cond.privateMethod ({ cls := "ClogHouse", name := "decides", desc := "(I)V" } : Jvm.MethodName)) ∈ lw_tbl := lw_at lw_m4 108 rfl
theorem q904 : (Jvm.Cond.instanceMethod ({ cls := "ClogHouse", name := "decides", desc := "(I)V" } : Jvm.MethodName)) ∈ lw_all := lw_g (lw_at lw_m4 109 rfl) rfl
theorem q905 : (Jvm.Cond.code ({ cls := "ClogHouse", name := "decides", desc := "(I)V" } : Jvm.MethodName) prog_1_method_30_code (3 : Nat) (Option.none : Option Jvm.ClassFile.FieldType)) ∈ lw_all := lw_g (lw_at lw_m4 110 rfl) rfl
theorem q906 : (Jvm.Cond.methodLink "ClogHouse" (286 : Nat) ({ cls := "ClogHouse", name := "let", desc := "(IIIIII)V" } : Jvm.MethodName)) ∈ lw_all := lw_g (lw_at lw_m4 111 rfl) rfl
theorem q907 : (Jvm.Cond.privateMethod ({ cls := "ClogHouse", name := "let", desc := "(IIIIII)V" } : Jvm.MethodName)) ∈ lw_tbl := lw_at lw_m4 112 rfl
theorem q908 : (Jvm.Cond.instanceMethod ({ cls := "ClogHouse", name := "let", desc := "(IIIIII)V" } : Jvm.MethodName)) ∈ lw_all := lw_g (lw_at lw_m4 113 rfl) rfl
theorem q909 : (Jvm.Cond.code ({ cls := "ClogHouse", name := "let", desc := "(IIIIII)V" } : Jvm.MethodName) prog_1_method_23_code (7 : Nat) (Option.none : Option Jvm.ClassFile.FieldType)) ∈ lw_all := lw_g (lw_at lw_m4 114 rfl) rfl
theorem q910 : (Jvm.Cond.methodLink "ClogHouse" (290 : Nat) ({ cls := "ClogHouse$Clause", name := "worth", desc := "(I[I)I" } : Jvm.MethodName)) ∈ lw_all := lw_g (lw_at lw_m4 115 rfl) rfl
theorem q940 : (Jvm.Cond.static ({ cls := "ClogHouse", name := "bound", desc := "(J)I" } : Jvm.MethodName)) ∈ lw_all := lw_g (lw_at lw_m4 145 rfl) rfl
theorem q941 : (Jvm.Cond.code ({ cls := "ClogHouse", name := "bound", desc := "(J)I" } : Jvm.MethodName) prog_1_method_14_code (2 : Nat) (Option.some Jvm.ClassFile.FieldType.int)) ∈ lw_all := lw_g (lw_at lw_m4 146 rfl) rfl
theorem q942 : (Jvm.Cond.constantLong "ClogHouse" (229 : Nat) (-1000000 : Int64)) ∈ lw_all := lw_g (lw_at lw_m4 147 rfl) rfl
theorem q943 : (Jvm.Cond.constantLong "ClogHouse" (231 : Nat) (1000000 : Int64)) ∈ lw_all := lw_g (lw_at lw_m4 148 rfl) rfl
theorem q944 : (Jvm.Cond.methodLink "ClogHouse" (233 : Nat) ({ cls := "java/lang/Math", name := "min", desc := "(JJ)J" } : Jvm.MethodName)) ∈ lw_all := lw_g (lw_at lw_m4 149 rfl) rfl
theorem q947 : (Jvm.Cond.methodLink "ClogHouse" (239 : Nat) ({ cls := "java/lang/Math", name := "max", desc := "(JJ)J" } : Jvm.MethodName)) ∈ lw_all := lw_g (lw_at lw_m4 152 rfl) rfl
theorem q969 : (Jvm.Cond.methodLink "ClogHouse" (318 : Nat) ({ cls := "java/lang/Math", name := "min", desc := "(II)I" } : Jvm.MethodName)) ∈ lw_all := lw_g (lw_at lw_m4 174 rfl) rfl
theorem q970 : (Jvm.Cond.methodLink "ClogHouse" (321 : Nat) ({ cls := "java/lang/Math", name := "max", desc := "(II)I" } : Jvm.MethodName)) ∈ lw_all := lw_g (lw_at lw_m4 175 rfl) rfl
theorem q971 : (Jvm.Cond.methodLink "ClogHouse" (323 : Nat) ({ cls := "ClogHouse$Filter", name := "change", desc := "([I)V" } : Jvm.MethodName)) ∈ lw_all := lw_g (lw_at lw_m4 176 rfl) rfl
theorem q986 : (Jvm.Cond.methodLink "ClogHouse" (308 : Nat) ({ cls := "ClogHouse$Filter", name := "wash", desc := "(LClogHouse$Grains;I[I)V" } : Jvm.MethodName)) ∈ lw_all := lw_g (lw_at lw_m4 191 rfl) rfl
theorem q995 : (Jvm.Cond.methodLink "ClogHouse" (312 : Nat) ({ cls := "ClogHouse", name := "runs", desc := "()V" } : Jvm.MethodName)) ∈ lw_all := lw_g (lw_at lw_m4 200 rfl) rfl
theorem q996 : (Jvm.Cond.privateMethod ({ cls := "ClogHouse", name := "runs", desc := "()V" } : Jvm.MethodName)) ∈ lw_tbl := lw_at lw_m4 201 rfl
theorem q997 : (Jvm.Cond.instanceMethod ({ cls := "ClogHouse", name := "runs", desc := "()V" } : Jvm.MethodName)) ∈ lw_all := lw_g (lw_at lw_m4 202 rfl) rfl
theorem q998 : (Jvm.Cond.code ({ cls := "ClogHouse", name := "runs", desc := "()V" } : Jvm.MethodName) prog_1_method_31_code (4 : Nat) (Option.none : Option Jvm.ClassFile.FieldType)) ∈ lw_all := lw_g (lw_at lw_m4 203 rfl) rfl
theorem q999 : (Jvm.Cond.methodLink "ClogHouse" (327 : Nat) ({ cls := "ClogHouse", name := "parts", desc := "()V" } : Jvm.MethodName)) ∈ lw_all := lw_g (lw_at lw_m4 204 rfl) rfl
theorem q1000 : (Jvm.Cond.privateMethod ({ cls := "ClogHouse", name := "parts", desc := "()V" } : Jvm.MethodName)) ∈ lw_tbl := lw_at lw_m4 205 rfl
theorem q1001 : (Jvm.Cond.instanceMethod ({ cls := "ClogHouse", name := "parts", desc := "()V" } : Jvm.MethodName)) ∈ lw_all := lw_g (lw_at lw_m4 206 rfl) rfl
theorem q1002 : (Jvm.Cond.code ({ cls := "ClogHouse", name := "parts", desc := "()V" } : Jvm.MethodName) prog_1_method_32_code (5 : Nat) (Option.none : Option Jvm.ClassFile.FieldType)) ∈ lw_all := lw_g (lw_at lw_m4 207 rfl) rfl
theorem q1003 : (Jvm.Cond.constant "ClogHouse" (340 : Nat) (1000000 : Int32)) ∈ lw_all := lw_g (lw_at lw_m4 208 rfl) rfl
theorem q1004 : (Jvm.Cond.methodLink "ClogHouse" (333 : Nat) ({ cls := "ClogHouse", name := "goes", desc := "(LClogHouse$Filter;)V" } : Jvm.MethodName)) ∈ lw_all := lw_g (lw_at lw_m4 209 rfl) rfl
theorem q1005 : (Jvm.Cond.privateMethod ({ cls := "ClogHouse", name := "goes", desc := "(LClogHouse$Filter;)V" } : Jvm.MethodName)) ∈ lw_tbl := lw_at lw_m4 210 rfl
theorem q1006 : (Jvm.Cond.instanceMethod ({ cls := "ClogHouse", name := "goes", desc := "(LClogHouse$Filter;)V" } : Jvm.MethodName)) ∈ lw_all := lw_g (lw_at lw_m4 211 rfl) rfl
theorem q1007 : (Jvm.Cond.code ({ cls := "ClogHouse", name := "goes", desc := "(LClogHouse$Filter;)V" } : Jvm.MethodName) prog_1_method_33_code (4 : Nat) (Option.none : Option Jvm.ClassFile.FieldType)) ∈ lw_all := lw_g (lw_at lw_m4 212 rfl) rfl
theorem q1008 : (Jvm.Cond.methodLink "ClogHouse" (341 : Nat) ({ cls := "ClogHouse$Filter", name := "pass", desc := "(LClogHouse$Grains;[I)V" } : Jvm.MethodName)) ∈ lw_all := lw_g (lw_at lw_m4 213 rfl) rfl
theorem q1021 : (Jvm.Cond.methodLink "ClogHouse" (345 : Nat) ({ cls := "ClogHouse$Filter", name := "comes", desc := "()I" } : Jvm.MethodName)) ∈ lw_all := lw_g (lw_at lw_m4 226 rfl) rfl
theorem q1026 : (Jvm.Cond.instanceMethod ({ cls := "ClogHouse", name := "hand", desc := "(II)Z" } : Jvm.MethodName)) ∈ lw_all := lw_g (lw_at lw_m4 231 rfl) rfl
theorem q1027 : (Jvm.Cond.selects "ClogHouse" ({ cls := "ClogHouse", name := "hand", desc := "(II)Z" } : Jvm.MethodName) ({ cls := "ClogHouse", name := "hand", desc := "(II)Z" } : Jvm.MethodName)) ∈ lw_all := lw_g (lw_at lw_m4 232 rfl) rfl
theorem q1028 : (Jvm.Cond.code ({ cls := "ClogHouse", name := "hand", desc := "(II)Z" } : Jvm.MethodName) prog_1_method_34_code (4 : Nat) (Option.some Jvm.ClassFile.FieldType.boolean)) ∈ lw_all := lw_g (lw_at lw_m4 233 rfl) rfl
theorem q1030 : (Jvm.Cond.instanceMethod ({ cls := "ClogHouse", name := "history", desc := "(III)I" } : Jvm.MethodName)) ∈ lw_all := lw_g (lw_at lw_m4 235 rfl) rfl
theorem q1031 : (Jvm.Cond.selects "ClogHouse" ({ cls := "ClogHouse", name := "history", desc := "(III)I" } : Jvm.MethodName) ({ cls := "ClogHouse", name := "history", desc := "(III)I" } : Jvm.MethodName)) ∈ lw_all := lw_g (lw_at lw_m4 236 rfl) rfl
theorem q1032 : (Jvm.Cond.code ({ cls := "ClogHouse", name := "history", desc := "(III)I" } : Jvm.MethodName) prog_1_method_35_code (4 : Nat) (Option.some Jvm.ClassFile.FieldType.int)) ∈ lw_all := lw_g (lw_at lw_m4 237 rfl) rfl
theorem q1034 : (Jvm.Cond.instanceMethod ({ cls := "ClogHouse", name := "breaks", desc := "(II)I" } : Jvm.MethodName)) ∈ lw_all := lw_g (lw_at lw_m4 239 rfl) rfl
theorem q1035 : (Jvm.Cond.selects "ClogHouse" ({ cls := "ClogHouse", name := "breaks", desc := "(II)I" } : Jvm.MethodName) ({ cls := "ClogHouse", name := "breaks", desc := "(II)I" } : Jvm.MethodName)) ∈ lw_all := lw_g (lw_at lw_m5 0 rfl) rfl
theorem q1036 : (Jvm.Cond.code ({ cls := "ClogHouse", name := "breaks", desc := "(II)I" } : Jvm.MethodName) prog_1_method_36_code (6 : Nat) (Option.some Jvm.ClassFile.FieldType.int)) ∈ lw_all := lw_g (lw_at lw_m5 1 rfl) rfl
theorem q1037 : (Jvm.Cond.methodLink "ClogHouse" (353 : Nat) ({ cls := "ClogHouse", name := "history", desc := "(III)I" } : Jvm.MethodName)) ∈ lw_all := lw_g (lw_at lw_m5 2 rfl) rfl
theorem q1039 : (Jvm.Cond.instanceMethod ({ cls := "ClogHouse", name := "ripe", desc := "(I)I" } : Jvm.MethodName)) ∈ lw_all := lw_g (lw_at lw_m5 4 rfl) rfl
theorem q1040 : (Jvm.Cond.selects "ClogHouse" ({ cls := "ClogHouse", name := "ripe", desc := "(I)I" } : Jvm.MethodName) ({ cls := "ClogHouse", name := "ripe", desc := "(I)I" } : Jvm.MethodName)) ∈ lw_all := lw_g (lw_at lw_m5 5 rfl) rfl
theorem q1041 : (Jvm.Cond.code ({ cls := "ClogHouse", name := "ripe", desc := "(I)I" } : Jvm.MethodName) prog_1_method_37_code (2 : Nat) (Option.some Jvm.ClassFile.FieldType.int)) ∈ lw_all := lw_g (lw_at lw_m5 6 rfl) rfl
theorem q1043 : (Jvm.Cond.instanceMethod ({ cls := "ClogHouse", name := "share", desc := "(IIII)J" } : Jvm.MethodName)) ∈ lw_all := lw_g (lw_at lw_m5 8 rfl) rfl
theorem q1044 : (Jvm.Cond.selects "ClogHouse" ({ cls := "ClogHouse", name := "share", desc := "(IIII)J" } : Jvm.MethodName) ({ cls := "ClogHouse", name := "share", desc := "(IIII)J" } : Jvm.MethodName)) ∈ lw_all := lw_g (lw_at lw_m5 9 rfl) rfl
theorem q1045 : (Jvm.Cond.code ({ cls := "ClogHouse", name := "share", desc := "(IIII)J" } : Jvm.MethodName) prog_1_method_41_code (11 : Nat) (Option.some Jvm.ClassFile.FieldType.long)) ∈ lw_all := lw_g (lw_at lw_m5 10 rfl) rfl
theorem q1046 : (Jvm.Cond.methodLink "ClogHouse" (361 : Nat) ({ cls := "ClogHouse", name := "isTest", desc := "(III)Z" } : Jvm.MethodName)) ∈ lw_all := lw_g (lw_at lw_m5 11 rfl) rfl
theorem q1047 : (Jvm.Cond.static ({ cls := "ClogHouse", name := "isTest", desc := "(III)Z" } : Jvm.MethodName)) ∈ lw_all := lw_g (lw_at lw_m5 12 rfl) rfl
theorem q1048 : (Jvm.Cond.code ({ cls := "ClogHouse", name := "isTest", desc := "(III)Z" } : Jvm.MethodName) prog_1_method_40_code (3 : Nat) (Option.some Jvm.ClassFile.FieldType.boolean)) ∈ lw_all := lw_g (lw_at lw_m5 13 rfl) rfl
theorem q1049 : (Jvm.Cond.constantLong "ClogHouse" (359 : Nat) (60 : Int64)) ∈ lw_all := lw_g (lw_at lw_m5 14 rfl) rfl
theorem q1050 : (Jvm.Cond.constantLong "ClogHouse" (365 : Nat) (-1 : Int64)) ∈ lw_all := lw_g (lw_at lw_m5 15 rfl) rfl
theorem q1051 : (Jvm.Cond.methodLink "ClogHouse" (367 : Nat) ({ cls := "ClogHouse", name := "ways", desc := "(II)J" } : Jvm.MethodName)) ∈ lw_all := lw_g (lw_at lw_m5 16 rfl) rfl
theorem q1052 : (Jvm.Cond.static ({ cls := "ClogHouse", name := "ways", desc := "(II)J" } : Jvm.MethodName)) ∈ lw_all := lw_g (lw_at lw_m5 17 rfl) rfl
theorem q1053 : (Jvm.Cond.code ({ cls := "ClogHouse", name := "ways", desc := "(II)J" } : Jvm.MethodName) prog_1_method_38_code (7 : Nat) (Option.some Jvm.ClassFile.FieldType.long)) ∈ lw_all := lw_g (lw_at lw_m5 18 rfl) rfl
theorem q1054 : (Jvm.Cond.methodLink "ClogHouse" (356 : Nat) ({ cls := "ClogHouse", name := "gcd", desc := "(JJ)J" } : Jvm.MethodName)) ∈ lw_all := lw_g (lw_at lw_m5 19 rfl) rfl
theorem q1055 : (Jvm.Cond.static ({ cls := "ClogHouse", name := "gcd", desc := "(JJ)J" } : Jvm.MethodName)) ∈ lw_all := lw_g (lw_at lw_m5 20 rfl) rfl
theorem q1056 : (Jvm.Cond.code ({ cls := "ClogHouse", name := "gcd", desc := "(JJ)J" } : Jvm.MethodName) prog_1_method_39_code (10 : Nat) (Option.some Jvm.ClassFile.FieldType.long)) ∈ lw_all := lw_g (lw_at lw_m5 21 rfl) rfl
theorem q1058 : (Jvm.Cond.instanceMethod ({ cls := "ClogHouse", name := "drops", desc := "(III)I" } : Jvm.MethodName)) ∈ lw_all := lw_g (lw_at lw_m5 23 rfl) rfl
theorem q1059 : (Jvm.Cond.selects "ClogHouse" ({ cls := "ClogHouse", name := "drops", desc := "(III)I" } : Jvm.MethodName) ({ cls := "ClogHouse", name := "drops", desc := "(III)I" } : Jvm.MethodName)) ∈ lw_all := lw_g (lw_at lw_m5 24 rfl) rfl
theorem q1060 : (Jvm.Cond.code ({ cls := "ClogHouse", name := "drops", desc := "(III)I" } : Jvm.MethodName) prog_1_method_42_code (5 : Nat) (Option.some Jvm.ClassFile.FieldType.int)) ∈ lw_all := lw_g (lw_at lw_m5 25 rfl) rfl
theorem q1061 : (Jvm.Cond.methodLink "ClogHouse" (371 : Nat) ({ cls := "ClogHouse", name := "share", desc := "(IIII)J" } : Jvm.MethodName)) ∈ lw_all := lw_g (lw_at lw_m5 26 rfl) rfl
theorem q1063 : (Jvm.Cond.instanceMethod ({ cls := "ClogHouse", name := "layer", desc := "(II)I" } : Jvm.MethodName)) ∈ lw_all := lw_g (lw_at lw_m5 28 rfl) rfl
theorem q1064 : (Jvm.Cond.selects "ClogHouse" ({ cls := "ClogHouse", name := "layer", desc := "(II)I" } : Jvm.MethodName) ({ cls := "ClogHouse", name := "layer", desc := "(II)I" } : Jvm.MethodName)) ∈ lw_all := lw_g (lw_at lw_m5 29 rfl) rfl
theorem q1065 : (Jvm.Cond.code ({ cls := "ClogHouse", name := "layer", desc := "(II)I" } : Jvm.MethodName) prog_1_method_43_code (3 : Nat) (Option.some Jvm.ClassFile.FieldType.int)) ∈ lw_all := lw_g (lw_at lw_m5 30 rfl) rfl
theorem q1067 : (Jvm.Cond.instanceMethod ({ cls := "ClogHouse", name := "order", desc := "(II)I" } : Jvm.MethodName)) ∈ lw_all := lw_g (lw_at lw_m5 32 rfl) rfl
theorem q1068 : (Jvm.Cond.selects "ClogHouse" ({ cls := "ClogHouse", name := "order", desc := "(II)I" } : Jvm.MethodName) ({ cls := "ClogHouse", name := "order", desc := "(II)I" } : Jvm.MethodName)) ∈ lw_all := lw_g (lw_at lw_m5 33 rfl) rfl
theorem q1069 : (Jvm.Cond.code ({ cls := "ClogHouse", name := "order", desc := "(II)I" } : Jvm.MethodName) prog_1_method_46_code (4 : Nat) (Option.some Jvm.ClassFile.FieldType.int)) ∈ lw_all := lw_g (lw_at lw_m5 34 rfl) rfl
theorem q1070 : (Jvm.Cond.methodLink "ClogHouse" (389 : Nat) ({ cls := "ClogHouse", name := "tryLayers", desc := "(III)V" } : Jvm.MethodName)) ∈ lw_all := lw_g (lw_at lw_m5 35 rfl) rfl
theorem q1071 : (Jvm.Cond.privateMethod ({ cls := "ClogHouse", name := "tryLayers", desc := "(III)V" } : Jvm.MethodName)) ∈ lw_tbl := lw_at lw_m5 36 rfl
theorem q1072 : (Jvm.Cond.instanceMethod ({ cls := "ClogHouse", name := "tryLayers", desc := "(III)V" } : Jvm.MethodName)) ∈ lw_all := lw_g (lw_at lw_m5 37 rfl) rfl
theorem q1073 : (Jvm.Cond.code ({ cls := "ClogHouse", name := "tryLayers", desc := "(III)V" } : Jvm.MethodName) prog_1_method_44_code (5 : Nat) (Option.none : Option Jvm.ClassFile.FieldType)) ∈ lw_all := lw_g (lw_at lw_m5 38 rfl) rfl
theorem q1074 : (Jvm.Cond.methodLink "ClogHouse" (377 : Nat) ({ cls := "ClogHouse", name := "lasts", desc := "(I)I" } : Jvm.MethodName)) ∈ lw_all := lw_g (lw_at lw_m5 39 rfl) rfl
theorem q1075 : (Jvm.Cond.privateMethod ({ cls := "ClogHouse", name := "lasts", desc := "(I)I" } : Jvm.MethodName)) ∈ lw_tbl := lw_at lw_m5 40 rfl
theorem q1076 : (Jvm.Cond.instanceMethod ({ cls := "ClogHouse", name := "lasts", desc := "(I)I" } : Jvm.MethodName)) ∈ lw_all := lw_g (lw_at lw_m5 41 rfl) rfl
theorem q1077 : (Jvm.Cond.code ({ cls := "ClogHouse", name := "lasts", desc := "(I)I" } : Jvm.MethodName) prog_1_method_45_code (5 : Nat) (Option.some Jvm.ClassFile.FieldType.int)) ∈ lw_all := lw_g (lw_at lw_m5 42 rfl) rfl
theorem q1078 : (Jvm.Cond.methodLink "ClogHouse" (383 : Nat) ({ cls := "java/lang/System", name := "arraycopy", desc := "(Ljava/lang/Object;ILjava/lang/Object;II)V" } : Jvm.MethodName)) ∈ lw_all := lw_g (lw_at lw_m5 43 rfl) rfl
theorem q1082 : (Jvm.Cond.instanceMethod ({ cls := "ClogHouse", name := "cost", desc := "(II)Z" } : Jvm.MethodName)) ∈ lw_all := lw_g (lw_at lw_m5 47 rfl) rfl
theorem q1083 : (Jvm.Cond.selects "ClogHouse" ({ cls := "ClogHouse", name := "cost", desc := "(II)Z" } : Jvm.MethodName) ({ cls := "ClogHouse", name := "cost", desc := "(II)Z" } : Jvm.MethodName)) ∈ lw_all := lw_g (lw_at lw_m5 48 rfl) rfl
theorem q1084 : (Jvm.Cond.code ({ cls := "ClogHouse", name := "cost", desc := "(II)Z" } : Jvm.MethodName) prog_1_method_47_code (3 : Nat) (Option.some Jvm.ClassFile.FieldType.boolean)) ∈ lw_all := lw_g (lw_at lw_m5 49 rfl) rfl
theorem q1085 : (Jvm.Cond.constantLong "ClogHouse" (393 : Nat) (19 : Int64)) ∈ lw_all := lw_g (lw_at lw_m5 50 rfl) rfl
theorem q1086 : (Jvm.Cond.constantLong "ClogHouse" (395 : Nat) (10000 : Int64)) ∈ lw_all := lw_g (lw_at lw_m5 51 rfl) rfl
theorem q1088 : (Jvm.Cond.instanceMethod ({ cls := "ClogHouse", name := "cheapest", desc := "(III)I" } : Jvm.MethodName)) ∈ lw_all := lw_g (lw_at lw_m5 53 rfl) rfl
theorem q1089 : (Jvm.Cond.selects "ClogHouse" ({ cls := "ClogHouse", name := "cheapest", desc := "(III)I" } : Jvm.MethodName) ({ cls := "ClogHouse", name := "cheapest", desc := "(III)I" } : Jvm.MethodName)) ∈ lw_all := lw_g (lw_at lw_m5 54 rfl) rfl
theorem q1090 : (Jvm.Cond.code ({ cls := "ClogHouse", name := "cheapest", desc := "(III)I" } : Jvm.MethodName) prog_1_method_52_code (6 : Nat) (Option.some Jvm.ClassFile.FieldType.int)) ∈ lw_all := lw_g (lw_at lw_m5 55 rfl) rfl
theorem q1091 : (Jvm.Cond.methodLink "ClogHouse" (406 : Nat) ({ cls := "ClogHouse", name := "stays", desc := "(II)I" } : Jvm.MethodName)) ∈ lw_all := lw_g (lw_at lw_m5 56 rfl) rfl
theorem q1092 : (Jvm.Cond.privateMethod ({ cls := "ClogHouse", name := "stays", desc := "(II)I" } : Jvm.MethodName)) ∈ lw_tbl := lw_at lw_m5 57 rfl
theorem q1093 : (Jvm.Cond.instanceMethod ({ cls := "ClogHouse", name := "stays", desc := "(II)I" } : Jvm.MethodName)) ∈ lw_all := lw_g (lw_at lw_m5 58 rfl) rfl
theorem q1094 : (Jvm.Cond.code ({ cls := "ClogHouse", name := "stays", desc := "(II)I" } : Jvm.MethodName) prog_1_method_50_code (3 : Nat) (Option.some Jvm.ClassFile.FieldType.int)) ∈ lw_all := lw_g (lw_at lw_m5 59 rfl) rfl
theorem q1095 : (Jvm.Cond.methodLink "ClogHouse" (400 : Nat) ({ cls := "ClogHouse", name := "costOf", desc := "(I)I" } : Jvm.MethodName)) ∈ lw_all := lw_g (lw_at lw_m5 60 rfl) rfl
theorem q1096 : (Jvm.Cond.privateMethod ({ cls := "ClogHouse", name := "costOf", desc := "(I)I" } : Jvm.MethodName)) ∈ lw_tbl := lw_at lw_m5 61 rfl
theorem q1097 : (Jvm.Cond.instanceMethod ({ cls := "ClogHouse", name := "costOf", desc := "(I)I" } : Jvm.MethodName)) ∈ lw_all := lw_g (lw_at lw_m5 62 rfl) rfl
theorem q1098 : (Jvm.Cond.code ({ cls := "ClogHouse", name := "costOf", desc := "(I)I" } : Jvm.MethodName) prog_1_method_48_code (2 : Nat) (Option.some Jvm.ClassFile.FieldType.int)) ∈ lw_all := lw_g (lw_at lw_m5 63 rfl) rfl
theorem q1099 : (Jvm.Cond.methodLink "ClogHouse" (403 : Nat) ({ cls := "ClogHouse", name := "cheapAt", desc := "(II)I" } : Jvm.MethodName)) ∈ lw_all := lw_g (lw_at lw_m5 64 rfl) rfl
theorem q1100 : (Jvm.Cond.privateMethod ({ cls := "ClogHouse", name := "cheapAt", desc := "(II)I" } : Jvm.MethodName)) ∈ lw_tbl := lw_at lw_m5 65 rfl
theorem q1101 : (Jvm.Cond.instanceMethod ({ cls := "ClogHouse", name := "cheapAt", desc := "(II)I" } : Jvm.MethodName)) ∈ lw_all := lw_g (lw_at lw_m5 66 rfl) rfl
theorem q1102 : (Jvm.Cond.code ({ cls := "ClogHouse", name := "cheapAt", desc := "(II)I" } : Jvm.MethodName) prog_1_method_49_code (3 : Nat) (Option.some Jvm.ClassFile.FieldType.int)) ∈ lw_all := lw_g (lw_at lw_m5 67 rfl) rfl
theorem q1103 : (Jvm.Cond.methodLink "ClogHouse" (409 : Nat) ({ cls := "ClogHouse", name := "changes", desc := "(I)I" } : Jvm.MethodName)) ∈ lw_all := lw_g (lw_at lw_m5 68 rfl) rfl
theorem q1104 : (Jvm.Cond.privateMethod ({ cls := "ClogHouse", name := "changes", desc := "(I)I" } : Jvm.MethodName)) ∈ lw_tbl := lw_at lw_m5 69 rfl
theorem q1105 : (Jvm.Cond.instanceMethod ({ cls := "ClogHouse", name := "changes", desc := "(I)I" } : Jvm.MethodName)) ∈ lw_all := lw_g (lw_at lw_m5 70 rfl) rfl
theorem q1106 : (Jvm.Cond.code ({ cls := "ClogHouse", name := "changes", desc := "(I)I" } : Jvm.MethodName) prog_1_method_51_code (2 : Nat) (Option.some Jvm.ClassFile.FieldType.int)) ∈ lw_all := lw_g (lw_at lw_m5 71 rfl) rfl
theorem q1108 : (Jvm.Cond.instanceMethod ({ cls := "ClogHouse", name := "gauge", desc := "(IIII)I" } : Jvm.MethodName)) ∈ lw_all := lw_g (lw_at lw_m5 73 rfl) rfl
theorem q1109 : (Jvm.Cond.selects "ClogHouse" ({ cls := "ClogHouse", name := "gauge", desc := "(IIII)I" } : Jvm.MethodName) ({ cls := "ClogHouse", name := "gauge", desc := "(IIII)I" } : Jvm.MethodName)) ∈ lw_all := lw_g (lw_at lw_m5 74 rfl) rfl
theorem q1110 : (Jvm.Cond.code ({ cls := "ClogHouse", name := "gauge", desc := "(IIII)I" } : Jvm.MethodName) prog_1_method_53_code (5 : Nat) (Option.some Jvm.ClassFile.FieldType.int)) ∈ lw_all := lw_g (lw_at lw_m5 75 rfl) rfl
theorem q1112 : (Jvm.Cond.instanceMethod ({ cls := "ClogHouse", name := "back", desc := "(IIII)I" } : Jvm.MethodName)) ∈ lw_all := lw_g (lw_at lw_m5 77 rfl) rfl
theorem q1113 : (Jvm.Cond.selects "ClogHouse" ({ cls := "ClogHouse", name := "back", desc := "(IIII)I" } : Jvm.MethodName) ({ cls := "ClogHouse", name := "back", desc := "(IIII)I" } : Jvm.MethodName)) ∈ lw_all := lw_g (lw_at lw_m5 78 rfl) rfl
theorem q1114 : (Jvm.Cond.code ({ cls := "ClogHouse", name := "back", desc := "(IIII)I" } : Jvm.MethodName) prog_1_method_55_code (9 : Nat) (Option.some Jvm.ClassFile.FieldType.int)) ∈ lw_all := lw_g (lw_at lw_m5 79 rfl) rfl
theorem q1115 : (Jvm.Cond.methodLink "ClogHouse" (418 : Nat) ({ cls := "ClogHouse", name := "goes", desc := "(IIIII)Z" } : Jvm.MethodName)) ∈ lw_all := lw_g (lw_at lw_m5 80 rfl) rfl
theorem q1116 : (Jvm.Cond.privateMethod ({ cls := "ClogHouse", name := "goes", desc := "(IIIII)Z" } : Jvm.MethodName)) ∈ lw_tbl := lw_at lw_m5 81 rfl
theorem q1117 : (Jvm.Cond.instanceMethod ({ cls := "ClogHouse", name := "goes", desc := "(IIIII)Z" } : Jvm.MethodName)) ∈ lw_all := lw_g (lw_at lw_m5 82 rfl) rfl
theorem q1118 : (Jvm.Cond.code ({ cls := "ClogHouse", name := "goes", desc := "(IIIII)Z" } : Jvm.MethodName) prog_1_method_54_code (8 : Nat) (Option.some Jvm.ClassFile.FieldType.boolean)) ∈ lw_all := lw_g (lw_at lw_m5 83 rfl) rfl
theorem q1119 : (Jvm.Cond.methodLink "ClogHouse" (415 : Nat) ({ cls := "ClogHouse$Cell", name := "resistOf", desc := "(I)I" } : Jvm.MethodName)) ∈ lw_all := lw_g (lw_at lw_m5 84 rfl) rfl
theorem q1121 : (Jvm.Cond.instanceMethod ({ cls := "ClogHouse", name := "barred", desc := "(III)I" } : Jvm.MethodName)) ∈ lw_all := lw_g (lw_at lw_m5 86 rfl) rfl
theorem q1122 : (Jvm.Cond.selects "ClogHouse" ({ cls := "ClogHouse", name := "barred", desc := "(III)I" } : Jvm.MethodName) ({ cls := "ClogHouse", name := "barred", desc := "(III)I" } : Jvm.MethodName)) ∈ lw_all := lw_g (lw_at lw_m5 87 rfl) rfl
theorem q1123 : (Jvm.Cond.code ({ cls := "ClogHouse", name := "barred", desc := "(III)I" } : Jvm.MethodName) prog_1_method_56_code (7 : Nat) (Option.some Jvm.ClassFile.FieldType.int)) ∈ lw_all := lw_g (lw_at lw_m5 88 rfl) rfl
theorem q1125 : (Jvm.Cond.instanceMethod ({ cls := "ClogHouse", name := "led", desc := "(II)I" } : Jvm.MethodName)) ∈ lw_all := lw_g (lw_at lw_m5 90 rfl) rfl
theorem q1126 : (Jvm.Cond.selects "ClogHouse" ({ cls := "ClogHouse", name := "led", desc := "(II)I" } : Jvm.MethodName) ({ cls := "ClogHouse", name := "led", desc := "(II)I" } : Jvm.MethodName)) ∈ lw_all := lw_g (lw_at lw_m5 91 rfl) rfl
theorem q1127 : (Jvm.Cond.code ({ cls := "ClogHouse", name := "led", desc := "(II)I" } : Jvm.MethodName) prog_1_method_57_code (6 : Nat) (Option.some Jvm.ClassFile.FieldType.int)) ∈ lw_all := lw_g (lw_at lw_m5 92 rfl) rfl
theorem q1128 : (Jvm.Cond.constantLong "ClogHouse" (421 : Nat) (5 : Int64)) ∈ lw_all := lw_g (lw_at lw_m5 93 rfl) rfl
theorem q1129 : (Jvm.Cond.methodLink "ClogHouse" (423 : Nat) ({ cls := "ClogHouse$Cake", name := "of", desc := "(I)I" } : Jvm.MethodName)) ∈ lw_all := lw_g (lw_at lw_m5 94 rfl) rfl
theorem q1133 : (Jvm.Cond.methodLink "ClogHouse" (426 : Nat) ({ cls := "ClogHouse$Cell", name := "of", desc := "(I)I" } : Jvm.MethodName)) ∈ lw_all := lw_g (lw_at lw_m5 98 rfl) rfl
theorem q1137 : (Jvm.Cond.instanceMethod ({ cls := "ClogHouse", name := "digest", desc := "()I" } : Jvm.MethodName)) ∈ lw_all := lw_g (lw_at lw_m5 102 rfl) rfl
theorem q1138 : (Jvm.Cond.selects "ClogHouse" ({ cls := "ClogHouse", name := "digest", desc := "()I" } : Jvm.MethodName) ({ cls := "ClogHouse", name := "digest", desc := "()I" } : Jvm.MethodName)) ∈ lw_all := lw_g (lw_at lw_m5 103 rfl) rfl
theorem q1139 : (Jvm.Cond.code ({ cls := "ClogHouse", name := "digest", desc := "()I" } : Jvm.MethodName) prog_1_method_58_code (6 : Nat) (Option.some Jvm.ClassFile.FieldType.int)) ∈ lw_all := lw_g (lw_at lw_m5 104 rfl) rfl
theorem q1141 : (Jvm.Cond.instanceMethod ({ cls := "ClogHouse", name := "count", desc := "(I)I" } : Jvm.MethodName)) ∈ lw_all := lw_g (lw_at lw_m5 106 rfl) rfl
theorem q1142 : (Jvm.Cond.selects "ClogHouse" ({ cls := "ClogHouse", name := "count", desc := "(I)I" } : Jvm.MethodName) ({ cls := "ClogHouse", name := "count", desc := "(I)I" } : Jvm.MethodName)) ∈ lw_all := lw_g (lw_at lw_m5 107 rfl) rfl
theorem q1143 : (Jvm.Cond.code ({ cls := "ClogHouse", name := "count", desc := "(I)I" } : Jvm.MethodName) prog_1_method_60_code (4 : Nat) (Option.some Jvm.ClassFile.FieldType.int)) ∈ lw_all := lw_g (lw_at lw_m5 108 rfl) rfl
theorem q1144 : (Jvm.Cond.methodLink "ClogHouse" (427 : Nat) ({ cls := "ClogHouse", name := "countOf", desc := "(I)I" } : Jvm.MethodName)) ∈ lw_all := lw_g (lw_at lw_m5 109 rfl) rfl
theorem q1145 : (Jvm.Cond.privateMethod ({ cls := "ClogHouse", name := "countOf", desc := "(I)I" } : Jvm.MethodName)) ∈ lw_tbl := lw_at lw_m5 110 rfl
theorem q1146 : (Jvm.Cond.instanceMethod ({ cls := "ClogHouse", name := "countOf", desc := "(I)I" } : Jvm.MethodName)) ∈ lw_all := lw_g (lw_at lw_m5 111 rfl) rfl
theorem q1147 : (Jvm.Cond.code ({ cls := "ClogHouse", name := "countOf", desc := "(I)I" } : Jvm.MethodName) prog_1_method_59_code (4 : Nat) (Option.some Jvm.ClassFile.FieldType.int)) ∈ lw_all := lw_g (lw_at lw_m5 112 rfl) rfl
theorem q1153 : (Jvm.Cond.instanceMethod ({ cls := "ClogHouse", name := "worth", desc := "(IIIIIIII)I" } : Jvm.MethodName)) ∈ lw_all := lw_g (lw_at lw_m5 118 rfl) rfl
theorem q1154 : (Jvm.Cond.selects "ClogHouse" ({ cls := "ClogHouse", name := "worth", desc := "(IIIIIIII)I" } : Jvm.MethodName) ({ cls := "ClogHouse", name := "worth", desc := "(IIIIIIII)I" } : Jvm.MethodName)) ∈ lw_all := lw_g (lw_at lw_m5 119 rfl) rfl
theorem q1155 : (Jvm.Cond.code ({ cls := "ClogHouse", name := "worth", desc := "(IIIIIIII)I" } : Jvm.MethodName) prog_1_method_24_code (9 : Nat) (Option.some Jvm.ClassFile.FieldType.int)) ∈ lw_all := lw_g (lw_at lw_m5 120 rfl) rfl
theorem q1156 : (Jvm.Cond.stringRef "ClogHouse" (276 : Nat) "wrcu") ∈ lw_tbl := lw_at lw_m5 121 rfl
theorem q1157 : (Jvm.Cond.methodLink "ClogHouse" (278 : Nat) ({ cls := "java/lang/String", name := "indexOf", desc := "(I)I" } : Jvm.MethodName)) ∈ lw_all := lw_g (lw_at lw_m5 122 rfl) rfl
theorem q1158 : (Jvm.Cond.classLink "ClogHouse" (283 : Nat) "java/util/NoSuchElementException") ∈ lw_all := lw_g (lw_at lw_m5 123 rfl) rfl
theorem q1167 : (Jvm.Cond.methodLink "ClogHouse" (285 : Nat) ({ cls := "java/util/NoSuchElementException", name := "<init>", desc := "()V" } : Jvm.MethodName)) ∈ lw_all := lw_g (lw_at lw_m5 132 rfl) rfl
theorem q1728 : (Jvm.Cond.castable "ClogHouse" "java/lang/Object") ∈ lw_tbl := lw_at lw_m7 213 rfl
theorem in_X1 : ∀ w ∈ wsX10, w ∈ lw_all := lw_in wsX10 [267, 269, 271, 273, 275, 277, 279, 281, 283, 285, 287, 289, 291, 293, 295, 297, 299, 301, 303, 305, 307, 309, 311, 313, 315, 317, 319, 321, 323, 325, 327, 329, 331, 333, 335, 337, 339, 341, 343] (by decide +kernel) (by decide +kernel)

/-! ClogHouse$Grains -/
def RX2 : String := "ClogHouse$Grains"
def TX2 : u_T := fun k => match k with
  | 0 => ("ClogHouse$Grains", "stick", "[I", true)
  | 1 => ("ClogHouse$Grains", "off", "[I", true)
  | _ => ("ClogHouse$Grains", "stay", "[I", true)
def tyX2 : Nat → FieldType := fun k => match k with
  | 0 => .array .int
  | 1 => .array .int
  | _ => .array .int
abbrev wsX20 : List Cond := u_ws RX2 TX2 3
theorem nmX2 : ∀ a, a < 3 → ∀ b, b < 3 → a ≠ b → (TX2 a).2.1 ≠ (TX2 b).2.1 := by decide +kernel
theorem tyX2_ok : ∀ k, k < 3 → parseFieldDescriptor (TX2 k).2.2.1 = some (tyX2 k) := by decide +kernel
abbrev cX2_init : ByteArray := prog_9_method_1_code
def yX2_init : MethodName := ⟨RX2, "<init>", "()V"⟩
abbrev cX2_share : ByteArray := prog_9_method_2_code
def yX2_share : MethodName := ⟨RX2, "share", "(II)I"⟩
theorem q77 : (Jvm.Cond.initialized "ClogHouse$Grains") ∈ lw_all := lw_g (lw_at lw_m1 2 rfl) rfl
theorem q114 : (Jvm.Cond.instantiable "ClogHouse$Grains" (3 : Nat)) ∈ lw_all := lw_g (lw_at lw_m1 39 rfl) rfl
theorem q116 : (Jvm.Cond.instanceMethod ({ cls := "ClogHouse$Grains", name := "<init>", desc := "()V" } : Jvm.MethodName)) ∈ lw_all := lw_g (lw_at lw_m1 41 rfl) rfl
theorem q117 : (Jvm.Cond.code ({ cls := "ClogHouse$Grains", name := "<init>", desc := "()V" } : Jvm.MethodName) prog_9_method_1_code (1 : Nat) (Option.none : Option Jvm.ClassFile.FieldType)) ∈ lw_all := lw_g (lw_at lw_m1 42 rfl) rfl
theorem q118 : (Jvm.Cond.methodLink "ClogHouse$Grains" (3 : Nat) ({ cls := "java/lang/Object", name := "<init>", desc := "()V" } : Jvm.MethodName)) ∈ lw_all := lw_g (lw_at lw_m1 43 rfl) rfl
theorem q119 : (Jvm.Cond.fieldLink "ClogHouse$Grains" (9 : Nat) "ClogHouse$Grains" "stick" "[I") ∈ lw_all := lw_g (lw_at lw_m1 44 rfl) rfl
theorem q121 : (Jvm.Cond.fieldLink "ClogHouse$Grains" (15 : Nat) "ClogHouse$Grains" "off" "[I") ∈ lw_all := lw_g (lw_at lw_m1 46 rfl) rfl
theorem q124 : (Jvm.Cond.fieldLink "ClogHouse$Grains" (18 : Nat) "ClogHouse$Grains" "stay" "[I") ∈ lw_all := lw_g (lw_at lw_m1 49 rfl) rfl
theorem q127 : (Jvm.Cond.laysFinal "ClogHouse$Grains" "ClogHouse$Grains" "stick" "[I") ∈ lw_all := lw_g (lw_at lw_m1 52 rfl) rfl
theorem q128 : (Jvm.Cond.soleField "ClogHouse$Grains" "stick") ∈ lw_all := lw_g (lw_at lw_m1 53 rfl) rfl
theorem q129 : (Jvm.Cond.laysFinal "ClogHouse$Grains" "ClogHouse$Grains" "off" "[I") ∈ lw_all := lw_g (lw_at lw_m1 54 rfl) rfl
theorem q130 : (Jvm.Cond.soleField "ClogHouse$Grains" "off") ∈ lw_all := lw_g (lw_at lw_m1 55 rfl) rfl
theorem q131 : (Jvm.Cond.laysFinal "ClogHouse$Grains" "ClogHouse$Grains" "stay" "[I") ∈ lw_all := lw_g (lw_at lw_m1 56 rfl) rfl
theorem q132 : (Jvm.Cond.soleField "ClogHouse$Grains" "stay") ∈ lw_all := lw_g (lw_at lw_m1 57 rfl) rfl
theorem q133 : (Jvm.Cond.superclass "ClogHouse$Grains" "java/lang/Object") ∈ lw_all := lw_g (lw_at lw_m1 58 rfl) rfl
theorem q1017 : (Jvm.Cond.instanceMethod ({ cls := "ClogHouse$Grains", name := "share", desc := "(II)I" } : Jvm.MethodName)) ∈ lw_all := lw_g (lw_at lw_m4 222 rfl) rfl
theorem q1018 : (Jvm.Cond.selects "ClogHouse$Grains" ({ cls := "ClogHouse$Grains", name := "share", desc := "(II)I" } : Jvm.MethodName) ({ cls := "ClogHouse$Grains", name := "share", desc := "(II)I" } : Jvm.MethodName)) ∈ lw_all := lw_g (lw_at lw_m4 223 rfl) rfl
theorem q1019 : (Jvm.Cond.code ({ cls := "ClogHouse$Grains", name := "share", desc := "(II)I" } : Jvm.MethodName) prog_9_method_2_code (3 : Nat) (Option.some Jvm.ClassFile.FieldType.int)) ∈ lw_all := lw_g (lw_at lw_m4 224 rfl) rfl
theorem q1729 : (Jvm.Cond.castable "ClogHouse$Grains" "java/lang/Object") ∈ lw_tbl := lw_at lw_m7 214 rfl
theorem in_X2 : ∀ w ∈ wsX20, w ∈ lw_all := lw_in wsX20 [127, 129, 131] (by decide +kernel) (by decide +kernel)

/-! ClogHouse$Filter -/
def RX3 : String := "ClogHouse$Filter"
def TX3 : u_T := fun k => match k with
  | 0 => ("ClogHouse$Filter", "cells", "[LClogHouse$Cell;", true)
  | 1 => ("ClogHouse$Filter", "cake", "LClogHouse$Cake;", true)
  | 2 => ("ClogHouse$Filter", "set", "[I", true)
  | 3 => ("ClogHouse$Filter", "gets", "[I", true)
  | 4 => ("ClogHouse$Filter", "wide", "[I", true)
  | 5 => ("ClogHouse$Filter", "cellMany", "I", false)
  | 6 => ("ClogHouse$Filter", "state", "I", false)
  | 7 => ("ClogHouse$Filter", "since", "I", false)
  | 8 => ("ClogHouse$Filter", "washes", "I", false)
  | 9 => ("ClogHouse$Filter", "share", "I", false)
  | 10 => ("ClogHouse$Filter", "push", "I", false)
  | 11 => ("ClogHouse$Filter", "out", "I", false)
  | 12 => ("ClogHouse$Filter", "best", "I", false)
  | 13 => ("ClogHouse$Filter", "bestOut", "I", false)
  | 14 => ("ClogHouse$Filter", "weight", "I", false)
  | 15 => ("ClogHouse$Filter", "hasRun", "Z", false)
  | _ => ("ClogHouse$Filter", "rules", "LClogHouse$Clause;", false)
def tyX3 : Nat → FieldType := fun k => match k with
  | 0 => .array (.object "ClogHouse$Cell")
  | 1 => .object "ClogHouse$Cake"
  | 2 => .array .int
  | 3 => .array .int
  | 4 => .array .int
  | 5 => .int
  | 6 => .int
  | 7 => .int
  | 8 => .int
  | 9 => .int
  | 10 => .int
  | 11 => .int
  | 12 => .int
  | 13 => .int
  | 14 => .int
  | 15 => .boolean
  | _ => .object "ClogHouse$Clause"
abbrev wsX30 : List Cond := u_ws RX3 TX3 17
set_option maxRecDepth 100000 in
theorem nmX3 : ∀ a, a < 17 → ∀ b, b < 17 → a ≠ b → (TX3 a).2.1 ≠ (TX3 b).2.1 := by decide +kernel
set_option maxRecDepth 100000 in
theorem tyX3_ok : ∀ k, k < 17 → parseFieldDescriptor (TX3 k).2.2.1 = some (tyX3 k) := by decide +kernel
abbrev cX3_init : ByteArray := prog_8_method_1_code
def yX3_init : MethodName := ⟨RX3, "<init>", "()V"⟩
abbrev cX3_isOpen : ByteArray := prog_8_method_3_code
def yX3_isOpen : MethodName := ⟨RX3, "isOpen", "()Z"⟩
abbrev cX3_bed : ByteArray := prog_8_method_4_code
def yX3_bed : MethodName := ⟨RX3, "bed", "()I"⟩
abbrev cX3_pushWith : ByteArray := prog_8_method_5_code
def yX3_pushWith : MethodName := ⟨RX3, "pushWith", "(I)I"⟩
abbrev cX3_needs : ByteArray := prog_8_method_6_code
def yX3_needs : MethodName := ⟨RX3, "needs", "(JII)J"⟩
abbrev cX3_press : ByteArray := prog_8_method_2_code
def yX3_press : MethodName := ⟨RX3, "press", "()I"⟩
abbrev cX3_change : ByteArray := prog_8_method_7_code
def yX3_change : MethodName := ⟨RX3, "change", "([I)V"⟩
abbrev cX3_wash : ByteArray := prog_8_method_8_code
def yX3_wash : MethodName := ⟨RX3, "wash", "(LClogHouse$Grains;I[I)V"⟩
abbrev cX3_pass : ByteArray := prog_8_method_9_code
def yX3_pass : MethodName := ⟨RX3, "pass", "(LClogHouse$Grains;[I)V"⟩
abbrev cX3_comes : ByteArray := prog_8_method_10_code
def yX3_comes : MethodName := ⟨RX3, "comes", "()I"⟩
theorem q78 : (Jvm.Cond.initialized "ClogHouse$Filter") ∈ lw_all := lw_g (lw_at lw_m1 3 rfl) rfl
theorem q142 : (Jvm.Cond.instantiable "ClogHouse$Filter" (17 : Nat)) ∈ lw_all := lw_g (lw_at lw_m1 67 rfl) rfl
theorem q144 : (Jvm.Cond.instanceMethod ({ cls := "ClogHouse$Filter", name := "<init>", desc := "()V" } : Jvm.MethodName)) ∈ lw_all := lw_g (lw_at lw_m1 69 rfl) rfl
theorem q145 : (Jvm.Cond.code ({ cls := "ClogHouse$Filter", name := "<init>", desc := "()V" } : Jvm.MethodName) prog_8_method_1_code (1 : Nat) (Option.none : Option Jvm.ClassFile.FieldType)) ∈ lw_all := lw_g (lw_at lw_m1 70 rfl) rfl
theorem q146 : (Jvm.Cond.methodLink "ClogHouse$Filter" (3 : Nat) ({ cls := "java/lang/Object", name := "<init>", desc := "()V" } : Jvm.MethodName)) ∈ lw_all := lw_g (lw_at lw_m1 71 rfl) rfl
theorem q147 : (Jvm.Cond.classLink "ClogHouse$Filter" (9 : Nat) "ClogHouse$Cell") ∈ lw_all := lw_g (lw_at lw_m1 72 rfl) rfl
theorem q148 : (Jvm.Cond.classLink "ClogHouse$Filter" (17 : Nat) "ClogHouse$Cake") ∈ lw_all := lw_g (lw_at lw_m1 73 rfl) rfl
theorem q150 : (Jvm.Cond.methodLinkNest "ClogHouse$Filter" (19 : Nat) ({ cls := "ClogHouse$Cake", name := "<init>", desc := "()V" } : Jvm.MethodName) "ClogHouse") ∈ lw_tbl := lw_at lw_m1 75 rfl
theorem q160 : (Jvm.Cond.fieldLink "ClogHouse$Filter" (96 : Nat) "ClogHouse$Cake" "held" "[I") ∈ lw_all := lw_g (lw_at lw_m1 85 rfl) rfl
theorem q167 : (Jvm.Cond.fieldLink "ClogHouse$Filter" (11 : Nat) "ClogHouse$Filter" "cells" "[LClogHouse$Cell;") ∈ lw_all := lw_g (lw_at lw_m1 92 rfl) rfl
theorem q169 : (Jvm.Cond.fieldLink "ClogHouse$Filter" (20 : Nat) "ClogHouse$Filter" "cake" "LClogHouse$Cake;") ∈ lw_all := lw_g (lw_at lw_m1 94 rfl) rfl
theorem q171 : (Jvm.Cond.fieldLink "ClogHouse$Filter" (24 : Nat) "ClogHouse$Filter" "set" "[I") ∈ lw_all := lw_g (lw_at lw_m1 96 rfl) rfl
theorem q173 : (Jvm.Cond.fieldLink "ClogHouse$Filter" (28 : Nat) "ClogHouse$Filter" "gets" "[I") ∈ lw_all := lw_g (lw_at lw_m1 98 rfl) rfl
theorem q175 : (Jvm.Cond.fieldLink "ClogHouse$Filter" (31 : Nat) "ClogHouse$Filter" "wide" "[I") ∈ lw_all := lw_g (lw_at lw_m1 100 rfl) rfl
theorem q176 : (Jvm.Cond.fieldLink "ClogHouse$Filter" (38 : Nat) "ClogHouse$Filter" "cellMany" "I") ∈ lw_all := lw_g (lw_at lw_m1 101 rfl) rfl
theorem q179 : (Jvm.Cond.fieldLink "ClogHouse$Filter" (77 : Nat) "ClogHouse$Filter" "since" "I") ∈ lw_all := lw_g (lw_at lw_m1 104 rfl) rfl
theorem q181 : (Jvm.Cond.fieldLink "ClogHouse$Filter" (74 : Nat) "ClogHouse$Filter" "washes" "I") ∈ lw_all := lw_g (lw_at lw_m1 106 rfl) rfl
theorem q185 : (Jvm.Cond.fieldLink "ClogHouse$Filter" (93 : Nat) "ClogHouse$Filter" "out" "I") ∈ lw_all := lw_g (lw_at lw_m1 110 rfl) rfl
theorem q187 : (Jvm.Cond.fieldLink "ClogHouse$Filter" (34 : Nat) "ClogHouse$Filter" "best" "I") ∈ lw_all := lw_g (lw_at lw_m1 112 rfl) rfl
theorem q193 : (Jvm.Cond.laysFinal "ClogHouse$Filter" "ClogHouse$Filter" "cells" "[LClogHouse$Cell;") ∈ lw_all := lw_g (lw_at lw_m1 118 rfl) rfl
theorem q194 : (Jvm.Cond.soleField "ClogHouse$Filter" "cells") ∈ lw_all := lw_g (lw_at lw_m1 119 rfl) rfl
theorem q195 : (Jvm.Cond.laysFinal "ClogHouse$Filter" "ClogHouse$Filter" "cake" "LClogHouse$Cake;") ∈ lw_all := lw_g (lw_at lw_m1 120 rfl) rfl
theorem q196 : (Jvm.Cond.soleField "ClogHouse$Filter" "cake") ∈ lw_all := lw_g (lw_at lw_m1 121 rfl) rfl
theorem q197 : (Jvm.Cond.laysFinal "ClogHouse$Filter" "ClogHouse$Filter" "set" "[I") ∈ lw_all := lw_g (lw_at lw_m1 122 rfl) rfl
theorem q198 : (Jvm.Cond.soleField "ClogHouse$Filter" "set") ∈ lw_all := lw_g (lw_at lw_m1 123 rfl) rfl
theorem q199 : (Jvm.Cond.laysFinal "ClogHouse$Filter" "ClogHouse$Filter" "gets" "[I") ∈ lw_all := lw_g (lw_at lw_m1 124 rfl) rfl
theorem q200 : (Jvm.Cond.soleField "ClogHouse$Filter" "gets") ∈ lw_all := lw_g (lw_at lw_m1 125 rfl) rfl
theorem q201 : (Jvm.Cond.laysFinal "ClogHouse$Filter" "ClogHouse$Filter" "wide" "[I") ∈ lw_all := lw_g (lw_at lw_m1 126 rfl) rfl
theorem q202 : (Jvm.Cond.soleField "ClogHouse$Filter" "wide") ∈ lw_all := lw_g (lw_at lw_m1 127 rfl) rfl
theorem q203 : (Jvm.Cond.lays "ClogHouse$Filter" "ClogHouse$Filter" "cellMany" "I") ∈ lw_all := lw_g (lw_at lw_m1 128 rfl) rfl
theorem q204 : (Jvm.Cond.soleField "ClogHouse$Filter" "cellMany") ∈ lw_all := lw_g (lw_at lw_m1 129 rfl) rfl
theorem q205 : (Jvm.Cond.lays "ClogHouse$Filter" "ClogHouse$Filter" "state" "I") ∈ lw_all := lw_g (lw_at lw_m1 130 rfl) rfl
theorem q206 : (Jvm.Cond.soleField "ClogHouse$Filter" "state") ∈ lw_all := lw_g (lw_at lw_m1 131 rfl) rfl
theorem q207 : (Jvm.Cond.lays "ClogHouse$Filter" "ClogHouse$Filter" "since" "I") ∈ lw_all := lw_g (lw_at lw_m1 132 rfl) rfl
theorem q208 : (Jvm.Cond.soleField "ClogHouse$Filter" "since") ∈ lw_all := lw_g (lw_at lw_m1 133 rfl) rfl
theorem q209 : (Jvm.Cond.lays "ClogHouse$Filter" "ClogHouse$Filter" "washes" "I") ∈ lw_all := lw_g (lw_at lw_m1 134 rfl) rfl
theorem q210 : (Jvm.Cond.soleField "ClogHouse$Filter" "washes") ∈ lw_all := lw_g (lw_at lw_m1 135 rfl) rfl
theorem q211 : (Jvm.Cond.lays "ClogHouse$Filter" "ClogHouse$Filter" "share" "I") ∈ lw_all := lw_g (lw_at lw_m1 136 rfl) rfl
theorem q212 : (Jvm.Cond.soleField "ClogHouse$Filter" "share") ∈ lw_all := lw_g (lw_at lw_m1 137 rfl) rfl
theorem q213 : (Jvm.Cond.lays "ClogHouse$Filter" "ClogHouse$Filter" "push" "I") ∈ lw_all := lw_g (lw_at lw_m1 138 rfl) rfl
theorem q214 : (Jvm.Cond.soleField "ClogHouse$Filter" "push") ∈ lw_all := lw_g (lw_at lw_m1 139 rfl) rfl
theorem q215 : (Jvm.Cond.lays "ClogHouse$Filter" "ClogHouse$Filter" "out" "I") ∈ lw_all := lw_g (lw_at lw_m1 140 rfl) rfl
theorem q216 : (Jvm.Cond.soleField "ClogHouse$Filter" "out") ∈ lw_all := lw_g (lw_at lw_m1 141 rfl) rfl
theorem q217 : (Jvm.Cond.lays "ClogHouse$Filter" "ClogHouse$Filter" "best" "I") ∈ lw_all := lw_g (lw_at lw_m1 142 rfl) rfl
theorem q218 : (Jvm.Cond.soleField "ClogHouse$Filter" "best") ∈ lw_all := lw_g (lw_at lw_m1 143 rfl) rfl
theorem q219 : (Jvm.Cond.lays "ClogHouse$Filter" "ClogHouse$Filter" "bestOut" "I") ∈ lw_all := lw_g (lw_at lw_m1 144 rfl) rfl
theorem q220 : (Jvm.Cond.soleField "ClogHouse$Filter" "bestOut") ∈ lw_all := lw_g (lw_at lw_m1 145 rfl) rfl
theorem q221 : (Jvm.Cond.lays "ClogHouse$Filter" "ClogHouse$Filter" "weight" "I") ∈ lw_all := lw_g (lw_at lw_m1 146 rfl) rfl
theorem q222 : (Jvm.Cond.soleField "ClogHouse$Filter" "weight") ∈ lw_all := lw_g (lw_at lw_m1 147 rfl) rfl
theorem q223 : (Jvm.Cond.lays "ClogHouse$Filter" "ClogHouse$Filter" "hasRun" "Z") ∈ lw_all := lw_g (lw_at lw_m1 148 rfl) rfl
theorem q224 : (Jvm.Cond.soleField "ClogHouse$Filter" "hasRun") ∈ lw_all := lw_g (lw_at lw_m1 149 rfl) rfl
theorem q225 : (Jvm.Cond.lays "ClogHouse$Filter" "ClogHouse$Filter" "rules" "LClogHouse$Clause;") ∈ lw_all := lw_g (lw_at lw_m1 150 rfl) rfl
theorem q226 : (Jvm.Cond.soleField "ClogHouse$Filter" "rules") ∈ lw_all := lw_g (lw_at lw_m1 151 rfl) rfl
theorem q227 : (Jvm.Cond.superclass "ClogHouse$Filter" "java/lang/Object") ∈ lw_all := lw_g (lw_at lw_m1 152 rfl) rfl
theorem q383 : (Jvm.Cond.fieldLinkNest "ClogHouse$Filter" (84 : Nat) "ClogHouse$Cell" "pore" "I" "ClogHouse") ∈ lw_tbl := lw_at lw_m2 68 rfl
theorem q455 : (Jvm.Cond.instanceMethod ({ cls := "ClogHouse$Filter", name := "isOpen", desc := "()Z" } : Jvm.MethodName)) ∈ lw_all := lw_g (lw_at lw_m2 140 rfl) rfl
theorem q456 : (Jvm.Cond.selects "ClogHouse$Filter" ({ cls := "ClogHouse$Filter", name := "isOpen", desc := "()Z" } : Jvm.MethodName) ({ cls := "ClogHouse$Filter", name := "isOpen", desc := "()Z" } : Jvm.MethodName)) ∈ lw_all := lw_g (lw_at lw_m2 141 rfl) rfl
theorem q457 : (Jvm.Cond.code ({ cls := "ClogHouse$Filter", name := "isOpen", desc := "()Z" } : Jvm.MethodName) prog_8_method_3_code (2 : Nat) (Option.some Jvm.ClassFile.FieldType.boolean)) ∈ lw_all := lw_g (lw_at lw_m2 142 rfl) rfl
theorem q458 : (Jvm.Cond.methodLink "ClogHouse$Filter" (41 : Nat) ({ cls := "ClogHouse$Cell", name := "width", desc := "()I" } : Jvm.MethodName)) ∈ lw_all := lw_g (lw_at lw_m2 143 rfl) rfl
theorem q460 : (Jvm.Cond.instanceMethod ({ cls := "ClogHouse$Filter", name := "bed", desc := "()I" } : Jvm.MethodName)) ∈ lw_all := lw_g (lw_at lw_m2 145 rfl) rfl
theorem q461 : (Jvm.Cond.selects "ClogHouse$Filter" ({ cls := "ClogHouse$Filter", name := "bed", desc := "()I" } : Jvm.MethodName) ({ cls := "ClogHouse$Filter", name := "bed", desc := "()I" } : Jvm.MethodName)) ∈ lw_all := lw_g (lw_at lw_m2 146 rfl) rfl
theorem q462 : (Jvm.Cond.code ({ cls := "ClogHouse$Filter", name := "bed", desc := "()I" } : Jvm.MethodName) prog_8_method_4_code (3 : Nat) (Option.some Jvm.ClassFile.FieldType.int)) ∈ lw_all := lw_g (lw_at lw_m2 147 rfl) rfl
theorem q463 : (Jvm.Cond.methodLink "ClogHouse$Filter" (45 : Nat) ({ cls := "ClogHouse$Cell", name := "resist", desc := "()I" } : Jvm.MethodName)) ∈ lw_all := lw_g (lw_at lw_m2 148 rfl) rfl
theorem q469 : (Jvm.Cond.instanceMethod ({ cls := "ClogHouse$Filter", name := "pushWith", desc := "(I)I" } : Jvm.MethodName)) ∈ lw_all := lw_g (lw_at lw_m2 154 rfl) rfl
theorem q470 : (Jvm.Cond.selects "ClogHouse$Filter" ({ cls := "ClogHouse$Filter", name := "pushWith", desc := "(I)I" } : Jvm.MethodName) ({ cls := "ClogHouse$Filter", name := "pushWith", desc := "(I)I" } : Jvm.MethodName)) ∈ lw_all := lw_g (lw_at lw_m2 155 rfl) rfl
theorem q471 : (Jvm.Cond.code ({ cls := "ClogHouse$Filter", name := "pushWith", desc := "(I)I" } : Jvm.MethodName) prog_8_method_5_code (8 : Nat) (Option.some Jvm.ClassFile.FieldType.int)) ∈ lw_all := lw_g (lw_at lw_m2 156 rfl) rfl
theorem q472 : (Jvm.Cond.methodLink "ClogHouse$Filter" (48 : Nat) ({ cls := "ClogHouse$Filter", name := "isOpen", desc := "()Z" } : Jvm.MethodName)) ∈ lw_all := lw_g (lw_at lw_m2 157 rfl) rfl
theorem q473 : (Jvm.Cond.methodLink "ClogHouse$Filter" (52 : Nat) ({ cls := "ClogHouse$Filter", name := "bed", desc := "()I" } : Jvm.MethodName)) ∈ lw_all := lw_g (lw_at lw_m2 158 rfl) rfl
theorem q474 : (Jvm.Cond.methodLink "ClogHouse$Filter" (55 : Nat) ({ cls := "ClogHouse$Filter", name := "needs", desc := "(JII)J" } : Jvm.MethodName)) ∈ lw_all := lw_g (lw_at lw_m2 159 rfl) rfl
theorem q475 : (Jvm.Cond.privateMethod ({ cls := "ClogHouse$Filter", name := "needs", desc := "(JII)J" } : Jvm.MethodName)) ∈ lw_tbl := lw_at lw_m2 160 rfl
theorem q476 : (Jvm.Cond.instanceMethod ({ cls := "ClogHouse$Filter", name := "needs", desc := "(JII)J" } : Jvm.MethodName)) ∈ lw_all := lw_g (lw_at lw_m2 161 rfl) rfl
theorem q477 : (Jvm.Cond.code ({ cls := "ClogHouse$Filter", name := "needs", desc := "(JII)J" } : Jvm.MethodName) prog_8_method_6_code (5 : Nat) (Option.some Jvm.ClassFile.FieldType.long)) ∈ lw_all := lw_g (lw_at lw_m2 162 rfl) rfl
theorem q478 : (Jvm.Cond.methodLink "ClogHouse$Filter" (61 : Nat) ({ cls := "ClogHouse$Filter", name := "press", desc := "()I" } : Jvm.MethodName)) ∈ lw_all := lw_g (lw_at lw_m2 163 rfl) rfl
theorem q479 : (Jvm.Cond.instanceMethod ({ cls := "ClogHouse$Filter", name := "press", desc := "()I" } : Jvm.MethodName)) ∈ lw_all := lw_g (lw_at lw_m2 164 rfl) rfl
theorem q480 : (Jvm.Cond.selects "ClogHouse$Filter" ({ cls := "ClogHouse$Filter", name := "press", desc := "()I" } : Jvm.MethodName) ({ cls := "ClogHouse$Filter", name := "press", desc := "()I" } : Jvm.MethodName)) ∈ lw_all := lw_g (lw_at lw_m2 165 rfl) rfl
theorem q481 : (Jvm.Cond.code ({ cls := "ClogHouse$Filter", name := "press", desc := "()I" } : Jvm.MethodName) prog_8_method_2_code (1 : Nat) (Option.some Jvm.ClassFile.FieldType.int)) ∈ lw_all := lw_g (lw_at lw_m2 166 rfl) rfl
theorem q482 : (Jvm.Cond.methodLink "ClogHouse$Filter" (64 : Nat) ({ cls := "ClogHouse$Cake", name := "resist", desc := "(II)J" } : Jvm.MethodName)) ∈ lw_all := lw_g (lw_at lw_m2 167 rfl) rfl
theorem q487 : (Jvm.Cond.constantLong "ClogHouse$Filter" (67 : Nat) (100 : Int64)) ∈ lw_all := lw_g (lw_at lw_m2 172 rfl) rfl
theorem q488 : (Jvm.Cond.constantLong "ClogHouse$Filter" (59 : Nat) (100000 : Int64)) ∈ lw_all := lw_g (lw_at lw_m2 173 rfl) rfl
theorem q972 : (Jvm.Cond.instanceMethod ({ cls := "ClogHouse$Filter", name := "change", desc := "([I)V" } : Jvm.MethodName)) ∈ lw_all := lw_g (lw_at lw_m4 177 rfl) rfl
theorem q973 : (Jvm.Cond.selects "ClogHouse$Filter" ({ cls := "ClogHouse$Filter", name := "change", desc := "([I)V" } : Jvm.MethodName) ({ cls := "ClogHouse$Filter", name := "change", desc := "([I)V" } : Jvm.MethodName)) ∈ lw_all := lw_g (lw_at lw_m4 178 rfl) rfl
theorem q974 : (Jvm.Cond.code ({ cls := "ClogHouse$Filter", name := "change", desc := "([I)V" } : Jvm.MethodName) prog_8_method_7_code (3 : Nat) (Option.none : Option Jvm.ClassFile.FieldType)) ∈ lw_all := lw_g (lw_at lw_m4 179 rfl) rfl
theorem q975 : (Jvm.Cond.methodLink "ClogHouse$Filter" (69 : Nat) ({ cls := "ClogHouse$Cake", name := "empties", desc := "([I)V" } : Jvm.MethodName)) ∈ lw_all := lw_g (lw_at lw_m4 180 rfl) rfl
theorem q981 : (Jvm.Cond.methodLink "ClogHouse$Filter" (73 : Nat) ({ cls := "ClogHouse$Cell", name := "empties", desc := "([I)V" } : Jvm.MethodName)) ∈ lw_all := lw_g (lw_at lw_m4 186 rfl) rfl
theorem q987 : (Jvm.Cond.instanceMethod ({ cls := "ClogHouse$Filter", name := "wash", desc := "(LClogHouse$Grains;I[I)V" } : Jvm.MethodName)) ∈ lw_all := lw_g (lw_at lw_m4 192 rfl) rfl
theorem q988 : (Jvm.Cond.selects "ClogHouse$Filter" ({ cls := "ClogHouse$Filter", name := "wash", desc := "(LClogHouse$Grains;I[I)V" } : Jvm.MethodName) ({ cls := "ClogHouse$Filter", name := "wash", desc := "(LClogHouse$Grains;I[I)V" } : Jvm.MethodName)) ∈ lw_all := lw_g (lw_at lw_m4 193 rfl) rfl
theorem q989 : (Jvm.Cond.code ({ cls := "ClogHouse$Filter", name := "wash", desc := "(LClogHouse$Grains;I[I)V" } : Jvm.MethodName) prog_8_method_8_code (5 : Nat) (Option.none : Option Jvm.ClassFile.FieldType)) ∈ lw_all := lw_g (lw_at lw_m4 194 rfl) rfl
theorem q990 : (Jvm.Cond.methodLink "ClogHouse$Filter" (80 : Nat) ({ cls := "ClogHouse$Cell", name := "wash", desc := "(LClogHouse$Grains;I[I)V" } : Jvm.MethodName)) ∈ lw_all := lw_g (lw_at lw_m4 195 rfl) rfl
theorem q994 : (Jvm.Cond.methodLink "ClogHouse$Filter" (87 : Nat) ({ cls := "java/lang/Math", name := "min", desc := "(II)I" } : Jvm.MethodName)) ∈ lw_all := lw_g (lw_at lw_m4 199 rfl) rfl
theorem q1009 : (Jvm.Cond.instanceMethod ({ cls := "ClogHouse$Filter", name := "pass", desc := "(LClogHouse$Grains;[I)V" } : Jvm.MethodName)) ∈ lw_all := lw_g (lw_at lw_m4 214 rfl) rfl
theorem q1010 : (Jvm.Cond.selects "ClogHouse$Filter" ({ cls := "ClogHouse$Filter", name := "pass", desc := "(LClogHouse$Grains;[I)V" } : Jvm.MethodName) ({ cls := "ClogHouse$Filter", name := "pass", desc := "(LClogHouse$Grains;[I)V" } : Jvm.MethodName)) ∈ lw_all := lw_g (lw_at lw_m4 215 rfl) rfl
theorem q1011 : (Jvm.Cond.code ({ cls := "ClogHouse$Filter", name := "pass", desc := "(LClogHouse$Grains;[I)V" } : Jvm.MethodName) prog_8_method_9_code (6 : Nat) (Option.none : Option Jvm.ClassFile.FieldType)) ∈ lw_all := lw_g (lw_at lw_m4 216 rfl) rfl
theorem q1012 : (Jvm.Cond.methodLink "ClogHouse$Filter" (99 : Nat) ({ cls := "ClogHouse$Cell", name := "holds", desc := "(LClogHouse$Grains;III)I" } : Jvm.MethodName)) ∈ lw_all := lw_g (lw_at lw_m4 217 rfl) rfl
theorem q1022 : (Jvm.Cond.instanceMethod ({ cls := "ClogHouse$Filter", name := "comes", desc := "()I" } : Jvm.MethodName)) ∈ lw_all := lw_g (lw_at lw_m4 227 rfl) rfl
theorem q1023 : (Jvm.Cond.selects "ClogHouse$Filter" ({ cls := "ClogHouse$Filter", name := "comes", desc := "()I" } : Jvm.MethodName) ({ cls := "ClogHouse$Filter", name := "comes", desc := "()I" } : Jvm.MethodName)) ∈ lw_all := lw_g (lw_at lw_m4 228 rfl) rfl
theorem q1024 : (Jvm.Cond.code ({ cls := "ClogHouse$Filter", name := "comes", desc := "()I" } : Jvm.MethodName) prog_8_method_10_code (3 : Nat) (Option.some Jvm.ClassFile.FieldType.int)) ∈ lw_all := lw_g (lw_at lw_m4 229 rfl) rfl
theorem q1730 : (Jvm.Cond.castable "ClogHouse$Filter" "java/lang/Object") ∈ lw_tbl := lw_at lw_m7 215 rfl
theorem in_X3 : ∀ w ∈ wsX30, w ∈ lw_all := lw_in wsX30 [193, 195, 197, 199, 201, 203, 205, 207, 209, 211, 213, 215, 217, 219, 221, 223, 225] (by decide +kernel) (by decide +kernel)

/-! ClogHouse$Part -/
def RX4 : String := "ClogHouse$Part"
abbrev cX4_init : ByteArray := prog_14_method_1_code
def yX4_init : MethodName := ⟨RX4, "<init>", "()V"⟩
abbrev cX4_of : ByteArray := prog_14_method_2_code
def yX4_of : MethodName := ⟨RX4, "of", "(I)I"⟩
abbrev cX4_empties : ByteArray := prog_14_method_3_code
def yX4_empties : MethodName := ⟨RX4, "empties", "([I)V"⟩
theorem q79 : (Jvm.Cond.initialized "ClogHouse$Part") ∈ lw_all := lw_g (lw_at lw_m1 4 rfl) rfl
theorem q154 : (Jvm.Cond.instanceMethod ({ cls := "ClogHouse$Part", name := "<init>", desc := "()V" } : Jvm.MethodName)) ∈ lw_all := lw_g (lw_at lw_m1 79 rfl) rfl
theorem q155 : (Jvm.Cond.code ({ cls := "ClogHouse$Part", name := "<init>", desc := "()V" } : Jvm.MethodName) prog_14_method_1_code (1 : Nat) (Option.none : Option Jvm.ClassFile.FieldType)) ∈ lw_all := lw_g (lw_at lw_m1 80 rfl) rfl
theorem q156 : (Jvm.Cond.methodLink "ClogHouse$Part" (3 : Nat) ({ cls := "java/lang/Object", name := "<init>", desc := "()V" } : Jvm.MethodName)) ∈ lw_all := lw_g (lw_at lw_m1 81 rfl) rfl
theorem q157 : (Jvm.Cond.fieldLink "ClogHouse$Part" (9 : Nat) "ClogHouse$Part" "held" "[I") ∈ lw_all := lw_g (lw_at lw_m1 82 rfl) rfl
theorem q164 : (Jvm.Cond.soleField "ClogHouse$Part" "held") ∈ lw_all := lw_g (lw_at lw_m1 89 rfl) rfl
theorem q424 : (Jvm.Cond.instanceMethod ({ cls := "ClogHouse$Part", name := "of", desc := "(I)I" } : Jvm.MethodName)) ∈ lw_all := lw_g (lw_at lw_m2 109 rfl) rfl
theorem q425 : (Jvm.Cond.publicMethod ({ cls := "ClogHouse$Part", name := "of", desc := "(I)I" } : Jvm.MethodName)) ∈ lw_tbl := lw_at lw_m2 110 rfl
theorem q426 : (Jvm.Cond.code ({ cls := "ClogHouse$Part", name := "of", desc := "(I)I" } : Jvm.MethodName) prog_14_method_2_code (2 : Nat) (Option.some Jvm.ClassFile.FieldType.int)) ∈ lw_all := lw_g (lw_at lw_m2 111 rfl) rfl
theorem q977 : (Jvm.Cond.declares ({ cls := "ClogHouse$Part", name := "empties", desc := "([I)V" } : Jvm.MethodName)) ∈ lw_tbl := lw_at lw_m4 182 rfl
theorem q979 : (Jvm.Cond.instanceMethod ({ cls := "ClogHouse$Part", name := "empties", desc := "([I)V" } : Jvm.MethodName)) ∈ lw_all := lw_g (lw_at lw_m4 184 rfl) rfl
theorem q980 : (Jvm.Cond.code ({ cls := "ClogHouse$Part", name := "empties", desc := "([I)V" } : Jvm.MethodName) prog_14_method_3_code (3 : Nat) (Option.none : Option Jvm.ClassFile.FieldType)) ∈ lw_all := lw_g (lw_at lw_m4 185 rfl) rfl
theorem q1131 : (Jvm.Cond.declares ({ cls := "ClogHouse$Part", name := "of", desc := "(I)I" } : Jvm.MethodName)) ∈ lw_tbl := lw_at lw_m5 96 rfl
theorem q1727 : (Jvm.Cond.sameMethod "ClogHouse$Part" "ClogHouse$Part" "empties" "([I)V") ∈ lw_all := lw_g (lw_at lw_m7 212 rfl) rfl

/-! ClogHouse$Cake -/
def RX5 : String := "ClogHouse$Cake"
def TX5 : u_T := fun k => match k with
  | _ => ("ClogHouse$Part", "held", "[I", true)
def tyX5 : Nat → FieldType := fun k => match k with
  | _ => .array .int
abbrev wsX50 : List Cond := u_ws RX5 TX5 1
theorem nmX5 : ∀ a, a < 1 → ∀ b, b < 1 → a ≠ b → (TX5 a).2.1 ≠ (TX5 b).2.1 := by decide +kernel
theorem tyX5_ok : ∀ k, k < 1 → parseFieldDescriptor (TX5 k).2.2.1 = some (tyX5 k) := by decide +kernel
abbrev cX5_init : ByteArray := prog_2_method_1_code
def yX5_init : MethodName := ⟨RX5, "<init>", "()V"⟩
abbrev cX5_resist : ByteArray := prog_2_method_2_code
def yX5_resist : MethodName := ⟨RX5, "resist", "(II)J"⟩
theorem q80 : (Jvm.Cond.initialized "ClogHouse$Cake") ∈ lw_all := lw_g (lw_at lw_m1 5 rfl) rfl
theorem q149 : (Jvm.Cond.instantiable "ClogHouse$Cake" (1 : Nat)) ∈ lw_all := lw_g (lw_at lw_m1 74 rfl) rfl
theorem q151 : (Jvm.Cond.instanceMethod ({ cls := "ClogHouse$Cake", name := "<init>", desc := "()V" } : Jvm.MethodName)) ∈ lw_all := lw_g (lw_at lw_m1 76 rfl) rfl
theorem q152 : (Jvm.Cond.code ({ cls := "ClogHouse$Cake", name := "<init>", desc := "()V" } : Jvm.MethodName) prog_2_method_1_code (1 : Nat) (Option.none : Option Jvm.ClassFile.FieldType)) ∈ lw_all := lw_g (lw_at lw_m1 77 rfl) rfl
theorem q153 : (Jvm.Cond.methodLinkNest "ClogHouse$Cake" (1 : Nat) ({ cls := "ClogHouse$Part", name := "<init>", desc := "()V" } : Jvm.MethodName) "ClogHouse") ∈ lw_tbl := lw_at lw_m1 78 rfl
theorem q161 : (Jvm.Cond.sameField "ClogHouse$Cake" "ClogHouse$Part" "held" "[I") ∈ lw_all := lw_g (lw_at lw_m1 86 rfl) rfl
theorem q163 : (Jvm.Cond.laysFinal "ClogHouse$Cake" "ClogHouse$Part" "held" "[I") ∈ lw_all := lw_g (lw_at lw_m1 88 rfl) rfl
theorem q165 : (Jvm.Cond.superclass "ClogHouse$Cake" "ClogHouse$Part") ∈ lw_all := lw_g (lw_at lw_m1 90 rfl) rfl
theorem q421 : (Jvm.Cond.castable "ClogHouse$Cake" "ClogHouse$Holds") ∈ lw_tbl := lw_at lw_m2 106 rfl
theorem q422 : (Jvm.Cond.selects "ClogHouse$Cake" ({ cls := "ClogHouse$Holds", name := "of", desc := "(I)I" } : Jvm.MethodName) ({ cls := "ClogHouse$Part", name := "of", desc := "(I)I" } : Jvm.MethodName)) ∈ lw_all := lw_g (lw_at lw_m2 107 rfl) rfl
theorem q423 : (Jvm.Cond.unhidden "ClogHouse$Cake" "of" "(I)I") ∈ lw_tbl := lw_at lw_m2 108 rfl
theorem q453 : (Jvm.Cond.unhidden "ClogHouse$Cake" "all" "()I") ∈ lw_tbl := lw_at lw_m2 138 rfl
theorem q483 : (Jvm.Cond.instanceMethod ({ cls := "ClogHouse$Cake", name := "resist", desc := "(II)J" } : Jvm.MethodName)) ∈ lw_all := lw_g (lw_at lw_m2 168 rfl) rfl
theorem q484 : (Jvm.Cond.selects "ClogHouse$Cake" ({ cls := "ClogHouse$Cake", name := "resist", desc := "(II)J" } : Jvm.MethodName) ({ cls := "ClogHouse$Cake", name := "resist", desc := "(II)J" } : Jvm.MethodName)) ∈ lw_all := lw_g (lw_at lw_m2 169 rfl) rfl
theorem q485 : (Jvm.Cond.code ({ cls := "ClogHouse$Cake", name := "resist", desc := "(II)J" } : Jvm.MethodName) prog_2_method_2_code (3 : Nat) (Option.some Jvm.ClassFile.FieldType.long)) ∈ lw_all := lw_g (lw_at lw_m2 170 rfl) rfl
theorem q486 : (Jvm.Cond.constantLong "ClogHouse$Cake" (13 : Nat) (100 : Int64)) ∈ lw_all := lw_g (lw_at lw_m2 171 rfl) rfl
theorem q976 : (Jvm.Cond.sameMethod "ClogHouse$Cake" "ClogHouse$Part" "empties" "([I)V") ∈ lw_all := lw_g (lw_at lw_m4 181 rfl) rfl
theorem q978 : (Jvm.Cond.selects "ClogHouse$Cake" ({ cls := "ClogHouse$Cake", name := "empties", desc := "([I)V" } : Jvm.MethodName) ({ cls := "ClogHouse$Part", name := "empties", desc := "([I)V" } : Jvm.MethodName)) ∈ lw_all := lw_g (lw_at lw_m4 183 rfl) rfl
theorem q1130 : (Jvm.Cond.sameMethod "ClogHouse$Cake" "ClogHouse$Part" "of" "(I)I") ∈ lw_all := lw_g (lw_at lw_m5 95 rfl) rfl
theorem q1132 : (Jvm.Cond.selects "ClogHouse$Cake" ({ cls := "ClogHouse$Cake", name := "of", desc := "(I)I" } : Jvm.MethodName) ({ cls := "ClogHouse$Part", name := "of", desc := "(I)I" } : Jvm.MethodName)) ∈ lw_all := lw_g (lw_at lw_m5 97 rfl) rfl
theorem q1731 : (Jvm.Cond.castable "ClogHouse$Cake" "java/lang/Object") ∈ lw_tbl := lw_at lw_m7 216 rfl
theorem in_X5 : ∀ w ∈ wsX50, w ∈ lw_all := lw_in wsX50 [163] (by decide +kernel) (by decide +kernel)

/-! ClogHouseModel -/
def RX6 : String := "ClogHouseModel"
def TX6 : u_T := fun k => match k with
  | 0 => ("ClogHouseModel", "now", "I", false)
  | 1 => ("ClogHouseModel", "thrown", "I", false)
  | 2 => ("ClogHouseModel", "stick", "[I", true)
  | 3 => ("ClogHouseModel", "off", "[I", true)
  | 4 => ("ClogHouseModel", "stay", "[I", true)
  | 5 => ("ClogHouseModel", "cells", "[I", true)
  | 6 => ("ClogHouseModel", "pore", "[I", true)
  | 7 => ("ClogHouseModel", "firstPore", "[I", true)
  | 8 => ("ClogHouseModel", "take", "[I", true)
  | 9 => ("ClogHouseModel", "holds", "[I", true)
  | 10 => ("ClogHouseModel", "stuck", "[I", true)
  | 11 => ("ClogHouseModel", "cake", "[I", true)
  | 12 => ("ClogHouseModel", "press", "[I", true)
  | 13 => ("ClogHouseModel", "bear", "[I", true)
  | 14 => ("ClogHouseModel", "bears", "[I", true)
  | 15 => ("ClogHouseModel", "state", "[I", true)
  | 16 => ("ClogHouseModel", "since", "[I", true)
  | 17 => ("ClogHouseModel", "washes", "[I", true)
  | 18 => ("ClogHouseModel", "ruleOf", "[I", true)
  | 19 => ("ClogHouseModel", "share", "[I", true)
  | 20 => ("ClogHouseModel", "pushed", "[I", true)
  | 21 => ("ClogHouseModel", "outOf", "[I", true)
  | 22 => ("ClogHouseModel", "ran", "[Z", true)
  | 23 => ("ClogHouseModel", "everRan", "[Z", true)
  | 24 => ("ClogHouseModel", "filters", "I", false)
  | 25 => ("ClogHouseModel", "tape", "[I", true)
  | 26 => ("ClogHouseModel", "saying", "[I", true)
  | 27 => ("ClogHouseModel", "codes", "[I", true)
  | 28 => ("ClogHouseModel", "textSize", "[I", true)
  | 29 => ("ClogHouseModel", "size", "I", false)
  | 30 => ("ClogHouseModel", "at1", "I", false)
  | 31 => ("ClogHouseModel", "wrong", "I", false)
  | 32 => ("ClogHouseModel", "deep", "I", false)
  | 33 => ("ClogHouseModel", "said", "I", false)
  | 34 => ("ClogHouseModel", "rules", "I", false)
  | 35 => ("ClogHouseModel", "letters", "[I", true)
  | 36 => ("ClogHouseModel", "pile", "[I", true)
  | 37 => ("ClogHouseModel", "reading", "I", false)
  | 38 => ("ClogHouseModel", "grains", "[I", true)
  | 39 => ("ClogHouseModel", "history", "[I", true)
  | 40 => ("ClogHouseModel", "ripeHour", "[I", true)
  | 41 => ("ClogHouseModel", "ripeOut", "[I", true)
  | 42 => ("ClogHouseModel", "ledAll", "[I", true)
  | 43 => ("ClogHouseModel", "weight", "[I", true)
  | 44 => ("ClogHouseModel", "parts", "[I", true)
  | 45 => ("ClogHouseModel", "wash", "[I", true)
  | 46 => ("ClogHouseModel", "widths", "[I", true)
  | 47 => ("ClogHouseModel", "closes1", "[Z", true)
  | 48 => ("ClogHouseModel", "q", "I", false)
  | 49 => ("ClogHouseModel", "layerPore", "[I", true)
  | 50 => ("ClogHouseModel", "layerTake", "[I", true)
  | 51 => ("ClogHouseModel", "row", "[I", true)
  | 52 => ("ClogHouseModel", "best", "[I", true)
  | 53 => ("ClogHouseModel", "layers", "I", false)
  | 54 => ("ClogHouseModel", "bestHours", "I", false)
  | 55 => ("ClogHouseModel", "costs", "[I", true)
  | 56 => ("ClogHouseModel", "least", "[J", true)
  | 57 => ("ClogHouseModel", "price", "I", false)
  | 58 => ("ClogHouseModel", "gaugeCell", "[I", true)
  | 59 => ("ClogHouseModel", "gaugeFrom", "[I", true)
  | 60 => ("ClogHouseModel", "gaugeTo", "[I", true)
  | 61 => ("ClogHouseModel", "gaugeTold", "[I", true)
  | _ => ("ClogHouseModel", "readings", "I", false)
def tyX6 : Nat → FieldType := fun k => match k with
  | 0 => .int
  | 1 => .int
  | 2 => .array .int
  | 3 => .array .int
  | 4 => .array .int
  | 5 => .array .int
  | 6 => .array .int
  | 7 => .array .int
  | 8 => .array .int
  | 9 => .array .int
  | 10 => .array .int
  | 11 => .array .int
  | 12 => .array .int
  | 13 => .array .int
  | 14 => .array .int
  | 15 => .array .int
  | 16 => .array .int
  | 17 => .array .int
  | 18 => .array .int
  | 19 => .array .int
  | 20 => .array .int
  | 21 => .array .int
  | 22 => .array .boolean
  | 23 => .array .boolean
  | 24 => .int
  | 25 => .array .int
  | 26 => .array .int
  | 27 => .array .int
  | 28 => .array .int
  | 29 => .int
  | 30 => .int
  | 31 => .int
  | 32 => .int
  | 33 => .int
  | 34 => .int
  | 35 => .array .int
  | 36 => .array .int
  | 37 => .int
  | 38 => .array .int
  | 39 => .array .int
  | 40 => .array .int
  | 41 => .array .int
  | 42 => .array .int
  | 43 => .array .int
  | 44 => .array .int
  | 45 => .array .int
  | 46 => .array .int
  | 47 => .array .boolean
  | 48 => .int
  | 49 => .array .int
  | 50 => .array .int
  | 51 => .array .int
  | 52 => .array .int
  | 53 => .int
  | 54 => .int
  | 55 => .array .int
  | 56 => .array .long
  | 57 => .int
  | 58 => .array .int
  | 59 => .array .int
  | 60 => .array .int
  | 61 => .array .int
  | _ => .int
abbrev wsX60 : List Cond := u_ws RX6 TX6 63
set_option maxRecDepth 100000 in
theorem nmX6 : ∀ a, a < 63 → ∀ b, b < 63 → a ≠ b → (TX6 a).2.1 ≠ (TX6 b).2.1 := by decide +kernel
set_option maxRecDepth 100000 in
theorem tyX6_ok : ∀ k, k < 63 → parseFieldDescriptor (TX6 k).2.2.1 = some (tyX6 k) := by decide +kernel
abbrev cX6_init : ByteArray := prog_21_method_2_code
def yX6_init : MethodName := ⟨RX6, "<init>", "()V"⟩
abbrev cX6_thrown : ByteArray := prog_21_method_3_code
def yX6_thrown : MethodName := ⟨RX6, "thrown", "()I"⟩
abbrev cX6_grain : ByteArray := prog_21_method_4_code
def yX6_grain : MethodName := ⟨RX6, "grain", "(III)Z"⟩
abbrev cX6_in : ByteArray := prog_21_method_1_code
def yX6_in : MethodName := ⟨RX6, "in", "(III)Z"⟩
abbrev cX6_filter : ByteArray := prog_21_method_6_code
def yX6_filter : MethodName := ⟨RX6, "filter", "()I"⟩
abbrev cX6_cell : ByteArray := prog_21_method_7_code
def yX6_cell : MethodName := ⟨RX6, "cell", "(III)I"⟩
abbrev cX6_isFilter : ByteArray := prog_21_method_5_code
def yX6_isFilter : MethodName := ⟨RX6, "isFilter", "(I)Z"⟩
abbrev cX6_set : ByteArray := prog_21_method_8_code
def yX6_set : MethodName := ⟨RX6, "set", "(III)Z"⟩
abbrev cX6_push : ByteArray := prog_21_method_17_code
def yX6_push : MethodName := ⟨RX6, "push", "(II)I"⟩
abbrev cX6_pushFor : ByteArray := prog_21_method_16_code
def yX6_pushFor : MethodName := ⟨RX6, "pushFor", "(II)I"⟩
abbrev cX6_bed : ByteArray := prog_21_method_14_code
def yX6_bed : MethodName := ⟨RX6, "bed", "(I)I"⟩
abbrev cX6_width : ByteArray := prog_21_method_12_code
def yX6_width : MethodName := ⟨RX6, "width", "(II)I"⟩
abbrev cX6_heldIn : ByteArray := prog_21_method_10_code
def yX6_heldIn : MethodName := ⟨RX6, "heldIn", "(II)I"⟩
abbrev cX6_widthOf : ByteArray := prog_21_method_11_code
def yX6_widthOf : MethodName := ⟨RX6, "widthOf", "(III)I"⟩
abbrev cX6_resistOf : ByteArray := prog_21_method_13_code
def yX6_resistOf : MethodName := ⟨RX6, "resistOf", "(I)I"⟩
abbrev cX6_cakeOf : ByteArray := prog_21_method_15_code
def yX6_cakeOf : MethodName := ⟨RX6, "cakeOf", "(I)I"⟩
abbrev cX6_celled : ByteArray := prog_21_method_18_code
def yX6_celled : MethodName := ⟨RX6, "celled", "(III)I"⟩
abbrev cX6_isCell : ByteArray := prog_21_method_9_code
def yX6_isCell : MethodName := ⟨RX6, "isCell", "(II)Z"⟩
abbrev cX6_held : ByteArray := prog_21_method_19_code
def yX6_held : MethodName := ⟨RX6, "held", "(IIII)I"⟩
abbrev cX6_told : ByteArray := prog_21_method_20_code
def yX6_told : MethodName := ⟨RX6, "told", "(II)I"⟩
abbrev cX6_feed : ByteArray := prog_21_method_22_code
def yX6_feed : MethodName := ⟨RX6, "feed", "(IIIII)I"⟩
abbrev cX6_byteOf : ByteArray := prog_21_method_21_code
def yX6_byteOf : MethodName := ⟨RX6, "byteOf", "(IIIIII)I"⟩
abbrev cX6_end : ByteArray := prog_21_method_23_code
def yX6_end : MethodName := ⟨RX6, "end", "(I)Z"⟩
abbrev cX6_fault : ByteArray := prog_21_method_42_code
def yX6_fault : MethodName := ⟨RX6, "fault", "()I"⟩
abbrev cX6_clause : ByteArray := prog_21_method_41_code
def yX6_clause : MethodName := ⟨RX6, "clause", "()V"⟩
abbrev cX6_look : ByteArray := prog_21_method_24_code
def yX6_look : MethodName := ⟨RX6, "look", "()I"⟩
abbrev cX6_isLabel : ByteArray := prog_21_method_28_code
def yX6_isLabel : MethodName := ⟨RX6, "isLabel", "(I)Z"⟩
abbrev cX6_bad : ByteArray := prog_21_method_25_code
def yX6_bad : MethodName := ⟨RX6, "bad", "()V"⟩
abbrev cX6_say : ByteArray := prog_21_method_26_code
def yX6_say : MethodName := ⟨RX6, "say", "(I)V"⟩
abbrev cX6_sum : ByteArray := prog_21_method_35_code
def yX6_sum : MethodName := ⟨RX6, "sum", "()V"⟩
abbrev cX6_term : ByteArray := prog_21_method_34_code
def yX6_term : MethodName := ⟨RX6, "term", "()V"⟩
abbrev cX6_atom : ByteArray := prog_21_method_33_code
def yX6_atom : MethodName := ⟨RX6, "atom", "()V"⟩
abbrev cX6_opens : ByteArray := prog_21_method_30_code
def yX6_opens : MethodName := ⟨RX6, "opens", "()Z"⟩
abbrev cX6_closes : ByteArray := prog_21_method_31_code
def yX6_closes : MethodName := ⟨RX6, "closes", "(I)V"⟩
abbrev cX6_isLetter : ByteArray := prog_21_method_29_code
def yX6_isLetter : MethodName := ⟨RX6, "isLetter", "(I)Z"⟩
abbrev cX6_number : ByteArray := prog_21_method_32_code
def yX6_number : MethodName := ⟨RX6, "number", "()V"⟩
abbrev cX6_isDigit : ByteArray := prog_21_method_27_code
def yX6_isDigit : MethodName := ⟨RX6, "isDigit", "(I)Z"⟩
abbrev cX6_isSign : ByteArray := prog_21_method_36_code
def yX6_isSign : MethodName := ⟨RX6, "isSign", "(I)Z"⟩
abbrev cX6_condition : ByteArray := prog_21_method_40_code
def yX6_condition : MethodName := ⟨RX6, "condition", "(Z)V"⟩
abbrev cX6_part : ByteArray := prog_21_method_39_code
def yX6_part : MethodName := ⟨RX6, "part", "(Z)V"⟩
abbrev cX6_compare : ByteArray := prog_21_method_37_code
def yX6_compare : MethodName := ⟨RX6, "compare", "()V"⟩
abbrev cX6_unit : ByteArray := prog_21_method_38_code
def yX6_unit : MethodName := ⟨RX6, "unit", "()V"⟩
abbrev cX6_rules : ByteArray := prog_21_method_43_code
def yX6_rules : MethodName := ⟨RX6, "rules", "()I"⟩
abbrev cX6_rule : ByteArray := prog_21_method_44_code
def yX6_rule : MethodName := ⟨RX6, "rule", "(II)Z"⟩
abbrev cX6_worth : ByteArray := prog_21_method_49_code
def yX6_worth : MethodName := ⟨RX6, "worth", "(IIIIIIII)I"⟩
abbrev cX6_worthBy : ByteArray := prog_21_method_48_code
def yX6_worthBy : MethodName := ⟨RX6, "worthBy", "(II)I"⟩
abbrev cX6_work : ByteArray := prog_21_method_47_code
def yX6_work : MethodName := ⟨RX6, "work", "()I"⟩
abbrev cX6_both : ByteArray := prog_21_method_46_code
def yX6_both : MethodName := ⟨RX6, "both", "(III)I"⟩
abbrev cX6_bounded : ByteArray := prog_21_method_45_code
def yX6_bounded : MethodName := ⟨RX6, "bounded", "(J)I"⟩
abbrev cX6_stream : ByteArray := prog_21_method_50_code
def yX6_stream : MethodName := ⟨RX6, "stream", "(I)Z"⟩
abbrev cX6_come : ByteArray := prog_21_method_51_code
def yX6_come : MethodName := ⟨RX6, "come", "(II)Z"⟩
abbrev cX6_hours : ByteArray := prog_21_method_63_code
def yX6_hours : MethodName := ⟨RX6, "hours", "(I)I"⟩
abbrev cX6_hour : ByteArray := prog_21_method_62_code
def yX6_hour : MethodName := ⟨RX6, "hour", "()V"⟩
abbrev cX6_decide : ByteArray := prog_21_method_53_code
def yX6_decide : MethodName := ⟨RX6, "decide", "(I)V"⟩
abbrev cX6_change : ByteArray := prog_21_method_52_code
def yX6_change : MethodName := ⟨RX6, "change", "(I)V"⟩
abbrev cX6_washOne : ByteArray := prog_21_method_54_code
def yX6_washOne : MethodName := ⟨RX6, "washOne", "(I)V"⟩
abbrev cX6_flow : ByteArray := prog_21_method_57_code
def yX6_flow : MethodName := ⟨RX6, "flow", "()V"⟩
abbrev cX6_weightOf : ByteArray := prog_21_method_55_code
def yX6_weightOf : MethodName := ⟨RX6, "weightOf", "(I)I"⟩
abbrev cX6_look_2 : ByteArray := prog_21_method_59_code
def yX6_look_2 : MethodName := ⟨RX6, "look", "(I)V"⟩
abbrev cX6_tell : ByteArray := prog_21_method_56_code
def yX6_tell : MethodName := ⟨RX6, "tell", "(III)V"⟩
abbrev cX6_runOne : ByteArray := prog_21_method_60_code
def yX6_runOne : MethodName := ⟨RX6, "runOne", "(I)V"⟩
abbrev cX6_partOf : ByteArray := prog_21_method_58_code
def yX6_partOf : MethodName := ⟨RX6, "partOf", "(II)I"⟩
abbrev cX6_lead : ByteArray := prog_21_method_61_code
def yX6_lead : MethodName := ⟨RX6, "lead", "(III)I"⟩
abbrev cX6_hand : ByteArray := prog_21_method_64_code
def yX6_hand : MethodName := ⟨RX6, "hand", "(II)Z"⟩
abbrev cX6_history : ByteArray := prog_21_method_65_code
def yX6_history : MethodName := ⟨RX6, "history", "(III)I"⟩
abbrev cX6_breaks : ByteArray := prog_21_method_66_code
def yX6_breaks : MethodName := ⟨RX6, "breaks", "(II)I"⟩
abbrev cX6_ripe : ByteArray := prog_21_method_67_code
def yX6_ripe : MethodName := ⟨RX6, "ripe", "(I)I"⟩
abbrev cX6_led : ByteArray := prog_21_method_68_code
def yX6_led : MethodName := ⟨RX6, "led", "(II)I"⟩
abbrev cX6_digest : ByteArray := prog_21_method_69_code
def yX6_digest : MethodName := ⟨RX6, "digest", "()I"⟩
abbrev cX6_share : ByteArray := prog_21_method_72_code
def yX6_share : MethodName := ⟨RX6, "share", "(IIII)J"⟩
abbrev cX6_ways : ByteArray := prog_21_method_73_code
def yX6_ways : MethodName := ⟨RX6, "ways", "(II)J"⟩
abbrev cX6_choose : ByteArray := prog_21_method_70_code
def yX6_choose : MethodName := ⟨RX6, "choose", "(II)J"⟩
abbrev cX6_divisor : ByteArray := prog_21_method_71_code
def yX6_divisor : MethodName := ⟨RX6, "divisor", "(JJ)J"⟩
abbrev cX6_drops : ByteArray := prog_21_method_74_code
def yX6_drops : MethodName := ⟨RX6, "drops", "(III)I"⟩
abbrev cX6_layer : ByteArray := prog_21_method_75_code
def yX6_layer : MethodName := ⟨RX6, "layer", "(II)I"⟩
abbrev cX6_order : ByteArray := prog_21_method_78_code
def yX6_order : MethodName := ⟨RX6, "order", "(II)I"⟩
abbrev cX6_arrange : ByteArray := prog_21_method_76_code
def yX6_arrange : MethodName := ⟨RX6, "arrange", "(III)V"⟩
abbrev cX6_lasts : ByteArray := prog_21_method_77_code
def yX6_lasts : MethodName := ⟨RX6, "lasts", "(I)I"⟩
abbrev cX6_cost : ByteArray := prog_21_method_79_code
def yX6_cost : MethodName := ⟨RX6, "cost", "(II)Z"⟩
abbrev cX6_cheapest : ByteArray := prog_21_method_81_code
def yX6_cheapest : MethodName := ⟨RX6, "cheapest", "(III)I"⟩
abbrev cX6_from : ByteArray := prog_21_method_80_code
def yX6_from : MethodName := ⟨RX6, "from", "(II)J"⟩
abbrev cX6_gauge : ByteArray := prog_21_method_82_code
def yX6_gauge : MethodName := ⟨RX6, "gauge", "(IIII)I"⟩
abbrev cX6_back : ByteArray := prog_21_method_86_code
def yX6_back : MethodName := ⟨RX6, "back", "(IIII)I"⟩
abbrev cX6_isAsked : ByteArray := prog_21_method_85_code
def yX6_isAsked : MethodName := ⟨RX6, "isAsked", "(III)Z"⟩
abbrev cX6_readBack : ByteArray := prog_21_method_84_code
def yX6_readBack : MethodName := ⟨RX6, "readBack", "(IIII)I"⟩
abbrev cX6_agrees : ByteArray := prog_21_method_83_code
def yX6_agrees : MethodName := ⟨RX6, "agrees", "(IIII)Z"⟩
abbrev cX6_barred : ByteArray := prog_21_method_87_code
def yX6_barred : MethodName := ⟨RX6, "barred", "(III)I"⟩
abbrev cX6_count : ByteArray := prog_21_method_88_code
def yX6_count : MethodName := ⟨RX6, "count", "(I)I"⟩
theorem q81 : (Jvm.Cond.initialized "ClogHouseModel") ∈ lw_all := lw_g (lw_at lw_m1 6 rfl) rfl
theorem q1180 : (Jvm.Cond.instantiable "ClogHouseModel" (63 : Nat)) ∈ lw_all := lw_g (lw_at lw_m5 145 rfl) rfl
theorem q1182 : (Jvm.Cond.instanceMethod ({ cls := "ClogHouseModel", name := "<init>", desc := "()V" } : Jvm.MethodName)) ∈ lw_all := lw_g (lw_at lw_m5 147 rfl) rfl
theorem q1183 : (Jvm.Cond.code ({ cls := "ClogHouseModel", name := "<init>", desc := "()V" } : Jvm.MethodName) prog_21_method_2_code (2 : Nat) (Option.none : Option Jvm.ClassFile.FieldType)) ∈ lw_all := lw_g (lw_at lw_m5 148 rfl) rfl
theorem q1184 : (Jvm.Cond.methodLink "ClogHouseModel" (1 : Nat) ({ cls := "java/lang/Object", name := "<init>", desc := "()V" } : Jvm.MethodName)) ∈ lw_all := lw_g (lw_at lw_m5 149 rfl) rfl
theorem q1185 : (Jvm.Cond.constant "ClogHouseModel" (98 : Nat) (48024 : Int32)) ∈ lw_all := lw_g (lw_at lw_m5 150 rfl) rfl
theorem q1186 : (Jvm.Cond.fieldLink "ClogHouseModel" (330 : Nat) "ClogHouseModel" "now" "I") ∈ lw_all := lw_g (lw_at lw_m5 151 rfl) rfl
theorem q1187 : (Jvm.Cond.fieldLink "ClogHouseModel" (157 : Nat) "ClogHouseModel" "thrown" "I") ∈ lw_all := lw_g (lw_at lw_m5 152 rfl) rfl
theorem q1188 : (Jvm.Cond.fieldLink "ClogHouseModel" (9 : Nat) "ClogHouseModel" "stick" "[I") ∈ lw_all := lw_g (lw_at lw_m5 153 rfl) rfl
theorem q1189 : (Jvm.Cond.fieldLink "ClogHouseModel" (13 : Nat) "ClogHouseModel" "off" "[I") ∈ lw_all := lw_g (lw_at lw_m5 154 rfl) rfl
theorem q1190 : (Jvm.Cond.fieldLink "ClogHouseModel" (16 : Nat) "ClogHouseModel" "stay" "[I") ∈ lw_all := lw_g (lw_at lw_m5 155 rfl) rfl
theorem q1191 : (Jvm.Cond.fieldLink "ClogHouseModel" (19 : Nat) "ClogHouseModel" "cells" "[I") ∈ lw_all := lw_g (lw_at lw_m5 156 rfl) rfl
theorem q1192 : (Jvm.Cond.fieldLink "ClogHouseModel" (22 : Nat) "ClogHouseModel" "pore" "[I") ∈ lw_all := lw_g (lw_at lw_m5 157 rfl) rfl
theorem q1193 : (Jvm.Cond.fieldLink "ClogHouseModel" (25 : Nat) "ClogHouseModel" "firstPore" "[I") ∈ lw_all := lw_g (lw_at lw_m5 158 rfl) rfl
theorem q1194 : (Jvm.Cond.fieldLink "ClogHouseModel" (28 : Nat) "ClogHouseModel" "take" "[I") ∈ lw_all := lw_g (lw_at lw_m5 159 rfl) rfl
theorem q1195 : (Jvm.Cond.fieldLink "ClogHouseModel" (31 : Nat) "ClogHouseModel" "holds" "[I") ∈ lw_all := lw_g (lw_at lw_m5 160 rfl) rfl
theorem q1196 : (Jvm.Cond.fieldLink "ClogHouseModel" (34 : Nat) "ClogHouseModel" "stuck" "[I") ∈ lw_all := lw_g (lw_at lw_m5 161 rfl) rfl
theorem q1197 : (Jvm.Cond.fieldLink "ClogHouseModel" (37 : Nat) "ClogHouseModel" "cake" "[I") ∈ lw_all := lw_g (lw_at lw_m5 162 rfl) rfl
theorem q1198 : (Jvm.Cond.fieldLink "ClogHouseModel" (40 : Nat) "ClogHouseModel" "press" "[I") ∈ lw_all := lw_g (lw_at lw_m5 163 rfl) rfl
theorem q1199 : (Jvm.Cond.fieldLink "ClogHouseModel" (43 : Nat) "ClogHouseModel" "bear" "[I") ∈ lw_all := lw_g (lw_at lw_m5 164 rfl) rfl
theorem q1200 : (Jvm.Cond.fieldLink "ClogHouseModel" (46 : Nat) "ClogHouseModel" "bears" "[I") ∈ lw_all := lw_g (lw_at lw_m5 165 rfl) rfl
theorem q1201 : (Jvm.Cond.fieldLink "ClogHouseModel" (49 : Nat) "ClogHouseModel" "state" "[I") ∈ lw_all := lw_g (lw_at lw_m5 166 rfl) rfl
theorem q1202 : (Jvm.Cond.fieldLink "ClogHouseModel" (52 : Nat) "ClogHouseModel" "since" "[I") ∈ lw_all := lw_g (lw_at lw_m5 167 rfl) rfl
theorem q1203 : (Jvm.Cond.fieldLink "ClogHouseModel" (55 : Nat) "ClogHouseModel" "washes" "[I") ∈ lw_all := lw_g (lw_at lw_m5 168 rfl) rfl
theorem q1204 : (Jvm.Cond.fieldLink "ClogHouseModel" (58 : Nat) "ClogHouseModel" "ruleOf" "[I") ∈ lw_all := lw_g (lw_at lw_m5 169 rfl) rfl
theorem q1205 : (Jvm.Cond.fieldLink "ClogHouseModel" (61 : Nat) "ClogHouseModel" "share" "[I") ∈ lw_all := lw_g (lw_at lw_m5 170 rfl) rfl
theorem q1206 : (Jvm.Cond.fieldLink "ClogHouseModel" (64 : Nat) "ClogHouseModel" "pushed" "[I") ∈ lw_all := lw_g (lw_at lw_m5 171 rfl) rfl
theorem q1207 : (Jvm.Cond.fieldLink "ClogHouseModel" (67 : Nat) "ClogHouseModel" "outOf" "[I") ∈ lw_all := lw_g (lw_at lw_m5 172 rfl) rfl
theorem q1208 : (Jvm.Cond.fieldLink "ClogHouseModel" (70 : Nat) "ClogHouseModel" "ran" "[Z") ∈ lw_all := lw_g (lw_at lw_m5 173 rfl) rfl
theorem q1209 : (Jvm.Cond.fieldLink "ClogHouseModel" (74 : Nat) "ClogHouseModel" "everRan" "[Z") ∈ lw_all := lw_g (lw_at lw_m5 174 rfl) rfl
theorem q1210 : (Jvm.Cond.fieldLink "ClogHouseModel" (165 : Nat) "ClogHouseModel" "filters" "I") ∈ lw_all := lw_g (lw_at lw_m5 175 rfl) rfl
theorem q1211 : (Jvm.Cond.fieldLink "ClogHouseModel" (77 : Nat) "ClogHouseModel" "tape" "[I") ∈ lw_all := lw_g (lw_at lw_m5 176 rfl) rfl
theorem q1212 : (Jvm.Cond.fieldLink "ClogHouseModel" (80 : Nat) "ClogHouseModel" "saying" "[I") ∈ lw_all := lw_g (lw_at lw_m5 177 rfl) rfl
theorem q1213 : (Jvm.Cond.fieldLink "ClogHouseModel" (83 : Nat) "ClogHouseModel" "codes" "[I") ∈ lw_all := lw_g (lw_at lw_m5 178 rfl) rfl
theorem q1214 : (Jvm.Cond.fieldLink "ClogHouseModel" (86 : Nat) "ClogHouseModel" "textSize" "[I") ∈ lw_all := lw_g (lw_at lw_m5 179 rfl) rfl
theorem q1215 : (Jvm.Cond.fieldLink "ClogHouseModel" (217 : Nat) "ClogHouseModel" "size" "I") ∈ lw_all := lw_g (lw_at lw_m5 180 rfl) rfl
theorem q1216 : (Jvm.Cond.fieldLink "ClogHouseModel" (220 : Nat) "ClogHouseModel" "at1" "I") ∈ lw_all := lw_g (lw_at lw_m5 181 rfl) rfl
theorem q1217 : (Jvm.Cond.fieldLink "ClogHouseModel" (223 : Nat) "ClogHouseModel" "wrong" "I") ∈ lw_all := lw_g (lw_at lw_m5 182 rfl) rfl
theorem q1218 : (Jvm.Cond.fieldLink "ClogHouseModel" (229 : Nat) "ClogHouseModel" "deep" "I") ∈ lw_all := lw_g (lw_at lw_m5 183 rfl) rfl
theorem q1219 : (Jvm.Cond.fieldLink "ClogHouseModel" (226 : Nat) "ClogHouseModel" "said" "I") ∈ lw_all := lw_g (lw_at lw_m5 184 rfl) rfl
theorem q1220 : (Jvm.Cond.fieldLink "ClogHouseModel" (290 : Nat) "ClogHouseModel" "rules" "I") ∈ lw_all := lw_g (lw_at lw_m5 185 rfl) rfl
theorem q1221 : (Jvm.Cond.fieldLink "ClogHouseModel" (89 : Nat) "ClogHouseModel" "letters" "[I") ∈ lw_all := lw_g (lw_at lw_m5 186 rfl) rfl
theorem q1222 : (Jvm.Cond.fieldLink "ClogHouseModel" (92 : Nat) "ClogHouseModel" "pile" "[I") ∈ lw_all := lw_g (lw_at lw_m5 187 rfl) rfl
theorem q1223 : (Jvm.Cond.fieldLink "ClogHouseModel" (307 : Nat) "ClogHouseModel" "reading" "I") ∈ lw_all := lw_g (lw_at lw_m5 188 rfl) rfl
theorem q1224 : (Jvm.Cond.fieldLink "ClogHouseModel" (95 : Nat) "ClogHouseModel" "grains" "[I") ∈ lw_all := lw_g (lw_at lw_m5 189 rfl) rfl
theorem q1225 : (Jvm.Cond.fieldLink "ClogHouseModel" (99 : Nat) "ClogHouseModel" "history" "[I") ∈ lw_all := lw_g (lw_at lw_m5 190 rfl) rfl
theorem q1226 : (Jvm.Cond.fieldLink "ClogHouseModel" (102 : Nat) "ClogHouseModel" "ripeHour" "[I") ∈ lw_all := lw_g (lw_at lw_m5 191 rfl) rfl
theorem q1227 : (Jvm.Cond.fieldLink "ClogHouseModel" (105 : Nat) "ClogHouseModel" "ripeOut" "[I") ∈ lw_all := lw_g (lw_at lw_m5 192 rfl) rfl
theorem q1228 : (Jvm.Cond.fieldLink "ClogHouseModel" (108 : Nat) "ClogHouseModel" "ledAll" "[I") ∈ lw_all := lw_g (lw_at lw_m5 193 rfl) rfl
theorem q1229 : (Jvm.Cond.fieldLink "ClogHouseModel" (111 : Nat) "ClogHouseModel" "weight" "[I") ∈ lw_all := lw_g (lw_at lw_m5 194 rfl) rfl
theorem q1230 : (Jvm.Cond.fieldLink "ClogHouseModel" (114 : Nat) "ClogHouseModel" "parts" "[I") ∈ lw_all := lw_g (lw_at lw_m5 195 rfl) rfl
theorem q1231 : (Jvm.Cond.fieldLink "ClogHouseModel" (117 : Nat) "ClogHouseModel" "wash" "[I") ∈ lw_all := lw_g (lw_at lw_m5 196 rfl) rfl
theorem q1232 : (Jvm.Cond.fieldLink "ClogHouseModel" (120 : Nat) "ClogHouseModel" "widths" "[I") ∈ lw_all := lw_g (lw_at lw_m5 197 rfl) rfl
theorem q1233 : (Jvm.Cond.fieldLink "ClogHouseModel" (123 : Nat) "ClogHouseModel" "closes1" "[Z") ∈ lw_all := lw_g (lw_at lw_m5 198 rfl) rfl
theorem q1234 : (Jvm.Cond.fieldLink "ClogHouseModel" (319 : Nat) "ClogHouseModel" "q" "I") ∈ lw_all := lw_g (lw_at lw_m5 199 rfl) rfl
theorem q1235 : (Jvm.Cond.fieldLink "ClogHouseModel" (126 : Nat) "ClogHouseModel" "layerPore" "[I") ∈ lw_all := lw_g (lw_at lw_m5 200 rfl) rfl
theorem q1236 : (Jvm.Cond.fieldLink "ClogHouseModel" (129 : Nat) "ClogHouseModel" "layerTake" "[I") ∈ lw_all := lw_g (lw_at lw_m5 201 rfl) rfl
theorem q1237 : (Jvm.Cond.fieldLink "ClogHouseModel" (132 : Nat) "ClogHouseModel" "row" "[I") ∈ lw_all := lw_g (lw_at lw_m5 202 rfl) rfl
theorem q1238 : (Jvm.Cond.fieldLink "ClogHouseModel" (135 : Nat) "ClogHouseModel" "best" "[I") ∈ lw_all := lw_g (lw_at lw_m5 203 rfl) rfl
theorem q1239 : (Jvm.Cond.fieldLink "ClogHouseModel" (375 : Nat) "ClogHouseModel" "layers" "I") ∈ lw_all := lw_g (lw_at lw_m5 204 rfl) rfl
theorem q1240 : (Jvm.Cond.fieldLink "ClogHouseModel" (381 : Nat) "ClogHouseModel" "bestHours" "I") ∈ lw_all := lw_g (lw_at lw_m5 205 rfl) rfl
theorem q1241 : (Jvm.Cond.fieldLink "ClogHouseModel" (138 : Nat) "ClogHouseModel" "costs" "[I") ∈ lw_all := lw_g (lw_at lw_m5 206 rfl) rfl
theorem q1242 : (Jvm.Cond.fieldLink "ClogHouseModel" (141 : Nat) "ClogHouseModel" "least" "[J") ∈ lw_all := lw_g (lw_at lw_m5 207 rfl) rfl
theorem q1243 : (Jvm.Cond.fieldLink "ClogHouseModel" (387 : Nat) "ClogHouseModel" "price" "I") ∈ lw_all := lw_g (lw_at lw_m5 208 rfl) rfl
theorem q1244 : (Jvm.Cond.fieldLink "ClogHouseModel" (145 : Nat) "ClogHouseModel" "gaugeCell" "[I") ∈ lw_all := lw_g (lw_at lw_m5 209 rfl) rfl
theorem q1245 : (Jvm.Cond.fieldLink "ClogHouseModel" (148 : Nat) "ClogHouseModel" "gaugeFrom" "[I") ∈ lw_all := lw_g (lw_at lw_m5 210 rfl) rfl
theorem q1246 : (Jvm.Cond.fieldLink "ClogHouseModel" (151 : Nat) "ClogHouseModel" "gaugeTo" "[I") ∈ lw_all := lw_g (lw_at lw_m5 211 rfl) rfl
theorem q1247 : (Jvm.Cond.fieldLink "ClogHouseModel" (154 : Nat) "ClogHouseModel" "gaugeTold" "[I") ∈ lw_all := lw_g (lw_at lw_m5 212 rfl) rfl
theorem q1248 : (Jvm.Cond.fieldLink "ClogHouseModel" (393 : Nat) "ClogHouseModel" "readings" "I") ∈ lw_all := lw_g (lw_at lw_m5 213 rfl) rfl
theorem q1249 : (Jvm.Cond.lays "ClogHouseModel" "ClogHouseModel" "now" "I") ∈ lw_all := lw_g (lw_at lw_m5 214 rfl) rfl
theorem q1250 : (Jvm.Cond.soleField "ClogHouseModel" "now") ∈ lw_all := lw_g (lw_at lw_m5 215 rfl) rfl
theorem q1251 : (Jvm.Cond.lays "ClogHouseModel" "ClogHouseModel" "thrown" "I") ∈ lw_all := lw_g (lw_at lw_m5 216 rfl) rfl
theorem q1252 : (Jvm.Cond.soleField "ClogHouseModel" "thrown") ∈ lw_all := lw_g (lw_at lw_m5 217 rfl) rfl
theorem q1253 : (Jvm.Cond.laysFinal "ClogHouseModel" "ClogHouseModel" "stick" "[I") ∈ lw_all := lw_g (lw_at lw_m5 218 rfl) rfl
theorem q1254 : (Jvm.Cond.soleField "ClogHouseModel" "stick") ∈ lw_all := lw_g (lw_at lw_m5 219 rfl) rfl
theorem q1255 : (Jvm.Cond.laysFinal "ClogHouseModel" "ClogHouseModel" "off" "[I") ∈ lw_all := lw_g (lw_at lw_m5 220 rfl) rfl
theorem q1256 : (Jvm.Cond.soleField "ClogHouseModel" "off") ∈ lw_all := lw_g (lw_at lw_m5 221 rfl) rfl
theorem q1257 : (Jvm.Cond.laysFinal "ClogHouseModel" "ClogHouseModel" "stay" "[I") ∈ lw_all := lw_g (lw_at lw_m5 222 rfl) rfl
theorem q1258 : (Jvm.Cond.soleField "ClogHouseModel" "stay") ∈ lw_all := lw_g (lw_at lw_m5 223 rfl) rfl
theorem q1259 : (Jvm.Cond.laysFinal "ClogHouseModel" "ClogHouseModel" "cells" "[I") ∈ lw_all := lw_g (lw_at lw_m5 224 rfl) rfl
theorem q1260 : (Jvm.Cond.soleField "ClogHouseModel" "cells") ∈ lw_all := lw_g (lw_at lw_m5 225 rfl) rfl
theorem q1261 : (Jvm.Cond.laysFinal "ClogHouseModel" "ClogHouseModel" "pore" "[I") ∈ lw_all := lw_g (lw_at lw_m5 226 rfl) rfl
theorem q1262 : (Jvm.Cond.soleField "ClogHouseModel" "pore") ∈ lw_all := lw_g (lw_at lw_m5 227 rfl) rfl
theorem q1263 : (Jvm.Cond.laysFinal "ClogHouseModel" "ClogHouseModel" "firstPore" "[I") ∈ lw_all := lw_g (lw_at lw_m5 228 rfl) rfl
theorem q1264 : (Jvm.Cond.soleField "ClogHouseModel" "firstPore") ∈ lw_all := lw_g (lw_at lw_m5 229 rfl) rfl
theorem q1265 : (Jvm.Cond.laysFinal "ClogHouseModel" "ClogHouseModel" "take" "[I") ∈ lw_all := lw_g (lw_at lw_m5 230 rfl) rfl
theorem q1266 : (Jvm.Cond.soleField "ClogHouseModel" "take") ∈ lw_all := lw_g (lw_at lw_m5 231 rfl) rfl
theorem q1267 : (Jvm.Cond.laysFinal "ClogHouseModel" "ClogHouseModel" "holds" "[I") ∈ lw_all := lw_g (lw_at lw_m5 232 rfl) rfl
theorem q1268 : (Jvm.Cond.soleField "ClogHouseModel" "holds") ∈ lw_all := lw_g (lw_at lw_m5 233 rfl) rfl
theorem q1269 : (Jvm.Cond.laysFinal "ClogHouseModel" "ClogHouseModel" "stuck" "[I") ∈ lw_all := lw_g (lw_at lw_m5 234 rfl) rfl
theorem q1270 : (Jvm.Cond.soleField "ClogHouseModel" "stuck") ∈ lw_all := lw_g (lw_at lw_m5 235 rfl) rfl
theorem q1271 : (Jvm.Cond.laysFinal "ClogHouseModel" "ClogHouseModel" "cake" "[I") ∈ lw_all := lw_g (lw_at lw_m5 236 rfl) rfl
theorem q1272 : (Jvm.Cond.soleField "ClogHouseModel" "cake") ∈ lw_all := lw_g (lw_at lw_m5 237 rfl) rfl
theorem q1273 : (Jvm.Cond.laysFinal "ClogHouseModel" "ClogHouseModel" "press" "[I") ∈ lw_all := lw_g (lw_at lw_m5 238 rfl) rfl
theorem q1274 : (Jvm.Cond.soleField "ClogHouseModel" "press") ∈ lw_all := lw_g (lw_at lw_m5 239 rfl) rfl
theorem q1275 : (Jvm.Cond.laysFinal "ClogHouseModel" "ClogHouseModel" "bear" "[I") ∈ lw_all := lw_g (lw_at lw_m6 0 rfl) rfl
theorem q1276 : (Jvm.Cond.soleField "ClogHouseModel" "bear") ∈ lw_all := lw_g (lw_at lw_m6 1 rfl) rfl
theorem q1277 : (Jvm.Cond.laysFinal "ClogHouseModel" "ClogHouseModel" "bears" "[I") ∈ lw_all := lw_g (lw_at lw_m6 2 rfl) rfl
theorem q1278 : (Jvm.Cond.soleField "ClogHouseModel" "bears") ∈ lw_all := lw_g (lw_at lw_m6 3 rfl) rfl
theorem q1279 : (Jvm.Cond.laysFinal "ClogHouseModel" "ClogHouseModel" "state" "[I") ∈ lw_all := lw_g (lw_at lw_m6 4 rfl) rfl
theorem q1280 : (Jvm.Cond.soleField "ClogHouseModel" "state") ∈ lw_all := lw_g (lw_at lw_m6 5 rfl) rfl
theorem q1281 : (Jvm.Cond.laysFinal "ClogHouseModel" "ClogHouseModel" "since" "[I") ∈ lw_all := lw_g (lw_at lw_m6 6 rfl) rfl
theorem q1282 : (Jvm.Cond.soleField "ClogHouseModel" "since") ∈ lw_all := lw_g (lw_at lw_m6 7 rfl) rfl
theorem q1283 : (Jvm.Cond.laysFinal "ClogHouseModel" "ClogHouseModel" "washes" "[I") ∈ lw_all := lw_g (lw_at lw_m6 8 rfl) rfl
theorem q1284 : (Jvm.Cond.soleField "ClogHouseModel" "washes") ∈ lw_all := lw_g (lw_at lw_m6 9 rfl) rfl
theorem q1285 : (Jvm.Cond.laysFinal "ClogHouseModel" "ClogHouseModel" "ruleOf" "[I") ∈ lw_all := lw_g (lw_at lw_m6 10 rfl) rfl
theorem q1286 : (Jvm.Cond.soleField "ClogHouseModel" "ruleOf") ∈ lw_all := lw_g (lw_at lw_m6 11 rfl) rfl
theorem q1287 : (Jvm.Cond.laysFinal "ClogHouseModel" "ClogHouseModel" "share" "[I") ∈ lw_all := lw_g (lw_at lw_m6 12 rfl) rfl
theorem q1288 : (Jvm.Cond.soleField "ClogHouseModel" "share") ∈ lw_all := lw_g (lw_at lw_m6 13 rfl) rfl
theorem q1289 : (Jvm.Cond.laysFinal "ClogHouseModel" "ClogHouseModel" "pushed" "[I") ∈ lw_all := lw_g (lw_at lw_m6 14 rfl) rfl
theorem q1290 : (Jvm.Cond.soleField "ClogHouseModel" "pushed") ∈ lw_all := lw_g (lw_at lw_m6 15 rfl) rfl
theorem q1291 : (Jvm.Cond.laysFinal "ClogHouseModel" "ClogHouseModel" "outOf" "[I") ∈ lw_all := lw_g (lw_at lw_m6 16 rfl) rfl
theorem q1292 : (Jvm.Cond.soleField "ClogHouseModel" "outOf") ∈ lw_all := lw_g (lw_at lw_m6 17 rfl) rfl
theorem q1293 : (Jvm.Cond.laysFinal "ClogHouseModel" "ClogHouseModel" "ran" "[Z") ∈ lw_all := lw_g (lw_at lw_m6 18 rfl) rfl
theorem q1294 : (Jvm.Cond.soleField "ClogHouseModel" "ran") ∈ lw_all := lw_g (lw_at lw_m6 19 rfl) rfl
theorem q1295 : (Jvm.Cond.laysFinal "ClogHouseModel" "ClogHouseModel" "everRan" "[Z") ∈ lw_all := lw_g (lw_at lw_m6 20 rfl) rfl
theorem q1296 : (Jvm.Cond.soleField "ClogHouseModel" "everRan") ∈ lw_all := lw_g (lw_at lw_m6 21 rfl) rfl
theorem q1297 : (Jvm.Cond.lays "ClogHouseModel" "ClogHouseModel" "filters" "I") ∈ lw_all := lw_g (lw_at lw_m6 22 rfl) rfl
theorem q1298 : (Jvm.Cond.soleField "ClogHouseModel" "filters") ∈ lw_all := lw_g (lw_at lw_m6 23 rfl) rfl
theorem q1299 : (Jvm.Cond.laysFinal "ClogHouseModel" "ClogHouseModel" "tape" "[I") ∈ lw_all := lw_g (lw_at lw_m6 24 rfl) rfl
theorem q1300 : (Jvm.Cond.soleField "ClogHouseModel" "tape") ∈ lw_all := lw_g (lw_at lw_m6 25 rfl) rfl
theorem q1301 : (Jvm.Cond.laysFinal "ClogHouseModel" "ClogHouseModel" "saying" "[I") ∈ lw_all := lw_g (lw_at lw_m6 26 rfl) rfl
theorem q1302 : (Jvm.Cond.soleField "ClogHouseModel" "saying") ∈ lw_all := lw_g (lw_at lw_m6 27 rfl) rfl
theorem q1303 : (Jvm.Cond.laysFinal "ClogHouseModel" "ClogHouseModel" "codes" "[I") ∈ lw_all := lw_g (lw_at lw_m6 28 rfl) rfl
theorem q1304 : (Jvm.Cond.soleField "ClogHouseModel" "codes") ∈ lw_all := lw_g (lw_at lw_m6 29 rfl) rfl
theorem q1305 : (Jvm.Cond.laysFinal "ClogHouseModel" "ClogHouseModel" "textSize" "[I") ∈ lw_all := lw_g (lw_at lw_m6 30 rfl) rfl
theorem q1306 : (Jvm.Cond.soleField "ClogHouseModel" "textSize") ∈ lw_all := lw_g (lw_at lw_m6 31 rfl) rfl
theorem q1307 : (Jvm.Cond.lays "ClogHouseModel" "ClogHouseModel" "size" "I") ∈ lw_all := lw_g (lw_at lw_m6 32 rfl) rfl
theorem q1308 : (Jvm.Cond.soleField "ClogHouseModel" "size") ∈ lw_all := lw_g (lw_at lw_m6 33 rfl) rfl
theorem q1309 : (Jvm.Cond.lays "ClogHouseModel" "ClogHouseModel" "at1" "I") ∈ lw_all := lw_g (lw_at lw_m6 34 rfl) rfl
theorem q1310 : (Jvm.Cond.soleField "ClogHouseModel" "at1") ∈ lw_all := lw_g (lw_at lw_m6 35 rfl) rfl
theorem q1311 : (Jvm.Cond.lays "ClogHouseModel" "ClogHouseModel" "wrong" "I") ∈ lw_all := lw_g (lw_at lw_m6 36 rfl) rfl
theorem q1312 : (Jvm.Cond.soleField "ClogHouseModel" "wrong") ∈ lw_all := lw_g (lw_at lw_m6 37 rfl) rfl
theorem q1313 : (Jvm.Cond.lays "ClogHouseModel" "ClogHouseModel" "deep" "I") ∈ lw_all := lw_g (lw_at lw_m6 38 rfl) rfl
theorem q1314 : (Jvm.Cond.soleField "ClogHouseModel" "deep") ∈ lw_all := lw_g (lw_at lw_m6 39 rfl) rfl
theorem q1315 : (Jvm.Cond.lays "ClogHouseModel" "ClogHouseModel" "said" "I") ∈ lw_all := lw_g (lw_at lw_m6 40 rfl) rfl
theorem q1316 : (Jvm.Cond.soleField "ClogHouseModel" "said") ∈ lw_all := lw_g (lw_at lw_m6 41 rfl) rfl
theorem q1317 : (Jvm.Cond.lays "ClogHouseModel" "ClogHouseModel" "rules" "I") ∈ lw_all := lw_g (lw_at lw_m6 42 rfl) rfl
theorem q1318 : (Jvm.Cond.soleField "ClogHouseModel" "rules") ∈ lw_all := lw_g (lw_at lw_m6 43 rfl) rfl
theorem q1319 : (Jvm.Cond.laysFinal "ClogHouseModel" "ClogHouseModel" "letters" "[I") ∈ lw_all := lw_g (lw_at lw_m6 44 rfl) rfl
theorem q1320 : (Jvm.Cond.soleField "ClogHouseModel" "letters") ∈ lw_all := lw_g (lw_at lw_m6 45 rfl) rfl
theorem q1321 : (Jvm.Cond.laysFinal "ClogHouseModel" "ClogHouseModel" "pile" "[I") ∈ lw_all := lw_g (lw_at lw_m6 46 rfl) rfl
theorem q1322 : (Jvm.Cond.soleField "ClogHouseModel" "pile") ∈ lw_all := lw_g (lw_at lw_m6 47 rfl) rfl
theorem q1323 : (Jvm.Cond.lays "ClogHouseModel" "ClogHouseModel" "reading" "I") ∈ lw_all := lw_g (lw_at lw_m6 48 rfl) rfl
theorem q1324 : (Jvm.Cond.soleField "ClogHouseModel" "reading") ∈ lw_all := lw_g (lw_at lw_m6 49 rfl) rfl
theorem q1325 : (Jvm.Cond.laysFinal "ClogHouseModel" "ClogHouseModel" "grains" "[I") ∈ lw_all := lw_g (lw_at lw_m6 50 rfl) rfl
theorem q1326 : (Jvm.Cond.soleField "ClogHouseModel" "grains") ∈ lw_all := lw_g (lw_at lw_m6 51 rfl) rfl
theorem q1327 : (Jvm.Cond.laysFinal "ClogHouseModel" "ClogHouseModel" "history" "[I") ∈ lw_all := lw_g (lw_at lw_m6 52 rfl) rfl
theorem q1328 : (Jvm.Cond.soleField "ClogHouseModel" "history") ∈ lw_all := lw_g (lw_at lw_m6 53 rfl) rfl
theorem q1329 : (Jvm.Cond.laysFinal "ClogHouseModel" "ClogHouseModel" "ripeHour" "[I") ∈ lw_all := lw_g (lw_at lw_m6 54 rfl) rfl
theorem q1330 : (Jvm.Cond.soleField "ClogHouseModel" "ripeHour") ∈ lw_all := lw_g (lw_at lw_m6 55 rfl) rfl
theorem q1331 : (Jvm.Cond.laysFinal "ClogHouseModel" "ClogHouseModel" "ripeOut" "[I") ∈ lw_all := lw_g (lw_at lw_m6 56 rfl) rfl
theorem q1332 : (Jvm.Cond.soleField "ClogHouseModel" "ripeOut") ∈ lw_all := lw_g (lw_at lw_m6 57 rfl) rfl
theorem q1333 : (Jvm.Cond.laysFinal "ClogHouseModel" "ClogHouseModel" "ledAll" "[I") ∈ lw_all := lw_g (lw_at lw_m6 58 rfl) rfl
theorem q1334 : (Jvm.Cond.soleField "ClogHouseModel" "ledAll") ∈ lw_all := lw_g (lw_at lw_m6 59 rfl) rfl
theorem q1335 : (Jvm.Cond.laysFinal "ClogHouseModel" "ClogHouseModel" "weight" "[I") ∈ lw_all := lw_g (lw_at lw_m6 60 rfl) rfl
theorem q1336 : (Jvm.Cond.soleField "ClogHouseModel" "weight") ∈ lw_all := lw_g (lw_at lw_m6 61 rfl) rfl
theorem q1337 : (Jvm.Cond.laysFinal "ClogHouseModel" "ClogHouseModel" "parts" "[I") ∈ lw_all := lw_g (lw_at lw_m6 62 rfl) rfl
theorem q1338 : (Jvm.Cond.soleField "ClogHouseModel" "parts") ∈ lw_all := lw_g (lw_at lw_m6 63 rfl) rfl
theorem q1339 : (Jvm.Cond.laysFinal "ClogHouseModel" "ClogHouseModel" "wash" "[I") ∈ lw_all := lw_g (lw_at lw_m6 64 rfl) rfl
theorem q1340 : (Jvm.Cond.soleField "ClogHouseModel" "wash") ∈ lw_all := lw_g (lw_at lw_m6 65 rfl) rfl
theorem q1341 : (Jvm.Cond.laysFinal "ClogHouseModel" "ClogHouseModel" "widths" "[I") ∈ lw_all := lw_g (lw_at lw_m6 66 rfl) rfl
theorem q1342 : (Jvm.Cond.soleField "ClogHouseModel" "widths") ∈ lw_all := lw_g (lw_at lw_m6 67 rfl) rfl
theorem q1343 : (Jvm.Cond.laysFinal "ClogHouseModel" "ClogHouseModel" "closes1" "[Z") ∈ lw_all := lw_g (lw_at lw_m6 68 rfl) rfl
theorem q1344 : (Jvm.Cond.soleField "ClogHouseModel" "closes1") ∈ lw_all := lw_g (lw_at lw_m6 69 rfl) rfl
theorem q1345 : (Jvm.Cond.lays "ClogHouseModel" "ClogHouseModel" "q" "I") ∈ lw_all := lw_g (lw_at lw_m6 70 rfl) rfl
theorem q1346 : (Jvm.Cond.soleField "ClogHouseModel" "q") ∈ lw_all := lw_g (lw_at lw_m6 71 rfl) rfl
theorem q1347 : (Jvm.Cond.laysFinal "ClogHouseModel" "ClogHouseModel" "layerPore" "[I") ∈ lw_all := lw_g (lw_at lw_m6 72 rfl) rfl
theorem q1348 : (Jvm.Cond.soleField "ClogHouseModel" "layerPore") ∈ lw_all := lw_g (lw_at lw_m6 73 rfl) rfl
theorem q1349 : (Jvm.Cond.laysFinal "ClogHouseModel" "ClogHouseModel" "layerTake" "[I") ∈ lw_all := lw_g (lw_at lw_m6 74 rfl) rfl
theorem q1350 : (Jvm.Cond.soleField "ClogHouseModel" "layerTake") ∈ lw_all := lw_g (lw_at lw_m6 75 rfl) rfl
theorem q1351 : (Jvm.Cond.laysFinal "ClogHouseModel" "ClogHouseModel" "row" "[I") ∈ lw_all := lw_g (lw_at lw_m6 76 rfl) rfl
theorem q1352 : (Jvm.Cond.soleField "ClogHouseModel" "row") ∈ lw_all := lw_g (lw_at lw_m6 77 rfl) rfl
theorem q1353 : (Jvm.Cond.laysFinal "ClogHouseModel" "ClogHouseModel" "best" "[I") ∈ lw_all := lw_g (lw_at lw_m6 78 rfl) rfl
theorem q1354 : (Jvm.Cond.soleField "ClogHouseModel" "best") ∈ lw_all := lw_g (lw_at lw_m6 79 rfl) rfl
theorem q1355 : (Jvm.Cond.lays "ClogHouseModel" "ClogHouseModel" "layers" "I") ∈ lw_all := lw_g (lw_at lw_m6 80 rfl) rfl
theorem q1356 : (Jvm.Cond.soleField "ClogHouseModel" "layers") ∈ lw_all := lw_g (lw_at lw_m6 81 rfl) rfl
theorem q1357 : (Jvm.Cond.lays "ClogHouseModel" "ClogHouseModel" "bestHours" "I") ∈ lw_all := lw_g (lw_at lw_m6 82 rfl) rfl
theorem q1358 : (Jvm.Cond.soleField "ClogHouseModel" "bestHours") ∈ lw_all := lw_g (lw_at lw_m6 83 rfl) rfl
theorem q1359 : (Jvm.Cond.laysFinal "ClogHouseModel" "ClogHouseModel" "costs" "[I") ∈ lw_all := lw_g (lw_at lw_m6 84 rfl) rfl
theorem q1360 : (Jvm.Cond.soleField "ClogHouseModel" "costs") ∈ lw_all := lw_g (lw_at lw_m6 85 rfl) rfl
theorem q1361 : (Jvm.Cond.laysFinal "ClogHouseModel" "ClogHouseModel" "least" "[J") ∈ lw_all := lw_g (lw_at lw_m6 86 rfl) rfl
theorem q1362 : (Jvm.Cond.soleField "ClogHouseModel" "least") ∈ lw_all := lw_g (lw_at lw_m6 87 rfl) rfl
theorem q1363 : (Jvm.Cond.lays "ClogHouseModel" "ClogHouseModel" "price" "I") ∈ lw_all := lw_g (lw_at lw_m6 88 rfl) rfl
theorem q1364 : (Jvm.Cond.soleField "ClogHouseModel" "price") ∈ lw_all := lw_g (lw_at lw_m6 89 rfl) rfl
theorem q1365 : (Jvm.Cond.laysFinal "ClogHouseModel" "ClogHouseModel" "gaugeCell" "[I") ∈ lw_all := lw_g (lw_at lw_m6 90 rfl) rfl
theorem q1366 : (Jvm.Cond.soleField "ClogHouseModel" "gaugeCell") ∈ lw_all := lw_g (lw_at lw_m6 91 rfl) rfl
theorem q1367 : (Jvm.Cond.laysFinal "ClogHouseModel" "ClogHouseModel" "gaugeFrom" "[I") ∈ lw_all := lw_g (lw_at lw_m6 92 rfl) rfl
theorem q1368 : (Jvm.Cond.soleField "ClogHouseModel" "gaugeFrom") ∈ lw_all := lw_g (lw_at lw_m6 93 rfl) rfl
theorem q1369 : (Jvm.Cond.laysFinal "ClogHouseModel" "ClogHouseModel" "gaugeTo" "[I") ∈ lw_all := lw_g (lw_at lw_m6 94 rfl) rfl
theorem q1370 : (Jvm.Cond.soleField "ClogHouseModel" "gaugeTo") ∈ lw_all := lw_g (lw_at lw_m6 95 rfl) rfl
theorem q1371 : (Jvm.Cond.laysFinal "ClogHouseModel" "ClogHouseModel" "gaugeTold" "[I") ∈ lw_all := lw_g (lw_at lw_m6 96 rfl) rfl
theorem q1372 : (Jvm.Cond.soleField "ClogHouseModel" "gaugeTold") ∈ lw_all := lw_g (lw_at lw_m6 97 rfl) rfl
theorem q1373 : (Jvm.Cond.lays "ClogHouseModel" "ClogHouseModel" "readings" "I") ∈ lw_all := lw_g (lw_at lw_m6 98 rfl) rfl
theorem q1374 : (Jvm.Cond.soleField "ClogHouseModel" "readings") ∈ lw_all := lw_g (lw_at lw_m6 99 rfl) rfl
theorem q1375 : (Jvm.Cond.superclass "ClogHouseModel" "java/lang/Object") ∈ lw_all := lw_g (lw_at lw_m6 100 rfl) rfl
theorem q1379 : (Jvm.Cond.instanceMethod ({ cls := "ClogHouseModel", name := "thrown", desc := "()I" } : Jvm.MethodName)) ∈ lw_all := lw_g (lw_at lw_m6 104 rfl) rfl
theorem q1380 : (Jvm.Cond.selects "ClogHouseModel" ({ cls := "ClogHouseModel", name := "thrown", desc := "()I" } : Jvm.MethodName) ({ cls := "ClogHouseModel", name := "thrown", desc := "()I" } : Jvm.MethodName)) ∈ lw_all := lw_g (lw_at lw_m6 105 rfl) rfl
theorem q1381 : (Jvm.Cond.code ({ cls := "ClogHouseModel", name := "thrown", desc := "()I" } : Jvm.MethodName) prog_21_method_3_code (1 : Nat) (Option.some Jvm.ClassFile.FieldType.int)) ∈ lw_all := lw_g (lw_at lw_m6 106 rfl) rfl
theorem q1383 : (Jvm.Cond.instanceMethod ({ cls := "ClogHouseModel", name := "grain", desc := "(III)Z" } : Jvm.MethodName)) ∈ lw_all := lw_g (lw_at lw_m6 108 rfl) rfl
theorem q1384 : (Jvm.Cond.selects "ClogHouseModel" ({ cls := "ClogHouseModel", name := "grain", desc := "(III)Z" } : Jvm.MethodName) ({ cls := "ClogHouseModel", name := "grain", desc := "(III)Z" } : Jvm.MethodName)) ∈ lw_all := lw_g (lw_at lw_m6 109 rfl) rfl
theorem q1385 : (Jvm.Cond.code ({ cls := "ClogHouseModel", name := "grain", desc := "(III)Z" } : Jvm.MethodName) prog_21_method_4_code (4 : Nat) (Option.some Jvm.ClassFile.FieldType.boolean)) ∈ lw_all := lw_g (lw_at lw_m6 110 rfl) rfl
theorem q1386 : (Jvm.Cond.methodLink "ClogHouseModel" (161 : Nat) ({ cls := "ClogHouseModel", name := "in", desc := "(III)Z" } : Jvm.MethodName)) ∈ lw_all := lw_g (lw_at lw_m6 111 rfl) rfl
theorem q1387 : (Jvm.Cond.static ({ cls := "ClogHouseModel", name := "in", desc := "(III)Z" } : Jvm.MethodName)) ∈ lw_all := lw_g (lw_at lw_m6 112 rfl) rfl
theorem q1388 : (Jvm.Cond.code ({ cls := "ClogHouseModel", name := "in", desc := "(III)Z" } : Jvm.MethodName) prog_21_method_1_code (3 : Nat) (Option.some Jvm.ClassFile.FieldType.boolean)) ∈ lw_all := lw_g (lw_at lw_m6 113 rfl) rfl
theorem q1390 : (Jvm.Cond.instanceMethod ({ cls := "ClogHouseModel", name := "filter", desc := "()I" } : Jvm.MethodName)) ∈ lw_all := lw_g (lw_at lw_m6 115 rfl) rfl
theorem q1391 : (Jvm.Cond.selects "ClogHouseModel" ({ cls := "ClogHouseModel", name := "filter", desc := "()I" } : Jvm.MethodName) ({ cls := "ClogHouseModel", name := "filter", desc := "()I" } : Jvm.MethodName)) ∈ lw_all := lw_g (lw_at lw_m6 116 rfl) rfl
theorem q1392 : (Jvm.Cond.code ({ cls := "ClogHouseModel", name := "filter", desc := "()I" } : Jvm.MethodName) prog_21_method_6_code (1 : Nat) (Option.some Jvm.ClassFile.FieldType.int)) ∈ lw_all := lw_g (lw_at lw_m6 117 rfl) rfl
theorem q1394 : (Jvm.Cond.instanceMethod ({ cls := "ClogHouseModel", name := "cell", desc := "(III)I" } : Jvm.MethodName)) ∈ lw_all := lw_g (lw_at lw_m6 119 rfl) rfl
theorem q1395 : (Jvm.Cond.selects "ClogHouseModel" ({ cls := "ClogHouseModel", name := "cell", desc := "(III)I" } : Jvm.MethodName) ({ cls := "ClogHouseModel", name := "cell", desc := "(III)I" } : Jvm.MethodName)) ∈ lw_all := lw_g (lw_at lw_m6 120 rfl) rfl
theorem q1396 : (Jvm.Cond.code ({ cls := "ClogHouseModel", name := "cell", desc := "(III)I" } : Jvm.MethodName) prog_21_method_7_code (4 : Nat) (Option.some Jvm.ClassFile.FieldType.int)) ∈ lw_all := lw_g (lw_at lw_m6 121 rfl) rfl
theorem q1397 : (Jvm.Cond.methodLink "ClogHouseModel" (168 : Nat) ({ cls := "ClogHouseModel", name := "isFilter", desc := "(I)Z" } : Jvm.MethodName)) ∈ lw_all := lw_g (lw_at lw_m6 122 rfl) rfl
theorem q1398 : (Jvm.Cond.privateMethod ({ cls := "ClogHouseModel", name := "isFilter", desc := "(I)Z" } : Jvm.MethodName)) ∈ lw_tbl := lw_at lw_m6 123 rfl
theorem q1399 : (Jvm.Cond.instanceMethod ({ cls := "ClogHouseModel", name := "isFilter", desc := "(I)Z" } : Jvm.MethodName)) ∈ lw_all := lw_g (lw_at lw_m6 124 rfl) rfl
theorem q1400 : (Jvm.Cond.code ({ cls := "ClogHouseModel", name := "isFilter", desc := "(I)Z" } : Jvm.MethodName) prog_21_method_5_code (2 : Nat) (Option.some Jvm.ClassFile.FieldType.boolean)) ∈ lw_all := lw_g (lw_at lw_m6 125 rfl) rfl
theorem q1402 : (Jvm.Cond.instanceMethod ({ cls := "ClogHouseModel", name := "set", desc := "(III)Z" } : Jvm.MethodName)) ∈ lw_all := lw_g (lw_at lw_m6 127 rfl) rfl
theorem q1403 : (Jvm.Cond.selects "ClogHouseModel" ({ cls := "ClogHouseModel", name := "set", desc := "(III)Z" } : Jvm.MethodName) ({ cls := "ClogHouseModel", name := "set", desc := "(III)Z" } : Jvm.MethodName)) ∈ lw_all := lw_g (lw_at lw_m6 128 rfl) rfl
theorem q1404 : (Jvm.Cond.code ({ cls := "ClogHouseModel", name := "set", desc := "(III)Z" } : Jvm.MethodName) prog_21_method_8_code (4 : Nat) (Option.some Jvm.ClassFile.FieldType.boolean)) ∈ lw_all := lw_g (lw_at lw_m6 129 rfl) rfl
theorem q1406 : (Jvm.Cond.instanceMethod ({ cls := "ClogHouseModel", name := "push", desc := "(II)I" } : Jvm.MethodName)) ∈ lw_all := lw_g (lw_at lw_m6 131 rfl) rfl
theorem q1407 : (Jvm.Cond.selects "ClogHouseModel" ({ cls := "ClogHouseModel", name := "push", desc := "(II)I" } : Jvm.MethodName) ({ cls := "ClogHouseModel", name := "push", desc := "(II)I" } : Jvm.MethodName)) ∈ lw_all := lw_g (lw_at lw_m6 132 rfl) rfl
theorem q1408 : (Jvm.Cond.code ({ cls := "ClogHouseModel", name := "push", desc := "(II)I" } : Jvm.MethodName) prog_21_method_17_code (3 : Nat) (Option.some Jvm.ClassFile.FieldType.int)) ∈ lw_all := lw_g (lw_at lw_m6 133 rfl) rfl
theorem q1409 : (Jvm.Cond.methodLink "ClogHouseModel" (206 : Nat) ({ cls := "ClogHouseModel", name := "pushFor", desc := "(II)I" } : Jvm.MethodName)) ∈ lw_all := lw_g (lw_at lw_m6 134 rfl) rfl
theorem q1410 : (Jvm.Cond.privateMethod ({ cls := "ClogHouseModel", name := "pushFor", desc := "(II)I" } : Jvm.MethodName)) ∈ lw_tbl := lw_at lw_m6 135 rfl
theorem q1411 : (Jvm.Cond.instanceMethod ({ cls := "ClogHouseModel", name := "pushFor", desc := "(II)I" } : Jvm.MethodName)) ∈ lw_all := lw_g (lw_at lw_m6 136 rfl) rfl
theorem q1412 : (Jvm.Cond.code ({ cls := "ClogHouseModel", name := "pushFor", desc := "(II)I" } : Jvm.MethodName) prog_21_method_16_code (11 : Nat) (Option.some Jvm.ClassFile.FieldType.int)) ∈ lw_all := lw_g (lw_at lw_m6 137 rfl) rfl
theorem q1413 : (Jvm.Cond.methodLink "ClogHouseModel" (192 : Nat) ({ cls := "ClogHouseModel", name := "bed", desc := "(I)I" } : Jvm.MethodName)) ∈ lw_all := lw_g (lw_at lw_m6 138 rfl) rfl
theorem q1414 : (Jvm.Cond.privateMethod ({ cls := "ClogHouseModel", name := "bed", desc := "(I)I" } : Jvm.MethodName)) ∈ lw_tbl := lw_at lw_m6 139 rfl
theorem q1415 : (Jvm.Cond.instanceMethod ({ cls := "ClogHouseModel", name := "bed", desc := "(I)I" } : Jvm.MethodName)) ∈ lw_all := lw_g (lw_at lw_m6 140 rfl) rfl
theorem q1416 : (Jvm.Cond.code ({ cls := "ClogHouseModel", name := "bed", desc := "(I)I" } : Jvm.MethodName) prog_21_method_14_code (5 : Nat) (Option.some Jvm.ClassFile.FieldType.int)) ∈ lw_all := lw_g (lw_at lw_m6 141 rfl) rfl
theorem q1417 : (Jvm.Cond.methodLink "ClogHouseModel" (185 : Nat) ({ cls := "ClogHouseModel", name := "width", desc := "(II)I" } : Jvm.MethodName)) ∈ lw_all := lw_g (lw_at lw_m6 142 rfl) rfl
theorem q1418 : (Jvm.Cond.privateMethod ({ cls := "ClogHouseModel", name := "width", desc := "(II)I" } : Jvm.MethodName)) ∈ lw_tbl := lw_at lw_m6 143 rfl
theorem q1419 : (Jvm.Cond.instanceMethod ({ cls := "ClogHouseModel", name := "width", desc := "(II)I" } : Jvm.MethodName)) ∈ lw_all := lw_g (lw_at lw_m6 144 rfl) rfl
theorem q1420 : (Jvm.Cond.code ({ cls := "ClogHouseModel", name := "width", desc := "(II)I" } : Jvm.MethodName) prog_21_method_12_code (3 : Nat) (Option.some Jvm.ClassFile.FieldType.int)) ∈ lw_all := lw_g (lw_at lw_m6 145 rfl) rfl
theorem q1421 : (Jvm.Cond.methodLink "ClogHouseModel" (178 : Nat) ({ cls := "ClogHouseModel", name := "heldIn", desc := "(II)I" } : Jvm.MethodName)) ∈ lw_all := lw_g (lw_at lw_m6 146 rfl) rfl
theorem q1422 : (Jvm.Cond.privateMethod ({ cls := "ClogHouseModel", name := "heldIn", desc := "(II)I" } : Jvm.MethodName)) ∈ lw_tbl := lw_at lw_m6 147 rfl
theorem q1423 : (Jvm.Cond.instanceMethod ({ cls := "ClogHouseModel", name := "heldIn", desc := "(II)I" } : Jvm.MethodName)) ∈ lw_all := lw_g (lw_at lw_m6 148 rfl) rfl
theorem q1424 : (Jvm.Cond.code ({ cls := "ClogHouseModel", name := "heldIn", desc := "(II)I" } : Jvm.MethodName) prog_21_method_10_code (5 : Nat) (Option.some Jvm.ClassFile.FieldType.int)) ∈ lw_all := lw_g (lw_at lw_m6 149 rfl) rfl
theorem q1425 : (Jvm.Cond.methodLink "ClogHouseModel" (181 : Nat) ({ cls := "ClogHouseModel", name := "widthOf", desc := "(III)I" } : Jvm.MethodName)) ∈ lw_all := lw_g (lw_at lw_m6 150 rfl) rfl
theorem q1426 : (Jvm.Cond.static ({ cls := "ClogHouseModel", name := "widthOf", desc := "(III)I" } : Jvm.MethodName)) ∈ lw_all := lw_g (lw_at lw_m6 151 rfl) rfl
theorem q1427 : (Jvm.Cond.code ({ cls := "ClogHouseModel", name := "widthOf", desc := "(III)I" } : Jvm.MethodName) prog_21_method_11_code (3 : Nat) (Option.some Jvm.ClassFile.FieldType.int)) ∈ lw_all := lw_g (lw_at lw_m6 152 rfl) rfl
theorem q1428 : (Jvm.Cond.methodLink "ClogHouseModel" (172 : Nat) ({ cls := "java/lang/Math", name := "max", desc := "(II)I" } : Jvm.MethodName)) ∈ lw_all := lw_g (lw_at lw_m6 153 rfl) rfl
theorem q1429 : (Jvm.Cond.methodLink "ClogHouseModel" (188 : Nat) ({ cls := "ClogHouseModel", name := "resistOf", desc := "(I)I" } : Jvm.MethodName)) ∈ lw_all := lw_g (lw_at lw_m6 154 rfl) rfl
theorem q1430 : (Jvm.Cond.static ({ cls := "ClogHouseModel", name := "resistOf", desc := "(I)I" } : Jvm.MethodName)) ∈ lw_all := lw_g (lw_at lw_m6 155 rfl) rfl
theorem q1431 : (Jvm.Cond.code ({ cls := "ClogHouseModel", name := "resistOf", desc := "(I)I" } : Jvm.MethodName) prog_21_method_13_code (1 : Nat) (Option.some Jvm.ClassFile.FieldType.int)) ∈ lw_all := lw_g (lw_at lw_m6 156 rfl) rfl
theorem q1432 : (Jvm.Cond.methodLink "ClogHouseModel" (195 : Nat) ({ cls := "ClogHouseModel", name := "cakeOf", desc := "(I)I" } : Jvm.MethodName)) ∈ lw_all := lw_g (lw_at lw_m6 157 rfl) rfl
theorem q1433 : (Jvm.Cond.privateMethod ({ cls := "ClogHouseModel", name := "cakeOf", desc := "(I)I" } : Jvm.MethodName)) ∈ lw_tbl := lw_at lw_m6 158 rfl
theorem q1434 : (Jvm.Cond.instanceMethod ({ cls := "ClogHouseModel", name := "cakeOf", desc := "(I)I" } : Jvm.MethodName)) ∈ lw_all := lw_g (lw_at lw_m6 159 rfl) rfl
theorem q1435 : (Jvm.Cond.code ({ cls := "ClogHouseModel", name := "cakeOf", desc := "(I)I" } : Jvm.MethodName) prog_21_method_15_code (4 : Nat) (Option.some Jvm.ClassFile.FieldType.int)) ∈ lw_all := lw_g (lw_at lw_m6 160 rfl) rfl
theorem q1436 : (Jvm.Cond.constant "ClogHouseModel" (198 : Nat) (100000 : Int32)) ∈ lw_all := lw_g (lw_at lw_m6 161 rfl) rfl
theorem q1437 : (Jvm.Cond.constantLong "ClogHouseModel" (199 : Nat) (100 : Int64)) ∈ lw_all := lw_g (lw_at lw_m6 162 rfl) rfl
theorem q1438 : (Jvm.Cond.methodLink "ClogHouseModel" (201 : Nat) ({ cls := "java/lang/Math", name := "max", desc := "(JJ)J" } : Jvm.MethodName)) ∈ lw_all := lw_g (lw_at lw_m6 163 rfl) rfl
theorem q1439 : (Jvm.Cond.constantLong "ClogHouseModel" (204 : Nat) (100000 : Int64)) ∈ lw_all := lw_g (lw_at lw_m6 164 rfl) rfl
theorem q1441 : (Jvm.Cond.instanceMethod ({ cls := "ClogHouseModel", name := "celled", desc := "(III)I" } : Jvm.MethodName)) ∈ lw_all := lw_g (lw_at lw_m6 166 rfl) rfl
theorem q1442 : (Jvm.Cond.selects "ClogHouseModel" ({ cls := "ClogHouseModel", name := "celled", desc := "(III)I" } : Jvm.MethodName) ({ cls := "ClogHouseModel", name := "celled", desc := "(III)I" } : Jvm.MethodName)) ∈ lw_all := lw_g (lw_at lw_m6 167 rfl) rfl
theorem q1443 : (Jvm.Cond.code ({ cls := "ClogHouseModel", name := "celled", desc := "(III)I" } : Jvm.MethodName) prog_21_method_18_code (4 : Nat) (Option.some Jvm.ClassFile.FieldType.int)) ∈ lw_all := lw_g (lw_at lw_m6 168 rfl) rfl
theorem q1444 : (Jvm.Cond.methodLink "ClogHouseModel" (209 : Nat) ({ cls := "ClogHouseModel", name := "isCell", desc := "(II)Z" } : Jvm.MethodName)) ∈ lw_all := lw_g (lw_at lw_m6 169 rfl) rfl
theorem q1445 : (Jvm.Cond.privateMethod ({ cls := "ClogHouseModel", name := "isCell", desc := "(II)Z" } : Jvm.MethodName)) ∈ lw_tbl := lw_at lw_m6 170 rfl
theorem q1446 : (Jvm.Cond.instanceMethod ({ cls := "ClogHouseModel", name := "isCell", desc := "(II)Z" } : Jvm.MethodName)) ∈ lw_all := lw_g (lw_at lw_m6 171 rfl) rfl
theorem q1447 : (Jvm.Cond.code ({ cls := "ClogHouseModel", name := "isCell", desc := "(II)Z" } : Jvm.MethodName) prog_21_method_9_code (3 : Nat) (Option.some Jvm.ClassFile.FieldType.boolean)) ∈ lw_all := lw_g (lw_at lw_m6 172 rfl) rfl
theorem q1449 : (Jvm.Cond.instanceMethod ({ cls := "ClogHouseModel", name := "held", desc := "(IIII)I" } : Jvm.MethodName)) ∈ lw_all := lw_g (lw_at lw_m6 174 rfl) rfl
theorem q1450 : (Jvm.Cond.selects "ClogHouseModel" ({ cls := "ClogHouseModel", name := "held", desc := "(IIII)I" } : Jvm.MethodName) ({ cls := "ClogHouseModel", name := "held", desc := "(IIII)I" } : Jvm.MethodName)) ∈ lw_all := lw_g (lw_at lw_m6 175 rfl) rfl
theorem q1451 : (Jvm.Cond.code ({ cls := "ClogHouseModel", name := "held", desc := "(IIII)I" } : Jvm.MethodName) prog_21_method_19_code (6 : Nat) (Option.some Jvm.ClassFile.FieldType.int)) ∈ lw_all := lw_g (lw_at lw_m6 176 rfl) rfl
theorem q1453 : (Jvm.Cond.instanceMethod ({ cls := "ClogHouseModel", name := "told", desc := "(II)I" } : Jvm.MethodName)) ∈ lw_all := lw_g (lw_at lw_m6 178 rfl) rfl
theorem q1454 : (Jvm.Cond.selects "ClogHouseModel" ({ cls := "ClogHouseModel", name := "told", desc := "(II)I" } : Jvm.MethodName) ({ cls := "ClogHouseModel", name := "told", desc := "(II)I" } : Jvm.MethodName)) ∈ lw_all := lw_g (lw_at lw_m6 179 rfl) rfl
theorem q1455 : (Jvm.Cond.code ({ cls := "ClogHouseModel", name := "told", desc := "(II)I" } : Jvm.MethodName) prog_21_method_20_code (3 : Nat) (Option.some Jvm.ClassFile.FieldType.int)) ∈ lw_all := lw_g (lw_at lw_m6 180 rfl) rfl
theorem q1457 : (Jvm.Cond.instanceMethod ({ cls := "ClogHouseModel", name := "feed", desc := "(IIIII)I" } : Jvm.MethodName)) ∈ lw_all := lw_g (lw_at lw_m6 182 rfl) rfl
theorem q1458 : (Jvm.Cond.selects "ClogHouseModel" ({ cls := "ClogHouseModel", name := "feed", desc := "(IIIII)I" } : Jvm.MethodName) ({ cls := "ClogHouseModel", name := "feed", desc := "(IIIII)I" } : Jvm.MethodName)) ∈ lw_all := lw_g (lw_at lw_m6 183 rfl) rfl
theorem q1459 : (Jvm.Cond.code ({ cls := "ClogHouseModel", name := "feed", desc := "(IIIII)I" } : Jvm.MethodName) prog_21_method_22_code (9 : Nat) (Option.some Jvm.ClassFile.FieldType.int)) ∈ lw_all := lw_g (lw_at lw_m6 184 rfl) rfl
theorem q1460 : (Jvm.Cond.methodLink "ClogHouseModel" (213 : Nat) ({ cls := "ClogHouseModel", name := "byteOf", desc := "(IIIIII)I" } : Jvm.MethodName)) ∈ lw_all := lw_g (lw_at lw_m6 185 rfl) rfl
theorem q1461 : (Jvm.Cond.static ({ cls := "ClogHouseModel", name := "byteOf", desc := "(IIIIII)I" } : Jvm.MethodName)) ∈ lw_all := lw_g (lw_at lw_m6 186 rfl) rfl
theorem q1462 : (Jvm.Cond.code ({ cls := "ClogHouseModel", name := "byteOf", desc := "(IIIIII)I" } : Jvm.MethodName) prog_21_method_21_code (7 : Nat) (Option.some Jvm.ClassFile.FieldType.int)) ∈ lw_all := lw_g (lw_at lw_m6 187 rfl) rfl
theorem q1464 : (Jvm.Cond.instanceMethod ({ cls := "ClogHouseModel", name := "end", desc := "(I)Z" } : Jvm.MethodName)) ∈ lw_all := lw_g (lw_at lw_m6 189 rfl) rfl
theorem q1465 : (Jvm.Cond.selects "ClogHouseModel" ({ cls := "ClogHouseModel", name := "end", desc := "(I)Z" } : Jvm.MethodName) ({ cls := "ClogHouseModel", name := "end", desc := "(I)Z" } : Jvm.MethodName)) ∈ lw_all := lw_g (lw_at lw_m6 190 rfl) rfl
theorem q1466 : (Jvm.Cond.code ({ cls := "ClogHouseModel", name := "end", desc := "(I)Z" } : Jvm.MethodName) prog_21_method_23_code (2 : Nat) (Option.some Jvm.ClassFile.FieldType.boolean)) ∈ lw_all := lw_g (lw_at lw_m6 191 rfl) rfl
theorem q1468 : (Jvm.Cond.instanceMethod ({ cls := "ClogHouseModel", name := "fault", desc := "()I" } : Jvm.MethodName)) ∈ lw_all := lw_g (lw_at lw_m6 193 rfl) rfl
theorem q1469 : (Jvm.Cond.selects "ClogHouseModel" ({ cls := "ClogHouseModel", name := "fault", desc := "()I" } : Jvm.MethodName) ({ cls := "ClogHouseModel", name := "fault", desc := "()I" } : Jvm.MethodName)) ∈ lw_all := lw_g (lw_at lw_m6 194 rfl) rfl
theorem q1470 : (Jvm.Cond.code ({ cls := "ClogHouseModel", name := "fault", desc := "()I" } : Jvm.MethodName) prog_21_method_42_code (1 : Nat) (Option.some Jvm.ClassFile.FieldType.int)) ∈ lw_all := lw_g (lw_at lw_m6 195 rfl) rfl
theorem q1471 : (Jvm.Cond.methodLink "ClogHouseModel" (287 : Nat) ({ cls := "ClogHouseModel", name := "clause", desc := "()V" } : Jvm.MethodName)) ∈ lw_all := lw_g (lw_at lw_m6 196 rfl) rfl
theorem q1472 : (Jvm.Cond.privateMethod ({ cls := "ClogHouseModel", name := "clause", desc := "()V" } : Jvm.MethodName)) ∈ lw_tbl := lw_at lw_m6 197 rfl
theorem q1473 : (Jvm.Cond.instanceMethod ({ cls := "ClogHouseModel", name := "clause", desc := "()V" } : Jvm.MethodName)) ∈ lw_all := lw_g (lw_at lw_m6 198 rfl) rfl
theorem q1474 : (Jvm.Cond.code ({ cls := "ClogHouseModel", name := "clause", desc := "()V" } : Jvm.MethodName) prog_21_method_41_code (6 : Nat) (Option.none : Option Jvm.ClassFile.FieldType)) ∈ lw_all := lw_g (lw_at lw_m6 199 rfl) rfl
theorem q1475 : (Jvm.Cond.methodLink "ClogHouseModel" (235 : Nat) ({ cls := "ClogHouseModel", name := "look", desc := "()I" } : Jvm.MethodName)) ∈ lw_all := lw_g (lw_at lw_m6 200 rfl) rfl
theorem q1476 : (Jvm.Cond.privateMethod ({ cls := "ClogHouseModel", name := "look", desc := "()I" } : Jvm.MethodName)) ∈ lw_tbl := lw_at lw_m6 201 rfl
theorem q1477 : (Jvm.Cond.instanceMethod ({ cls := "ClogHouseModel", name := "look", desc := "()I" } : Jvm.MethodName)) ∈ lw_all := lw_g (lw_at lw_m6 202 rfl) rfl
theorem q1478 : (Jvm.Cond.code ({ cls := "ClogHouseModel", name := "look", desc := "()I" } : Jvm.MethodName) prog_21_method_24_code (1 : Nat) (Option.some Jvm.ClassFile.FieldType.int)) ∈ lw_all := lw_g (lw_at lw_m6 203 rfl) rfl
theorem q1479 : (Jvm.Cond.methodLink "ClogHouseModel" (284 : Nat) ({ cls := "ClogHouseModel", name := "isLabel", desc := "(I)Z" } : Jvm.MethodName)) ∈ lw_all := lw_g (lw_at lw_m6 204 rfl) rfl
theorem q1480 : (Jvm.Cond.static ({ cls := "ClogHouseModel", name := "isLabel", desc := "(I)Z" } : Jvm.MethodName)) ∈ lw_all := lw_g (lw_at lw_m6 205 rfl) rfl
theorem q1481 : (Jvm.Cond.code ({ cls := "ClogHouseModel", name := "isLabel", desc := "(I)Z" } : Jvm.MethodName) prog_21_method_28_code (1 : Nat) (Option.some Jvm.ClassFile.FieldType.boolean)) ∈ lw_all := lw_g (lw_at lw_m6 206 rfl) rfl
theorem q1482 : (Jvm.Cond.methodLink "ClogHouseModel" (232 : Nat) ({ cls := "ClogHouseModel", name := "bad", desc := "()V" } : Jvm.MethodName)) ∈ lw_all := lw_g (lw_at lw_m6 207 rfl) rfl
theorem q1483 : (Jvm.Cond.privateMethod ({ cls := "ClogHouseModel", name := "bad", desc := "()V" } : Jvm.MethodName)) ∈ lw_tbl := lw_at lw_m6 208 rfl
theorem q1484 : (Jvm.Cond.instanceMethod ({ cls := "ClogHouseModel", name := "bad", desc := "()V" } : Jvm.MethodName)) ∈ lw_all := lw_g (lw_at lw_m6 209 rfl) rfl
theorem q1485 : (Jvm.Cond.code ({ cls := "ClogHouseModel", name := "bad", desc := "()V" } : Jvm.MethodName) prog_21_method_25_code (1 : Nat) (Option.none : Option Jvm.ClassFile.FieldType)) ∈ lw_all := lw_g (lw_at lw_m6 210 rfl) rfl
theorem q1486 : (Jvm.Cond.methodLink "ClogHouseModel" (242 : Nat) ({ cls := "ClogHouseModel", name := "say", desc := "(I)V" } : Jvm.MethodName)) ∈ lw_all := lw_g (lw_at lw_m6 211 rfl) rfl
theorem q1487 : (Jvm.Cond.privateMethod ({ cls := "ClogHouseModel", name := "say", desc := "(I)V" } : Jvm.MethodName)) ∈ lw_tbl := lw_at lw_m6 212 rfl
theorem q1488 : (Jvm.Cond.instanceMethod ({ cls := "ClogHouseModel", name := "say", desc := "(I)V" } : Jvm.MethodName)) ∈ lw_all := lw_g (lw_at lw_m6 213 rfl) rfl
theorem q1489 : (Jvm.Cond.code ({ cls := "ClogHouseModel", name := "say", desc := "(I)V" } : Jvm.MethodName) prog_21_method_26_code (2 : Nat) (Option.none : Option Jvm.ClassFile.FieldType)) ∈ lw_all := lw_g (lw_at lw_m6 214 rfl) rfl
theorem q1490 : (Jvm.Cond.methodLink "ClogHouseModel" (250 : Nat) ({ cls := "ClogHouseModel", name := "sum", desc := "()V" } : Jvm.MethodName)) ∈ lw_all := lw_g (lw_at lw_m6 215 rfl) rfl
theorem q1491 : (Jvm.Cond.privateMethod ({ cls := "ClogHouseModel", name := "sum", desc := "()V" } : Jvm.MethodName)) ∈ lw_tbl := lw_at lw_m6 216 rfl
theorem q1492 : (Jvm.Cond.instanceMethod ({ cls := "ClogHouseModel", name := "sum", desc := "()V" } : Jvm.MethodName)) ∈ lw_all := lw_g (lw_at lw_m6 217 rfl) rfl
theorem q1493 : (Jvm.Cond.code ({ cls := "ClogHouseModel", name := "sum", desc := "()V" } : Jvm.MethodName) prog_21_method_35_code (2 : Nat) (Option.none : Option Jvm.ClassFile.FieldType)) ∈ lw_all := lw_g (lw_at lw_m6 218 rfl) rfl
theorem q1494 : (Jvm.Cond.methodLink "ClogHouseModel" (265 : Nat) ({ cls := "ClogHouseModel", name := "term", desc := "()V" } : Jvm.MethodName)) ∈ lw_all := lw_g (lw_at lw_m6 219 rfl) rfl
theorem q1495 : (Jvm.Cond.privateMethod ({ cls := "ClogHouseModel", name := "term", desc := "()V" } : Jvm.MethodName)) ∈ lw_tbl := lw_at lw_m6 220 rfl
theorem q1496 : (Jvm.Cond.instanceMethod ({ cls := "ClogHouseModel", name := "term", desc := "()V" } : Jvm.MethodName)) ∈ lw_all := lw_g (lw_at lw_m6 221 rfl) rfl
theorem q1497 : (Jvm.Cond.code ({ cls := "ClogHouseModel", name := "term", desc := "()V" } : Jvm.MethodName) prog_21_method_34_code (2 : Nat) (Option.none : Option Jvm.ClassFile.FieldType)) ∈ lw_all := lw_g (lw_at lw_m6 222 rfl) rfl
theorem q1498 : (Jvm.Cond.methodLink "ClogHouseModel" (262 : Nat) ({ cls := "ClogHouseModel", name := "atom", desc := "()V" } : Jvm.MethodName)) ∈ lw_all := lw_g (lw_at lw_m6 223 rfl) rfl
theorem q1499 : (Jvm.Cond.privateMethod ({ cls := "ClogHouseModel", name := "atom", desc := "()V" } : Jvm.MethodName)) ∈ lw_tbl := lw_at lw_m6 224 rfl
theorem q1500 : (Jvm.Cond.instanceMethod ({ cls := "ClogHouseModel", name := "atom", desc := "()V" } : Jvm.MethodName)) ∈ lw_all := lw_g (lw_at lw_m6 225 rfl) rfl
theorem q1501 : (Jvm.Cond.code ({ cls := "ClogHouseModel", name := "atom", desc := "()V" } : Jvm.MethodName) prog_21_method_33_code (2 : Nat) (Option.none : Option Jvm.ClassFile.FieldType)) ∈ lw_all := lw_g (lw_at lw_m6 226 rfl) rfl
theorem q1502 : (Jvm.Cond.methodLink "ClogHouseModel" (246 : Nat) ({ cls := "ClogHouseModel", name := "opens", desc := "()Z" } : Jvm.MethodName)) ∈ lw_all := lw_g (lw_at lw_m6 227 rfl) rfl
theorem q1503 : (Jvm.Cond.privateMethod ({ cls := "ClogHouseModel", name := "opens", desc := "()Z" } : Jvm.MethodName)) ∈ lw_tbl := lw_at lw_m6 228 rfl
theorem q1504 : (Jvm.Cond.instanceMethod ({ cls := "ClogHouseModel", name := "opens", desc := "()Z" } : Jvm.MethodName)) ∈ lw_all := lw_g (lw_at lw_m6 229 rfl) rfl
theorem q1505 : (Jvm.Cond.code ({ cls := "ClogHouseModel", name := "opens", desc := "()Z" } : Jvm.MethodName) prog_21_method_30_code (1 : Nat) (Option.some Jvm.ClassFile.FieldType.boolean)) ∈ lw_all := lw_g (lw_at lw_m6 230 rfl) rfl
theorem q1506 : (Jvm.Cond.methodLink "ClogHouseModel" (253 : Nat) ({ cls := "ClogHouseModel", name := "closes", desc := "(I)V" } : Jvm.MethodName)) ∈ lw_all := lw_g (lw_at lw_m6 231 rfl) rfl
theorem q1507 : (Jvm.Cond.privateMethod ({ cls := "ClogHouseModel", name := "closes", desc := "(I)V" } : Jvm.MethodName)) ∈ lw_tbl := lw_at lw_m6 232 rfl
theorem q1508 : (Jvm.Cond.instanceMethod ({ cls := "ClogHouseModel", name := "closes", desc := "(I)V" } : Jvm.MethodName)) ∈ lw_all := lw_g (lw_at lw_m6 233 rfl) rfl
theorem q1509 : (Jvm.Cond.code ({ cls := "ClogHouseModel", name := "closes", desc := "(I)V" } : Jvm.MethodName) prog_21_method_31_code (2 : Nat) (Option.none : Option Jvm.ClassFile.FieldType)) ∈ lw_all := lw_g (lw_at lw_m6 234 rfl) rfl
theorem q1510 : (Jvm.Cond.methodLink "ClogHouseModel" (256 : Nat) ({ cls := "ClogHouseModel", name := "isLetter", desc := "(I)Z" } : Jvm.MethodName)) ∈ lw_all := lw_g (lw_at lw_m6 235 rfl) rfl
theorem q1511 : (Jvm.Cond.static ({ cls := "ClogHouseModel", name := "isLetter", desc := "(I)Z" } : Jvm.MethodName)) ∈ lw_all := lw_g (lw_at lw_m6 236 rfl) rfl
theorem q1512 : (Jvm.Cond.code ({ cls := "ClogHouseModel", name := "isLetter", desc := "(I)Z" } : Jvm.MethodName) prog_21_method_29_code (1 : Nat) (Option.some Jvm.ClassFile.FieldType.boolean)) ∈ lw_all := lw_g (lw_at lw_m6 237 rfl) rfl
theorem q1513 : (Jvm.Cond.methodLink "ClogHouseModel" (259 : Nat) ({ cls := "ClogHouseModel", name := "number", desc := "()V" } : Jvm.MethodName)) ∈ lw_all := lw_g (lw_at lw_m6 238 rfl) rfl
theorem q1514 : (Jvm.Cond.privateMethod ({ cls := "ClogHouseModel", name := "number", desc := "()V" } : Jvm.MethodName)) ∈ lw_tbl := lw_at lw_m6 239 rfl
theorem q1515 : (Jvm.Cond.instanceMethod ({ cls := "ClogHouseModel", name := "number", desc := "()V" } : Jvm.MethodName)) ∈ lw_all := lw_g (lw_at lw_m7 0 rfl) rfl
theorem q1516 : (Jvm.Cond.code ({ cls := "ClogHouseModel", name := "number", desc := "()V" } : Jvm.MethodName) prog_21_method_32_code (3 : Nat) (Option.none : Option Jvm.ClassFile.FieldType)) ∈ lw_all := lw_g (lw_at lw_m7 1 rfl) rfl
theorem q1517 : (Jvm.Cond.methodLink "ClogHouseModel" (239 : Nat) ({ cls := "ClogHouseModel", name := "isDigit", desc := "(I)Z" } : Jvm.MethodName)) ∈ lw_all := lw_g (lw_at lw_m7 2 rfl) rfl
theorem q1518 : (Jvm.Cond.static ({ cls := "ClogHouseModel", name := "isDigit", desc := "(I)Z" } : Jvm.MethodName)) ∈ lw_all := lw_g (lw_at lw_m7 3 rfl) rfl
theorem q1519 : (Jvm.Cond.code ({ cls := "ClogHouseModel", name := "isDigit", desc := "(I)Z" } : Jvm.MethodName) prog_21_method_27_code (1 : Nat) (Option.some Jvm.ClassFile.FieldType.boolean)) ∈ lw_all := lw_g (lw_at lw_m7 4 rfl) rfl
theorem q1520 : (Jvm.Cond.methodLink "ClogHouseModel" (268 : Nat) ({ cls := "ClogHouseModel", name := "isSign", desc := "(I)Z" } : Jvm.MethodName)) ∈ lw_all := lw_g (lw_at lw_m7 5 rfl) rfl
theorem q1521 : (Jvm.Cond.static ({ cls := "ClogHouseModel", name := "isSign", desc := "(I)Z" } : Jvm.MethodName)) ∈ lw_all := lw_g (lw_at lw_m7 6 rfl) rfl
theorem q1522 : (Jvm.Cond.code ({ cls := "ClogHouseModel", name := "isSign", desc := "(I)Z" } : Jvm.MethodName) prog_21_method_36_code (1 : Nat) (Option.some Jvm.ClassFile.FieldType.boolean)) ∈ lw_all := lw_g (lw_at lw_m7 7 rfl) rfl
theorem q1523 : (Jvm.Cond.methodLink "ClogHouseModel" (274 : Nat) ({ cls := "ClogHouseModel", name := "condition", desc := "(Z)V" } : Jvm.MethodName)) ∈ lw_all := lw_g (lw_at lw_m7 8 rfl) rfl
theorem q1524 : (Jvm.Cond.privateMethod ({ cls := "ClogHouseModel", name := "condition", desc := "(Z)V" } : Jvm.MethodName)) ∈ lw_tbl := lw_at lw_m7 9 rfl
theorem q1525 : (Jvm.Cond.instanceMethod ({ cls := "ClogHouseModel", name := "condition", desc := "(Z)V" } : Jvm.MethodName)) ∈ lw_all := lw_g (lw_at lw_m7 10 rfl) rfl
theorem q1526 : (Jvm.Cond.code ({ cls := "ClogHouseModel", name := "condition", desc := "(Z)V" } : Jvm.MethodName) prog_21_method_40_code (2 : Nat) (Option.none : Option Jvm.ClassFile.FieldType)) ∈ lw_all := lw_g (lw_at lw_m7 11 rfl) rfl
theorem q1527 : (Jvm.Cond.methodLink "ClogHouseModel" (281 : Nat) ({ cls := "ClogHouseModel", name := "part", desc := "(Z)V" } : Jvm.MethodName)) ∈ lw_all := lw_g (lw_at lw_m7 12 rfl) rfl
theorem q1528 : (Jvm.Cond.privateMethod ({ cls := "ClogHouseModel", name := "part", desc := "(Z)V" } : Jvm.MethodName)) ∈ lw_tbl := lw_at lw_m7 13 rfl
theorem q1529 : (Jvm.Cond.instanceMethod ({ cls := "ClogHouseModel", name := "part", desc := "(Z)V" } : Jvm.MethodName)) ∈ lw_all := lw_g (lw_at lw_m7 14 rfl) rfl
theorem q1530 : (Jvm.Cond.code ({ cls := "ClogHouseModel", name := "part", desc := "(Z)V" } : Jvm.MethodName) prog_21_method_39_code (2 : Nat) (Option.none : Option Jvm.ClassFile.FieldType)) ∈ lw_all := lw_g (lw_at lw_m7 15 rfl) rfl
theorem q1531 : (Jvm.Cond.methodLink "ClogHouseModel" (278 : Nat) ({ cls := "ClogHouseModel", name := "compare", desc := "()V" } : Jvm.MethodName)) ∈ lw_all := lw_g (lw_at lw_m7 16 rfl) rfl
theorem q1532 : (Jvm.Cond.privateMethod ({ cls := "ClogHouseModel", name := "compare", desc := "()V" } : Jvm.MethodName)) ∈ lw_tbl := lw_at lw_m7 17 rfl
theorem q1533 : (Jvm.Cond.instanceMethod ({ cls := "ClogHouseModel", name := "compare", desc := "()V" } : Jvm.MethodName)) ∈ lw_all := lw_g (lw_at lw_m7 18 rfl) rfl
theorem q1534 : (Jvm.Cond.code ({ cls := "ClogHouseModel", name := "compare", desc := "()V" } : Jvm.MethodName) prog_21_method_37_code (2 : Nat) (Option.none : Option Jvm.ClassFile.FieldType)) ∈ lw_all := lw_g (lw_at lw_m7 19 rfl) rfl
theorem q1535 : (Jvm.Cond.methodLink "ClogHouseModel" (271 : Nat) ({ cls := "ClogHouseModel", name := "unit", desc := "()V" } : Jvm.MethodName)) ∈ lw_all := lw_g (lw_at lw_m7 20 rfl) rfl
theorem q1536 : (Jvm.Cond.privateMethod ({ cls := "ClogHouseModel", name := "unit", desc := "()V" } : Jvm.MethodName)) ∈ lw_tbl := lw_at lw_m7 21 rfl
theorem q1537 : (Jvm.Cond.instanceMethod ({ cls := "ClogHouseModel", name := "unit", desc := "()V" } : Jvm.MethodName)) ∈ lw_all := lw_g (lw_at lw_m7 22 rfl) rfl
theorem q1538 : (Jvm.Cond.code ({ cls := "ClogHouseModel", name := "unit", desc := "()V" } : Jvm.MethodName) prog_21_method_38_code (2 : Nat) (Option.none : Option Jvm.ClassFile.FieldType)) ∈ lw_all := lw_g (lw_at lw_m7 23 rfl) rfl
theorem q1540 : (Jvm.Cond.instanceMethod ({ cls := "ClogHouseModel", name := "rules", desc := "()I" } : Jvm.MethodName)) ∈ lw_all := lw_g (lw_at lw_m7 25 rfl) rfl
theorem q1541 : (Jvm.Cond.selects "ClogHouseModel" ({ cls := "ClogHouseModel", name := "rules", desc := "()I" } : Jvm.MethodName) ({ cls := "ClogHouseModel", name := "rules", desc := "()I" } : Jvm.MethodName)) ∈ lw_all := lw_g (lw_at lw_m7 26 rfl) rfl
theorem q1542 : (Jvm.Cond.code ({ cls := "ClogHouseModel", name := "rules", desc := "()I" } : Jvm.MethodName) prog_21_method_43_code (2 : Nat) (Option.some Jvm.ClassFile.FieldType.int)) ∈ lw_all := lw_g (lw_at lw_m7 27 rfl) rfl
theorem q1543 : (Jvm.Cond.methodLink "ClogHouseModel" (293 : Nat) ({ cls := "ClogHouseModel", name := "fault", desc := "()I" } : Jvm.MethodName)) ∈ lw_all := lw_g (lw_at lw_m7 28 rfl) rfl
theorem q1545 : (Jvm.Cond.instanceMethod ({ cls := "ClogHouseModel", name := "rule", desc := "(II)Z" } : Jvm.MethodName)) ∈ lw_all := lw_g (lw_at lw_m7 30 rfl) rfl
theorem q1546 : (Jvm.Cond.selects "ClogHouseModel" ({ cls := "ClogHouseModel", name := "rule", desc := "(II)Z" } : Jvm.MethodName) ({ cls := "ClogHouseModel", name := "rule", desc := "(II)Z" } : Jvm.MethodName)) ∈ lw_all := lw_g (lw_at lw_m7 31 rfl) rfl
theorem q1547 : (Jvm.Cond.code ({ cls := "ClogHouseModel", name := "rule", desc := "(II)Z" } : Jvm.MethodName) prog_21_method_44_code (3 : Nat) (Option.some Jvm.ClassFile.FieldType.boolean)) ∈ lw_all := lw_g (lw_at lw_m7 32 rfl) rfl
theorem q1549 : (Jvm.Cond.instanceMethod ({ cls := "ClogHouseModel", name := "worth", desc := "(IIIIIIII)I" } : Jvm.MethodName)) ∈ lw_all := lw_g (lw_at lw_m7 34 rfl) rfl
theorem q1550 : (Jvm.Cond.selects "ClogHouseModel" ({ cls := "ClogHouseModel", name := "worth", desc := "(IIIIIIII)I" } : Jvm.MethodName) ({ cls := "ClogHouseModel", name := "worth", desc := "(IIIIIIII)I" } : Jvm.MethodName)) ∈ lw_all := lw_g (lw_at lw_m7 35 rfl) rfl
theorem q1551 : (Jvm.Cond.code ({ cls := "ClogHouseModel", name := "worth", desc := "(IIIIIIII)I" } : Jvm.MethodName) prog_21_method_49_code (9 : Nat) (Option.some Jvm.ClassFile.FieldType.int)) ∈ lw_all := lw_g (lw_at lw_m7 36 rfl) rfl
theorem q1552 : (Jvm.Cond.methodLink "ClogHouseModel" (316 : Nat) ({ cls := "ClogHouseModel", name := "worthBy", desc := "(II)I" } : Jvm.MethodName)) ∈ lw_all := lw_g (lw_at lw_m7 37 rfl) rfl
theorem q1553 : (Jvm.Cond.privateMethod ({ cls := "ClogHouseModel", name := "worthBy", desc := "(II)I" } : Jvm.MethodName)) ∈ lw_tbl := lw_at lw_m7 38 rfl
theorem q1554 : (Jvm.Cond.instanceMethod ({ cls := "ClogHouseModel", name := "worthBy", desc := "(II)I" } : Jvm.MethodName)) ∈ lw_all := lw_g (lw_at lw_m7 39 rfl) rfl
theorem q1555 : (Jvm.Cond.code ({ cls := "ClogHouseModel", name := "worthBy", desc := "(II)I" } : Jvm.MethodName) prog_21_method_48_code (6 : Nat) (Option.some Jvm.ClassFile.FieldType.int)) ∈ lw_all := lw_g (lw_at lw_m7 40 rfl) rfl
theorem q1556 : (Jvm.Cond.methodLink "ClogHouseModel" (313 : Nat) ({ cls := "ClogHouseModel", name := "work", desc := "()I" } : Jvm.MethodName)) ∈ lw_all := lw_g (lw_at lw_m7 41 rfl) rfl
theorem q1557 : (Jvm.Cond.privateMethod ({ cls := "ClogHouseModel", name := "work", desc := "()I" } : Jvm.MethodName)) ∈ lw_tbl := lw_at lw_m7 42 rfl
theorem q1558 : (Jvm.Cond.instanceMethod ({ cls := "ClogHouseModel", name := "work", desc := "()I" } : Jvm.MethodName)) ∈ lw_all := lw_g (lw_at lw_m7 43 rfl) rfl
theorem q1559 : (Jvm.Cond.code ({ cls := "ClogHouseModel", name := "work", desc := "()I" } : Jvm.MethodName) prog_21_method_47_code (3 : Nat) (Option.some Jvm.ClassFile.FieldType.int)) ∈ lw_all := lw_g (lw_at lw_m7 44 rfl) rfl
theorem q1560 : (Jvm.Cond.methodLink "ClogHouseModel" (310 : Nat) ({ cls := "ClogHouseModel", name := "both", desc := "(III)I" } : Jvm.MethodName)) ∈ lw_all := lw_g (lw_at lw_m7 45 rfl) rfl
theorem q1561 : (Jvm.Cond.static ({ cls := "ClogHouseModel", name := "both", desc := "(III)I" } : Jvm.MethodName)) ∈ lw_all := lw_g (lw_at lw_m7 46 rfl) rfl
theorem q1562 : (Jvm.Cond.code ({ cls := "ClogHouseModel", name := "both", desc := "(III)I" } : Jvm.MethodName) prog_21_method_46_code (3 : Nat) (Option.some Jvm.ClassFile.FieldType.int)) ∈ lw_all := lw_g (lw_at lw_m7 47 rfl) rfl
theorem q1563 : (Jvm.Cond.methodLink "ClogHouseModel" (303 : Nat) ({ cls := "ClogHouseModel", name := "bounded", desc := "(J)I" } : Jvm.MethodName)) ∈ lw_all := lw_g (lw_at lw_m7 48 rfl) rfl
theorem q1564 : (Jvm.Cond.static ({ cls := "ClogHouseModel", name := "bounded", desc := "(J)I" } : Jvm.MethodName)) ∈ lw_all := lw_g (lw_at lw_m7 49 rfl) rfl
theorem q1565 : (Jvm.Cond.code ({ cls := "ClogHouseModel", name := "bounded", desc := "(J)I" } : Jvm.MethodName) prog_21_method_45_code (2 : Nat) (Option.some Jvm.ClassFile.FieldType.int)) ∈ lw_all := lw_g (lw_at lw_m7 50 rfl) rfl
theorem q1566 : (Jvm.Cond.constantLong "ClogHouseModel" (296 : Nat) (-1000000 : Int64)) ∈ lw_all := lw_g (lw_at lw_m7 51 rfl) rfl
theorem q1567 : (Jvm.Cond.constantLong "ClogHouseModel" (298 : Nat) (1000000 : Int64)) ∈ lw_all := lw_g (lw_at lw_m7 52 rfl) rfl
theorem q1568 : (Jvm.Cond.methodLink "ClogHouseModel" (300 : Nat) ({ cls := "java/lang/Math", name := "min", desc := "(JJ)J" } : Jvm.MethodName)) ∈ lw_all := lw_g (lw_at lw_m7 53 rfl) rfl
theorem q1570 : (Jvm.Cond.instanceMethod ({ cls := "ClogHouseModel", name := "stream", desc := "(I)Z" } : Jvm.MethodName)) ∈ lw_all := lw_g (lw_at lw_m7 55 rfl) rfl
theorem q1571 : (Jvm.Cond.selects "ClogHouseModel" ({ cls := "ClogHouseModel", name := "stream", desc := "(I)Z" } : Jvm.MethodName) ({ cls := "ClogHouseModel", name := "stream", desc := "(I)Z" } : Jvm.MethodName)) ∈ lw_all := lw_g (lw_at lw_m7 56 rfl) rfl
theorem q1572 : (Jvm.Cond.code ({ cls := "ClogHouseModel", name := "stream", desc := "(I)Z" } : Jvm.MethodName) prog_21_method_50_code (2 : Nat) (Option.some Jvm.ClassFile.FieldType.boolean)) ∈ lw_all := lw_g (lw_at lw_m7 57 rfl) rfl
theorem q1574 : (Jvm.Cond.instanceMethod ({ cls := "ClogHouseModel", name := "come", desc := "(II)Z" } : Jvm.MethodName)) ∈ lw_all := lw_g (lw_at lw_m7 59 rfl) rfl
theorem q1575 : (Jvm.Cond.selects "ClogHouseModel" ({ cls := "ClogHouseModel", name := "come", desc := "(II)Z" } : Jvm.MethodName) ({ cls := "ClogHouseModel", name := "come", desc := "(II)Z" } : Jvm.MethodName)) ∈ lw_all := lw_g (lw_at lw_m7 60 rfl) rfl
theorem q1576 : (Jvm.Cond.code ({ cls := "ClogHouseModel", name := "come", desc := "(II)Z" } : Jvm.MethodName) prog_21_method_51_code (3 : Nat) (Option.some Jvm.ClassFile.FieldType.boolean)) ∈ lw_all := lw_g (lw_at lw_m7 61 rfl) rfl
theorem q1578 : (Jvm.Cond.instanceMethod ({ cls := "ClogHouseModel", name := "hours", desc := "(I)I" } : Jvm.MethodName)) ∈ lw_all := lw_g (lw_at lw_m7 63 rfl) rfl
theorem q1579 : (Jvm.Cond.selects "ClogHouseModel" ({ cls := "ClogHouseModel", name := "hours", desc := "(I)I" } : Jvm.MethodName) ({ cls := "ClogHouseModel", name := "hours", desc := "(I)I" } : Jvm.MethodName)) ∈ lw_all := lw_g (lw_at lw_m7 64 rfl) rfl
theorem q1580 : (Jvm.Cond.code ({ cls := "ClogHouseModel", name := "hours", desc := "(I)I" } : Jvm.MethodName) prog_21_method_63_code (3 : Nat) (Option.some Jvm.ClassFile.FieldType.int)) ∈ lw_all := lw_g (lw_at lw_m7 65 rfl) rfl
theorem q1581 : (Jvm.Cond.methodLink "ClogHouseModel" (360 : Nat) ({ cls := "ClogHouseModel", name := "hour", desc := "()V" } : Jvm.MethodName)) ∈ lw_all := lw_g (lw_at lw_m7 66 rfl) rfl
theorem q1582 : (Jvm.Cond.privateMethod ({ cls := "ClogHouseModel", name := "hour", desc := "()V" } : Jvm.MethodName)) ∈ lw_tbl := lw_at lw_m7 67 rfl
theorem q1583 : (Jvm.Cond.instanceMethod ({ cls := "ClogHouseModel", name := "hour", desc := "()V" } : Jvm.MethodName)) ∈ lw_all := lw_g (lw_at lw_m7 68 rfl) rfl
theorem q1584 : (Jvm.Cond.code ({ cls := "ClogHouseModel", name := "hour", desc := "()V" } : Jvm.MethodName) prog_21_method_62_code (2 : Nat) (Option.none : Option Jvm.ClassFile.FieldType)) ∈ lw_all := lw_g (lw_at lw_m7 69 rfl) rfl
theorem q1585 : (Jvm.Cond.methodLink "ClogHouseModel" (351 : Nat) ({ cls := "ClogHouseModel", name := "decide", desc := "(I)V" } : Jvm.MethodName)) ∈ lw_all := lw_g (lw_at lw_m7 70 rfl) rfl
theorem q1586 : (Jvm.Cond.privateMethod ({ cls := "ClogHouseModel", name := "decide", desc := "(I)V" } : Jvm.MethodName)) ∈ lw_tbl := lw_at lw_m7 71 rfl
theorem q1587 : (Jvm.Cond.instanceMethod ({ cls := "ClogHouseModel", name := "decide", desc := "(I)V" } : Jvm.MethodName)) ∈ lw_all := lw_g (lw_at lw_m7 72 rfl) rfl
theorem q1588 : (Jvm.Cond.code ({ cls := "ClogHouseModel", name := "decide", desc := "(I)V" } : Jvm.MethodName) prog_21_method_53_code (2 : Nat) (Option.none : Option Jvm.ClassFile.FieldType)) ∈ lw_all := lw_g (lw_at lw_m7 73 rfl) rfl
theorem q1589 : (Jvm.Cond.methodLink "ClogHouseModel" (322 : Nat) ({ cls := "ClogHouseModel", name := "change", desc := "(I)V" } : Jvm.MethodName)) ∈ lw_all := lw_g (lw_at lw_m7 74 rfl) rfl
theorem q1590 : (Jvm.Cond.privateMethod ({ cls := "ClogHouseModel", name := "change", desc := "(I)V" } : Jvm.MethodName)) ∈ lw_tbl := lw_at lw_m7 75 rfl
theorem q1591 : (Jvm.Cond.instanceMethod ({ cls := "ClogHouseModel", name := "change", desc := "(I)V" } : Jvm.MethodName)) ∈ lw_all := lw_g (lw_at lw_m7 76 rfl) rfl
theorem q1592 : (Jvm.Cond.code ({ cls := "ClogHouseModel", name := "change", desc := "(I)V" } : Jvm.MethodName) prog_21_method_52_code (6 : Nat) (Option.none : Option Jvm.ClassFile.FieldType)) ∈ lw_all := lw_g (lw_at lw_m7 77 rfl) rfl
theorem q1593 : (Jvm.Cond.methodLink "ClogHouseModel" (325 : Nat) ({ cls := "java/lang/Math", name := "min", desc := "(II)I" } : Jvm.MethodName)) ∈ lw_all := lw_g (lw_at lw_m7 78 rfl) rfl
theorem q1594 : (Jvm.Cond.methodLink "ClogHouseModel" (354 : Nat) ({ cls := "ClogHouseModel", name := "washOne", desc := "(I)V" } : Jvm.MethodName)) ∈ lw_all := lw_g (lw_at lw_m7 79 rfl) rfl
theorem q1595 : (Jvm.Cond.privateMethod ({ cls := "ClogHouseModel", name := "washOne", desc := "(I)V" } : Jvm.MethodName)) ∈ lw_tbl := lw_at lw_m7 80 rfl
theorem q1596 : (Jvm.Cond.instanceMethod ({ cls := "ClogHouseModel", name := "washOne", desc := "(I)V" } : Jvm.MethodName)) ∈ lw_all := lw_g (lw_at lw_m7 81 rfl) rfl
theorem q1597 : (Jvm.Cond.code ({ cls := "ClogHouseModel", name := "washOne", desc := "(I)V" } : Jvm.MethodName) prog_21_method_54_code (10 : Nat) (Option.none : Option Jvm.ClassFile.FieldType)) ∈ lw_all := lw_g (lw_at lw_m7 82 rfl) rfl
theorem q1598 : (Jvm.Cond.constantLong "ClogHouseModel" (327 : Nat) (1000 : Int64)) ∈ lw_all := lw_g (lw_at lw_m7 83 rfl) rfl
theorem q1599 : (Jvm.Cond.methodLink "ClogHouseModel" (357 : Nat) ({ cls := "ClogHouseModel", name := "flow", desc := "()V" } : Jvm.MethodName)) ∈ lw_all := lw_g (lw_at lw_m7 84 rfl) rfl
theorem q1600 : (Jvm.Cond.privateMethod ({ cls := "ClogHouseModel", name := "flow", desc := "()V" } : Jvm.MethodName)) ∈ lw_tbl := lw_at lw_m7 85 rfl
theorem q1601 : (Jvm.Cond.instanceMethod ({ cls := "ClogHouseModel", name := "flow", desc := "()V" } : Jvm.MethodName)) ∈ lw_all := lw_g (lw_at lw_m7 86 rfl) rfl
theorem q1602 : (Jvm.Cond.code ({ cls := "ClogHouseModel", name := "flow", desc := "()V" } : Jvm.MethodName) prog_21_method_57_code (6 : Nat) (Option.none : Option Jvm.ClassFile.FieldType)) ∈ lw_all := lw_g (lw_at lw_m7 87 rfl) rfl
theorem q1603 : (Jvm.Cond.methodLink "ClogHouseModel" (333 : Nat) ({ cls := "ClogHouseModel", name := "weightOf", desc := "(I)I" } : Jvm.MethodName)) ∈ lw_all := lw_g (lw_at lw_m7 88 rfl) rfl
theorem q1604 : (Jvm.Cond.privateMethod ({ cls := "ClogHouseModel", name := "weightOf", desc := "(I)I" } : Jvm.MethodName)) ∈ lw_tbl := lw_at lw_m7 89 rfl
theorem q1605 : (Jvm.Cond.instanceMethod ({ cls := "ClogHouseModel", name := "weightOf", desc := "(I)I" } : Jvm.MethodName)) ∈ lw_all := lw_g (lw_at lw_m7 90 rfl) rfl
theorem q1606 : (Jvm.Cond.code ({ cls := "ClogHouseModel", name := "weightOf", desc := "(I)I" } : Jvm.MethodName) prog_21_method_55_code (3 : Nat) (Option.some Jvm.ClassFile.FieldType.int)) ∈ lw_all := lw_g (lw_at lw_m7 91 rfl) rfl
theorem q1607 : (Jvm.Cond.constant "ClogHouseModel" (329 : Nat) (1000000 : Int32)) ∈ lw_all := lw_g (lw_at lw_m7 92 rfl) rfl
theorem q1608 : (Jvm.Cond.methodLink "ClogHouseModel" (336 : Nat) ({ cls := "ClogHouseModel", name := "look", desc := "(I)V" } : Jvm.MethodName)) ∈ lw_all := lw_g (lw_at lw_m7 93 rfl) rfl
theorem q1609 : (Jvm.Cond.privateMethod ({ cls := "ClogHouseModel", name := "look", desc := "(I)V" } : Jvm.MethodName)) ∈ lw_tbl := lw_at lw_m7 94 rfl
theorem q1610 : (Jvm.Cond.instanceMethod ({ cls := "ClogHouseModel", name := "look", desc := "(I)V" } : Jvm.MethodName)) ∈ lw_all := lw_g (lw_at lw_m7 95 rfl) rfl
theorem q1611 : (Jvm.Cond.code ({ cls := "ClogHouseModel", name := "look", desc := "(I)V" } : Jvm.MethodName) prog_21_method_59_code (3 : Nat) (Option.none : Option Jvm.ClassFile.FieldType)) ∈ lw_all := lw_g (lw_at lw_m7 96 rfl) rfl
theorem q1612 : (Jvm.Cond.methodLink "ClogHouseModel" (338 : Nat) ({ cls := "ClogHouseModel", name := "tell", desc := "(III)V" } : Jvm.MethodName)) ∈ lw_all := lw_g (lw_at lw_m7 97 rfl) rfl
theorem q1613 : (Jvm.Cond.privateMethod ({ cls := "ClogHouseModel", name := "tell", desc := "(III)V" } : Jvm.MethodName)) ∈ lw_tbl := lw_at lw_m7 98 rfl
theorem q1614 : (Jvm.Cond.instanceMethod ({ cls := "ClogHouseModel", name := "tell", desc := "(III)V" } : Jvm.MethodName)) ∈ lw_all := lw_g (lw_at lw_m7 99 rfl) rfl
theorem q1615 : (Jvm.Cond.code ({ cls := "ClogHouseModel", name := "tell", desc := "(III)V" } : Jvm.MethodName) prog_21_method_56_code (4 : Nat) (Option.none : Option Jvm.ClassFile.FieldType)) ∈ lw_all := lw_g (lw_at lw_m7 100 rfl) rfl
theorem q1616 : (Jvm.Cond.methodLink "ClogHouseModel" (342 : Nat) ({ cls := "ClogHouseModel", name := "runOne", desc := "(I)V" } : Jvm.MethodName)) ∈ lw_all := lw_g (lw_at lw_m7 101 rfl) rfl
theorem q1617 : (Jvm.Cond.privateMethod ({ cls := "ClogHouseModel", name := "runOne", desc := "(I)V" } : Jvm.MethodName)) ∈ lw_tbl := lw_at lw_m7 102 rfl
theorem q1618 : (Jvm.Cond.instanceMethod ({ cls := "ClogHouseModel", name := "runOne", desc := "(I)V" } : Jvm.MethodName)) ∈ lw_all := lw_g (lw_at lw_m7 103 rfl) rfl
theorem q1619 : (Jvm.Cond.code ({ cls := "ClogHouseModel", name := "runOne", desc := "(I)V" } : Jvm.MethodName) prog_21_method_60_code (6 : Nat) (Option.none : Option Jvm.ClassFile.FieldType)) ∈ lw_all := lw_g (lw_at lw_m7 104 rfl) rfl
theorem q1620 : (Jvm.Cond.methodLink "ClogHouseModel" (345 : Nat) ({ cls := "ClogHouseModel", name := "partOf", desc := "(II)I" } : Jvm.MethodName)) ∈ lw_all := lw_g (lw_at lw_m7 105 rfl) rfl
theorem q1621 : (Jvm.Cond.privateMethod ({ cls := "ClogHouseModel", name := "partOf", desc := "(II)I" } : Jvm.MethodName)) ∈ lw_tbl := lw_at lw_m7 106 rfl
theorem q1622 : (Jvm.Cond.instanceMethod ({ cls := "ClogHouseModel", name := "partOf", desc := "(II)I" } : Jvm.MethodName)) ∈ lw_all := lw_g (lw_at lw_m7 107 rfl) rfl
theorem q1623 : (Jvm.Cond.code ({ cls := "ClogHouseModel", name := "partOf", desc := "(II)I" } : Jvm.MethodName) prog_21_method_58_code (7 : Nat) (Option.some Jvm.ClassFile.FieldType.int)) ∈ lw_all := lw_g (lw_at lw_m7 108 rfl) rfl
theorem q1624 : (Jvm.Cond.methodLink "ClogHouseModel" (348 : Nat) ({ cls := "ClogHouseModel", name := "lead", desc := "(III)I" } : Jvm.MethodName)) ∈ lw_all := lw_g (lw_at lw_m7 109 rfl) rfl
theorem q1625 : (Jvm.Cond.privateMethod ({ cls := "ClogHouseModel", name := "lead", desc := "(III)I" } : Jvm.MethodName)) ∈ lw_tbl := lw_at lw_m7 110 rfl
theorem q1626 : (Jvm.Cond.instanceMethod ({ cls := "ClogHouseModel", name := "lead", desc := "(III)I" } : Jvm.MethodName)) ∈ lw_all := lw_g (lw_at lw_m7 111 rfl) rfl
theorem q1627 : (Jvm.Cond.code ({ cls := "ClogHouseModel", name := "lead", desc := "(III)I" } : Jvm.MethodName) prog_21_method_61_code (8 : Nat) (Option.some Jvm.ClassFile.FieldType.int)) ∈ lw_all := lw_g (lw_at lw_m7 112 rfl) rfl
theorem q1629 : (Jvm.Cond.instanceMethod ({ cls := "ClogHouseModel", name := "hand", desc := "(II)Z" } : Jvm.MethodName)) ∈ lw_all := lw_g (lw_at lw_m7 114 rfl) rfl
theorem q1630 : (Jvm.Cond.selects "ClogHouseModel" ({ cls := "ClogHouseModel", name := "hand", desc := "(II)Z" } : Jvm.MethodName) ({ cls := "ClogHouseModel", name := "hand", desc := "(II)Z" } : Jvm.MethodName)) ∈ lw_all := lw_g (lw_at lw_m7 115 rfl) rfl
theorem q1631 : (Jvm.Cond.code ({ cls := "ClogHouseModel", name := "hand", desc := "(II)Z" } : Jvm.MethodName) prog_21_method_64_code (3 : Nat) (Option.some Jvm.ClassFile.FieldType.boolean)) ∈ lw_all := lw_g (lw_at lw_m7 116 rfl) rfl
theorem q1633 : (Jvm.Cond.instanceMethod ({ cls := "ClogHouseModel", name := "history", desc := "(III)I" } : Jvm.MethodName)) ∈ lw_all := lw_g (lw_at lw_m7 118 rfl) rfl
theorem q1634 : (Jvm.Cond.selects "ClogHouseModel" ({ cls := "ClogHouseModel", name := "history", desc := "(III)I" } : Jvm.MethodName) ({ cls := "ClogHouseModel", name := "history", desc := "(III)I" } : Jvm.MethodName)) ∈ lw_all := lw_g (lw_at lw_m7 119 rfl) rfl
theorem q1635 : (Jvm.Cond.code ({ cls := "ClogHouseModel", name := "history", desc := "(III)I" } : Jvm.MethodName) prog_21_method_65_code (4 : Nat) (Option.some Jvm.ClassFile.FieldType.int)) ∈ lw_all := lw_g (lw_at lw_m7 120 rfl) rfl
theorem q1637 : (Jvm.Cond.instanceMethod ({ cls := "ClogHouseModel", name := "breaks", desc := "(II)I" } : Jvm.MethodName)) ∈ lw_all := lw_g (lw_at lw_m7 122 rfl) rfl
theorem q1638 : (Jvm.Cond.selects "ClogHouseModel" ({ cls := "ClogHouseModel", name := "breaks", desc := "(II)I" } : Jvm.MethodName) ({ cls := "ClogHouseModel", name := "breaks", desc := "(II)I" } : Jvm.MethodName)) ∈ lw_all := lw_g (lw_at lw_m7 123 rfl) rfl
theorem q1639 : (Jvm.Cond.code ({ cls := "ClogHouseModel", name := "breaks", desc := "(II)I" } : Jvm.MethodName) prog_21_method_66_code (6 : Nat) (Option.some Jvm.ClassFile.FieldType.int)) ∈ lw_all := lw_g (lw_at lw_m7 124 rfl) rfl
theorem q1641 : (Jvm.Cond.instanceMethod ({ cls := "ClogHouseModel", name := "ripe", desc := "(I)I" } : Jvm.MethodName)) ∈ lw_all := lw_g (lw_at lw_m7 126 rfl) rfl
theorem q1642 : (Jvm.Cond.selects "ClogHouseModel" ({ cls := "ClogHouseModel", name := "ripe", desc := "(I)I" } : Jvm.MethodName) ({ cls := "ClogHouseModel", name := "ripe", desc := "(I)I" } : Jvm.MethodName)) ∈ lw_all := lw_g (lw_at lw_m7 127 rfl) rfl
theorem q1643 : (Jvm.Cond.code ({ cls := "ClogHouseModel", name := "ripe", desc := "(I)I" } : Jvm.MethodName) prog_21_method_67_code (2 : Nat) (Option.some Jvm.ClassFile.FieldType.int)) ∈ lw_all := lw_g (lw_at lw_m7 128 rfl) rfl
theorem q1645 : (Jvm.Cond.instanceMethod ({ cls := "ClogHouseModel", name := "led", desc := "(II)I" } : Jvm.MethodName)) ∈ lw_all := lw_g (lw_at lw_m7 130 rfl) rfl
theorem q1646 : (Jvm.Cond.selects "ClogHouseModel" ({ cls := "ClogHouseModel", name := "led", desc := "(II)I" } : Jvm.MethodName) ({ cls := "ClogHouseModel", name := "led", desc := "(II)I" } : Jvm.MethodName)) ∈ lw_all := lw_g (lw_at lw_m7 131 rfl) rfl
theorem q1647 : (Jvm.Cond.code ({ cls := "ClogHouseModel", name := "led", desc := "(II)I" } : Jvm.MethodName) prog_21_method_68_code (6 : Nat) (Option.some Jvm.ClassFile.FieldType.int)) ∈ lw_all := lw_g (lw_at lw_m7 132 rfl) rfl
theorem q1649 : (Jvm.Cond.instanceMethod ({ cls := "ClogHouseModel", name := "digest", desc := "()I" } : Jvm.MethodName)) ∈ lw_all := lw_g (lw_at lw_m7 134 rfl) rfl
theorem q1650 : (Jvm.Cond.selects "ClogHouseModel" ({ cls := "ClogHouseModel", name := "digest", desc := "()I" } : Jvm.MethodName) ({ cls := "ClogHouseModel", name := "digest", desc := "()I" } : Jvm.MethodName)) ∈ lw_all := lw_g (lw_at lw_m7 135 rfl) rfl
theorem q1651 : (Jvm.Cond.code ({ cls := "ClogHouseModel", name := "digest", desc := "()I" } : Jvm.MethodName) prog_21_method_69_code (6 : Nat) (Option.some Jvm.ClassFile.FieldType.int)) ∈ lw_all := lw_g (lw_at lw_m7 136 rfl) rfl
theorem q1653 : (Jvm.Cond.instanceMethod ({ cls := "ClogHouseModel", name := "share", desc := "(IIII)J" } : Jvm.MethodName)) ∈ lw_all := lw_g (lw_at lw_m7 138 rfl) rfl
theorem q1654 : (Jvm.Cond.selects "ClogHouseModel" ({ cls := "ClogHouseModel", name := "share", desc := "(IIII)J" } : Jvm.MethodName) ({ cls := "ClogHouseModel", name := "share", desc := "(IIII)J" } : Jvm.MethodName)) ∈ lw_all := lw_g (lw_at lw_m7 139 rfl) rfl
theorem q1655 : (Jvm.Cond.code ({ cls := "ClogHouseModel", name := "share", desc := "(IIII)J" } : Jvm.MethodName) prog_21_method_72_code (11 : Nat) (Option.some Jvm.ClassFile.FieldType.long)) ∈ lw_all := lw_g (lw_at lw_m7 140 rfl) rfl
theorem q1656 : (Jvm.Cond.constantLong "ClogHouseModel" (366 : Nat) (-1 : Int64)) ∈ lw_all := lw_g (lw_at lw_m7 141 rfl) rfl
theorem q1657 : (Jvm.Cond.methodLink "ClogHouseModel" (368 : Nat) ({ cls := "ClogHouseModel", name := "ways", desc := "(II)J" } : Jvm.MethodName)) ∈ lw_all := lw_g (lw_at lw_m7 142 rfl) rfl
theorem q1658 : (Jvm.Cond.static ({ cls := "ClogHouseModel", name := "ways", desc := "(II)J" } : Jvm.MethodName)) ∈ lw_all := lw_g (lw_at lw_m7 143 rfl) rfl
theorem q1659 : (Jvm.Cond.code ({ cls := "ClogHouseModel", name := "ways", desc := "(II)J" } : Jvm.MethodName) prog_21_method_73_code (2 : Nat) (Option.some Jvm.ClassFile.FieldType.long)) ∈ lw_all := lw_g (lw_at lw_m7 144 rfl) rfl
theorem q1660 : (Jvm.Cond.methodLink "ClogHouseModel" (372 : Nat) ({ cls := "ClogHouseModel", name := "choose", desc := "(II)J" } : Jvm.MethodName)) ∈ lw_all := lw_g (lw_at lw_m7 145 rfl) rfl
theorem q1661 : (Jvm.Cond.static ({ cls := "ClogHouseModel", name := "choose", desc := "(II)J" } : Jvm.MethodName)) ∈ lw_all := lw_g (lw_at lw_m7 146 rfl) rfl
theorem q1662 : (Jvm.Cond.code ({ cls := "ClogHouseModel", name := "choose", desc := "(II)J" } : Jvm.MethodName) prog_21_method_70_code (5 : Nat) (Option.some Jvm.ClassFile.FieldType.long)) ∈ lw_all := lw_g (lw_at lw_m7 147 rfl) rfl
theorem q1663 : (Jvm.Cond.methodLink "ClogHouseModel" (363 : Nat) ({ cls := "ClogHouseModel", name := "divisor", desc := "(JJ)J" } : Jvm.MethodName)) ∈ lw_all := lw_g (lw_at lw_m7 148 rfl) rfl
theorem q1664 : (Jvm.Cond.static ({ cls := "ClogHouseModel", name := "divisor", desc := "(JJ)J" } : Jvm.MethodName)) ∈ lw_all := lw_g (lw_at lw_m7 149 rfl) rfl
theorem q1665 : (Jvm.Cond.code ({ cls := "ClogHouseModel", name := "divisor", desc := "(JJ)J" } : Jvm.MethodName) prog_21_method_71_code (4 : Nat) (Option.some Jvm.ClassFile.FieldType.long)) ∈ lw_all := lw_g (lw_at lw_m7 150 rfl) rfl
theorem q1667 : (Jvm.Cond.instanceMethod ({ cls := "ClogHouseModel", name := "drops", desc := "(III)I" } : Jvm.MethodName)) ∈ lw_all := lw_g (lw_at lw_m7 152 rfl) rfl
theorem q1668 : (Jvm.Cond.selects "ClogHouseModel" ({ cls := "ClogHouseModel", name := "drops", desc := "(III)I" } : Jvm.MethodName) ({ cls := "ClogHouseModel", name := "drops", desc := "(III)I" } : Jvm.MethodName)) ∈ lw_all := lw_g (lw_at lw_m7 153 rfl) rfl
theorem q1669 : (Jvm.Cond.code ({ cls := "ClogHouseModel", name := "drops", desc := "(III)I" } : Jvm.MethodName) prog_21_method_74_code (7 : Nat) (Option.some Jvm.ClassFile.FieldType.int)) ∈ lw_all := lw_g (lw_at lw_m7 154 rfl) rfl
theorem q1671 : (Jvm.Cond.instanceMethod ({ cls := "ClogHouseModel", name := "layer", desc := "(II)I" } : Jvm.MethodName)) ∈ lw_all := lw_g (lw_at lw_m7 156 rfl) rfl
theorem q1672 : (Jvm.Cond.selects "ClogHouseModel" ({ cls := "ClogHouseModel", name := "layer", desc := "(II)I" } : Jvm.MethodName) ({ cls := "ClogHouseModel", name := "layer", desc := "(II)I" } : Jvm.MethodName)) ∈ lw_all := lw_g (lw_at lw_m7 157 rfl) rfl
theorem q1673 : (Jvm.Cond.code ({ cls := "ClogHouseModel", name := "layer", desc := "(II)I" } : Jvm.MethodName) prog_21_method_75_code (3 : Nat) (Option.some Jvm.ClassFile.FieldType.int)) ∈ lw_all := lw_g (lw_at lw_m7 158 rfl) rfl
theorem q1675 : (Jvm.Cond.instanceMethod ({ cls := "ClogHouseModel", name := "order", desc := "(II)I" } : Jvm.MethodName)) ∈ lw_all := lw_g (lw_at lw_m7 160 rfl) rfl
theorem q1676 : (Jvm.Cond.selects "ClogHouseModel" ({ cls := "ClogHouseModel", name := "order", desc := "(II)I" } : Jvm.MethodName) ({ cls := "ClogHouseModel", name := "order", desc := "(II)I" } : Jvm.MethodName)) ∈ lw_all := lw_g (lw_at lw_m7 161 rfl) rfl
theorem q1677 : (Jvm.Cond.code ({ cls := "ClogHouseModel", name := "order", desc := "(II)I" } : Jvm.MethodName) prog_21_method_78_code (3 : Nat) (Option.some Jvm.ClassFile.FieldType.int)) ∈ lw_all := lw_g (lw_at lw_m7 162 rfl) rfl
theorem q1678 : (Jvm.Cond.methodLink "ClogHouseModel" (384 : Nat) ({ cls := "ClogHouseModel", name := "arrange", desc := "(III)V" } : Jvm.MethodName)) ∈ lw_all := lw_g (lw_at lw_m7 163 rfl) rfl
theorem q1679 : (Jvm.Cond.privateMethod ({ cls := "ClogHouseModel", name := "arrange", desc := "(III)V" } : Jvm.MethodName)) ∈ lw_tbl := lw_at lw_m7 164 rfl
theorem q1680 : (Jvm.Cond.instanceMethod ({ cls := "ClogHouseModel", name := "arrange", desc := "(III)V" } : Jvm.MethodName)) ∈ lw_all := lw_g (lw_at lw_m7 165 rfl) rfl
theorem q1681 : (Jvm.Cond.code ({ cls := "ClogHouseModel", name := "arrange", desc := "(III)V" } : Jvm.MethodName) prog_21_method_76_code (6 : Nat) (Option.none : Option Jvm.ClassFile.FieldType)) ∈ lw_all := lw_g (lw_at lw_m7 166 rfl) rfl
theorem q1682 : (Jvm.Cond.methodLink "ClogHouseModel" (378 : Nat) ({ cls := "ClogHouseModel", name := "lasts", desc := "(I)I" } : Jvm.MethodName)) ∈ lw_all := lw_g (lw_at lw_m7 167 rfl) rfl
theorem q1683 : (Jvm.Cond.privateMethod ({ cls := "ClogHouseModel", name := "lasts", desc := "(I)I" } : Jvm.MethodName)) ∈ lw_tbl := lw_at lw_m7 168 rfl
theorem q1684 : (Jvm.Cond.instanceMethod ({ cls := "ClogHouseModel", name := "lasts", desc := "(I)I" } : Jvm.MethodName)) ∈ lw_all := lw_g (lw_at lw_m7 169 rfl) rfl
theorem q1685 : (Jvm.Cond.code ({ cls := "ClogHouseModel", name := "lasts", desc := "(I)I" } : Jvm.MethodName) prog_21_method_77_code (7 : Nat) (Option.some Jvm.ClassFile.FieldType.int)) ∈ lw_all := lw_g (lw_at lw_m7 170 rfl) rfl
theorem q1687 : (Jvm.Cond.instanceMethod ({ cls := "ClogHouseModel", name := "cost", desc := "(II)Z" } : Jvm.MethodName)) ∈ lw_all := lw_g (lw_at lw_m7 172 rfl) rfl
theorem q1688 : (Jvm.Cond.selects "ClogHouseModel" ({ cls := "ClogHouseModel", name := "cost", desc := "(II)Z" } : Jvm.MethodName) ({ cls := "ClogHouseModel", name := "cost", desc := "(II)Z" } : Jvm.MethodName)) ∈ lw_all := lw_g (lw_at lw_m7 173 rfl) rfl
theorem q1689 : (Jvm.Cond.code ({ cls := "ClogHouseModel", name := "cost", desc := "(II)Z" } : Jvm.MethodName) prog_21_method_79_code (3 : Nat) (Option.some Jvm.ClassFile.FieldType.boolean)) ∈ lw_all := lw_g (lw_at lw_m7 174 rfl) rfl
theorem q1691 : (Jvm.Cond.instanceMethod ({ cls := "ClogHouseModel", name := "cheapest", desc := "(III)I" } : Jvm.MethodName)) ∈ lw_all := lw_g (lw_at lw_m7 176 rfl) rfl
theorem q1692 : (Jvm.Cond.selects "ClogHouseModel" ({ cls := "ClogHouseModel", name := "cheapest", desc := "(III)I" } : Jvm.MethodName) ({ cls := "ClogHouseModel", name := "cheapest", desc := "(III)I" } : Jvm.MethodName)) ∈ lw_all := lw_g (lw_at lw_m7 177 rfl) rfl
theorem q1693 : (Jvm.Cond.code ({ cls := "ClogHouseModel", name := "cheapest", desc := "(III)I" } : Jvm.MethodName) prog_21_method_81_code (6 : Nat) (Option.some Jvm.ClassFile.FieldType.int)) ∈ lw_all := lw_g (lw_at lw_m7 178 rfl) rfl
theorem q1694 : (Jvm.Cond.methodLink "ClogHouseModel" (390 : Nat) ({ cls := "ClogHouseModel", name := "from", desc := "(II)J" } : Jvm.MethodName)) ∈ lw_all := lw_g (lw_at lw_m7 179 rfl) rfl
theorem q1695 : (Jvm.Cond.privateMethod ({ cls := "ClogHouseModel", name := "from", desc := "(II)J" } : Jvm.MethodName)) ∈ lw_tbl := lw_at lw_m7 180 rfl
theorem q1696 : (Jvm.Cond.instanceMethod ({ cls := "ClogHouseModel", name := "from", desc := "(II)J" } : Jvm.MethodName)) ∈ lw_all := lw_g (lw_at lw_m7 181 rfl) rfl
theorem q1697 : (Jvm.Cond.code ({ cls := "ClogHouseModel", name := "from", desc := "(II)J" } : Jvm.MethodName) prog_21_method_80_code (3 : Nat) (Option.some Jvm.ClassFile.FieldType.long)) ∈ lw_all := lw_g (lw_at lw_m7 182 rfl) rfl
theorem q1699 : (Jvm.Cond.instanceMethod ({ cls := "ClogHouseModel", name := "gauge", desc := "(IIII)I" } : Jvm.MethodName)) ∈ lw_all := lw_g (lw_at lw_m7 184 rfl) rfl
theorem q1700 : (Jvm.Cond.selects "ClogHouseModel" ({ cls := "ClogHouseModel", name := "gauge", desc := "(IIII)I" } : Jvm.MethodName) ({ cls := "ClogHouseModel", name := "gauge", desc := "(IIII)I" } : Jvm.MethodName)) ∈ lw_all := lw_g (lw_at lw_m7 185 rfl) rfl
theorem q1701 : (Jvm.Cond.code ({ cls := "ClogHouseModel", name := "gauge", desc := "(IIII)I" } : Jvm.MethodName) prog_21_method_82_code (5 : Nat) (Option.some Jvm.ClassFile.FieldType.int)) ∈ lw_all := lw_g (lw_at lw_m7 186 rfl) rfl
theorem q1703 : (Jvm.Cond.instanceMethod ({ cls := "ClogHouseModel", name := "back", desc := "(IIII)I" } : Jvm.MethodName)) ∈ lw_all := lw_g (lw_at lw_m7 188 rfl) rfl
theorem q1704 : (Jvm.Cond.selects "ClogHouseModel" ({ cls := "ClogHouseModel", name := "back", desc := "(IIII)I" } : Jvm.MethodName) ({ cls := "ClogHouseModel", name := "back", desc := "(IIII)I" } : Jvm.MethodName)) ∈ lw_all := lw_g (lw_at lw_m7 189 rfl) rfl
theorem q1705 : (Jvm.Cond.code ({ cls := "ClogHouseModel", name := "back", desc := "(IIII)I" } : Jvm.MethodName) prog_21_method_86_code (5 : Nat) (Option.some Jvm.ClassFile.FieldType.int)) ∈ lw_all := lw_g (lw_at lw_m7 190 rfl) rfl
theorem q1706 : (Jvm.Cond.methodLink "ClogHouseModel" (400 : Nat) ({ cls := "ClogHouseModel", name := "isAsked", desc := "(III)Z" } : Jvm.MethodName)) ∈ lw_all := lw_g (lw_at lw_m7 191 rfl) rfl
theorem q1707 : (Jvm.Cond.privateMethod ({ cls := "ClogHouseModel", name := "isAsked", desc := "(III)Z" } : Jvm.MethodName)) ∈ lw_tbl := lw_at lw_m7 192 rfl
theorem q1708 : (Jvm.Cond.instanceMethod ({ cls := "ClogHouseModel", name := "isAsked", desc := "(III)Z" } : Jvm.MethodName)) ∈ lw_all := lw_g (lw_at lw_m7 193 rfl) rfl
theorem q1709 : (Jvm.Cond.code ({ cls := "ClogHouseModel", name := "isAsked", desc := "(III)Z" } : Jvm.MethodName) prog_21_method_85_code (4 : Nat) (Option.some Jvm.ClassFile.FieldType.boolean)) ∈ lw_all := lw_g (lw_at lw_m7 194 rfl) rfl
theorem q1710 : (Jvm.Cond.methodLink "ClogHouseModel" (403 : Nat) ({ cls := "ClogHouseModel", name := "readBack", desc := "(IIII)I" } : Jvm.MethodName)) ∈ lw_all := lw_g (lw_at lw_m7 195 rfl) rfl
theorem q1711 : (Jvm.Cond.privateMethod ({ cls := "ClogHouseModel", name := "readBack", desc := "(IIII)I" } : Jvm.MethodName)) ∈ lw_tbl := lw_at lw_m7 196 rfl
theorem q1712 : (Jvm.Cond.instanceMethod ({ cls := "ClogHouseModel", name := "readBack", desc := "(IIII)I" } : Jvm.MethodName)) ∈ lw_all := lw_g (lw_at lw_m7 197 rfl) rfl
theorem q1713 : (Jvm.Cond.code ({ cls := "ClogHouseModel", name := "readBack", desc := "(IIII)I" } : Jvm.MethodName) prog_21_method_84_code (7 : Nat) (Option.some Jvm.ClassFile.FieldType.int)) ∈ lw_all := lw_g (lw_at lw_m7 198 rfl) rfl
theorem q1714 : (Jvm.Cond.methodLink "ClogHouseModel" (396 : Nat) ({ cls := "ClogHouseModel", name := "agrees", desc := "(IIII)Z" } : Jvm.MethodName)) ∈ lw_all := lw_g (lw_at lw_m7 199 rfl) rfl
theorem q1715 : (Jvm.Cond.privateMethod ({ cls := "ClogHouseModel", name := "agrees", desc := "(IIII)Z" } : Jvm.MethodName)) ∈ lw_tbl := lw_at lw_m7 200 rfl
theorem q1716 : (Jvm.Cond.instanceMethod ({ cls := "ClogHouseModel", name := "agrees", desc := "(IIII)Z" } : Jvm.MethodName)) ∈ lw_all := lw_g (lw_at lw_m7 201 rfl) rfl
theorem q1717 : (Jvm.Cond.code ({ cls := "ClogHouseModel", name := "agrees", desc := "(IIII)Z" } : Jvm.MethodName) prog_21_method_83_code (7 : Nat) (Option.some Jvm.ClassFile.FieldType.boolean)) ∈ lw_all := lw_g (lw_at lw_m7 202 rfl) rfl
theorem q1719 : (Jvm.Cond.instanceMethod ({ cls := "ClogHouseModel", name := "barred", desc := "(III)I" } : Jvm.MethodName)) ∈ lw_all := lw_g (lw_at lw_m7 204 rfl) rfl
theorem q1720 : (Jvm.Cond.selects "ClogHouseModel" ({ cls := "ClogHouseModel", name := "barred", desc := "(III)I" } : Jvm.MethodName) ({ cls := "ClogHouseModel", name := "barred", desc := "(III)I" } : Jvm.MethodName)) ∈ lw_all := lw_g (lw_at lw_m7 205 rfl) rfl
theorem q1721 : (Jvm.Cond.code ({ cls := "ClogHouseModel", name := "barred", desc := "(III)I" } : Jvm.MethodName) prog_21_method_87_code (5 : Nat) (Option.some Jvm.ClassFile.FieldType.int)) ∈ lw_all := lw_g (lw_at lw_m7 206 rfl) rfl
theorem q1723 : (Jvm.Cond.instanceMethod ({ cls := "ClogHouseModel", name := "count", desc := "(I)I" } : Jvm.MethodName)) ∈ lw_all := lw_g (lw_at lw_m7 208 rfl) rfl
theorem q1724 : (Jvm.Cond.selects "ClogHouseModel" ({ cls := "ClogHouseModel", name := "count", desc := "(I)I" } : Jvm.MethodName) ({ cls := "ClogHouseModel", name := "count", desc := "(I)I" } : Jvm.MethodName)) ∈ lw_all := lw_g (lw_at lw_m7 209 rfl) rfl
theorem q1725 : (Jvm.Cond.code ({ cls := "ClogHouseModel", name := "count", desc := "(I)I" } : Jvm.MethodName) prog_21_method_88_code (6 : Nat) (Option.some Jvm.ClassFile.FieldType.int)) ∈ lw_all := lw_g (lw_at lw_m7 210 rfl) rfl
theorem q1732 : (Jvm.Cond.castable "ClogHouseModel" "java/lang/Object") ∈ lw_tbl := lw_at lw_m7 217 rfl
theorem in_X6 : ∀ w ∈ wsX60, w ∈ lw_all := lw_in wsX60 [1249, 1251, 1253, 1255, 1257, 1259, 1261, 1263, 1265, 1267, 1269, 1271, 1273, 1275, 1277, 1279, 1281, 1283, 1285, 1287, 1289, 1291, 1293, 1295, 1297, 1299, 1301, 1303, 1305, 1307, 1309, 1311, 1313, 1315, 1317, 1319, 1321, 1323, 1325, 1327, 1329, 1331, 1333, 1335, 1337, 1339, 1341, 1343, 1345, 1347, 1349, 1351, 1353, 1355, 1357, 1359, 1361, 1363, 1365, 1367, 1369, 1371, 1373] (by decide +kernel) (by decide +kernel)

/-! ClogHouse$Cell -/
def RX7 : String := "ClogHouse$Cell"
def TX7 : u_T := fun k => match k with
  | 0 => ("ClogHouse$Part", "held", "[I", true)
  | 1 => ("ClogHouse$Cell", "first", "I", true)
  | 2 => ("ClogHouse$Cell", "take", "I", true)
  | 3 => ("ClogHouse$Cell", "stuck", "[I", true)
  | _ => ("ClogHouse$Cell", "pore", "I", false)
def tyX7 : Nat → FieldType := fun k => match k with
  | 0 => .array .int
  | 1 => .int
  | 2 => .int
  | 3 => .array .int
  | _ => .int
abbrev wsX70 : List Cond := u_ws RX7 TX7 5
theorem nmX7 : ∀ a, a < 5 → ∀ b, b < 5 → a ≠ b → (TX7 a).2.1 ≠ (TX7 b).2.1 := by decide +kernel
theorem tyX7_ok : ∀ k, k < 5 → parseFieldDescriptor (TX7 k).2.2.1 = some (tyX7 k) := by decide +kernel
abbrev cX7_init : ByteArray := prog_3_method_1_code
def yX7_init : MethodName := ⟨RX7, "<init>", "(II)V"⟩
abbrev cX7_width : ByteArray := prog_3_method_4_code
def yX7_width : MethodName := ⟨RX7, "width", "()I"⟩
abbrev cX7_widthWith : ByteArray := prog_3_method_3_code
def yX7_widthWith : MethodName := ⟨RX7, "widthWith", "(I)I"⟩
abbrev cX7_resist : ByteArray := prog_3_method_5_code
def yX7_resist : MethodName := ⟨RX7, "resist", "()I"⟩
abbrev cX7_resistOf : ByteArray := prog_3_method_2_code
def yX7_resistOf : MethodName := ⟨RX7, "resistOf", "(I)I"⟩
abbrev cX7_empties : ByteArray := prog_3_method_6_code
def yX7_empties : MethodName := ⟨RX7, "empties", "([I)V"⟩
abbrev cX7_wash : ByteArray := prog_3_method_7_code
def yX7_wash : MethodName := ⟨RX7, "wash", "(LClogHouse$Grains;I[I)V"⟩
abbrev cX7_holds : ByteArray := prog_3_method_8_code
def yX7_holds : MethodName := ⟨RX7, "holds", "(LClogHouse$Grains;III)I"⟩
theorem q82 : (Jvm.Cond.initialized "ClogHouse$Cell") ∈ lw_all := lw_g (lw_at lw_m1 7 rfl) rfl
theorem q123 : (Jvm.Cond.fieldLinkNest "ClogHouse$Cell" (57 : Nat) "ClogHouse$Grains" "off" "[I" "ClogHouse") ∈ lw_tbl := lw_at lw_m1 48 rfl
theorem q126 : (Jvm.Cond.fieldLinkNest "ClogHouse$Cell" (52 : Nat) "ClogHouse$Grains" "stay" "[I" "ClogHouse") ∈ lw_tbl := lw_at lw_m1 51 rfl
theorem q158 : (Jvm.Cond.fieldLink "ClogHouse$Cell" (49 : Nat) "ClogHouse$Cell" "held" "[I") ∈ lw_all := lw_g (lw_at lw_m1 83 rfl) rfl
theorem q159 : (Jvm.Cond.sameField "ClogHouse$Cell" "ClogHouse$Part" "held" "[I") ∈ lw_all := lw_g (lw_at lw_m1 84 rfl) rfl
theorem q372 : (Jvm.Cond.instantiable "ClogHouse$Cell" (5 : Nat)) ∈ lw_all := lw_g (lw_at lw_m2 57 rfl) rfl
theorem q374 : (Jvm.Cond.instanceMethod ({ cls := "ClogHouse$Cell", name := "<init>", desc := "(II)V" } : Jvm.MethodName)) ∈ lw_all := lw_g (lw_at lw_m2 59 rfl) rfl
theorem q375 : (Jvm.Cond.code ({ cls := "ClogHouse$Cell", name := "<init>", desc := "(II)V" } : Jvm.MethodName) prog_3_method_1_code (3 : Nat) (Option.none : Option Jvm.ClassFile.FieldType)) ∈ lw_all := lw_g (lw_at lw_m2 60 rfl) rfl
theorem q376 : (Jvm.Cond.methodLinkNest "ClogHouse$Cell" (3 : Nat) ({ cls := "ClogHouse$Part", name := "<init>", desc := "()V" } : Jvm.MethodName) "ClogHouse") ∈ lw_tbl := lw_at lw_m2 61 rfl
theorem q377 : (Jvm.Cond.fieldLink "ClogHouse$Cell" (15 : Nat) "ClogHouse$Cell" "first" "I") ∈ lw_all := lw_g (lw_at lw_m2 62 rfl) rfl
theorem q378 : (Jvm.Cond.fieldLink "ClogHouse$Cell" (22 : Nat) "ClogHouse$Cell" "take" "I") ∈ lw_all := lw_g (lw_at lw_m2 63 rfl) rfl
theorem q380 : (Jvm.Cond.fieldLink "ClogHouse$Cell" (9 : Nat) "ClogHouse$Cell" "stuck" "[I") ∈ lw_all := lw_g (lw_at lw_m2 65 rfl) rfl
theorem q382 : (Jvm.Cond.fieldLink "ClogHouse$Cell" (19 : Nat) "ClogHouse$Cell" "pore" "I") ∈ lw_all := lw_g (lw_at lw_m2 67 rfl) rfl
theorem q385 : (Jvm.Cond.laysFinal "ClogHouse$Cell" "ClogHouse$Cell" "first" "I") ∈ lw_all := lw_g (lw_at lw_m2 70 rfl) rfl
theorem q386 : (Jvm.Cond.soleField "ClogHouse$Cell" "first") ∈ lw_all := lw_g (lw_at lw_m2 71 rfl) rfl
theorem q387 : (Jvm.Cond.laysFinal "ClogHouse$Cell" "ClogHouse$Cell" "take" "I") ∈ lw_all := lw_g (lw_at lw_m2 72 rfl) rfl
theorem q388 : (Jvm.Cond.soleField "ClogHouse$Cell" "take") ∈ lw_all := lw_g (lw_at lw_m2 73 rfl) rfl
theorem q389 : (Jvm.Cond.laysFinal "ClogHouse$Cell" "ClogHouse$Cell" "stuck" "[I") ∈ lw_all := lw_g (lw_at lw_m2 74 rfl) rfl
theorem q390 : (Jvm.Cond.soleField "ClogHouse$Cell" "stuck") ∈ lw_all := lw_g (lw_at lw_m2 75 rfl) rfl
theorem q391 : (Jvm.Cond.lays "ClogHouse$Cell" "ClogHouse$Cell" "pore" "I") ∈ lw_all := lw_g (lw_at lw_m2 76 rfl) rfl
theorem q392 : (Jvm.Cond.soleField "ClogHouse$Cell" "pore") ∈ lw_all := lw_g (lw_at lw_m2 77 rfl) rfl
theorem q393 : (Jvm.Cond.laysFinal "ClogHouse$Cell" "ClogHouse$Part" "held" "[I") ∈ lw_all := lw_g (lw_at lw_m2 78 rfl) rfl
theorem q394 : (Jvm.Cond.superclass "ClogHouse$Cell" "ClogHouse$Part") ∈ lw_all := lw_g (lw_at lw_m2 79 rfl) rfl
theorem q409 : (Jvm.Cond.instanceMethod ({ cls := "ClogHouse$Cell", name := "width", desc := "()I" } : Jvm.MethodName)) ∈ lw_all := lw_g (lw_at lw_m2 94 rfl) rfl
theorem q410 : (Jvm.Cond.selects "ClogHouse$Cell" ({ cls := "ClogHouse$Cell", name := "width", desc := "()I" } : Jvm.MethodName) ({ cls := "ClogHouse$Cell", name := "width", desc := "()I" } : Jvm.MethodName)) ∈ lw_all := lw_g (lw_at lw_m2 95 rfl) rfl
theorem q411 : (Jvm.Cond.code ({ cls := "ClogHouse$Cell", name := "width", desc := "()I" } : Jvm.MethodName) prog_3_method_4_code (1 : Nat) (Option.some Jvm.ClassFile.FieldType.int)) ∈ lw_all := lw_g (lw_at lw_m2 96 rfl) rfl
theorem q413 : (Jvm.Cond.unhidden "ClogHouse$Cell" "all" "()I") ∈ lw_tbl := lw_at lw_m2 98 rfl
theorem q427 : (Jvm.Cond.castable "ClogHouse$Cell" "ClogHouse$Holds") ∈ lw_tbl := lw_at lw_m2 112 rfl
theorem q428 : (Jvm.Cond.selects "ClogHouse$Cell" ({ cls := "ClogHouse$Holds", name := "of", desc := "(I)I" } : Jvm.MethodName) ({ cls := "ClogHouse$Part", name := "of", desc := "(I)I" } : Jvm.MethodName)) ∈ lw_all := lw_g (lw_at lw_m2 113 rfl) rfl
theorem q429 : (Jvm.Cond.unhidden "ClogHouse$Cell" "of" "(I)I") ∈ lw_tbl := lw_at lw_m2 114 rfl
theorem q430 : (Jvm.Cond.methodLink "ClogHouse$Cell" (35 : Nat) ({ cls := "ClogHouse$Cell", name := "widthWith", desc := "(I)I" } : Jvm.MethodName)) ∈ lw_all := lw_g (lw_at lw_m2 115 rfl) rfl
theorem q431 : (Jvm.Cond.instanceMethod ({ cls := "ClogHouse$Cell", name := "widthWith", desc := "(I)I" } : Jvm.MethodName)) ∈ lw_all := lw_g (lw_at lw_m2 116 rfl) rfl
theorem q432 : (Jvm.Cond.selects "ClogHouse$Cell" ({ cls := "ClogHouse$Cell", name := "widthWith", desc := "(I)I" } : Jvm.MethodName) ({ cls := "ClogHouse$Cell", name := "widthWith", desc := "(I)I" } : Jvm.MethodName)) ∈ lw_all := lw_g (lw_at lw_m2 117 rfl) rfl
theorem q433 : (Jvm.Cond.code ({ cls := "ClogHouse$Cell", name := "widthWith", desc := "(I)I" } : Jvm.MethodName) prog_3_method_3_code (2 : Nat) (Option.some Jvm.ClassFile.FieldType.int)) ∈ lw_all := lw_g (lw_at lw_m2 118 rfl) rfl
theorem q434 : (Jvm.Cond.methodLink "ClogHouse$Cell" (25 : Nat) ({ cls := "java/lang/Math", name := "max", desc := "(II)I" } : Jvm.MethodName)) ∈ lw_all := lw_g (lw_at lw_m2 119 rfl) rfl
theorem q438 : (Jvm.Cond.instanceMethod ({ cls := "ClogHouse$Cell", name := "resist", desc := "()I" } : Jvm.MethodName)) ∈ lw_all := lw_g (lw_at lw_m2 123 rfl) rfl
theorem q439 : (Jvm.Cond.selects "ClogHouse$Cell" ({ cls := "ClogHouse$Cell", name := "resist", desc := "()I" } : Jvm.MethodName) ({ cls := "ClogHouse$Cell", name := "resist", desc := "()I" } : Jvm.MethodName)) ∈ lw_all := lw_g (lw_at lw_m2 124 rfl) rfl
theorem q440 : (Jvm.Cond.code ({ cls := "ClogHouse$Cell", name := "resist", desc := "()I" } : Jvm.MethodName) prog_3_method_5_code (1 : Nat) (Option.some Jvm.ClassFile.FieldType.int)) ∈ lw_all := lw_g (lw_at lw_m2 125 rfl) rfl
theorem q441 : (Jvm.Cond.methodLink "ClogHouse$Cell" (39 : Nat) ({ cls := "ClogHouse$Cell", name := "width", desc := "()I" } : Jvm.MethodName)) ∈ lw_all := lw_g (lw_at lw_m2 126 rfl) rfl
theorem q442 : (Jvm.Cond.methodLink "ClogHouse$Cell" (42 : Nat) ({ cls := "ClogHouse$Cell", name := "resistOf", desc := "(I)I" } : Jvm.MethodName)) ∈ lw_all := lw_g (lw_at lw_m2 127 rfl) rfl
theorem q443 : (Jvm.Cond.static ({ cls := "ClogHouse$Cell", name := "resistOf", desc := "(I)I" } : Jvm.MethodName)) ∈ lw_all := lw_g (lw_at lw_m2 128 rfl) rfl
theorem q444 : (Jvm.Cond.code ({ cls := "ClogHouse$Cell", name := "resistOf", desc := "(I)I" } : Jvm.MethodName) prog_3_method_2_code (1 : Nat) (Option.some Jvm.ClassFile.FieldType.int)) ∈ lw_all := lw_g (lw_at lw_m2 129 rfl) rfl
theorem q982 : (Jvm.Cond.instanceMethod ({ cls := "ClogHouse$Cell", name := "empties", desc := "([I)V" } : Jvm.MethodName)) ∈ lw_all := lw_g (lw_at lw_m4 187 rfl) rfl
theorem q983 : (Jvm.Cond.selects "ClogHouse$Cell" ({ cls := "ClogHouse$Cell", name := "empties", desc := "([I)V" } : Jvm.MethodName) ({ cls := "ClogHouse$Cell", name := "empties", desc := "([I)V" } : Jvm.MethodName)) ∈ lw_all := lw_g (lw_at lw_m4 188 rfl) rfl
theorem q984 : (Jvm.Cond.code ({ cls := "ClogHouse$Cell", name := "empties", desc := "([I)V" } : Jvm.MethodName) prog_3_method_6_code (3 : Nat) (Option.none : Option Jvm.ClassFile.FieldType)) ∈ lw_all := lw_g (lw_at lw_m4 189 rfl) rfl
theorem q985 : (Jvm.Cond.methodLink "ClogHouse$Cell" (45 : Nat) ({ cls := "ClogHouse$Part", name := "empties", desc := "([I)V" } : Jvm.MethodName)) ∈ lw_all := lw_g (lw_at lw_m4 190 rfl) rfl
theorem q991 : (Jvm.Cond.instanceMethod ({ cls := "ClogHouse$Cell", name := "wash", desc := "(LClogHouse$Grains;I[I)V" } : Jvm.MethodName)) ∈ lw_all := lw_g (lw_at lw_m4 196 rfl) rfl
theorem q992 : (Jvm.Cond.selects "ClogHouse$Cell" ({ cls := "ClogHouse$Cell", name := "wash", desc := "(LClogHouse$Grains;I[I)V" } : Jvm.MethodName) ({ cls := "ClogHouse$Cell", name := "wash", desc := "(LClogHouse$Grains;I[I)V" } : Jvm.MethodName)) ∈ lw_all := lw_g (lw_at lw_m4 197 rfl) rfl
theorem q993 : (Jvm.Cond.code ({ cls := "ClogHouse$Cell", name := "wash", desc := "(LClogHouse$Grains;I[I)V" } : Jvm.MethodName) prog_3_method_7_code (8 : Nat) (Option.none : Option Jvm.ClassFile.FieldType)) ∈ lw_all := lw_g (lw_at lw_m4 198 rfl) rfl
theorem q1013 : (Jvm.Cond.instanceMethod ({ cls := "ClogHouse$Cell", name := "holds", desc := "(LClogHouse$Grains;III)I" } : Jvm.MethodName)) ∈ lw_all := lw_g (lw_at lw_m4 218 rfl) rfl
theorem q1014 : (Jvm.Cond.selects "ClogHouse$Cell" ({ cls := "ClogHouse$Cell", name := "holds", desc := "(LClogHouse$Grains;III)I" } : Jvm.MethodName) ({ cls := "ClogHouse$Cell", name := "holds", desc := "(LClogHouse$Grains;III)I" } : Jvm.MethodName)) ∈ lw_all := lw_g (lw_at lw_m4 219 rfl) rfl
theorem q1015 : (Jvm.Cond.code ({ cls := "ClogHouse$Cell", name := "holds", desc := "(LClogHouse$Grains;III)I" } : Jvm.MethodName) prog_3_method_8_code (6 : Nat) (Option.some Jvm.ClassFile.FieldType.int)) ∈ lw_all := lw_g (lw_at lw_m4 220 rfl) rfl
theorem q1016 : (Jvm.Cond.methodLink "ClogHouse$Cell" (60 : Nat) ({ cls := "ClogHouse$Grains", name := "share", desc := "(II)I" } : Jvm.MethodName)) ∈ lw_all := lw_g (lw_at lw_m4 221 rfl) rfl
theorem q1020 : (Jvm.Cond.constantLong "ClogHouse$Cell" (63 : Nat) (1000 : Int64)) ∈ lw_all := lw_g (lw_at lw_m4 225 rfl) rfl
theorem q1134 : (Jvm.Cond.sameMethod "ClogHouse$Cell" "ClogHouse$Part" "of" "(I)I") ∈ lw_all := lw_g (lw_at lw_m5 99 rfl) rfl
theorem q1135 : (Jvm.Cond.selects "ClogHouse$Cell" ({ cls := "ClogHouse$Cell", name := "of", desc := "(I)I" } : Jvm.MethodName) ({ cls := "ClogHouse$Part", name := "of", desc := "(I)I" } : Jvm.MethodName)) ∈ lw_all := lw_g (lw_at lw_m5 100 rfl) rfl
theorem q1733 : (Jvm.Cond.castable "ClogHouse$Cell" "java/lang/Object") ∈ lw_tbl := lw_at lw_m7 218 rfl
theorem in_X7 : ∀ w ∈ wsX70, w ∈ lw_all := lw_in wsX70 [393, 385, 387, 389, 391] (by decide +kernel) (by decide +kernel)

/-! ClogHouse$Reader -/
def RX8 : String := "ClogHouse$Reader"
def TX8 : u_T := fun k => match k with
  | 0 => ("ClogHouse$Reader", "text", "[B", true)
  | 1 => ("ClogHouse$Reader", "length", "I", true)
  | 2 => ("ClogHouse$Reader", "at", "I", false)
  | _ => ("ClogHouse$Reader", "deep", "I", false)
def tyX8 : Nat → FieldType := fun k => match k with
  | 0 => .array .byte
  | 1 => .int
  | 2 => .int
  | _ => .int
abbrev wsX80 : List Cond := u_ws RX8 TX8 4
theorem nmX8 : ∀ a, a < 4 → ∀ b, b < 4 → a ≠ b → (TX8 a).2.1 ≠ (TX8 b).2.1 := by decide +kernel
theorem tyX8_ok : ∀ k, k < 4 → parseFieldDescriptor (TX8 k).2.2.1 = some (tyX8 k) := by decide +kernel
abbrev cX8_init : ByteArray := prog_16_method_1_code
def yX8_init : MethodName := ⟨RX8, "<init>", "([BI)V"⟩
abbrev cX8_whole : ByteArray := prog_16_method_6_code
def yX8_whole : MethodName := ⟨RX8, "whole", "()LClogHouse$Clause;"⟩
abbrev cX8_clause : ByteArray := prog_16_method_8_code
def yX8_clause : MethodName := ⟨RX8, "clause", "()LClogHouse$Clause;"⟩
abbrev cX8_look : ByteArray := prog_16_method_2_code
def yX8_look : MethodName := ⟨RX8, "look", "()I"⟩
abbrev cX8_take : ByteArray := prog_16_method_3_code
def yX8_take : MethodName := ⟨RX8, "take", "(Z)I"⟩
abbrev cX8_condition : ByteArray := prog_16_method_10_code
def yX8_condition : MethodName := ⟨RX8, "condition", "(LClogHouse$Sum;)LClogHouse$Condition;"⟩
abbrev cX8_part : ByteArray := prog_16_method_11_code
def yX8_part : MethodName := ⟨RX8, "part", "(LClogHouse$Sum;)LClogHouse$Condition;"⟩
abbrev cX8_unit : ByteArray := prog_16_method_12_code
def yX8_unit : MethodName := ⟨RX8, "unit", "(LClogHouse$Sum;)LClogHouse$Condition;"⟩
abbrev cX8_goIn : ByteArray := prog_16_method_4_code
def yX8_goIn : MethodName := ⟨RX8, "goIn", "()V"⟩
abbrev cX8_goOut : ByteArray := prog_16_method_5_code
def yX8_goOut : MethodName := ⟨RX8, "goOut", "(I)V"⟩
abbrev cX8_sum : ByteArray := prog_16_method_13_code
def yX8_sum : MethodName := ⟨RX8, "sum", "()LClogHouse$Sum;"⟩
abbrev cX8_term : ByteArray := prog_16_method_14_code
def yX8_term : MethodName := ⟨RX8, "term", "()LClogHouse$Sum;"⟩
abbrev cX8_atom : ByteArray := prog_16_method_15_code
def yX8_atom : MethodName := ⟨RX8, "atom", "()LClogHouse$Sum;"⟩
abbrev cX8_number : ByteArray := prog_16_method_17_code
def yX8_number : MethodName := ⟨RX8, "number", "()I"⟩
abbrev cX8_isDigit : ByteArray := prog_16_method_16_code
def yX8_isDigit : MethodName := ⟨RX8, "isDigit", "()Z"⟩
abbrev cX8_isSign : ByteArray := prog_16_method_7_code
def yX8_isSign : MethodName := ⟨RX8, "isSign", "(I)Z"⟩
abbrev cX8_with : ByteArray := prog_16_method_9_code
def yX8_with : MethodName := ⟨RX8, "with", "(ILClogHouse$Condition;)LClogHouse$Clause;"⟩
theorem q84 : (Jvm.Cond.initialized "ClogHouse$Reader") ∈ lw_all := lw_g (lw_at lw_m1 9 rfl) rfl
theorem q510 : (Jvm.Cond.instantiable "ClogHouse$Reader" (4 : Nat)) ∈ lw_all := lw_g (lw_at lw_m2 195 rfl) rfl
theorem q512 : (Jvm.Cond.instanceMethod ({ cls := "ClogHouse$Reader", name := "<init>", desc := "([BI)V" } : Jvm.MethodName)) ∈ lw_all := lw_g (lw_at lw_m2 197 rfl) rfl
theorem q513 : (Jvm.Cond.code ({ cls := "ClogHouse$Reader", name := "<init>", desc := "([BI)V" } : Jvm.MethodName) prog_16_method_1_code (3 : Nat) (Option.none : Option Jvm.ClassFile.FieldType)) ∈ lw_all := lw_g (lw_at lw_m2 198 rfl) rfl
theorem q514 : (Jvm.Cond.methodLink "ClogHouse$Reader" (3 : Nat) ({ cls := "java/lang/Object", name := "<init>", desc := "()V" } : Jvm.MethodName)) ∈ lw_all := lw_g (lw_at lw_m2 199 rfl) rfl
theorem q515 : (Jvm.Cond.fieldLink "ClogHouse$Reader" (9 : Nat) "ClogHouse$Reader" "text" "[B") ∈ lw_all := lw_g (lw_at lw_m2 200 rfl) rfl
theorem q516 : (Jvm.Cond.fieldLink "ClogHouse$Reader" (15 : Nat) "ClogHouse$Reader" "length" "I") ∈ lw_all := lw_g (lw_at lw_m2 201 rfl) rfl
theorem q517 : (Jvm.Cond.fieldLink "ClogHouse$Reader" (19 : Nat) "ClogHouse$Reader" "at" "I") ∈ lw_all := lw_g (lw_at lw_m2 202 rfl) rfl
theorem q518 : (Jvm.Cond.fieldLink "ClogHouse$Reader" (27 : Nat) "ClogHouse$Reader" "deep" "I") ∈ lw_all := lw_g (lw_at lw_m2 203 rfl) rfl
theorem q519 : (Jvm.Cond.laysFinal "ClogHouse$Reader" "ClogHouse$Reader" "text" "[B") ∈ lw_all := lw_g (lw_at lw_m2 204 rfl) rfl
theorem q520 : (Jvm.Cond.soleField "ClogHouse$Reader" "text") ∈ lw_all := lw_g (lw_at lw_m2 205 rfl) rfl
theorem q521 : (Jvm.Cond.laysFinal "ClogHouse$Reader" "ClogHouse$Reader" "length" "I") ∈ lw_all := lw_g (lw_at lw_m2 206 rfl) rfl
theorem q522 : (Jvm.Cond.soleField "ClogHouse$Reader" "length") ∈ lw_all := lw_g (lw_at lw_m2 207 rfl) rfl
theorem q523 : (Jvm.Cond.lays "ClogHouse$Reader" "ClogHouse$Reader" "at" "I") ∈ lw_all := lw_g (lw_at lw_m2 208 rfl) rfl
theorem q524 : (Jvm.Cond.soleField "ClogHouse$Reader" "at") ∈ lw_all := lw_g (lw_at lw_m2 209 rfl) rfl
theorem q525 : (Jvm.Cond.lays "ClogHouse$Reader" "ClogHouse$Reader" "deep" "I") ∈ lw_all := lw_g (lw_at lw_m2 210 rfl) rfl
theorem q526 : (Jvm.Cond.soleField "ClogHouse$Reader" "deep") ∈ lw_all := lw_g (lw_at lw_m2 211 rfl) rfl
theorem q527 : (Jvm.Cond.superclass "ClogHouse$Reader" "java/lang/Object") ∈ lw_all := lw_g (lw_at lw_m2 212 rfl) rfl
theorem q529 : (Jvm.Cond.instanceMethod ({ cls := "ClogHouse$Reader", name := "whole", desc := "()LClogHouse$Clause;" } : Jvm.MethodName)) ∈ lw_all := lw_g (lw_at lw_m2 214 rfl) rfl
theorem q530 : (Jvm.Cond.selects "ClogHouse$Reader" ({ cls := "ClogHouse$Reader", name := "whole", desc := "()LClogHouse$Clause;" } : Jvm.MethodName) ({ cls := "ClogHouse$Reader", name := "whole", desc := "()LClogHouse$Clause;" } : Jvm.MethodName)) ∈ lw_all := lw_g (lw_at lw_m2 215 rfl) rfl
theorem q531 : (Jvm.Cond.code ({ cls := "ClogHouse$Reader", name := "whole", desc := "()LClogHouse$Clause;" } : Jvm.MethodName) prog_16_method_6_code (4 : Nat) (Option.some (Jvm.ClassFile.FieldType.object "ClogHouse$Clause"))) ∈ lw_all := lw_g (lw_at lw_m2 216 rfl) rfl
theorem q532 : (Jvm.Cond.methodLink "ClogHouse$Reader" (38 : Nat) ({ cls := "ClogHouse$Reader", name := "clause", desc := "()LClogHouse$Clause;" } : Jvm.MethodName)) ∈ lw_all := lw_g (lw_at lw_m2 217 rfl) rfl
theorem q533 : (Jvm.Cond.privateMethod ({ cls := "ClogHouse$Reader", name := "clause", desc := "()LClogHouse$Clause;" } : Jvm.MethodName)) ∈ lw_tbl := lw_at lw_m2 218 rfl
theorem q534 : (Jvm.Cond.instanceMethod ({ cls := "ClogHouse$Reader", name := "clause", desc := "()LClogHouse$Clause;" } : Jvm.MethodName)) ∈ lw_all := lw_g (lw_at lw_m2 219 rfl) rfl
theorem q535 : (Jvm.Cond.code ({ cls := "ClogHouse$Reader", name := "clause", desc := "()LClogHouse$Clause;" } : Jvm.MethodName) prog_16_method_8_code (5 : Nat) (Option.some (Jvm.ClassFile.FieldType.object "ClogHouse$Clause"))) ∈ lw_all := lw_g (lw_at lw_m2 220 rfl) rfl
theorem q536 : (Jvm.Cond.methodLink "ClogHouse$Reader" (34 : Nat) ({ cls := "ClogHouse$Reader", name := "look", desc := "()I" } : Jvm.MethodName)) ∈ lw_all := lw_g (lw_at lw_m2 221 rfl) rfl
theorem q537 : (Jvm.Cond.privateMethod ({ cls := "ClogHouse$Reader", name := "look", desc := "()I" } : Jvm.MethodName)) ∈ lw_tbl := lw_at lw_m2 222 rfl
theorem q538 : (Jvm.Cond.instanceMethod ({ cls := "ClogHouse$Reader", name := "look", desc := "()I" } : Jvm.MethodName)) ∈ lw_all := lw_g (lw_at lw_m2 223 rfl) rfl
theorem q539 : (Jvm.Cond.code ({ cls := "ClogHouse$Reader", name := "look", desc := "()I" } : Jvm.MethodName) prog_16_method_2_code (1 : Nat) (Option.some Jvm.ClassFile.FieldType.int)) ∈ lw_all := lw_g (lw_at lw_m2 224 rfl) rfl
theorem q540 : (Jvm.Cond.stringRef "ClogHouse$Reader" (48 : Nat) "wrcu") ∈ lw_tbl := lw_at lw_m2 225 rfl
theorem q541 : (Jvm.Cond.methodLink "ClogHouse$Reader" (50 : Nat) ({ cls := "java/lang/String", name := "indexOf", desc := "(I)I" } : Jvm.MethodName)) ∈ lw_all := lw_g (lw_at lw_m2 226 rfl) rfl
theorem q625 : (Jvm.Cond.methodLink "ClogHouse$Reader" (30 : Nat) ({ cls := "ClogHouse$Reader", name := "take", desc := "(Z)I" } : Jvm.MethodName)) ∈ lw_all := lw_g (lw_at lw_m3 70 rfl) rfl
theorem q626 : (Jvm.Cond.privateMethod ({ cls := "ClogHouse$Reader", name := "take", desc := "(Z)I" } : Jvm.MethodName)) ∈ lw_tbl := lw_at lw_m3 71 rfl
theorem q627 : (Jvm.Cond.instanceMethod ({ cls := "ClogHouse$Reader", name := "take", desc := "(Z)I" } : Jvm.MethodName)) ∈ lw_all := lw_g (lw_at lw_m3 72 rfl) rfl
theorem q628 : (Jvm.Cond.code ({ cls := "ClogHouse$Reader", name := "take", desc := "(Z)I" } : Jvm.MethodName) prog_16_method_3_code (2 : Nat) (Option.some Jvm.ClassFile.FieldType.int)) ∈ lw_all := lw_g (lw_at lw_m3 73 rfl) rfl
theorem q629 : (Jvm.Cond.classLink "ClogHouse$Reader" (22 : Nat) "ClogHouse$Wrong") ∈ lw_all := lw_g (lw_at lw_m3 74 rfl) rfl
theorem q669 : (Jvm.Cond.methodLink "ClogHouse$Reader" (24 : Nat) ({ cls := "ClogHouse$Wrong", name := "<init>", desc := "(I)V" } : Jvm.MethodName)) ∈ lw_all := lw_g (lw_at lw_m3 114 rfl) rfl
theorem q698 : (Jvm.Cond.methodLink "ClogHouse$Reader" (56 : Nat) ({ cls := "ClogHouse$Reader", name := "condition", desc := "(LClogHouse$Sum;)LClogHouse$Condition;" } : Jvm.MethodName)) ∈ lw_all := lw_g (lw_at lw_m3 143 rfl) rfl
theorem q699 : (Jvm.Cond.privateMethod ({ cls := "ClogHouse$Reader", name := "condition", desc := "(LClogHouse$Sum;)LClogHouse$Condition;" } : Jvm.MethodName)) ∈ lw_tbl := lw_at lw_m3 144 rfl
theorem q700 : (Jvm.Cond.instanceMethod ({ cls := "ClogHouse$Reader", name := "condition", desc := "(LClogHouse$Sum;)LClogHouse$Condition;" } : Jvm.MethodName)) ∈ lw_all := lw_g (lw_at lw_m3 145 rfl) rfl
theorem q701 : (Jvm.Cond.code ({ cls := "ClogHouse$Reader", name := "condition", desc := "(LClogHouse$Sum;)LClogHouse$Condition;" } : Jvm.MethodName) prog_16_method_10_code (4 : Nat) (Option.some (Jvm.ClassFile.FieldType.object "ClogHouse$Condition"))) ∈ lw_all := lw_g (lw_at lw_m3 146 rfl) rfl
theorem q702 : (Jvm.Cond.classLink "ClogHouse$Reader" (75 : Nat) "ClogHouse$Several") ∈ lw_all := lw_g (lw_at lw_m3 147 rfl) rfl
theorem q704 : (Jvm.Cond.methodLink "ClogHouse$Reader" (77 : Nat) ({ cls := "ClogHouse$Reader", name := "part", desc := "(LClogHouse$Sum;)LClogHouse$Condition;" } : Jvm.MethodName)) ∈ lw_all := lw_g (lw_at lw_m3 149 rfl) rfl
theorem q705 : (Jvm.Cond.privateMethod ({ cls := "ClogHouse$Reader", name := "part", desc := "(LClogHouse$Sum;)LClogHouse$Condition;" } : Jvm.MethodName)) ∈ lw_tbl := lw_at lw_m3 150 rfl
theorem q706 : (Jvm.Cond.instanceMethod ({ cls := "ClogHouse$Reader", name := "part", desc := "(LClogHouse$Sum;)LClogHouse$Condition;" } : Jvm.MethodName)) ∈ lw_all := lw_g (lw_at lw_m3 151 rfl) rfl
theorem q707 : (Jvm.Cond.code ({ cls := "ClogHouse$Reader", name := "part", desc := "(LClogHouse$Sum;)LClogHouse$Condition;" } : Jvm.MethodName) prog_16_method_11_code (4 : Nat) (Option.some (Jvm.ClassFile.FieldType.object "ClogHouse$Condition"))) ∈ lw_all := lw_g (lw_at lw_m3 152 rfl) rfl
theorem q708 : (Jvm.Cond.methodLink "ClogHouse$Reader" (86 : Nat) ({ cls := "ClogHouse$Reader", name := "unit", desc := "(LClogHouse$Sum;)LClogHouse$Condition;" } : Jvm.MethodName)) ∈ lw_all := lw_g (lw_at lw_m3 153 rfl) rfl
theorem q709 : (Jvm.Cond.privateMethod ({ cls := "ClogHouse$Reader", name := "unit", desc := "(LClogHouse$Sum;)LClogHouse$Condition;" } : Jvm.MethodName)) ∈ lw_tbl := lw_at lw_m3 154 rfl
theorem q710 : (Jvm.Cond.instanceMethod ({ cls := "ClogHouse$Reader", name := "unit", desc := "(LClogHouse$Sum;)LClogHouse$Condition;" } : Jvm.MethodName)) ∈ lw_all := lw_g (lw_at lw_m3 155 rfl) rfl
theorem q711 : (Jvm.Cond.code ({ cls := "ClogHouse$Reader", name := "unit", desc := "(LClogHouse$Sum;)LClogHouse$Condition;" } : Jvm.MethodName) prog_16_method_12_code (5 : Nat) (Option.some (Jvm.ClassFile.FieldType.object "ClogHouse$Condition"))) ∈ lw_all := lw_g (lw_at lw_m3 156 rfl) rfl
theorem q712 : (Jvm.Cond.methodLink "ClogHouse$Reader" (89 : Nat) ({ cls := "ClogHouse$Reader", name := "goIn", desc := "()V" } : Jvm.MethodName)) ∈ lw_all := lw_g (lw_at lw_m3 157 rfl) rfl
theorem q713 : (Jvm.Cond.privateMethod ({ cls := "ClogHouse$Reader", name := "goIn", desc := "()V" } : Jvm.MethodName)) ∈ lw_tbl := lw_at lw_m3 158 rfl
theorem q714 : (Jvm.Cond.instanceMethod ({ cls := "ClogHouse$Reader", name := "goIn", desc := "()V" } : Jvm.MethodName)) ∈ lw_all := lw_g (lw_at lw_m3 159 rfl) rfl
theorem q715 : (Jvm.Cond.code ({ cls := "ClogHouse$Reader", name := "goIn", desc := "()V" } : Jvm.MethodName) prog_16_method_4_code (2 : Nat) (Option.none : Option Jvm.ClassFile.FieldType)) ∈ lw_all := lw_g (lw_at lw_m3 160 rfl) rfl
theorem q716 : (Jvm.Cond.classLink "ClogHouse$Reader" (92 : Nat) "ClogHouse$Not") ∈ lw_all := lw_g (lw_at lw_m3 161 rfl) rfl
theorem q718 : (Jvm.Cond.methodLink "ClogHouse$Reader" (94 : Nat) ({ cls := "ClogHouse$Not", name := "<init>", desc := "(LClogHouse$Condition;)V" } : Jvm.MethodName)) ∈ lw_all := lw_g (lw_at lw_m3 163 rfl) rfl
theorem q726 : (Jvm.Cond.methodLink "ClogHouse$Reader" (97 : Nat) ({ cls := "ClogHouse$Reader", name := "goOut", desc := "(I)V" } : Jvm.MethodName)) ∈ lw_all := lw_g (lw_at lw_m3 171 rfl) rfl
theorem q727 : (Jvm.Cond.privateMethod ({ cls := "ClogHouse$Reader", name := "goOut", desc := "(I)V" } : Jvm.MethodName)) ∈ lw_tbl := lw_at lw_m3 172 rfl
theorem q728 : (Jvm.Cond.instanceMethod ({ cls := "ClogHouse$Reader", name := "goOut", desc := "(I)V" } : Jvm.MethodName)) ∈ lw_all := lw_g (lw_at lw_m3 173 rfl) rfl
theorem q729 : (Jvm.Cond.code ({ cls := "ClogHouse$Reader", name := "goOut", desc := "(I)V" } : Jvm.MethodName) prog_16_method_5_code (3 : Nat) (Option.none : Option Jvm.ClassFile.FieldType)) ∈ lw_all := lw_g (lw_at lw_m3 174 rfl) rfl
theorem q730 : (Jvm.Cond.methodLink "ClogHouse$Reader" (64 : Nat) ({ cls := "ClogHouse$Reader", name := "sum", desc := "()LClogHouse$Sum;" } : Jvm.MethodName)) ∈ lw_all := lw_g (lw_at lw_m3 175 rfl) rfl
theorem q731 : (Jvm.Cond.privateMethod ({ cls := "ClogHouse$Reader", name := "sum", desc := "()LClogHouse$Sum;" } : Jvm.MethodName)) ∈ lw_tbl := lw_at lw_m3 176 rfl
theorem q732 : (Jvm.Cond.instanceMethod ({ cls := "ClogHouse$Reader", name := "sum", desc := "()LClogHouse$Sum;" } : Jvm.MethodName)) ∈ lw_all := lw_g (lw_at lw_m3 177 rfl) rfl
theorem q733 : (Jvm.Cond.code ({ cls := "ClogHouse$Reader", name := "sum", desc := "()LClogHouse$Sum;" } : Jvm.MethodName) prog_16_method_13_code (3 : Nat) (Option.some (Jvm.ClassFile.FieldType.object "ClogHouse$Sum"))) ∈ lw_all := lw_g (lw_at lw_m3 178 rfl) rfl
theorem q734 : (Jvm.Cond.classLink "ClogHouse$Reader" (105 : Nat) "ClogHouse$Chain") ∈ lw_all := lw_g (lw_at lw_m3 179 rfl) rfl
theorem q736 : (Jvm.Cond.methodLink "ClogHouse$Reader" (107 : Nat) ({ cls := "ClogHouse$Reader", name := "term", desc := "()LClogHouse$Sum;" } : Jvm.MethodName)) ∈ lw_all := lw_g (lw_at lw_m3 181 rfl) rfl
theorem q737 : (Jvm.Cond.privateMethod ({ cls := "ClogHouse$Reader", name := "term", desc := "()LClogHouse$Sum;" } : Jvm.MethodName)) ∈ lw_tbl := lw_at lw_m3 182 rfl
theorem q738 : (Jvm.Cond.instanceMethod ({ cls := "ClogHouse$Reader", name := "term", desc := "()LClogHouse$Sum;" } : Jvm.MethodName)) ∈ lw_all := lw_g (lw_at lw_m3 183 rfl) rfl
theorem q739 : (Jvm.Cond.code ({ cls := "ClogHouse$Reader", name := "term", desc := "()LClogHouse$Sum;" } : Jvm.MethodName) prog_16_method_14_code (3 : Nat) (Option.some (Jvm.ClassFile.FieldType.object "ClogHouse$Sum"))) ∈ lw_all := lw_g (lw_at lw_m3 184 rfl) rfl
theorem q740 : (Jvm.Cond.methodLink "ClogHouse$Reader" (117 : Nat) ({ cls := "ClogHouse$Reader", name := "atom", desc := "()LClogHouse$Sum;" } : Jvm.MethodName)) ∈ lw_all := lw_g (lw_at lw_m3 185 rfl) rfl
theorem q741 : (Jvm.Cond.privateMethod ({ cls := "ClogHouse$Reader", name := "atom", desc := "()LClogHouse$Sum;" } : Jvm.MethodName)) ∈ lw_tbl := lw_at lw_m3 186 rfl
theorem q742 : (Jvm.Cond.instanceMethod ({ cls := "ClogHouse$Reader", name := "atom", desc := "()LClogHouse$Sum;" } : Jvm.MethodName)) ∈ lw_all := lw_g (lw_at lw_m3 187 rfl) rfl
theorem q743 : (Jvm.Cond.code ({ cls := "ClogHouse$Reader", name := "atom", desc := "()LClogHouse$Sum;" } : Jvm.MethodName) prog_16_method_15_code (3 : Nat) (Option.some (Jvm.ClassFile.FieldType.object "ClogHouse$Sum"))) ∈ lw_all := lw_g (lw_at lw_m3 188 rfl) rfl
theorem q744 : (Jvm.Cond.stringRef "ClogHouse$Reader" (120 : Nat) "phoink") ∈ lw_tbl := lw_at lw_m3 189 rfl
theorem q745 : (Jvm.Cond.classLink "ClogHouse$Reader" (122 : Nat) "ClogHouse$Plain") ∈ lw_all := lw_g (lw_at lw_m3 190 rfl) rfl
theorem q747 : (Jvm.Cond.methodLink "ClogHouse$Reader" (124 : Nat) ({ cls := "ClogHouse$Reader", name := "number", desc := "()I" } : Jvm.MethodName)) ∈ lw_all := lw_g (lw_at lw_m3 192 rfl) rfl
theorem q748 : (Jvm.Cond.privateMethod ({ cls := "ClogHouse$Reader", name := "number", desc := "()I" } : Jvm.MethodName)) ∈ lw_tbl := lw_at lw_m3 193 rfl
theorem q749 : (Jvm.Cond.instanceMethod ({ cls := "ClogHouse$Reader", name := "number", desc := "()I" } : Jvm.MethodName)) ∈ lw_all := lw_g (lw_at lw_m3 194 rfl) rfl
theorem q750 : (Jvm.Cond.code ({ cls := "ClogHouse$Reader", name := "number", desc := "()I" } : Jvm.MethodName) prog_16_method_17_code (3 : Nat) (Option.some Jvm.ClassFile.FieldType.int)) ∈ lw_all := lw_g (lw_at lw_m3 195 rfl) rfl
theorem q751 : (Jvm.Cond.methodLink "ClogHouse$Reader" (131 : Nat) ({ cls := "ClogHouse$Reader", name := "isDigit", desc := "()Z" } : Jvm.MethodName)) ∈ lw_all := lw_g (lw_at lw_m3 196 rfl) rfl
theorem q752 : (Jvm.Cond.privateMethod ({ cls := "ClogHouse$Reader", name := "isDigit", desc := "()Z" } : Jvm.MethodName)) ∈ lw_tbl := lw_at lw_m3 197 rfl
theorem q753 : (Jvm.Cond.instanceMethod ({ cls := "ClogHouse$Reader", name := "isDigit", desc := "()Z" } : Jvm.MethodName)) ∈ lw_all := lw_g (lw_at lw_m3 198 rfl) rfl
theorem q754 : (Jvm.Cond.code ({ cls := "ClogHouse$Reader", name := "isDigit", desc := "()Z" } : Jvm.MethodName) prog_16_method_16_code (1 : Nat) (Option.some Jvm.ClassFile.FieldType.boolean)) ∈ lw_all := lw_g (lw_at lw_m3 199 rfl) rfl
theorem q755 : (Jvm.Cond.methodLink "ClogHouse$Reader" (127 : Nat) ({ cls := "ClogHouse$Plain", name := "<init>", desc := "(I)V" } : Jvm.MethodName)) ∈ lw_all := lw_g (lw_at lw_m3 200 rfl) rfl
theorem q766 : (Jvm.Cond.classLink "ClogHouse$Reader" (128 : Nat) "ClogHouse$Letter") ∈ lw_all := lw_g (lw_at lw_m3 211 rfl) rfl
theorem q768 : (Jvm.Cond.methodLink "ClogHouse$Reader" (130 : Nat) ({ cls := "ClogHouse$Letter", name := "<init>", desc := "(I)V" } : Jvm.MethodName)) ∈ lw_all := lw_g (lw_at lw_m3 213 rfl) rfl
theorem q776 : (Jvm.Cond.methodLink "ClogHouse$Reader" (110 : Nat) ({ cls := "ClogHouse$Chain", name := "<init>", desc := "(LClogHouse$Sum;)V" } : Jvm.MethodName)) ∈ lw_all := lw_g (lw_at lw_m3 221 rfl) rfl
theorem q790 : (Jvm.Cond.methodLink "ClogHouse$Reader" (113 : Nat) ({ cls := "ClogHouse$Chain", name := "add", desc := "(ILClogHouse$Sum;)V" } : Jvm.MethodName)) ∈ lw_all := lw_g (lw_at lw_m3 235 rfl) rfl
theorem q811 : (Jvm.Cond.methodLink "ClogHouse$Reader" (68 : Nat) ({ cls := "ClogHouse$Reader", name := "isSign", desc := "(I)Z" } : Jvm.MethodName)) ∈ lw_all := lw_g (lw_at lw_m4 16 rfl) rfl
theorem q812 : (Jvm.Cond.static ({ cls := "ClogHouse$Reader", name := "isSign", desc := "(I)Z" } : Jvm.MethodName)) ∈ lw_all := lw_g (lw_at lw_m4 17 rfl) rfl
theorem q813 : (Jvm.Cond.code ({ cls := "ClogHouse$Reader", name := "isSign", desc := "(I)Z" } : Jvm.MethodName) prog_16_method_7_code (1 : Nat) (Option.some Jvm.ClassFile.FieldType.boolean)) ∈ lw_all := lw_g (lw_at lw_m4 18 rfl) rfl
theorem q814 : (Jvm.Cond.classLink "ClogHouse$Reader" (100 : Nat) "ClogHouse$Compare") ∈ lw_all := lw_g (lw_at lw_m4 19 rfl) rfl
theorem q816 : (Jvm.Cond.methodLink "ClogHouse$Reader" (102 : Nat) ({ cls := "ClogHouse$Compare", name := "<init>", desc := "(LClogHouse$Sum;LClogHouse$Sum;I)V" } : Jvm.MethodName)) ∈ lw_all := lw_g (lw_at lw_m4 21 rfl) rfl
theorem q830 : (Jvm.Cond.methodLink "ClogHouse$Reader" (80 : Nat) ({ cls := "ClogHouse$Several", name := "<init>", desc := "(ZLClogHouse$Condition;)V" } : Jvm.MethodName)) ∈ lw_all := lw_g (lw_at lw_m4 35 rfl) rfl
theorem q837 : (Jvm.Cond.fieldLinkNest "ClogHouse$Reader" (83 : Nat) "ClogHouse$Several" "next" "LClogHouse$Several;" "ClogHouse") ∈ lw_tbl := lw_at lw_m4 42 rfl
theorem q845 : (Jvm.Cond.methodLink "ClogHouse$Reader" (60 : Nat) ({ cls := "ClogHouse$Reader", name := "with", desc := "(ILClogHouse$Condition;)LClogHouse$Clause;" } : Jvm.MethodName)) ∈ lw_all := lw_g (lw_at lw_m4 50 rfl) rfl
theorem q846 : (Jvm.Cond.privateMethod ({ cls := "ClogHouse$Reader", name := "with", desc := "(ILClogHouse$Condition;)LClogHouse$Clause;" } : Jvm.MethodName)) ∈ lw_tbl := lw_at lw_m4 51 rfl
theorem q847 : (Jvm.Cond.instanceMethod ({ cls := "ClogHouse$Reader", name := "with", desc := "(ILClogHouse$Condition;)LClogHouse$Clause;" } : Jvm.MethodName)) ∈ lw_all := lw_g (lw_at lw_m4 52 rfl) rfl
theorem q848 : (Jvm.Cond.code ({ cls := "ClogHouse$Reader", name := "with", desc := "(ILClogHouse$Condition;)LClogHouse$Clause;" } : Jvm.MethodName) prog_16_method_9_code (4 : Nat) (Option.some (Jvm.ClassFile.FieldType.object "ClogHouse$Clause"))) ∈ lw_all := lw_g (lw_at lw_m4 53 rfl) rfl
theorem q849 : (Jvm.Cond.classLink "ClogHouse$Reader" (43 : Nat) "ClogHouse$Clause") ∈ lw_all := lw_g (lw_at lw_m4 54 rfl) rfl
theorem q851 : (Jvm.Cond.methodLink "ClogHouse$Reader" (72 : Nat) ({ cls := "ClogHouse$Clause", name := "<init>", desc := "(ILClogHouse$Condition;LClogHouse$Sum;)V" } : Jvm.MethodName)) ∈ lw_all := lw_g (lw_at lw_m4 56 rfl) rfl
theorem q859 : (Jvm.Cond.fieldLinkNest "ClogHouse$Reader" (42 : Nat) "ClogHouse$Clause" "next" "LClogHouse$Clause;" "ClogHouse") ∈ lw_tbl := lw_at lw_m4 64 rfl
theorem q1734 : (Jvm.Cond.castable "ClogHouse$Reader" "java/lang/Object") ∈ lw_tbl := lw_at lw_m7 219 rfl
theorem in_X8 : ∀ w ∈ wsX80, w ∈ lw_all := lw_in wsX80 [519, 521, 523, 525] (by decide +kernel) (by decide +kernel)

/-! ClogHouse$Wrong -/
def RX9 : String := "ClogHouse$Wrong"
def TX9 : u_T := fun k => match k with
  | 0 => ("java/lang/Throwable", "cause", "Ljava/lang/Throwable;", false)
  | 1 => ("java/lang/Throwable", "stackTrace", "[Ljava/lang/StackTraceElement;", false)
  | 2 => ("java/lang/Throwable", "suppressedExceptions", "Ljava/util/List;", false)
  | 3 => ("java/lang/Throwable", "detailMessage", "Ljava/lang/String;", false)
  | 4 => ("java/lang/Throwable", "backtrace", "Ljava/lang/Object;", false)
  | 5 => ("java/lang/Throwable", "depth", "I", false)
  | _ => ("ClogHouse$Wrong", "at", "I", true)
def tyX9 : Nat → FieldType := fun k => match k with
  | 0 => .object "java/lang/Throwable"
  | 1 => .array (.object "java/lang/StackTraceElement")
  | 2 => .object "java/util/List"
  | 3 => .object "java/lang/String"
  | 4 => .object "java/lang/Object"
  | 5 => .int
  | _ => .int
abbrev wsX90 : List Cond := u_ws RX9 TX9 7
theorem nmX9 : ∀ a, a < 7 → ∀ b, b < 7 → a ≠ b → (TX9 a).2.1 ≠ (TX9 b).2.1 := by decide +kernel
theorem tyX9_ok : ∀ k, k < 7 → parseFieldDescriptor (TX9 k).2.2.1 = some (tyX9 k) := by decide +kernel
abbrev cX9_init : ByteArray := prog_19_method_1_code
def yX9_init : MethodName := ⟨RX9, "<init>", "(I)V"⟩
theorem q93 : (Jvm.Cond.initialized "ClogHouse$Wrong") ∈ lw_all := lw_g (lw_at lw_m1 18 rfl) rfl
theorem q630 : (Jvm.Cond.instantiable "ClogHouse$Wrong" (7 : Nat)) ∈ lw_all := lw_g (lw_at lw_m3 75 rfl) rfl
theorem q631 : (Jvm.Cond.castable "ClogHouse$Wrong" "ClogHouse$Wrong") ∈ lw_tbl := lw_at lw_m3 76 rfl
theorem q638 : (Jvm.Cond.selects "ClogHouse$Wrong" ({ cls := "java/lang/Throwable", name := "fillInStackTrace", desc := "(I)Ljava/lang/Throwable;" } : Jvm.MethodName) ({ cls := "java/lang/Throwable", name := "fillInStackTrace", desc := "(I)Ljava/lang/Throwable;" } : Jvm.MethodName)) ∈ lw_all := lw_g (lw_at lw_m3 83 rfl) rfl
theorem q639 : (Jvm.Cond.selects "ClogHouse$Wrong" ({ cls := "java/lang/Throwable", name := "fillInStackTrace", desc := "()Ljava/lang/Throwable;" } : Jvm.MethodName) ({ cls := "java/lang/Throwable", name := "fillInStackTrace", desc := "()Ljava/lang/Throwable;" } : Jvm.MethodName)) ∈ lw_all := lw_g (lw_at lw_m3 84 rfl) rfl
theorem q640 : (Jvm.Cond.lays "ClogHouse$Wrong" "java/lang/Throwable" "cause" "Ljava/lang/Throwable;") ∈ lw_all := lw_g (lw_at lw_m3 85 rfl) rfl
theorem q642 : (Jvm.Cond.lays "ClogHouse$Wrong" "java/lang/Throwable" "stackTrace" "[Ljava/lang/StackTraceElement;") ∈ lw_all := lw_g (lw_at lw_m3 87 rfl) rfl
theorem q644 : (Jvm.Cond.lays "ClogHouse$Wrong" "java/lang/Throwable" "suppressedExceptions" "Ljava/util/List;") ∈ lw_all := lw_g (lw_at lw_m3 89 rfl) rfl
theorem q646 : (Jvm.Cond.lays "ClogHouse$Wrong" "java/lang/Throwable" "detailMessage" "Ljava/lang/String;") ∈ lw_all := lw_g (lw_at lw_m3 91 rfl) rfl
theorem q648 : (Jvm.Cond.lays "ClogHouse$Wrong" "java/lang/Throwable" "backtrace" "Ljava/lang/Object;") ∈ lw_all := lw_g (lw_at lw_m3 93 rfl) rfl
theorem q670 : (Jvm.Cond.instanceMethod ({ cls := "ClogHouse$Wrong", name := "<init>", desc := "(I)V" } : Jvm.MethodName)) ∈ lw_all := lw_g (lw_at lw_m3 115 rfl) rfl
theorem q671 : (Jvm.Cond.code ({ cls := "ClogHouse$Wrong", name := "<init>", desc := "(I)V" } : Jvm.MethodName) prog_19_method_1_code (2 : Nat) (Option.none : Option Jvm.ClassFile.FieldType)) ∈ lw_all := lw_g (lw_at lw_m3 116 rfl) rfl
theorem q672 : (Jvm.Cond.methodLink "ClogHouse$Wrong" (1 : Nat) ({ cls := "java/lang/RuntimeException", name := "<init>", desc := "(Ljava/lang/String;Ljava/lang/Throwable;ZZ)V" } : Jvm.MethodName)) ∈ lw_all := lw_g (lw_at lw_m3 117 rfl) rfl
theorem q681 : (Jvm.Cond.fieldLink "ClogHouse$Wrong" (7 : Nat) "ClogHouse$Wrong" "at" "I") ∈ lw_all := lw_g (lw_at lw_m3 126 rfl) rfl
theorem q688 : (Jvm.Cond.laysFinal "ClogHouse$Wrong" "ClogHouse$Wrong" "at" "I") ∈ lw_all := lw_g (lw_at lw_m3 133 rfl) rfl
theorem q689 : (Jvm.Cond.soleField "ClogHouse$Wrong" "at") ∈ lw_all := lw_g (lw_at lw_m3 134 rfl) rfl
theorem q694 : (Jvm.Cond.lays "ClogHouse$Wrong" "java/lang/Throwable" "depth" "I") ∈ lw_all := lw_g (lw_at lw_m3 139 rfl) rfl
theorem q697 : (Jvm.Cond.superclass "ClogHouse$Wrong" "java/lang/RuntimeException") ∈ lw_all := lw_g (lw_at lw_m3 142 rfl) rfl
theorem q1735 : (Jvm.Cond.castable "ClogHouse$Wrong" "java/lang/Object") ∈ lw_tbl := lw_at lw_m7 220 rfl
theorem in_X9 : ∀ w ∈ wsX90, w ∈ lw_all := lw_in wsX90 [640, 642, 644, 646, 648, 694, 688] (by decide +kernel) (by decide +kernel)

/-! ClogHouse$Several -/
def RX10 : String := "ClogHouse$Several"
def TX10 : u_T := fun k => match k with
  | 0 => ("ClogHouse$Several", "every", "Z", true)
  | 1 => ("ClogHouse$Several", "condition", "LClogHouse$Condition;", true)
  | _ => ("ClogHouse$Several", "next", "LClogHouse$Several;", false)
def tyX10 : Nat → FieldType := fun k => match k with
  | 0 => .boolean
  | 1 => .object "ClogHouse$Condition"
  | _ => .object "ClogHouse$Several"
abbrev wsX100 : List Cond := u_ws RX10 TX10 3
theorem nmX10 : ∀ a, a < 3 → ∀ b, b < 3 → a ≠ b → (TX10 a).2.1 ≠ (TX10 b).2.1 := by decide +kernel
theorem tyX10_ok : ∀ k, k < 3 → parseFieldDescriptor (TX10 k).2.2.1 = some (tyX10 k) := by decide +kernel
abbrev cX10_init : ByteArray := prog_17_method_1_code
def yX10_init : MethodName := ⟨RX10, "<init>", "(ZLClogHouse$Condition;)V"⟩
abbrev cX10_holds : ByteArray := prog_17_method_2_code
def yX10_holds : MethodName := ⟨RX10, "holds", "([I)Z"⟩
theorem q94 : (Jvm.Cond.initialized "ClogHouse$Several") ∈ lw_all := lw_g (lw_at lw_m1 19 rfl) rfl
theorem q703 : (Jvm.Cond.instantiable "ClogHouse$Several" (3 : Nat)) ∈ lw_all := lw_g (lw_at lw_m3 148 rfl) rfl
theorem q831 : (Jvm.Cond.instanceMethod ({ cls := "ClogHouse$Several", name := "<init>", desc := "(ZLClogHouse$Condition;)V" } : Jvm.MethodName)) ∈ lw_all := lw_g (lw_at lw_m4 36 rfl) rfl
theorem q832 : (Jvm.Cond.code ({ cls := "ClogHouse$Several", name := "<init>", desc := "(ZLClogHouse$Condition;)V" } : Jvm.MethodName) prog_17_method_1_code (3 : Nat) (Option.none : Option Jvm.ClassFile.FieldType)) ∈ lw_all := lw_g (lw_at lw_m4 37 rfl) rfl
theorem q833 : (Jvm.Cond.methodLink "ClogHouse$Several" (1 : Nat) ({ cls := "java/lang/Object", name := "<init>", desc := "()V" } : Jvm.MethodName)) ∈ lw_all := lw_g (lw_at lw_m4 38 rfl) rfl
theorem q834 : (Jvm.Cond.fieldLink "ClogHouse$Several" (7 : Nat) "ClogHouse$Several" "every" "Z") ∈ lw_all := lw_g (lw_at lw_m4 39 rfl) rfl
theorem q835 : (Jvm.Cond.fieldLink "ClogHouse$Several" (13 : Nat) "ClogHouse$Several" "condition" "LClogHouse$Condition;") ∈ lw_all := lw_g (lw_at lw_m4 40 rfl) rfl
theorem q836 : (Jvm.Cond.fieldLink "ClogHouse$Several" (23 : Nat) "ClogHouse$Several" "next" "LClogHouse$Several;") ∈ lw_all := lw_g (lw_at lw_m4 41 rfl) rfl
theorem q838 : (Jvm.Cond.laysFinal "ClogHouse$Several" "ClogHouse$Several" "every" "Z") ∈ lw_all := lw_g (lw_at lw_m4 43 rfl) rfl
theorem q839 : (Jvm.Cond.soleField "ClogHouse$Several" "every") ∈ lw_all := lw_g (lw_at lw_m4 44 rfl) rfl
theorem q840 : (Jvm.Cond.laysFinal "ClogHouse$Several" "ClogHouse$Several" "condition" "LClogHouse$Condition;") ∈ lw_all := lw_g (lw_at lw_m4 45 rfl) rfl
theorem q841 : (Jvm.Cond.soleField "ClogHouse$Several" "condition") ∈ lw_all := lw_g (lw_at lw_m4 46 rfl) rfl
theorem q842 : (Jvm.Cond.lays "ClogHouse$Several" "ClogHouse$Several" "next" "LClogHouse$Several;") ∈ lw_all := lw_g (lw_at lw_m4 47 rfl) rfl
theorem q843 : (Jvm.Cond.soleField "ClogHouse$Several" "next") ∈ lw_all := lw_g (lw_at lw_m4 48 rfl) rfl
theorem q844 : (Jvm.Cond.superclass "ClogHouse$Several" "java/lang/Object") ∈ lw_all := lw_g (lw_at lw_m4 49 rfl) rfl
theorem q960 : (Jvm.Cond.castable "ClogHouse$Several" "ClogHouse$Condition") ∈ lw_tbl := lw_at lw_m4 165 rfl
theorem q961 : (Jvm.Cond.selects "ClogHouse$Several" ({ cls := "ClogHouse$Condition", name := "holds", desc := "([I)Z" } : Jvm.MethodName) ({ cls := "ClogHouse$Several", name := "holds", desc := "([I)Z" } : Jvm.MethodName)) ∈ lw_all := lw_g (lw_at lw_m4 166 rfl) rfl
theorem q962 : (Jvm.Cond.unhidden "ClogHouse$Several" "holds" "([I)Z") ∈ lw_tbl := lw_at lw_m4 167 rfl
theorem q963 : (Jvm.Cond.instanceMethod ({ cls := "ClogHouse$Several", name := "holds", desc := "([I)Z" } : Jvm.MethodName)) ∈ lw_all := lw_g (lw_at lw_m4 168 rfl) rfl
theorem q964 : (Jvm.Cond.publicMethod ({ cls := "ClogHouse$Several", name := "holds", desc := "([I)Z" } : Jvm.MethodName)) ∈ lw_tbl := lw_at lw_m4 169 rfl
theorem q965 : (Jvm.Cond.code ({ cls := "ClogHouse$Several", name := "holds", desc := "([I)Z" } : Jvm.MethodName) prog_17_method_2_code (3 : Nat) (Option.some Jvm.ClassFile.FieldType.boolean)) ∈ lw_all := lw_g (lw_at lw_m4 170 rfl) rfl
theorem q966 : (Jvm.Cond.interfaceEntry "ClogHouse$Several" (17 : Nat)) ∈ lw_tbl := lw_at lw_m4 171 rfl
theorem q967 : (Jvm.Cond.methodLink "ClogHouse$Several" (17 : Nat) ({ cls := "ClogHouse$Condition", name := "holds", desc := "([I)Z" } : Jvm.MethodName)) ∈ lw_all := lw_g (lw_at lw_m4 172 rfl) rfl
theorem q1736 : (Jvm.Cond.castable "ClogHouse$Several" "java/lang/Object") ∈ lw_tbl := lw_at lw_m7 221 rfl
theorem in_X10 : ∀ w ∈ wsX100, w ∈ lw_all := lw_in wsX100 [838, 840, 842] (by decide +kernel) (by decide +kernel)

/-! ClogHouse$Not -/
def RX11 : String := "ClogHouse$Not"
def TX11 : u_T := fun k => match k with
  | _ => ("ClogHouse$Not", "condition", "LClogHouse$Condition;", true)
def tyX11 : Nat → FieldType := fun k => match k with
  | _ => .object "ClogHouse$Condition"
abbrev wsX110 : List Cond := u_ws RX11 TX11 1
theorem nmX11 : ∀ a, a < 1 → ∀ b, b < 1 → a ≠ b → (TX11 a).2.1 ≠ (TX11 b).2.1 := by decide +kernel
theorem tyX11_ok : ∀ k, k < 1 → parseFieldDescriptor (TX11 k).2.2.1 = some (tyX11 k) := by decide +kernel
abbrev cX11_init : ByteArray := prog_13_method_1_code
def yX11_init : MethodName := ⟨RX11, "<init>", "(LClogHouse$Condition;)V"⟩
abbrev cX11_holds : ByteArray := prog_13_method_2_code
def yX11_holds : MethodName := ⟨RX11, "holds", "([I)Z"⟩
theorem q95 : (Jvm.Cond.initialized "ClogHouse$Not") ∈ lw_all := lw_g (lw_at lw_m1 20 rfl) rfl
theorem q717 : (Jvm.Cond.instantiable "ClogHouse$Not" (1 : Nat)) ∈ lw_all := lw_g (lw_at lw_m3 162 rfl) rfl
theorem q719 : (Jvm.Cond.instanceMethod ({ cls := "ClogHouse$Not", name := "<init>", desc := "(LClogHouse$Condition;)V" } : Jvm.MethodName)) ∈ lw_all := lw_g (lw_at lw_m3 164 rfl) rfl
theorem q720 : (Jvm.Cond.code ({ cls := "ClogHouse$Not", name := "<init>", desc := "(LClogHouse$Condition;)V" } : Jvm.MethodName) prog_13_method_1_code (2 : Nat) (Option.none : Option Jvm.ClassFile.FieldType)) ∈ lw_all := lw_g (lw_at lw_m3 165 rfl) rfl
theorem q721 : (Jvm.Cond.methodLink "ClogHouse$Not" (1 : Nat) ({ cls := "java/lang/Object", name := "<init>", desc := "()V" } : Jvm.MethodName)) ∈ lw_all := lw_g (lw_at lw_m3 166 rfl) rfl
theorem q722 : (Jvm.Cond.fieldLink "ClogHouse$Not" (7 : Nat) "ClogHouse$Not" "condition" "LClogHouse$Condition;") ∈ lw_all := lw_g (lw_at lw_m3 167 rfl) rfl
theorem q723 : (Jvm.Cond.laysFinal "ClogHouse$Not" "ClogHouse$Not" "condition" "LClogHouse$Condition;") ∈ lw_all := lw_g (lw_at lw_m3 168 rfl) rfl
theorem q724 : (Jvm.Cond.soleField "ClogHouse$Not" "condition") ∈ lw_all := lw_g (lw_at lw_m3 169 rfl) rfl
theorem q725 : (Jvm.Cond.superclass "ClogHouse$Not" "java/lang/Object") ∈ lw_all := lw_g (lw_at lw_m3 170 rfl) rfl
theorem q952 : (Jvm.Cond.castable "ClogHouse$Not" "ClogHouse$Condition") ∈ lw_tbl := lw_at lw_m4 157 rfl
theorem q953 : (Jvm.Cond.selects "ClogHouse$Not" ({ cls := "ClogHouse$Condition", name := "holds", desc := "([I)Z" } : Jvm.MethodName) ({ cls := "ClogHouse$Not", name := "holds", desc := "([I)Z" } : Jvm.MethodName)) ∈ lw_all := lw_g (lw_at lw_m4 158 rfl) rfl
theorem q954 : (Jvm.Cond.unhidden "ClogHouse$Not" "holds" "([I)Z") ∈ lw_tbl := lw_at lw_m4 159 rfl
theorem q955 : (Jvm.Cond.instanceMethod ({ cls := "ClogHouse$Not", name := "holds", desc := "([I)Z" } : Jvm.MethodName)) ∈ lw_all := lw_g (lw_at lw_m4 160 rfl) rfl
theorem q956 : (Jvm.Cond.publicMethod ({ cls := "ClogHouse$Not", name := "holds", desc := "([I)Z" } : Jvm.MethodName)) ∈ lw_tbl := lw_at lw_m4 161 rfl
theorem q957 : (Jvm.Cond.code ({ cls := "ClogHouse$Not", name := "holds", desc := "([I)Z" } : Jvm.MethodName) prog_13_method_2_code (2 : Nat) (Option.some Jvm.ClassFile.FieldType.boolean)) ∈ lw_all := lw_g (lw_at lw_m4 162 rfl) rfl
theorem q958 : (Jvm.Cond.interfaceEntry "ClogHouse$Not" (13 : Nat)) ∈ lw_tbl := lw_at lw_m4 163 rfl
theorem q959 : (Jvm.Cond.methodLink "ClogHouse$Not" (13 : Nat) ({ cls := "ClogHouse$Condition", name := "holds", desc := "([I)Z" } : Jvm.MethodName)) ∈ lw_all := lw_g (lw_at lw_m4 164 rfl) rfl
theorem q1737 : (Jvm.Cond.castable "ClogHouse$Not" "java/lang/Object") ∈ lw_tbl := lw_at lw_m7 222 rfl
theorem in_X11 : ∀ w ∈ wsX110, w ∈ lw_all := lw_in wsX110 [723] (by decide +kernel) (by decide +kernel)

/-! ClogHouse$Sum -/
def RX12 : String := "ClogHouse$Sum"
abbrev cX12_init : ByteArray := prog_18_method_1_code
def yX12_init : MethodName := ⟨RX12, "<init>", "()V"⟩
theorem q96 : (Jvm.Cond.initialized "ClogHouse$Sum") ∈ lw_all := lw_g (lw_at lw_m1 21 rfl) rfl
theorem q759 : (Jvm.Cond.instanceMethod ({ cls := "ClogHouse$Sum", name := "<init>", desc := "()V" } : Jvm.MethodName)) ∈ lw_all := lw_g (lw_at lw_m3 204 rfl) rfl
theorem q760 : (Jvm.Cond.code ({ cls := "ClogHouse$Sum", name := "<init>", desc := "()V" } : Jvm.MethodName) prog_18_method_1_code (1 : Nat) (Option.none : Option Jvm.ClassFile.FieldType)) ∈ lw_all := lw_g (lw_at lw_m3 205 rfl) rfl
theorem q761 : (Jvm.Cond.methodLink "ClogHouse$Sum" (1 : Nat) ({ cls := "java/lang/Object", name := "<init>", desc := "()V" } : Jvm.MethodName)) ∈ lw_all := lw_g (lw_at lw_m3 206 rfl) rfl
theorem q925 : (Jvm.Cond.declares ({ cls := "ClogHouse$Sum", name := "of", desc := "([I)I" } : Jvm.MethodName)) ∈ lw_tbl := lw_at lw_m4 130 rfl
theorem q926 : (Jvm.Cond.sameMethod "ClogHouse$Sum" "ClogHouse$Sum" "of" "([I)I") ∈ lw_all := lw_g (lw_at lw_m4 131 rfl) rfl

/-! ClogHouse$Chain -/
def RX13 : String := "ClogHouse$Chain"
def TX13 : u_T := fun k => match k with
  | 0 => ("ClogHouse$Chain", "first", "LClogHouse$Sum;", true)
  | 1 => ("ClogHouse$Chain", "begin", "LClogHouse$Link;", false)
  | _ => ("ClogHouse$Chain", "end", "LClogHouse$Link;", false)
def tyX13 : Nat → FieldType := fun k => match k with
  | 0 => .object "ClogHouse$Sum"
  | 1 => .object "ClogHouse$Link"
  | _ => .object "ClogHouse$Link"
abbrev wsX130 : List Cond := u_ws RX13 TX13 3
theorem nmX13 : ∀ a, a < 3 → ∀ b, b < 3 → a ≠ b → (TX13 a).2.1 ≠ (TX13 b).2.1 := by decide +kernel
theorem tyX13_ok : ∀ k, k < 3 → parseFieldDescriptor (TX13 k).2.2.1 = some (tyX13 k) := by decide +kernel
abbrev cX13_init : ByteArray := prog_4_method_1_code
def yX13_init : MethodName := ⟨RX13, "<init>", "(LClogHouse$Sum;)V"⟩
abbrev cX13_add : ByteArray := prog_4_method_2_code
def yX13_add : MethodName := ⟨RX13, "add", "(ILClogHouse$Sum;)V"⟩
abbrev cX13_of : ByteArray := prog_4_method_3_code
def yX13_of : MethodName := ⟨RX13, "of", "([I)I"⟩
theorem q97 : (Jvm.Cond.initialized "ClogHouse$Chain") ∈ lw_all := lw_g (lw_at lw_m1 22 rfl) rfl
theorem q735 : (Jvm.Cond.instantiable "ClogHouse$Chain" (3 : Nat)) ∈ lw_all := lw_g (lw_at lw_m3 180 rfl) rfl
theorem q777 : (Jvm.Cond.instanceMethod ({ cls := "ClogHouse$Chain", name := "<init>", desc := "(LClogHouse$Sum;)V" } : Jvm.MethodName)) ∈ lw_all := lw_g (lw_at lw_m3 222 rfl) rfl
theorem q778 : (Jvm.Cond.code ({ cls := "ClogHouse$Chain", name := "<init>", desc := "(LClogHouse$Sum;)V" } : Jvm.MethodName) prog_4_method_1_code (2 : Nat) (Option.none : Option Jvm.ClassFile.FieldType)) ∈ lw_all := lw_g (lw_at lw_m3 223 rfl) rfl
theorem q779 : (Jvm.Cond.methodLinkNest "ClogHouse$Chain" (1 : Nat) ({ cls := "ClogHouse$Sum", name := "<init>", desc := "()V" } : Jvm.MethodName) "ClogHouse") ∈ lw_tbl := lw_at lw_m3 224 rfl
theorem q780 : (Jvm.Cond.fieldLink "ClogHouse$Chain" (7 : Nat) "ClogHouse$Chain" "first" "LClogHouse$Sum;") ∈ lw_all := lw_g (lw_at lw_m3 225 rfl) rfl
theorem q781 : (Jvm.Cond.fieldLink "ClogHouse$Chain" (18 : Nat) "ClogHouse$Chain" "begin" "LClogHouse$Link;") ∈ lw_all := lw_g (lw_at lw_m3 226 rfl) rfl
theorem q782 : (Jvm.Cond.fieldLink "ClogHouse$Chain" (22 : Nat) "ClogHouse$Chain" "end" "LClogHouse$Link;") ∈ lw_all := lw_g (lw_at lw_m3 227 rfl) rfl
theorem q783 : (Jvm.Cond.laysFinal "ClogHouse$Chain" "ClogHouse$Chain" "first" "LClogHouse$Sum;") ∈ lw_all := lw_g (lw_at lw_m3 228 rfl) rfl
theorem q784 : (Jvm.Cond.soleField "ClogHouse$Chain" "first") ∈ lw_all := lw_g (lw_at lw_m3 229 rfl) rfl
theorem q785 : (Jvm.Cond.lays "ClogHouse$Chain" "ClogHouse$Chain" "begin" "LClogHouse$Link;") ∈ lw_all := lw_g (lw_at lw_m3 230 rfl) rfl
theorem q786 : (Jvm.Cond.soleField "ClogHouse$Chain" "begin") ∈ lw_all := lw_g (lw_at lw_m3 231 rfl) rfl
theorem q787 : (Jvm.Cond.lays "ClogHouse$Chain" "ClogHouse$Chain" "end" "LClogHouse$Link;") ∈ lw_all := lw_g (lw_at lw_m3 232 rfl) rfl
theorem q788 : (Jvm.Cond.soleField "ClogHouse$Chain" "end") ∈ lw_all := lw_g (lw_at lw_m3 233 rfl) rfl
theorem q789 : (Jvm.Cond.superclass "ClogHouse$Chain" "ClogHouse$Sum") ∈ lw_all := lw_g (lw_at lw_m3 234 rfl) rfl
theorem q791 : (Jvm.Cond.instanceMethod ({ cls := "ClogHouse$Chain", name := "add", desc := "(ILClogHouse$Sum;)V" } : Jvm.MethodName)) ∈ lw_all := lw_g (lw_at lw_m3 236 rfl) rfl
theorem q792 : (Jvm.Cond.selects "ClogHouse$Chain" ({ cls := "ClogHouse$Chain", name := "add", desc := "(ILClogHouse$Sum;)V" } : Jvm.MethodName) ({ cls := "ClogHouse$Chain", name := "add", desc := "(ILClogHouse$Sum;)V" } : Jvm.MethodName)) ∈ lw_all := lw_g (lw_at lw_m3 237 rfl) rfl
theorem q793 : (Jvm.Cond.code ({ cls := "ClogHouse$Chain", name := "add", desc := "(ILClogHouse$Sum;)V" } : Jvm.MethodName) prog_4_method_2_code (4 : Nat) (Option.none : Option Jvm.ClassFile.FieldType)) ∈ lw_all := lw_g (lw_at lw_m3 238 rfl) rfl
theorem q794 : (Jvm.Cond.classLink "ClogHouse$Chain" (13 : Nat) "ClogHouse$Link") ∈ lw_all := lw_g (lw_at lw_m3 239 rfl) rfl
theorem q796 : (Jvm.Cond.methodLink "ClogHouse$Chain" (15 : Nat) ({ cls := "ClogHouse$Link", name := "<init>", desc := "(ILClogHouse$Sum;)V" } : Jvm.MethodName)) ∈ lw_all := lw_g (lw_at lw_m4 1 rfl) rfl
theorem q802 : (Jvm.Cond.fieldLinkNest "ClogHouse$Chain" (32 : Nat) "ClogHouse$Link" "sum" "LClogHouse$Sum;" "ClogHouse") ∈ lw_tbl := lw_at lw_m4 7 rfl
theorem q803 : (Jvm.Cond.fieldLinkNest "ClogHouse$Chain" (25 : Nat) "ClogHouse$Link" "next" "LClogHouse$Link;" "ClogHouse") ∈ lw_tbl := lw_at lw_m4 8 rfl
theorem q927 : (Jvm.Cond.selects "ClogHouse$Chain" ({ cls := "ClogHouse$Sum", name := "of", desc := "([I)I" } : Jvm.MethodName) ({ cls := "ClogHouse$Chain", name := "of", desc := "([I)I" } : Jvm.MethodName)) ∈ lw_all := lw_g (lw_at lw_m4 132 rfl) rfl
theorem q928 : (Jvm.Cond.instanceMethod ({ cls := "ClogHouse$Chain", name := "of", desc := "([I)I" } : Jvm.MethodName)) ∈ lw_all := lw_g (lw_at lw_m4 133 rfl) rfl
theorem q929 : (Jvm.Cond.code ({ cls := "ClogHouse$Chain", name := "of", desc := "([I)I" } : Jvm.MethodName) prog_4_method_3_code (4 : Nat) (Option.some Jvm.ClassFile.FieldType.int)) ∈ lw_all := lw_g (lw_at lw_m4 134 rfl) rfl
theorem q930 : (Jvm.Cond.methodLink "ClogHouse$Chain" (28 : Nat) ({ cls := "ClogHouse$Sum", name := "of", desc := "([I)I" } : Jvm.MethodName)) ∈ lw_all := lw_g (lw_at lw_m4 135 rfl) rfl
theorem q935 : (Jvm.Cond.methodLink "ClogHouse$Chain" (35 : Nat) ({ cls := "ClogHouse$Link", name := "with", desc := "(JJ)I" } : Jvm.MethodName)) ∈ lw_all := lw_g (lw_at lw_m4 140 rfl) rfl
theorem q1738 : (Jvm.Cond.castable "ClogHouse$Chain" "java/lang/Object") ∈ lw_tbl := lw_at lw_m7 223 rfl
theorem in_X13 : ∀ w ∈ wsX130, w ∈ lw_all := lw_in wsX130 [783, 785, 787] (by decide +kernel) (by decide +kernel)

/-! ClogHouse$Plain -/
def RX14 : String := "ClogHouse$Plain"
def TX14 : u_T := fun k => match k with
  | _ => ("ClogHouse$Plain", "value", "I", true)
def tyX14 : Nat → FieldType := fun k => match k with
  | _ => .int
abbrev wsX140 : List Cond := u_ws RX14 TX14 1
theorem nmX14 : ∀ a, a < 1 → ∀ b, b < 1 → a ≠ b → (TX14 a).2.1 ≠ (TX14 b).2.1 := by decide +kernel
theorem tyX14_ok : ∀ k, k < 1 → parseFieldDescriptor (TX14 k).2.2.1 = some (tyX14 k) := by decide +kernel
abbrev cX14_init : ByteArray := prog_15_method_1_code
def yX14_init : MethodName := ⟨RX14, "<init>", "(I)V"⟩
abbrev cX14_of : ByteArray := prog_15_method_2_code
def yX14_of : MethodName := ⟨RX14, "of", "([I)I"⟩
theorem q98 : (Jvm.Cond.initialized "ClogHouse$Plain") ∈ lw_all := lw_g (lw_at lw_m1 23 rfl) rfl
theorem q746 : (Jvm.Cond.instantiable "ClogHouse$Plain" (1 : Nat)) ∈ lw_all := lw_g (lw_at lw_m3 191 rfl) rfl
theorem q756 : (Jvm.Cond.instanceMethod ({ cls := "ClogHouse$Plain", name := "<init>", desc := "(I)V" } : Jvm.MethodName)) ∈ lw_all := lw_g (lw_at lw_m3 201 rfl) rfl
theorem q757 : (Jvm.Cond.code ({ cls := "ClogHouse$Plain", name := "<init>", desc := "(I)V" } : Jvm.MethodName) prog_15_method_1_code (2 : Nat) (Option.none : Option Jvm.ClassFile.FieldType)) ∈ lw_all := lw_g (lw_at lw_m3 202 rfl) rfl
theorem q758 : (Jvm.Cond.methodLinkNest "ClogHouse$Plain" (1 : Nat) ({ cls := "ClogHouse$Sum", name := "<init>", desc := "()V" } : Jvm.MethodName) "ClogHouse") ∈ lw_tbl := lw_at lw_m3 203 rfl
theorem q762 : (Jvm.Cond.fieldLink "ClogHouse$Plain" (7 : Nat) "ClogHouse$Plain" "value" "I") ∈ lw_all := lw_g (lw_at lw_m3 207 rfl) rfl
theorem q763 : (Jvm.Cond.laysFinal "ClogHouse$Plain" "ClogHouse$Plain" "value" "I") ∈ lw_all := lw_g (lw_at lw_m3 208 rfl) rfl
theorem q764 : (Jvm.Cond.soleField "ClogHouse$Plain" "value") ∈ lw_all := lw_g (lw_at lw_m3 209 rfl) rfl
theorem q765 : (Jvm.Cond.superclass "ClogHouse$Plain" "ClogHouse$Sum") ∈ lw_all := lw_g (lw_at lw_m3 210 rfl) rfl
theorem q933 : (Jvm.Cond.instanceMethod ({ cls := "ClogHouse$Plain", name := "of", desc := "([I)I" } : Jvm.MethodName)) ∈ lw_all := lw_g (lw_at lw_m4 138 rfl) rfl
theorem q934 : (Jvm.Cond.code ({ cls := "ClogHouse$Plain", name := "of", desc := "([I)I" } : Jvm.MethodName) prog_15_method_2_code (2 : Nat) (Option.some Jvm.ClassFile.FieldType.int)) ∈ lw_all := lw_g (lw_at lw_m4 139 rfl) rfl
theorem q951 : (Jvm.Cond.selects "ClogHouse$Plain" ({ cls := "ClogHouse$Sum", name := "of", desc := "([I)I" } : Jvm.MethodName) ({ cls := "ClogHouse$Plain", name := "of", desc := "([I)I" } : Jvm.MethodName)) ∈ lw_all := lw_g (lw_at lw_m4 156 rfl) rfl
theorem q1739 : (Jvm.Cond.castable "ClogHouse$Plain" "java/lang/Object") ∈ lw_tbl := lw_at lw_m7 224 rfl
theorem in_X14 : ∀ w ∈ wsX140, w ∈ lw_all := lw_in wsX140 [763] (by decide +kernel) (by decide +kernel)

/-! ClogHouse$Letter -/
def RX15 : String := "ClogHouse$Letter"
def TX15 : u_T := fun k => match k with
  | _ => ("ClogHouse$Letter", "which", "I", true)
def tyX15 : Nat → FieldType := fun k => match k with
  | _ => .int
abbrev wsX150 : List Cond := u_ws RX15 TX15 1
theorem nmX15 : ∀ a, a < 1 → ∀ b, b < 1 → a ≠ b → (TX15 a).2.1 ≠ (TX15 b).2.1 := by decide +kernel
theorem tyX15_ok : ∀ k, k < 1 → parseFieldDescriptor (TX15 k).2.2.1 = some (tyX15 k) := by decide +kernel
abbrev cX15_init : ByteArray := prog_11_method_1_code
def yX15_init : MethodName := ⟨RX15, "<init>", "(I)V"⟩
abbrev cX15_of : ByteArray := prog_11_method_2_code
def yX15_of : MethodName := ⟨RX15, "of", "([I)I"⟩
theorem q99 : (Jvm.Cond.initialized "ClogHouse$Letter") ∈ lw_all := lw_g (lw_at lw_m1 24 rfl) rfl
theorem q767 : (Jvm.Cond.instantiable "ClogHouse$Letter" (1 : Nat)) ∈ lw_all := lw_g (lw_at lw_m3 212 rfl) rfl
theorem q769 : (Jvm.Cond.instanceMethod ({ cls := "ClogHouse$Letter", name := "<init>", desc := "(I)V" } : Jvm.MethodName)) ∈ lw_all := lw_g (lw_at lw_m3 214 rfl) rfl
theorem q770 : (Jvm.Cond.code ({ cls := "ClogHouse$Letter", name := "<init>", desc := "(I)V" } : Jvm.MethodName) prog_11_method_1_code (2 : Nat) (Option.none : Option Jvm.ClassFile.FieldType)) ∈ lw_all := lw_g (lw_at lw_m3 215 rfl) rfl
theorem q771 : (Jvm.Cond.methodLinkNest "ClogHouse$Letter" (1 : Nat) ({ cls := "ClogHouse$Sum", name := "<init>", desc := "()V" } : Jvm.MethodName) "ClogHouse") ∈ lw_tbl := lw_at lw_m3 216 rfl
theorem q772 : (Jvm.Cond.fieldLink "ClogHouse$Letter" (7 : Nat) "ClogHouse$Letter" "which" "I") ∈ lw_all := lw_g (lw_at lw_m3 217 rfl) rfl
theorem q773 : (Jvm.Cond.laysFinal "ClogHouse$Letter" "ClogHouse$Letter" "which" "I") ∈ lw_all := lw_g (lw_at lw_m3 218 rfl) rfl
theorem q774 : (Jvm.Cond.soleField "ClogHouse$Letter" "which") ∈ lw_all := lw_g (lw_at lw_m3 219 rfl) rfl
theorem q775 : (Jvm.Cond.superclass "ClogHouse$Letter" "ClogHouse$Sum") ∈ lw_all := lw_g (lw_at lw_m3 220 rfl) rfl
theorem q931 : (Jvm.Cond.instanceMethod ({ cls := "ClogHouse$Letter", name := "of", desc := "([I)I" } : Jvm.MethodName)) ∈ lw_all := lw_g (lw_at lw_m4 136 rfl) rfl
theorem q932 : (Jvm.Cond.code ({ cls := "ClogHouse$Letter", name := "of", desc := "([I)I" } : Jvm.MethodName) prog_11_method_2_code (2 : Nat) (Option.some Jvm.ClassFile.FieldType.int)) ∈ lw_all := lw_g (lw_at lw_m4 137 rfl) rfl
theorem q950 : (Jvm.Cond.selects "ClogHouse$Letter" ({ cls := "ClogHouse$Sum", name := "of", desc := "([I)I" } : Jvm.MethodName) ({ cls := "ClogHouse$Letter", name := "of", desc := "([I)I" } : Jvm.MethodName)) ∈ lw_all := lw_g (lw_at lw_m4 155 rfl) rfl
theorem q1740 : (Jvm.Cond.castable "ClogHouse$Letter" "java/lang/Object") ∈ lw_tbl := lw_at lw_m7 225 rfl
theorem in_X15 : ∀ w ∈ wsX150, w ∈ lw_all := lw_in wsX150 [773] (by decide +kernel) (by decide +kernel)

/-! ClogHouse$Link -/
def RX16 : String := "ClogHouse$Link"
def TX16 : u_T := fun k => match k with
  | 0 => ("ClogHouse$Link", "sign", "I", true)
  | 1 => ("ClogHouse$Link", "sum", "LClogHouse$Sum;", true)
  | _ => ("ClogHouse$Link", "next", "LClogHouse$Link;", false)
def tyX16 : Nat → FieldType := fun k => match k with
  | 0 => .int
  | 1 => .object "ClogHouse$Sum"
  | _ => .object "ClogHouse$Link"
abbrev wsX160 : List Cond := u_ws RX16 TX16 3
theorem nmX16 : ∀ a, a < 3 → ∀ b, b < 3 → a ≠ b → (TX16 a).2.1 ≠ (TX16 b).2.1 := by decide +kernel
theorem tyX16_ok : ∀ k, k < 3 → parseFieldDescriptor (TX16 k).2.2.1 = some (tyX16 k) := by decide +kernel
abbrev cX16_init : ByteArray := prog_12_method_1_code
def yX16_init : MethodName := ⟨RX16, "<init>", "(ILClogHouse$Sum;)V"⟩
abbrev cX16_with : ByteArray := prog_12_method_2_code
def yX16_with : MethodName := ⟨RX16, "with", "(JJ)I"⟩
theorem q100 : (Jvm.Cond.initialized "ClogHouse$Link") ∈ lw_all := lw_g (lw_at lw_m1 25 rfl) rfl
theorem q795 : (Jvm.Cond.instantiable "ClogHouse$Link" (3 : Nat)) ∈ lw_all := lw_g (lw_at lw_m4 0 rfl) rfl
theorem q797 : (Jvm.Cond.instanceMethod ({ cls := "ClogHouse$Link", name := "<init>", desc := "(ILClogHouse$Sum;)V" } : Jvm.MethodName)) ∈ lw_all := lw_g (lw_at lw_m4 2 rfl) rfl
theorem q798 : (Jvm.Cond.code ({ cls := "ClogHouse$Link", name := "<init>", desc := "(ILClogHouse$Sum;)V" } : Jvm.MethodName) prog_12_method_1_code (3 : Nat) (Option.none : Option Jvm.ClassFile.FieldType)) ∈ lw_all := lw_g (lw_at lw_m4 3 rfl) rfl
theorem q799 : (Jvm.Cond.methodLink "ClogHouse$Link" (1 : Nat) ({ cls := "java/lang/Object", name := "<init>", desc := "()V" } : Jvm.MethodName)) ∈ lw_all := lw_g (lw_at lw_m4 4 rfl) rfl
theorem q800 : (Jvm.Cond.fieldLink "ClogHouse$Link" (7 : Nat) "ClogHouse$Link" "sign" "I") ∈ lw_all := lw_g (lw_at lw_m4 5 rfl) rfl
theorem q801 : (Jvm.Cond.fieldLink "ClogHouse$Link" (13 : Nat) "ClogHouse$Link" "sum" "LClogHouse$Sum;") ∈ lw_all := lw_g (lw_at lw_m4 6 rfl) rfl
theorem q804 : (Jvm.Cond.laysFinal "ClogHouse$Link" "ClogHouse$Link" "sign" "I") ∈ lw_all := lw_g (lw_at lw_m4 9 rfl) rfl
theorem q805 : (Jvm.Cond.soleField "ClogHouse$Link" "sign") ∈ lw_all := lw_g (lw_at lw_m4 10 rfl) rfl
theorem q806 : (Jvm.Cond.laysFinal "ClogHouse$Link" "ClogHouse$Link" "sum" "LClogHouse$Sum;") ∈ lw_all := lw_g (lw_at lw_m4 11 rfl) rfl
theorem q807 : (Jvm.Cond.soleField "ClogHouse$Link" "sum") ∈ lw_all := lw_g (lw_at lw_m4 12 rfl) rfl
theorem q808 : (Jvm.Cond.lays "ClogHouse$Link" "ClogHouse$Link" "next" "LClogHouse$Link;") ∈ lw_all := lw_g (lw_at lw_m4 13 rfl) rfl
theorem q809 : (Jvm.Cond.soleField "ClogHouse$Link" "next") ∈ lw_all := lw_g (lw_at lw_m4 14 rfl) rfl
theorem q810 : (Jvm.Cond.superclass "ClogHouse$Link" "java/lang/Object") ∈ lw_all := lw_g (lw_at lw_m4 15 rfl) rfl
theorem q936 : (Jvm.Cond.instanceMethod ({ cls := "ClogHouse$Link", name := "with", desc := "(JJ)I" } : Jvm.MethodName)) ∈ lw_all := lw_g (lw_at lw_m4 141 rfl) rfl
theorem q937 : (Jvm.Cond.selects "ClogHouse$Link" ({ cls := "ClogHouse$Link", name := "with", desc := "(JJ)I" } : Jvm.MethodName) ({ cls := "ClogHouse$Link", name := "with", desc := "(JJ)I" } : Jvm.MethodName)) ∈ lw_all := lw_g (lw_at lw_m4 142 rfl) rfl
theorem q938 : (Jvm.Cond.code ({ cls := "ClogHouse$Link", name := "with", desc := "(JJ)I" } : Jvm.MethodName) prog_12_method_2_code (5 : Nat) (Option.some Jvm.ClassFile.FieldType.int)) ∈ lw_all := lw_g (lw_at lw_m4 143 rfl) rfl
theorem q939 : (Jvm.Cond.methodLinkNest "ClogHouse$Link" (17 : Nat) ({ cls := "ClogHouse", name := "bound", desc := "(J)I" } : Jvm.MethodName) "ClogHouse") ∈ lw_tbl := lw_at lw_m4 144 rfl
theorem q1741 : (Jvm.Cond.castable "ClogHouse$Link" "java/lang/Object") ∈ lw_tbl := lw_at lw_m7 226 rfl
theorem in_X16 : ∀ w ∈ wsX160, w ∈ lw_all := lw_in wsX160 [804, 806, 808] (by decide +kernel) (by decide +kernel)

/-! ClogHouse$Compare -/
def RX17 : String := "ClogHouse$Compare"
def TX17 : u_T := fun k => match k with
  | 0 => ("ClogHouse$Compare", "one", "LClogHouse$Sum;", true)
  | 1 => ("ClogHouse$Compare", "other", "LClogHouse$Sum;", true)
  | _ => ("ClogHouse$Compare", "sign", "I", true)
def tyX17 : Nat → FieldType := fun k => match k with
  | 0 => .object "ClogHouse$Sum"
  | 1 => .object "ClogHouse$Sum"
  | _ => .int
abbrev wsX170 : List Cond := u_ws RX17 TX17 3
theorem nmX17 : ∀ a, a < 3 → ∀ b, b < 3 → a ≠ b → (TX17 a).2.1 ≠ (TX17 b).2.1 := by decide +kernel
theorem tyX17_ok : ∀ k, k < 3 → parseFieldDescriptor (TX17 k).2.2.1 = some (tyX17 k) := by decide +kernel
abbrev cX17_init : ByteArray := prog_6_method_1_code
def yX17_init : MethodName := ⟨RX17, "<init>", "(LClogHouse$Sum;LClogHouse$Sum;I)V"⟩
abbrev cX17_holds : ByteArray := prog_6_method_2_code
def yX17_holds : MethodName := ⟨RX17, "holds", "([I)Z"⟩
theorem q101 : (Jvm.Cond.initialized "ClogHouse$Compare") ∈ lw_all := lw_g (lw_at lw_m1 26 rfl) rfl
theorem q815 : (Jvm.Cond.instantiable "ClogHouse$Compare" (3 : Nat)) ∈ lw_all := lw_g (lw_at lw_m4 20 rfl) rfl
theorem q817 : (Jvm.Cond.instanceMethod ({ cls := "ClogHouse$Compare", name := "<init>", desc := "(LClogHouse$Sum;LClogHouse$Sum;I)V" } : Jvm.MethodName)) ∈ lw_all := lw_g (lw_at lw_m4 22 rfl) rfl
theorem q818 : (Jvm.Cond.code ({ cls := "ClogHouse$Compare", name := "<init>", desc := "(LClogHouse$Sum;LClogHouse$Sum;I)V" } : Jvm.MethodName) prog_6_method_1_code (4 : Nat) (Option.none : Option Jvm.ClassFile.FieldType)) ∈ lw_all := lw_g (lw_at lw_m4 23 rfl) rfl
theorem q819 : (Jvm.Cond.methodLink "ClogHouse$Compare" (1 : Nat) ({ cls := "java/lang/Object", name := "<init>", desc := "()V" } : Jvm.MethodName)) ∈ lw_all := lw_g (lw_at lw_m4 24 rfl) rfl
theorem q820 : (Jvm.Cond.fieldLink "ClogHouse$Compare" (7 : Nat) "ClogHouse$Compare" "one" "LClogHouse$Sum;") ∈ lw_all := lw_g (lw_at lw_m4 25 rfl) rfl
theorem q821 : (Jvm.Cond.fieldLink "ClogHouse$Compare" (13 : Nat) "ClogHouse$Compare" "other" "LClogHouse$Sum;") ∈ lw_all := lw_g (lw_at lw_m4 26 rfl) rfl
theorem q822 : (Jvm.Cond.fieldLink "ClogHouse$Compare" (16 : Nat) "ClogHouse$Compare" "sign" "I") ∈ lw_all := lw_g (lw_at lw_m4 27 rfl) rfl
theorem q823 : (Jvm.Cond.laysFinal "ClogHouse$Compare" "ClogHouse$Compare" "one" "LClogHouse$Sum;") ∈ lw_all := lw_g (lw_at lw_m4 28 rfl) rfl
theorem q824 : (Jvm.Cond.soleField "ClogHouse$Compare" "one") ∈ lw_all := lw_g (lw_at lw_m4 29 rfl) rfl
theorem q825 : (Jvm.Cond.laysFinal "ClogHouse$Compare" "ClogHouse$Compare" "other" "LClogHouse$Sum;") ∈ lw_all := lw_g (lw_at lw_m4 30 rfl) rfl
theorem q826 : (Jvm.Cond.soleField "ClogHouse$Compare" "other") ∈ lw_all := lw_g (lw_at lw_m4 31 rfl) rfl
theorem q827 : (Jvm.Cond.laysFinal "ClogHouse$Compare" "ClogHouse$Compare" "sign" "I") ∈ lw_all := lw_g (lw_at lw_m4 32 rfl) rfl
theorem q828 : (Jvm.Cond.soleField "ClogHouse$Compare" "sign") ∈ lw_all := lw_g (lw_at lw_m4 33 rfl) rfl
theorem q829 : (Jvm.Cond.superclass "ClogHouse$Compare" "java/lang/Object") ∈ lw_all := lw_g (lw_at lw_m4 34 rfl) rfl
theorem q918 : (Jvm.Cond.castable "ClogHouse$Compare" "ClogHouse$Condition") ∈ lw_tbl := lw_at lw_m4 123 rfl
theorem q919 : (Jvm.Cond.selects "ClogHouse$Compare" ({ cls := "ClogHouse$Condition", name := "holds", desc := "([I)Z" } : Jvm.MethodName) ({ cls := "ClogHouse$Compare", name := "holds", desc := "([I)Z" } : Jvm.MethodName)) ∈ lw_all := lw_g (lw_at lw_m4 124 rfl) rfl
theorem q920 : (Jvm.Cond.unhidden "ClogHouse$Compare" "holds" "([I)Z") ∈ lw_tbl := lw_at lw_m4 125 rfl
theorem q921 : (Jvm.Cond.instanceMethod ({ cls := "ClogHouse$Compare", name := "holds", desc := "([I)Z" } : Jvm.MethodName)) ∈ lw_all := lw_g (lw_at lw_m4 126 rfl) rfl
theorem q922 : (Jvm.Cond.publicMethod ({ cls := "ClogHouse$Compare", name := "holds", desc := "([I)Z" } : Jvm.MethodName)) ∈ lw_tbl := lw_at lw_m4 127 rfl
theorem q923 : (Jvm.Cond.code ({ cls := "ClogHouse$Compare", name := "holds", desc := "([I)Z" } : Jvm.MethodName) prog_6_method_2_code (4 : Nat) (Option.some Jvm.ClassFile.FieldType.boolean)) ∈ lw_all := lw_g (lw_at lw_m4 128 rfl) rfl
theorem q924 : (Jvm.Cond.methodLink "ClogHouse$Compare" (20 : Nat) ({ cls := "ClogHouse$Sum", name := "of", desc := "([I)I" } : Jvm.MethodName)) ∈ lw_all := lw_g (lw_at lw_m4 129 rfl) rfl
theorem q1742 : (Jvm.Cond.castable "ClogHouse$Compare" "java/lang/Object") ∈ lw_tbl := lw_at lw_m7 227 rfl
theorem in_X17 : ∀ w ∈ wsX170, w ∈ lw_all := lw_in wsX170 [823, 825, 827] (by decide +kernel) (by decide +kernel)

/-! ClogHouse$Clause -/
def RX18 : String := "ClogHouse$Clause"
def TX18 : u_T := fun k => match k with
  | 0 => ("ClogHouse$Clause", "label", "I", true)
  | 1 => ("ClogHouse$Clause", "condition", "LClogHouse$Condition;", true)
  | 2 => ("ClogHouse$Clause", "sum", "LClogHouse$Sum;", true)
  | _ => ("ClogHouse$Clause", "next", "LClogHouse$Clause;", false)
def tyX18 : Nat → FieldType := fun k => match k with
  | 0 => .int
  | 1 => .object "ClogHouse$Condition"
  | 2 => .object "ClogHouse$Sum"
  | _ => .object "ClogHouse$Clause"
abbrev wsX180 : List Cond := u_ws RX18 TX18 4
theorem nmX18 : ∀ a, a < 4 → ∀ b, b < 4 → a ≠ b → (TX18 a).2.1 ≠ (TX18 b).2.1 := by decide +kernel
theorem tyX18_ok : ∀ k, k < 4 → parseFieldDescriptor (TX18 k).2.2.1 = some (tyX18 k) := by decide +kernel
abbrev cX18_init : ByteArray := prog_5_method_1_code
def yX18_init : MethodName := ⟨RX18, "<init>", "(ILClogHouse$Condition;LClogHouse$Sum;)V"⟩
abbrev cX18_worth : ByteArray := prog_5_method_2_code
def yX18_worth : MethodName := ⟨RX18, "worth", "(I[I)I"⟩
theorem q102 : (Jvm.Cond.initialized "ClogHouse$Clause") ∈ lw_all := lw_g (lw_at lw_m1 27 rfl) rfl
theorem q850 : (Jvm.Cond.instantiable "ClogHouse$Clause" (4 : Nat)) ∈ lw_all := lw_g (lw_at lw_m4 55 rfl) rfl
theorem q852 : (Jvm.Cond.instanceMethod ({ cls := "ClogHouse$Clause", name := "<init>", desc := "(ILClogHouse$Condition;LClogHouse$Sum;)V" } : Jvm.MethodName)) ∈ lw_all := lw_g (lw_at lw_m4 57 rfl) rfl
theorem q853 : (Jvm.Cond.code ({ cls := "ClogHouse$Clause", name := "<init>", desc := "(ILClogHouse$Condition;LClogHouse$Sum;)V" } : Jvm.MethodName) prog_5_method_1_code (4 : Nat) (Option.none : Option Jvm.ClassFile.FieldType)) ∈ lw_all := lw_g (lw_at lw_m4 58 rfl) rfl
theorem q854 : (Jvm.Cond.methodLink "ClogHouse$Clause" (1 : Nat) ({ cls := "java/lang/Object", name := "<init>", desc := "()V" } : Jvm.MethodName)) ∈ lw_all := lw_g (lw_at lw_m4 59 rfl) rfl
theorem q855 : (Jvm.Cond.fieldLink "ClogHouse$Clause" (7 : Nat) "ClogHouse$Clause" "label" "I") ∈ lw_all := lw_g (lw_at lw_m4 60 rfl) rfl
theorem q856 : (Jvm.Cond.fieldLink "ClogHouse$Clause" (13 : Nat) "ClogHouse$Clause" "condition" "LClogHouse$Condition;") ∈ lw_all := lw_g (lw_at lw_m4 61 rfl) rfl
theorem q857 : (Jvm.Cond.fieldLink "ClogHouse$Clause" (17 : Nat) "ClogHouse$Clause" "sum" "LClogHouse$Sum;") ∈ lw_all := lw_g (lw_at lw_m4 62 rfl) rfl
theorem q858 : (Jvm.Cond.fieldLink "ClogHouse$Clause" (33 : Nat) "ClogHouse$Clause" "next" "LClogHouse$Clause;") ∈ lw_all := lw_g (lw_at lw_m4 63 rfl) rfl
theorem q860 : (Jvm.Cond.laysFinal "ClogHouse$Clause" "ClogHouse$Clause" "label" "I") ∈ lw_all := lw_g (lw_at lw_m4 65 rfl) rfl
theorem q861 : (Jvm.Cond.soleField "ClogHouse$Clause" "label") ∈ lw_all := lw_g (lw_at lw_m4 66 rfl) rfl
theorem q862 : (Jvm.Cond.laysFinal "ClogHouse$Clause" "ClogHouse$Clause" "condition" "LClogHouse$Condition;") ∈ lw_all := lw_g (lw_at lw_m4 67 rfl) rfl
theorem q863 : (Jvm.Cond.soleField "ClogHouse$Clause" "condition") ∈ lw_all := lw_g (lw_at lw_m4 68 rfl) rfl
theorem q864 : (Jvm.Cond.laysFinal "ClogHouse$Clause" "ClogHouse$Clause" "sum" "LClogHouse$Sum;") ∈ lw_all := lw_g (lw_at lw_m4 69 rfl) rfl
theorem q865 : (Jvm.Cond.soleField "ClogHouse$Clause" "sum") ∈ lw_all := lw_g (lw_at lw_m4 70 rfl) rfl
theorem q866 : (Jvm.Cond.lays "ClogHouse$Clause" "ClogHouse$Clause" "next" "LClogHouse$Clause;") ∈ lw_all := lw_g (lw_at lw_m4 71 rfl) rfl
theorem q867 : (Jvm.Cond.soleField "ClogHouse$Clause" "next") ∈ lw_all := lw_g (lw_at lw_m4 72 rfl) rfl
theorem q868 : (Jvm.Cond.superclass "ClogHouse$Clause" "java/lang/Object") ∈ lw_all := lw_g (lw_at lw_m4 73 rfl) rfl
theorem q911 : (Jvm.Cond.instanceMethod ({ cls := "ClogHouse$Clause", name := "worth", desc := "(I[I)I" } : Jvm.MethodName)) ∈ lw_all := lw_g (lw_at lw_m4 116 rfl) rfl
theorem q912 : (Jvm.Cond.selects "ClogHouse$Clause" ({ cls := "ClogHouse$Clause", name := "worth", desc := "(I[I)I" } : Jvm.MethodName) ({ cls := "ClogHouse$Clause", name := "worth", desc := "(I[I)I" } : Jvm.MethodName)) ∈ lw_all := lw_g (lw_at lw_m4 117 rfl) rfl
theorem q913 : (Jvm.Cond.code ({ cls := "ClogHouse$Clause", name := "worth", desc := "(I[I)I" } : Jvm.MethodName) prog_5_method_2_code (4 : Nat) (Option.some Jvm.ClassFile.FieldType.int)) ∈ lw_all := lw_g (lw_at lw_m4 118 rfl) rfl
theorem q914 : (Jvm.Cond.interfaceEntry "ClogHouse$Clause" (21 : Nat)) ∈ lw_tbl := lw_at lw_m4 119 rfl
theorem q915 : (Jvm.Cond.methodLink "ClogHouse$Clause" (21 : Nat) ({ cls := "ClogHouse$Condition", name := "holds", desc := "([I)Z" } : Jvm.MethodName)) ∈ lw_all := lw_g (lw_at lw_m4 120 rfl) rfl
theorem q968 : (Jvm.Cond.methodLink "ClogHouse$Clause" (27 : Nat) ({ cls := "ClogHouse$Sum", name := "of", desc := "([I)I" } : Jvm.MethodName)) ∈ lw_all := lw_g (lw_at lw_m4 173 rfl) rfl
theorem q1743 : (Jvm.Cond.castable "ClogHouse$Clause" "java/lang/Object") ∈ lw_tbl := lw_at lw_m7 228 rfl
theorem in_X18 : ∀ w ∈ wsX180, w ∈ lw_all := lw_in wsX180 [860, 862, 864, 866] (by decide +kernel) (by decide +kernel)

/-! ClogHouse$Holds -/
def RX19 : String := "ClogHouse$Holds"
abbrev cX19_all : ByteArray := prog_10_method_2_code
def yX19_all : MethodName := ⟨RX19, "all", "()I"⟩
theorem q412 : (Jvm.Cond.declares ({ cls := "ClogHouse$Holds", name := "all", desc := "()I" } : Jvm.MethodName)) ∈ lw_tbl := lw_at lw_m2 97 rfl
theorem q414 : (Jvm.Cond.instanceMethod ({ cls := "ClogHouse$Holds", name := "all", desc := "()I" } : Jvm.MethodName)) ∈ lw_all := lw_g (lw_at lw_m2 99 rfl) rfl
theorem q415 : (Jvm.Cond.publicMethod ({ cls := "ClogHouse$Holds", name := "all", desc := "()I" } : Jvm.MethodName)) ∈ lw_tbl := lw_at lw_m2 100 rfl
theorem q416 : (Jvm.Cond.code ({ cls := "ClogHouse$Holds", name := "all", desc := "()I" } : Jvm.MethodName) prog_10_method_2_code (3 : Nat) (Option.some Jvm.ClassFile.FieldType.int)) ∈ lw_all := lw_g (lw_at lw_m2 101 rfl) rfl
theorem q417 : (Jvm.Cond.interfaceEntry "ClogHouse$Holds" (3 : Nat)) ∈ lw_tbl := lw_at lw_m2 102 rfl
theorem q418 : (Jvm.Cond.methodLink "ClogHouse$Holds" (3 : Nat) ({ cls := "ClogHouse$Holds", name := "of", desc := "(I)I" } : Jvm.MethodName)) ∈ lw_all := lw_g (lw_at lw_m2 103 rfl) rfl
theorem q419 : (Jvm.Cond.interfaceMethod "ClogHouse$Holds" "ClogHouse$Holds" "of" "(I)I") ∈ lw_tbl := lw_at lw_m2 104 rfl
theorem q420 : (Jvm.Cond.declares ({ cls := "ClogHouse$Holds", name := "of", desc := "(I)I" } : Jvm.MethodName)) ∈ lw_tbl := lw_at lw_m2 105 rfl

