/-! java/lang/Object -/
set_option maxRecDepth 100000
def RJ13 : String := "java/lang/Object"
abbrev cJ13_init : ByteArray := object_method_1_code
def yJ13_init : MethodName := ⟨RJ13, "<init>", "()V"⟩
theorem q280 : (Jvm.Cond.instanceMethod ({ cls := "java/lang/Object", name := "<init>", desc := "()V" } : Jvm.MethodName)) ∈ lw_all := lw_g (lw_at lw_m1 38 rfl) rfl
theorem q281 : (Jvm.Cond.code ({ cls := "java/lang/Object", name := "<init>", desc := "()V" } : Jvm.MethodName) object_method_1_code (1 : Nat) (Option.none : Option Jvm.ClassFile.FieldType)) ∈ lw_all := lw_g (lw_at lw_m1 39 rfl) rfl
/-! java/lang/String -/
set_option maxRecDepth 100000
def RJ0 : String := "java/lang/String"
abbrev cJ0_length : ByteArray := prog_25_method_54_code
def yJ0_length : MethodName := ⟨RJ0, "length", "()I"⟩
abbrev cJ0_coder : ByteArray := prog_25_method_152_code
def yJ0_coder : MethodName := ⟨RJ0, "coder", "()B"⟩
abbrev cJ0_charAt : ByteArray := prog_25_method_56_code
def yJ0_charAt : MethodName := ⟨RJ0, "charAt", "(I)C"⟩
abbrev cJ0_isLatin1 : ByteArray := prog_25_method_154_code
def yJ0_isLatin1 : MethodName := ⟨RJ0, "isLatin1", "()Z"⟩
abbrev cJ0_checkIndex : ByteArray := prog_25_method_155_code
def yJ0_checkIndex : MethodName := ⟨RJ0, "checkIndex", "(II)V"⟩
abbrev cJ0_indexOf : ByteArray := prog_25_method_79_code
def yJ0_indexOf : MethodName := ⟨RJ0, "indexOf", "(I)I"⟩
abbrev cJ0_indexOf_2 : ByteArray := prog_25_method_80_code
def yJ0_indexOf_2 : MethodName := ⟨RJ0, "indexOf", "(II)I"⟩
abbrev cJ0_checkBoundsBeginEnd : ByteArray := prog_25_method_158_code
def yJ0_checkBoundsBeginEnd : MethodName := ⟨RJ0, "checkBoundsBeginEnd", "(III)V"⟩
theorem q247 : (Jvm.Cond.initialized "java/lang/String") ∈ lw_all := lw_g (lw_at lw_m1 5 rfl) rfl
theorem q351 : (Jvm.Cond.instanceMethod ({ cls := "java/lang/String", name := "length", desc := "()I" } : Jvm.MethodName)) ∈ lw_all := lw_g (lw_at lw_m1 109 rfl) rfl
theorem q352 : (Jvm.Cond.selects "java/lang/String" ({ cls := "java/lang/String", name := "length", desc := "()I" } : Jvm.MethodName) ({ cls := "java/lang/String", name := "length", desc := "()I" } : Jvm.MethodName)) ∈ lw_all := lw_g (lw_at lw_m1 110 rfl) rfl
theorem q353 : (Jvm.Cond.code ({ cls := "java/lang/String", name := "length", desc := "()I" } : Jvm.MethodName) prog_25_method_54_code (1 : Nat) (Option.some Jvm.ClassFile.FieldType.int)) ∈ lw_all := lw_g (lw_at lw_m1 111 rfl) rfl
theorem q354 : (Jvm.Cond.methodLink "java/lang/String" (335 : Nat) ({ cls := "java/lang/String", name := "coder", desc := "()B" } : Jvm.MethodName)) ∈ lw_all := lw_g (lw_at lw_m1 112 rfl) rfl
theorem q355 : (Jvm.Cond.instanceMethod ({ cls := "java/lang/String", name := "coder", desc := "()B" } : Jvm.MethodName)) ∈ lw_all := lw_g (lw_at lw_m1 113 rfl) rfl
theorem q356 : (Jvm.Cond.selects "java/lang/String" ({ cls := "java/lang/String", name := "coder", desc := "()B" } : Jvm.MethodName) ({ cls := "java/lang/String", name := "coder", desc := "()B" } : Jvm.MethodName)) ∈ lw_all := lw_g (lw_at lw_m1 114 rfl) rfl
theorem q357 : (Jvm.Cond.code ({ cls := "java/lang/String", name := "coder", desc := "()B" } : Jvm.MethodName) prog_25_method_152_code (1 : Nat) (Option.some Jvm.ClassFile.FieldType.byte)) ∈ lw_all := lw_g (lw_at lw_m1 115 rfl) rfl
theorem q358 : (Jvm.Cond.fieldLink "java/lang/String" (38 : Nat) "java/lang/String" "COMPACT_STRINGS" "Z") ∈ lw_all := lw_g (lw_at lw_m1 116 rfl) rfl
theorem q359 : (Jvm.Cond.laysStatic "java/lang/String" "COMPACT_STRINGS" "Z") ∈ lw_tbl := lw_at lw_m1 117 rfl
theorem q361 : (Jvm.Cond.instanceMethod ({ cls := "java/lang/String", name := "charAt", desc := "(I)C" } : Jvm.MethodName)) ∈ lw_all := lw_g (lw_at lw_m1 119 rfl) rfl
theorem q362 : (Jvm.Cond.selects "java/lang/String" ({ cls := "java/lang/String", name := "charAt", desc := "(I)C" } : Jvm.MethodName) ({ cls := "java/lang/String", name := "charAt", desc := "(I)C" } : Jvm.MethodName)) ∈ lw_all := lw_g (lw_at lw_m1 120 rfl) rfl
theorem q363 : (Jvm.Cond.code ({ cls := "java/lang/String", name := "charAt", desc := "(I)C" } : Jvm.MethodName) prog_25_method_56_code (2 : Nat) (Option.some Jvm.ClassFile.FieldType.char)) ∈ lw_all := lw_g (lw_at lw_m1 121 rfl) rfl
theorem q364 : (Jvm.Cond.methodLink "java/lang/String" (492 : Nat) ({ cls := "java/lang/String", name := "isLatin1", desc := "()Z" } : Jvm.MethodName)) ∈ lw_all := lw_g (lw_at lw_m1 122 rfl) rfl
theorem q365 : (Jvm.Cond.instanceMethod ({ cls := "java/lang/String", name := "isLatin1", desc := "()Z" } : Jvm.MethodName)) ∈ lw_all := lw_g (lw_at lw_m1 123 rfl) rfl
theorem q366 : (Jvm.Cond.selects "java/lang/String" ({ cls := "java/lang/String", name := "isLatin1", desc := "()Z" } : Jvm.MethodName) ({ cls := "java/lang/String", name := "isLatin1", desc := "()Z" } : Jvm.MethodName)) ∈ lw_all := lw_g (lw_at lw_m1 124 rfl) rfl
theorem q367 : (Jvm.Cond.code ({ cls := "java/lang/String", name := "isLatin1", desc := "()Z" } : Jvm.MethodName) prog_25_method_154_code (1 : Nat) (Option.some Jvm.ClassFile.FieldType.boolean)) ∈ lw_all := lw_g (lw_at lw_m1 125 rfl) rfl
theorem q368 : (Jvm.Cond.methodLink "java/lang/String" (495 : Nat) ({ cls := "java/lang/StringLatin1", name := "charAt", desc := "([BI)C" } : Jvm.MethodName)) ∈ lw_all := lw_g (lw_at lw_m1 126 rfl) rfl
theorem q372 : (Jvm.Cond.static ({ cls := "java/lang/String", name := "checkIndex", desc := "(II)V" } : Jvm.MethodName)) ∈ lw_all := lw_g (lw_at lw_m1 130 rfl) rfl
theorem q373 : (Jvm.Cond.code ({ cls := "java/lang/String", name := "checkIndex", desc := "(II)V" } : Jvm.MethodName) prog_25_method_155_code (2 : Nat) (Option.none : Option Jvm.ClassFile.FieldType)) ∈ lw_all := lw_g (lw_at lw_m1 131 rfl) rfl
theorem q374 : (Jvm.Cond.fieldLink "java/lang/String" (1053 : Nat) "jdk/internal/util/Preconditions" "SIOOBE_FORMATTER" "Ljava/util/function/BiFunction;") ∈ lw_all := lw_g (lw_at lw_m1 132 rfl) rfl
theorem q376 : (Jvm.Cond.methodLink "java/lang/String" (1059 : Nat) ({ cls := "jdk/internal/util/Preconditions", name := "checkIndex", desc := "(IILjava/util/function/BiFunction;)I" } : Jvm.MethodName)) ∈ lw_all := lw_g (lw_at lw_m1 134 rfl) rfl
theorem q379 : (Jvm.Cond.methodLink "java/lang/String" (498 : Nat) ({ cls := "java/lang/StringUTF16", name := "charAt", desc := "([BI)C" } : Jvm.MethodName)) ∈ lw_all := lw_g (lw_at lw_m1 137 rfl) rfl
theorem q2013 : (Jvm.Cond.instanceMethod ({ cls := "java/lang/String", name := "indexOf", desc := "(I)I" } : Jvm.MethodName)) ∈ lw_all := lw_g (lw_at lw_m8 91 rfl) rfl
theorem q2014 : (Jvm.Cond.selects "java/lang/String" ({ cls := "java/lang/String", name := "indexOf", desc := "(I)I" } : Jvm.MethodName) ({ cls := "java/lang/String", name := "indexOf", desc := "(I)I" } : Jvm.MethodName)) ∈ lw_all := lw_g (lw_at lw_m8 92 rfl) rfl
theorem q2015 : (Jvm.Cond.code ({ cls := "java/lang/String", name := "indexOf", desc := "(I)I" } : Jvm.MethodName) prog_25_method_79_code (2 : Nat) (Option.some Jvm.ClassFile.FieldType.int)) ∈ lw_all := lw_g (lw_at lw_m8 93 rfl) rfl
theorem q2016 : (Jvm.Cond.methodLink "java/lang/String" (633 : Nat) ({ cls := "java/lang/String", name := "indexOf", desc := "(II)I" } : Jvm.MethodName)) ∈ lw_all := lw_g (lw_at lw_m8 94 rfl) rfl
theorem q2017 : (Jvm.Cond.instanceMethod ({ cls := "java/lang/String", name := "indexOf", desc := "(II)I" } : Jvm.MethodName)) ∈ lw_all := lw_g (lw_at lw_m8 95 rfl) rfl
theorem q2018 : (Jvm.Cond.selects "java/lang/String" ({ cls := "java/lang/String", name := "indexOf", desc := "(II)I" } : Jvm.MethodName) ({ cls := "java/lang/String", name := "indexOf", desc := "(II)I" } : Jvm.MethodName)) ∈ lw_all := lw_g (lw_at lw_m8 96 rfl) rfl
theorem q2019 : (Jvm.Cond.code ({ cls := "java/lang/String", name := "indexOf", desc := "(II)I" } : Jvm.MethodName) prog_25_method_80_code (3 : Nat) (Option.some Jvm.ClassFile.FieldType.int)) ∈ lw_all := lw_g (lw_at lw_m8 97 rfl) rfl
theorem q2020 : (Jvm.Cond.methodLink "java/lang/String" (505 : Nat) ({ cls := "java/lang/String", name := "length", desc := "()I" } : Jvm.MethodName)) ∈ lw_all := lw_g (lw_at lw_m8 98 rfl) rfl
theorem q2021 : (Jvm.Cond.methodLink "java/lang/String" (637 : Nat) ({ cls := "java/lang/StringLatin1", name := "indexOf", desc := "([BIII)I" } : Jvm.MethodName)) ∈ lw_all := lw_g (lw_at lw_m8 99 rfl) rfl
theorem q2034 : (Jvm.Cond.methodLink "java/lang/String" (640 : Nat) ({ cls := "java/lang/StringUTF16", name := "indexOf", desc := "([BIII)I" } : Jvm.MethodName)) ∈ lw_all := lw_g (lw_at lw_m8 112 rfl) rfl
theorem q2047 : (Jvm.Cond.static ({ cls := "java/lang/String", name := "checkBoundsBeginEnd", desc := "(III)V" } : Jvm.MethodName)) ∈ lw_all := lw_g (lw_at lw_m8 125 rfl) rfl
theorem q2048 : (Jvm.Cond.code ({ cls := "java/lang/String", name := "checkBoundsBeginEnd", desc := "(III)V" } : Jvm.MethodName) prog_25_method_158_code (3 : Nat) (Option.none : Option Jvm.ClassFile.FieldType)) ∈ lw_all := lw_g (lw_at lw_m8 126 rfl) rfl
theorem q2049 : (Jvm.Cond.methodLink "java/lang/String" (1062 : Nat) ({ cls := "jdk/internal/util/Preconditions", name := "checkFromToIndex", desc := "(IIILjava/util/function/BiFunction;)I" } : Jvm.MethodName)) ∈ lw_all := lw_g (lw_at lw_m8 127 rfl) rfl
theorem q3688 : (Jvm.Cond.fieldLink "java/lang/String" (9 : Nat) "java/lang/String" "value" "[B") ∈ lw_all := lw_g (lw_at lw_m15 86 rfl) rfl
theorem q3689 : (Jvm.Cond.fieldLink "java/lang/String" (15 : Nat) "java/lang/String" "coder" "B") ∈ lw_all := lw_g (lw_at lw_m15 87 rfl) rfl
/-! java/lang/StringLatin1 -/
set_option maxRecDepth 100000
def RJ1 : String := "java/lang/StringLatin1"
abbrev cJ1_charAt : ByteArray := prog_26_method_2_code
def yJ1_charAt : MethodName := ⟨RJ1, "charAt", "([BI)C"⟩
abbrev cJ1_indexOf : ByteArray := prog_26_method_22_code
def yJ1_indexOf : MethodName := ⟨RJ1, "indexOf", "([BIII)I"⟩
abbrev cJ1_canEncode : ByteArray := prog_26_method_4_code
def yJ1_canEncode : MethodName := ⟨RJ1, "canEncode", "(I)Z"⟩
abbrev cJ1_indexOfChar : ByteArray := prog_26_method_23_code
def yJ1_indexOfChar : MethodName := ⟨RJ1, "indexOfChar", "([BIII)I"⟩
theorem q248 : (Jvm.Cond.initialized "java/lang/StringLatin1") ∈ lw_all := lw_g (lw_at lw_m1 6 rfl) rfl
theorem q369 : (Jvm.Cond.static ({ cls := "java/lang/StringLatin1", name := "charAt", desc := "([BI)C" } : Jvm.MethodName)) ∈ lw_all := lw_g (lw_at lw_m1 127 rfl) rfl
theorem q370 : (Jvm.Cond.code ({ cls := "java/lang/StringLatin1", name := "charAt", desc := "([BI)C" } : Jvm.MethodName) prog_26_method_2_code (2 : Nat) (Option.some Jvm.ClassFile.FieldType.char)) ∈ lw_all := lw_g (lw_at lw_m1 128 rfl) rfl
theorem q371 : (Jvm.Cond.methodLink "java/lang/StringLatin1" (9 : Nat) ({ cls := "java/lang/String", name := "checkIndex", desc := "(II)V" } : Jvm.MethodName)) ∈ lw_all := lw_g (lw_at lw_m1 129 rfl) rfl
theorem q2022 : (Jvm.Cond.static ({ cls := "java/lang/StringLatin1", name := "indexOf", desc := "([BIII)I" } : Jvm.MethodName)) ∈ lw_all := lw_g (lw_at lw_m8 100 rfl) rfl
theorem q2023 : (Jvm.Cond.code ({ cls := "java/lang/StringLatin1", name := "indexOf", desc := "([BIII)I" } : Jvm.MethodName) prog_26_method_22_code (4 : Nat) (Option.some Jvm.ClassFile.FieldType.int)) ∈ lw_all := lw_g (lw_at lw_m8 101 rfl) rfl
theorem q2024 : (Jvm.Cond.methodLink "java/lang/StringLatin1" (88 : Nat) ({ cls := "java/lang/StringLatin1", name := "canEncode", desc := "(I)Z" } : Jvm.MethodName)) ∈ lw_all := lw_g (lw_at lw_m8 102 rfl) rfl
theorem q2025 : (Jvm.Cond.static ({ cls := "java/lang/StringLatin1", name := "canEncode", desc := "(I)Z" } : Jvm.MethodName)) ∈ lw_all := lw_g (lw_at lw_m8 103 rfl) rfl
theorem q2026 : (Jvm.Cond.code ({ cls := "java/lang/StringLatin1", name := "canEncode", desc := "(I)Z" } : Jvm.MethodName) prog_26_method_4_code (1 : Nat) (Option.some Jvm.ClassFile.FieldType.boolean)) ∈ lw_all := lw_g (lw_at lw_m8 104 rfl) rfl
theorem q2027 : (Jvm.Cond.methodLink "java/lang/StringLatin1" (92 : Nat) ({ cls := "java/lang/Math", name := "max", desc := "(II)I" } : Jvm.MethodName)) ∈ lw_all := lw_g (lw_at lw_m8 105 rfl) rfl
theorem q2030 : (Jvm.Cond.methodLink "java/lang/StringLatin1" (38 : Nat) ({ cls := "java/lang/Math", name := "min", desc := "(II)I" } : Jvm.MethodName)) ∈ lw_all := lw_g (lw_at lw_m8 108 rfl) rfl
theorem q2031 : (Jvm.Cond.methodLink "java/lang/StringLatin1" (95 : Nat) ({ cls := "java/lang/StringLatin1", name := "indexOfChar", desc := "([BIII)I" } : Jvm.MethodName)) ∈ lw_all := lw_g (lw_at lw_m8 109 rfl) rfl
theorem q2032 : (Jvm.Cond.static ({ cls := "java/lang/StringLatin1", name := "indexOfChar", desc := "([BIII)I" } : Jvm.MethodName)) ∈ lw_all := lw_g (lw_at lw_m8 110 rfl) rfl
theorem q2033 : (Jvm.Cond.code ({ cls := "java/lang/StringLatin1", name := "indexOfChar", desc := "([BIII)I" } : Jvm.MethodName) prog_26_method_23_code (6 : Nat) (Option.some Jvm.ClassFile.FieldType.int)) ∈ lw_all := lw_g (lw_at lw_m8 111 rfl) rfl
/-! jdk/internal/util/Preconditions -/
set_option maxRecDepth 100000
def RJ2 : String := "jdk/internal/util/Preconditions"
abbrev cJ2_checkIndex : ByteArray := prog_32_method_11_code
def yJ2_checkIndex : MethodName := ⟨RJ2, "checkIndex", "(IILjava/util/function/BiFunction;)I"⟩
abbrev cJ2_checkFromToIndex : ByteArray := prog_32_method_12_code
def yJ2_checkFromToIndex : MethodName := ⟨RJ2, "checkFromToIndex", "(IIILjava/util/function/BiFunction;)I"⟩
theorem q249 : (Jvm.Cond.initialized "jdk/internal/util/Preconditions") ∈ lw_all := lw_g (lw_at lw_m1 7 rfl) rfl
theorem q375 : (Jvm.Cond.laysStatic "jdk/internal/util/Preconditions" "SIOOBE_FORMATTER" "Ljava/util/function/BiFunction;") ∈ lw_tbl := lw_at lw_m1 133 rfl
theorem q377 : (Jvm.Cond.static ({ cls := "jdk/internal/util/Preconditions", name := "checkIndex", desc := "(IILjava/util/function/BiFunction;)I" } : Jvm.MethodName)) ∈ lw_all := lw_g (lw_at lw_m1 135 rfl) rfl
theorem q378 : (Jvm.Cond.code ({ cls := "jdk/internal/util/Preconditions", name := "checkIndex", desc := "(IILjava/util/function/BiFunction;)I" } : Jvm.MethodName) prog_32_method_11_code (3 : Nat) (Option.some Jvm.ClassFile.FieldType.int)) ∈ lw_all := lw_g (lw_at lw_m1 136 rfl) rfl
theorem q2050 : (Jvm.Cond.static ({ cls := "jdk/internal/util/Preconditions", name := "checkFromToIndex", desc := "(IIILjava/util/function/BiFunction;)I" } : Jvm.MethodName)) ∈ lw_all := lw_g (lw_at lw_m8 128 rfl) rfl
theorem q2051 : (Jvm.Cond.code ({ cls := "jdk/internal/util/Preconditions", name := "checkFromToIndex", desc := "(IIILjava/util/function/BiFunction;)I" } : Jvm.MethodName) prog_32_method_12_code (4 : Nat) (Option.some Jvm.ClassFile.FieldType.int)) ∈ lw_all := lw_g (lw_at lw_m8 129 rfl) rfl
/-! java/lang/Math -/
set_option maxRecDepth 100000
def RJ4 : String := "java/lang/Math"
abbrev cJ4_min : ByteArray := prog_23_method_69_code
def yJ4_min : MethodName := ⟨RJ4, "min", "(II)I"⟩
abbrev cJ4_max : ByteArray := prog_23_method_65_code
def yJ4_max : MethodName := ⟨RJ4, "max", "(II)I"⟩
theorem q264 : (Jvm.Cond.initialized "java/lang/Math") ∈ lw_all := lw_g (lw_at lw_m1 22 rfl) rfl
theorem q1755 : (Jvm.Cond.static ({ cls := "java/lang/Math", name := "min", desc := "(II)I" } : Jvm.MethodName)) ∈ lw_all := lw_g (lw_at lw_m7 73 rfl) rfl
theorem q1756 : (Jvm.Cond.code ({ cls := "java/lang/Math", name := "min", desc := "(II)I" } : Jvm.MethodName) prog_23_method_69_code (2 : Nat) (Option.some Jvm.ClassFile.FieldType.int)) ∈ lw_all := lw_g (lw_at lw_m7 74 rfl) rfl
theorem q2028 : (Jvm.Cond.static ({ cls := "java/lang/Math", name := "max", desc := "(II)I" } : Jvm.MethodName)) ∈ lw_all := lw_g (lw_at lw_m8 106 rfl) rfl
theorem q2029 : (Jvm.Cond.code ({ cls := "java/lang/Math", name := "max", desc := "(II)I" } : Jvm.MethodName) prog_23_method_65_code (2 : Nat) (Option.some Jvm.ClassFile.FieldType.int)) ∈ lw_all := lw_g (lw_at lw_m8 107 rfl) rfl
/-! java/lang/Throwable -/
set_option maxRecDepth 100000
def RJ6 : String := "java/lang/Throwable"
def TJ6 : u_T := fun k => match k with
  | 0 => ("java/lang/Throwable", "cause", "Ljava/lang/Throwable;", false)
  | 1 => ("java/lang/Throwable", "stackTrace", "[Ljava/lang/StackTraceElement;", false)
  | 2 => ("java/lang/Throwable", "suppressedExceptions", "Ljava/util/List;", false)
  | 3 => ("java/lang/Throwable", "detailMessage", "Ljava/lang/String;", false)
  | _ => ("java/lang/Throwable", "backtrace", "Ljava/lang/Object;", false)
def tyJ6 : Nat → FieldType := fun k => match k with
  | 0 => .object "java/lang/Throwable"
  | 1 => .array (.object "java/lang/StackTraceElement")
  | 2 => .object "java/util/List"
  | 3 => .object "java/lang/String"
  | _ => .object "java/lang/Object"
abbrev wsJ60 : List Cond := u_ws RJ6 TJ6 5
theorem nmJ6 : ∀ a, a < 5 → ∀ b, b < 5 → a ≠ b → (TJ6 a).2.1 ≠ (TJ6 b).2.1 := by decide +kernel
theorem tyJ6_ok : ∀ k, k < 5 → parseFieldDescriptor (TJ6 k).2.2.1 = some (tyJ6 k) := by decide +kernel
abbrev cJ6_init : ByteArray := prog_29_method_1_code
def yJ6_init : MethodName := ⟨RJ6, "<init>", "()V"⟩
theorem q266 : (Jvm.Cond.initialized "java/lang/Throwable") ∈ lw_all := lw_g (lw_at lw_m1 24 rfl) rfl
theorem q2080 : (Jvm.Cond.declares ({ cls := "java/lang/Throwable", name := "<init>", desc := "()V" } : Jvm.MethodName)) ∈ lw_tbl := lw_at lw_m8 158 rfl
theorem q2081 : (Jvm.Cond.declares ({ cls := "java/lang/Throwable", name := "<init>", desc := "(Ljava/lang/String;)V" } : Jvm.MethodName)) ∈ lw_tbl := lw_at lw_m8 159 rfl
theorem q2085 : (Jvm.Cond.lays "java/lang/Throwable" "java/lang/Throwable" "cause" "Ljava/lang/Throwable;") ∈ lw_all := lw_g (lw_at lw_m8 163 rfl) rfl
theorem q2087 : (Jvm.Cond.lays "java/lang/Throwable" "java/lang/Throwable" "stackTrace" "[Ljava/lang/StackTraceElement;") ∈ lw_all := lw_g (lw_at lw_m8 165 rfl) rfl
theorem q2089 : (Jvm.Cond.lays "java/lang/Throwable" "java/lang/Throwable" "suppressedExceptions" "Ljava/util/List;") ∈ lw_all := lw_g (lw_at lw_m8 167 rfl) rfl
theorem q2091 : (Jvm.Cond.lays "java/lang/Throwable" "java/lang/Throwable" "detailMessage" "Ljava/lang/String;") ∈ lw_all := lw_g (lw_at lw_m8 169 rfl) rfl
theorem q2093 : (Jvm.Cond.lays "java/lang/Throwable" "java/lang/Throwable" "backtrace" "Ljava/lang/Object;") ∈ lw_all := lw_g (lw_at lw_m8 171 rfl) rfl
theorem q2094 : (Jvm.Cond.fieldLink "java/lang/Throwable" (198 : Nat) "java/lang/Throwable" "backtrace" "Ljava/lang/Object;") ∈ lw_all := lw_g (lw_at lw_m8 172 rfl) rfl
theorem q2095 : (Jvm.Cond.superclass "java/lang/Throwable" "java/lang/Object") ∈ lw_all := lw_g (lw_at lw_m8 173 rfl) rfl
theorem q2096 : (Jvm.Cond.instanceMethod ({ cls := "java/lang/Throwable", name := "<init>", desc := "()V" } : Jvm.MethodName)) ∈ lw_all := lw_g (lw_at lw_m8 174 rfl) rfl
theorem q2097 : (Jvm.Cond.code ({ cls := "java/lang/Throwable", name := "<init>", desc := "()V" } : Jvm.MethodName) prog_29_method_1_code (1 : Nat) (Option.none : Option Jvm.ClassFile.FieldType)) ∈ lw_all := lw_g (lw_at lw_m8 175 rfl) rfl
theorem q2098 : (Jvm.Cond.methodLink "java/lang/Throwable" (1 : Nat) ({ cls := "java/lang/Object", name := "<init>", desc := "()V" } : Jvm.MethodName)) ∈ lw_all := lw_g (lw_at lw_m8 176 rfl) rfl
theorem q2099 : (Jvm.Cond.fieldLink "java/lang/Throwable" (13 : Nat) "java/lang/Throwable" "UNASSIGNED_STACK" "[Ljava/lang/StackTraceElement;") ∈ lw_all := lw_g (lw_at lw_m8 177 rfl) rfl
theorem q2100 : (Jvm.Cond.laysStatic "java/lang/Throwable" "UNASSIGNED_STACK" "[Ljava/lang/StackTraceElement;") ∈ lw_tbl := lw_at lw_m8 178 rfl
theorem q2101 : (Jvm.Cond.fieldLink "java/lang/Throwable" (20 : Nat) "java/lang/Throwable" "SUPPRESSED_SENTINEL" "Ljava/util/List;") ∈ lw_all := lw_g (lw_at lw_m8 179 rfl) rfl
theorem q2102 : (Jvm.Cond.laysStatic "java/lang/Throwable" "SUPPRESSED_SENTINEL" "Ljava/util/List;") ∈ lw_tbl := lw_at lw_m8 180 rfl
theorem q2103 : (Jvm.Cond.methodLink "java/lang/Throwable" (27 : Nat) ({ cls := "java/lang/Throwable", name := "fillInStackTrace", desc := "()Ljava/lang/Throwable;" } : Jvm.MethodName)) ∈ lw_all := lw_g (lw_at lw_m8 181 rfl) rfl
theorem q2104 : (Jvm.Cond.instanceMethod ({ cls := "java/lang/Throwable", name := "fillInStackTrace", desc := "()Ljava/lang/Throwable;" } : Jvm.MethodName)) ∈ lw_all := lw_g (lw_at lw_m8 182 rfl) rfl
theorem q2105 : (Jvm.Cond.sameMethod "java/lang/Throwable" "java/lang/Throwable" "fillInStackTrace" "()Ljava/lang/Throwable;") ∈ lw_all := lw_g (lw_at lw_m8 183 rfl) rfl
theorem q2109 : (Jvm.Cond.codeSync ({ cls := "java/lang/Throwable", name := "fillInStackTrace", desc := "()Ljava/lang/Throwable;" } : Jvm.MethodName) prog_29_method_18_code (1 : Nat) (Option.some (Jvm.ClassFile.FieldType.object "java/lang/Throwable"))) ∈ lw_all := lw_g (lw_at lw_m8 187 rfl) rfl
theorem q2110 : (Jvm.Cond.methodLink "java/lang/Throwable" (202 : Nat) ({ cls := "java/lang/Throwable", name := "fillInStackTrace", desc := "(I)Ljava/lang/Throwable;" } : Jvm.MethodName)) ∈ lw_all := lw_g (lw_at lw_m8 188 rfl) rfl
theorem q2111 : (Jvm.Cond.privateMethod ({ cls := "java/lang/Throwable", name := "fillInStackTrace", desc := "(I)Ljava/lang/Throwable;" } : Jvm.MethodName)) ∈ lw_tbl := lw_at lw_m8 189 rfl
theorem q2112 : (Jvm.Cond.instanceMethod ({ cls := "java/lang/Throwable", name := "fillInStackTrace", desc := "(I)Ljava/lang/Throwable;" } : Jvm.MethodName)) ∈ lw_all := lw_g (lw_at lw_m8 190 rfl) rfl
theorem q2113 : (Jvm.Cond.instantiable "java/lang/Throwable" (6 : Nat)) ∈ lw_all := lw_g (lw_at lw_m8 191 rfl) rfl
theorem q2114 : (Jvm.Cond.native ({ cls := "java/lang/Throwable", name := "fillInStackTrace", desc := "(I)Ljava/lang/Throwable;" } : Jvm.MethodName)) ∈ lw_all := lw_g (lw_at lw_m8 192 rfl) rfl
theorem q2125 : (Jvm.Cond.fieldLink "java/lang/Throwable" (198 : Nat) "java/lang/Throwable" "backtrace" "Ljava/lang/Object;") ∈ lw_all := lw_g (lw_at lw_m8 203 rfl) rfl
theorem q2126 : (Jvm.Cond.fieldLink "java/lang/Throwable" (7 : Nat) "java/lang/Throwable" "cause" "Ljava/lang/Throwable;") ∈ lw_all := lw_g (lw_at lw_m8 204 rfl) rfl
theorem q2127 : (Jvm.Cond.fieldLink "java/lang/Throwable" (17 : Nat) "java/lang/Throwable" "stackTrace" "[Ljava/lang/StackTraceElement;") ∈ lw_all := lw_g (lw_at lw_m8 205 rfl) rfl
theorem q2128 : (Jvm.Cond.fieldLink "java/lang/Throwable" (24 : Nat) "java/lang/Throwable" "suppressedExceptions" "Ljava/util/List;") ∈ lw_all := lw_g (lw_at lw_m8 206 rfl) rfl
theorem q2129 : (Jvm.Cond.soleField "java/lang/Throwable" "backtrace") ∈ lw_all := lw_g (lw_at lw_m8 207 rfl) rfl
theorem q2130 : (Jvm.Cond.soleField "java/lang/Throwable" "detailMessage") ∈ lw_all := lw_g (lw_at lw_m8 208 rfl) rfl
theorem q2131 : (Jvm.Cond.soleField "java/lang/Throwable" "cause") ∈ lw_all := lw_g (lw_at lw_m8 209 rfl) rfl
theorem q2132 : (Jvm.Cond.soleField "java/lang/Throwable" "stackTrace") ∈ lw_all := lw_g (lw_at lw_m8 210 rfl) rfl
theorem q2134 : (Jvm.Cond.soleField "java/lang/Throwable" "depth") ∈ lw_all := lw_g (lw_at lw_m8 212 rfl) rfl
theorem q2135 : (Jvm.Cond.soleField "java/lang/Throwable" "suppressedExceptions") ∈ lw_all := lw_g (lw_at lw_m8 213 rfl) rfl
theorem q3687 : (Jvm.Cond.sameMethod "java/lang/Throwable" "java/lang/Throwable" "fillInStackTrace" "(I)Ljava/lang/Throwable;") ∈ lw_all := lw_g (lw_at lw_m15 85 rfl) rfl
theorem in_J6 : ∀ w ∈ wsJ60, w ∈ lw_all := lw_in wsJ60 [2085, 2087, 2089, 2091, 2093] (by decide +kernel) (by decide +kernel)
/-! java/lang/Exception -/
set_option maxRecDepth 100000
def RJ7 : String := "java/lang/Exception"
abbrev cJ7_init : ByteArray := prog_20_method_1_code
def yJ7_init : MethodName := ⟨RJ7, "<init>", "()V"⟩
theorem q267 : (Jvm.Cond.initialized "java/lang/Exception") ∈ lw_all := lw_g (lw_at lw_m1 25 rfl) rfl
theorem q2078 : (Jvm.Cond.declares ({ cls := "java/lang/Exception", name := "<init>", desc := "()V" } : Jvm.MethodName)) ∈ lw_tbl := lw_at lw_m8 156 rfl
theorem q2079 : (Jvm.Cond.declares ({ cls := "java/lang/Exception", name := "<init>", desc := "(Ljava/lang/String;)V" } : Jvm.MethodName)) ∈ lw_tbl := lw_at lw_m8 157 rfl
theorem q2122 : (Jvm.Cond.instanceMethod ({ cls := "java/lang/Exception", name := "<init>", desc := "()V" } : Jvm.MethodName)) ∈ lw_all := lw_g (lw_at lw_m8 200 rfl) rfl
theorem q2123 : (Jvm.Cond.code ({ cls := "java/lang/Exception", name := "<init>", desc := "()V" } : Jvm.MethodName) prog_20_method_1_code (1 : Nat) (Option.none : Option Jvm.ClassFile.FieldType)) ∈ lw_all := lw_g (lw_at lw_m8 201 rfl) rfl
theorem q2124 : (Jvm.Cond.methodLink "java/lang/Exception" (1 : Nat) ({ cls := "java/lang/Throwable", name := "<init>", desc := "()V" } : Jvm.MethodName)) ∈ lw_all := lw_g (lw_at lw_m8 202 rfl) rfl
/-! java/lang/RuntimeException -/
set_option maxRecDepth 100000
def RJ8 : String := "java/lang/RuntimeException"
abbrev cJ8_init : ByteArray := prog_24_method_1_code
def yJ8_init : MethodName := ⟨RJ8, "<init>", "()V"⟩
theorem q268 : (Jvm.Cond.initialized "java/lang/RuntimeException") ∈ lw_all := lw_g (lw_at lw_m1 26 rfl) rfl
theorem q2076 : (Jvm.Cond.declares ({ cls := "java/lang/RuntimeException", name := "<init>", desc := "()V" } : Jvm.MethodName)) ∈ lw_tbl := lw_at lw_m8 154 rfl
theorem q2077 : (Jvm.Cond.declares ({ cls := "java/lang/RuntimeException", name := "<init>", desc := "(Ljava/lang/String;)V" } : Jvm.MethodName)) ∈ lw_tbl := lw_at lw_m8 155 rfl
theorem q2119 : (Jvm.Cond.instanceMethod ({ cls := "java/lang/RuntimeException", name := "<init>", desc := "()V" } : Jvm.MethodName)) ∈ lw_all := lw_g (lw_at lw_m8 197 rfl) rfl
theorem q2120 : (Jvm.Cond.code ({ cls := "java/lang/RuntimeException", name := "<init>", desc := "()V" } : Jvm.MethodName) prog_24_method_1_code (1 : Nat) (Option.none : Option Jvm.ClassFile.FieldType)) ∈ lw_all := lw_g (lw_at lw_m8 198 rfl) rfl
theorem q2121 : (Jvm.Cond.methodLink "java/lang/RuntimeException" (1 : Nat) ({ cls := "java/lang/Exception", name := "<init>", desc := "()V" } : Jvm.MethodName)) ∈ lw_all := lw_g (lw_at lw_m8 199 rfl) rfl
/-! java/lang/UnsupportedOperationException -/
set_option maxRecDepth 100000
def RJ9 : String := "java/lang/UnsupportedOperationException"
def TJ9 : u_T := fun k => match k with
  | 0 => ("java/lang/Throwable", "cause", "Ljava/lang/Throwable;", false)
  | 1 => ("java/lang/Throwable", "stackTrace", "[Ljava/lang/StackTraceElement;", false)
  | 2 => ("java/lang/Throwable", "suppressedExceptions", "Ljava/util/List;", false)
  | 3 => ("java/lang/Throwable", "detailMessage", "Ljava/lang/String;", false)
  | 4 => ("java/lang/Throwable", "backtrace", "Ljava/lang/Object;", false)
  | _ => ("java/lang/Throwable", "depth", "I", false)
def tyJ9 : Nat → FieldType := fun k => match k with
  | 0 => .object "java/lang/Throwable"
  | 1 => .array (.object "java/lang/StackTraceElement")
  | 2 => .object "java/util/List"
  | 3 => .object "java/lang/String"
  | 4 => .object "java/lang/Object"
  | _ => .int
abbrev wsJ90 : List Cond := u_ws RJ9 TJ9 6
theorem nmJ9 : ∀ a, a < 6 → ∀ b, b < 6 → a ≠ b → (TJ9 a).2.1 ≠ (TJ9 b).2.1 := by decide +kernel
theorem tyJ9_ok : ∀ k, k < 6 → parseFieldDescriptor (TJ9 k).2.2.1 = some (tyJ9 k) := by decide +kernel
abbrev cJ9_init : ByteArray := prog_30_method_1_code
def yJ9_init : MethodName := ⟨RJ9, "<init>", "()V"⟩
theorem q269 : (Jvm.Cond.initialized "java/lang/UnsupportedOperationException") ∈ lw_all := lw_g (lw_at lw_m1 27 rfl) rfl
theorem q2074 : (Jvm.Cond.instantiable "java/lang/UnsupportedOperationException" (6 : Nat)) ∈ lw_all := lw_g (lw_at lw_m8 152 rfl) rfl
theorem q2075 : (Jvm.Cond.castable "java/lang/UnsupportedOperationException" "java/lang/UnsupportedOperationException") ∈ lw_tbl := lw_at lw_m8 153 rfl
theorem q2082 : (Jvm.Cond.selects "java/lang/UnsupportedOperationException" ({ cls := "java/lang/Throwable", name := "fillInStackTrace", desc := "(I)Ljava/lang/Throwable;" } : Jvm.MethodName) ({ cls := "java/lang/Throwable", name := "fillInStackTrace", desc := "(I)Ljava/lang/Throwable;" } : Jvm.MethodName)) ∈ lw_all := lw_g (lw_at lw_m8 160 rfl) rfl
theorem q2083 : (Jvm.Cond.selects "java/lang/UnsupportedOperationException" ({ cls := "java/lang/Throwable", name := "fillInStackTrace", desc := "()Ljava/lang/Throwable;" } : Jvm.MethodName) ({ cls := "java/lang/Throwable", name := "fillInStackTrace", desc := "()Ljava/lang/Throwable;" } : Jvm.MethodName)) ∈ lw_all := lw_g (lw_at lw_m8 161 rfl) rfl
theorem q2084 : (Jvm.Cond.lays "java/lang/UnsupportedOperationException" "java/lang/Throwable" "cause" "Ljava/lang/Throwable;") ∈ lw_all := lw_g (lw_at lw_m8 162 rfl) rfl
theorem q2086 : (Jvm.Cond.lays "java/lang/UnsupportedOperationException" "java/lang/Throwable" "stackTrace" "[Ljava/lang/StackTraceElement;") ∈ lw_all := lw_g (lw_at lw_m8 164 rfl) rfl
theorem q2088 : (Jvm.Cond.lays "java/lang/UnsupportedOperationException" "java/lang/Throwable" "suppressedExceptions" "Ljava/util/List;") ∈ lw_all := lw_g (lw_at lw_m8 166 rfl) rfl
theorem q2090 : (Jvm.Cond.lays "java/lang/UnsupportedOperationException" "java/lang/Throwable" "detailMessage" "Ljava/lang/String;") ∈ lw_all := lw_g (lw_at lw_m8 168 rfl) rfl
theorem q2092 : (Jvm.Cond.lays "java/lang/UnsupportedOperationException" "java/lang/Throwable" "backtrace" "Ljava/lang/Object;") ∈ lw_all := lw_g (lw_at lw_m8 170 rfl) rfl
theorem q2116 : (Jvm.Cond.instanceMethod ({ cls := "java/lang/UnsupportedOperationException", name := "<init>", desc := "()V" } : Jvm.MethodName)) ∈ lw_all := lw_g (lw_at lw_m8 194 rfl) rfl
theorem q2117 : (Jvm.Cond.code ({ cls := "java/lang/UnsupportedOperationException", name := "<init>", desc := "()V" } : Jvm.MethodName) prog_30_method_1_code (1 : Nat) (Option.none : Option Jvm.ClassFile.FieldType)) ∈ lw_all := lw_g (lw_at lw_m8 195 rfl) rfl
theorem q2118 : (Jvm.Cond.methodLink "java/lang/UnsupportedOperationException" (1 : Nat) ({ cls := "java/lang/RuntimeException", name := "<init>", desc := "()V" } : Jvm.MethodName)) ∈ lw_all := lw_g (lw_at lw_m8 196 rfl) rfl
theorem q2133 : (Jvm.Cond.lays "java/lang/UnsupportedOperationException" "java/lang/Throwable" "depth" "I") ∈ lw_all := lw_g (lw_at lw_m8 211 rfl) rfl
theorem q2136 : (Jvm.Cond.superclass "java/lang/UnsupportedOperationException" "java/lang/RuntimeException") ∈ lw_all := lw_g (lw_at lw_m8 214 rfl) rfl
theorem in_J9 : ∀ w ∈ wsJ90, w ∈ lw_all := lw_in wsJ90 [2084, 2086, 2088, 2090, 2092, 2133] (by decide +kernel) (by decide +kernel)
/-! java/lang/IllegalArgumentException -/
set_option maxRecDepth 100000
def RJ10 : String := "java/lang/IllegalArgumentException"
def TJ10 : u_T := fun k => match k with
  | 0 => ("java/lang/Throwable", "cause", "Ljava/lang/Throwable;", false)
  | 1 => ("java/lang/Throwable", "stackTrace", "[Ljava/lang/StackTraceElement;", false)
  | 2 => ("java/lang/Throwable", "suppressedExceptions", "Ljava/util/List;", false)
  | 3 => ("java/lang/Throwable", "detailMessage", "Ljava/lang/String;", false)
  | 4 => ("java/lang/Throwable", "backtrace", "Ljava/lang/Object;", false)
  | _ => ("java/lang/Throwable", "depth", "I", false)
def tyJ10 : Nat → FieldType := fun k => match k with
  | 0 => .object "java/lang/Throwable"
  | 1 => .array (.object "java/lang/StackTraceElement")
  | 2 => .object "java/util/List"
  | 3 => .object "java/lang/String"
  | 4 => .object "java/lang/Object"
  | _ => .int
abbrev wsJ100 : List Cond := u_ws RJ10 TJ10 6
theorem nmJ10 : ∀ a, a < 6 → ∀ b, b < 6 → a ≠ b → (TJ10 a).2.1 ≠ (TJ10 b).2.1 := by decide +kernel
theorem tyJ10_ok : ∀ k, k < 6 → parseFieldDescriptor (TJ10 k).2.2.1 = some (tyJ10 k) := by decide +kernel
abbrev cJ10_init : ByteArray := prog_21_method_1_code
def yJ10_init : MethodName := ⟨RJ10, "<init>", "()V"⟩
theorem q270 : (Jvm.Cond.initialized "java/lang/IllegalArgumentException") ∈ lw_all := lw_g (lw_at lw_m1 28 rfl) rfl
theorem q2106 : (Jvm.Cond.selects "java/lang/IllegalArgumentException" ({ cls := "java/lang/Throwable", name := "fillInStackTrace", desc := "()Ljava/lang/Throwable;" } : Jvm.MethodName) ({ cls := "java/lang/Throwable", name := "fillInStackTrace", desc := "()Ljava/lang/Throwable;" } : Jvm.MethodName)) ∈ lw_all := lw_g (lw_at lw_m8 184 rfl) rfl
theorem q2364 : (Jvm.Cond.instantiable "java/lang/IllegalArgumentException" (6 : Nat)) ∈ lw_all := lw_g (lw_at lw_m9 202 rfl) rfl
theorem q2365 : (Jvm.Cond.castable "java/lang/IllegalArgumentException" "java/lang/IllegalArgumentException") ∈ lw_tbl := lw_at lw_m9 203 rfl
theorem q2366 : (Jvm.Cond.selects "java/lang/IllegalArgumentException" ({ cls := "java/lang/Throwable", name := "fillInStackTrace", desc := "(I)Ljava/lang/Throwable;" } : Jvm.MethodName) ({ cls := "java/lang/Throwable", name := "fillInStackTrace", desc := "(I)Ljava/lang/Throwable;" } : Jvm.MethodName)) ∈ lw_all := lw_g (lw_at lw_m9 204 rfl) rfl
theorem q2367 : (Jvm.Cond.lays "java/lang/IllegalArgumentException" "java/lang/Throwable" "cause" "Ljava/lang/Throwable;") ∈ lw_all := lw_g (lw_at lw_m9 205 rfl) rfl
theorem q2368 : (Jvm.Cond.lays "java/lang/IllegalArgumentException" "java/lang/Throwable" "stackTrace" "[Ljava/lang/StackTraceElement;") ∈ lw_all := lw_g (lw_at lw_m9 206 rfl) rfl
theorem q2369 : (Jvm.Cond.lays "java/lang/IllegalArgumentException" "java/lang/Throwable" "suppressedExceptions" "Ljava/util/List;") ∈ lw_all := lw_g (lw_at lw_m9 207 rfl) rfl
theorem q2370 : (Jvm.Cond.lays "java/lang/IllegalArgumentException" "java/lang/Throwable" "detailMessage" "Ljava/lang/String;") ∈ lw_all := lw_g (lw_at lw_m9 208 rfl) rfl
theorem q2371 : (Jvm.Cond.lays "java/lang/IllegalArgumentException" "java/lang/Throwable" "backtrace" "Ljava/lang/Object;") ∈ lw_all := lw_g (lw_at lw_m9 209 rfl) rfl
theorem q2373 : (Jvm.Cond.instanceMethod ({ cls := "java/lang/IllegalArgumentException", name := "<init>", desc := "()V" } : Jvm.MethodName)) ∈ lw_all := lw_g (lw_at lw_m9 211 rfl) rfl
theorem q2374 : (Jvm.Cond.code ({ cls := "java/lang/IllegalArgumentException", name := "<init>", desc := "()V" } : Jvm.MethodName) prog_21_method_1_code (1 : Nat) (Option.none : Option Jvm.ClassFile.FieldType)) ∈ lw_all := lw_g (lw_at lw_m9 212 rfl) rfl
theorem q2375 : (Jvm.Cond.methodLink "java/lang/IllegalArgumentException" (1 : Nat) ({ cls := "java/lang/RuntimeException", name := "<init>", desc := "()V" } : Jvm.MethodName)) ∈ lw_all := lw_g (lw_at lw_m9 213 rfl) rfl
theorem q2376 : (Jvm.Cond.lays "java/lang/IllegalArgumentException" "java/lang/Throwable" "depth" "I") ∈ lw_all := lw_g (lw_at lw_m9 214 rfl) rfl
theorem q2377 : (Jvm.Cond.superclass "java/lang/IllegalArgumentException" "java/lang/RuntimeException") ∈ lw_all := lw_g (lw_at lw_m9 215 rfl) rfl
theorem in_J10 : ∀ w ∈ wsJ100, w ∈ lw_all := lw_in wsJ100 [2367, 2368, 2369, 2370, 2371, 2376] (by decide +kernel) (by decide +kernel)
/-! java/lang/IllegalStateException -/
set_option maxRecDepth 100000
def RJ11 : String := "java/lang/IllegalStateException"
def TJ11 : u_T := fun k => match k with
  | 0 => ("java/lang/Throwable", "cause", "Ljava/lang/Throwable;", false)
  | 1 => ("java/lang/Throwable", "stackTrace", "[Ljava/lang/StackTraceElement;", false)
  | 2 => ("java/lang/Throwable", "suppressedExceptions", "Ljava/util/List;", false)
  | 3 => ("java/lang/Throwable", "detailMessage", "Ljava/lang/String;", false)
  | 4 => ("java/lang/Throwable", "backtrace", "Ljava/lang/Object;", false)
  | _ => ("java/lang/Throwable", "depth", "I", false)
def tyJ11 : Nat → FieldType := fun k => match k with
  | 0 => .object "java/lang/Throwable"
  | 1 => .array (.object "java/lang/StackTraceElement")
  | 2 => .object "java/util/List"
  | 3 => .object "java/lang/String"
  | 4 => .object "java/lang/Object"
  | _ => .int
abbrev wsJ110 : List Cond := u_ws RJ11 TJ11 6
theorem nmJ11 : ∀ a, a < 6 → ∀ b, b < 6 → a ≠ b → (TJ11 a).2.1 ≠ (TJ11 b).2.1 := by decide +kernel
theorem tyJ11_ok : ∀ k, k < 6 → parseFieldDescriptor (TJ11 k).2.2.1 = some (tyJ11 k) := by decide +kernel
abbrev cJ11_init : ByteArray := prog_22_method_1_code
def yJ11_init : MethodName := ⟨RJ11, "<init>", "()V"⟩
theorem q272 : (Jvm.Cond.initialized "java/lang/IllegalStateException") ∈ lw_all := lw_g (lw_at lw_m1 30 rfl) rfl
theorem q2107 : (Jvm.Cond.selects "java/lang/IllegalStateException" ({ cls := "java/lang/Throwable", name := "fillInStackTrace", desc := "()Ljava/lang/Throwable;" } : Jvm.MethodName) ({ cls := "java/lang/Throwable", name := "fillInStackTrace", desc := "()Ljava/lang/Throwable;" } : Jvm.MethodName)) ∈ lw_all := lw_g (lw_at lw_m8 185 rfl) rfl
theorem q2388 : (Jvm.Cond.instantiable "java/lang/IllegalStateException" (6 : Nat)) ∈ lw_all := lw_g (lw_at lw_m9 226 rfl) rfl
theorem q2389 : (Jvm.Cond.castable "java/lang/IllegalStateException" "java/lang/IllegalStateException") ∈ lw_tbl := lw_at lw_m9 227 rfl
theorem q2390 : (Jvm.Cond.selects "java/lang/IllegalStateException" ({ cls := "java/lang/Throwable", name := "fillInStackTrace", desc := "(I)Ljava/lang/Throwable;" } : Jvm.MethodName) ({ cls := "java/lang/Throwable", name := "fillInStackTrace", desc := "(I)Ljava/lang/Throwable;" } : Jvm.MethodName)) ∈ lw_all := lw_g (lw_at lw_m9 228 rfl) rfl
theorem q2391 : (Jvm.Cond.lays "java/lang/IllegalStateException" "java/lang/Throwable" "cause" "Ljava/lang/Throwable;") ∈ lw_all := lw_g (lw_at lw_m9 229 rfl) rfl
theorem q2392 : (Jvm.Cond.lays "java/lang/IllegalStateException" "java/lang/Throwable" "stackTrace" "[Ljava/lang/StackTraceElement;") ∈ lw_all := lw_g (lw_at lw_m9 230 rfl) rfl
theorem q2393 : (Jvm.Cond.lays "java/lang/IllegalStateException" "java/lang/Throwable" "suppressedExceptions" "Ljava/util/List;") ∈ lw_all := lw_g (lw_at lw_m9 231 rfl) rfl
theorem q2394 : (Jvm.Cond.lays "java/lang/IllegalStateException" "java/lang/Throwable" "detailMessage" "Ljava/lang/String;") ∈ lw_all := lw_g (lw_at lw_m9 232 rfl) rfl
theorem q2395 : (Jvm.Cond.lays "java/lang/IllegalStateException" "java/lang/Throwable" "backtrace" "Ljava/lang/Object;") ∈ lw_all := lw_g (lw_at lw_m9 233 rfl) rfl
theorem q2397 : (Jvm.Cond.instanceMethod ({ cls := "java/lang/IllegalStateException", name := "<init>", desc := "()V" } : Jvm.MethodName)) ∈ lw_all := lw_g (lw_at lw_m9 235 rfl) rfl
theorem q2398 : (Jvm.Cond.code ({ cls := "java/lang/IllegalStateException", name := "<init>", desc := "()V" } : Jvm.MethodName) prog_22_method_1_code (1 : Nat) (Option.none : Option Jvm.ClassFile.FieldType)) ∈ lw_all := lw_g (lw_at lw_m9 236 rfl) rfl
theorem q2399 : (Jvm.Cond.methodLink "java/lang/IllegalStateException" (1 : Nat) ({ cls := "java/lang/RuntimeException", name := "<init>", desc := "()V" } : Jvm.MethodName)) ∈ lw_all := lw_g (lw_at lw_m9 237 rfl) rfl
theorem q2400 : (Jvm.Cond.lays "java/lang/IllegalStateException" "java/lang/Throwable" "depth" "I") ∈ lw_all := lw_g (lw_at lw_m9 238 rfl) rfl
theorem q2401 : (Jvm.Cond.superclass "java/lang/IllegalStateException" "java/lang/RuntimeException") ∈ lw_all := lw_g (lw_at lw_m9 239 rfl) rfl
theorem in_J11 : ∀ w ∈ wsJ110, w ∈ lw_all := lw_in wsJ110 [2391, 2392, 2393, 2394, 2395, 2400] (by decide +kernel) (by decide +kernel)
/-! java/util/NoSuchElementException -/
set_option maxRecDepth 100000
def RJ12 : String := "java/util/NoSuchElementException"
def TJ12 : u_T := fun k => match k with
  | 0 => ("java/lang/Throwable", "cause", "Ljava/lang/Throwable;", false)
  | 1 => ("java/lang/Throwable", "stackTrace", "[Ljava/lang/StackTraceElement;", false)
  | 2 => ("java/lang/Throwable", "suppressedExceptions", "Ljava/util/List;", false)
  | 3 => ("java/lang/Throwable", "detailMessage", "Ljava/lang/String;", false)
  | 4 => ("java/lang/Throwable", "backtrace", "Ljava/lang/Object;", false)
  | _ => ("java/lang/Throwable", "depth", "I", false)
def tyJ12 : Nat → FieldType := fun k => match k with
  | 0 => .object "java/lang/Throwable"
  | 1 => .array (.object "java/lang/StackTraceElement")
  | 2 => .object "java/util/List"
  | 3 => .object "java/lang/String"
  | 4 => .object "java/lang/Object"
  | _ => .int
abbrev wsJ120 : List Cond := u_ws RJ12 TJ12 6
theorem nmJ12 : ∀ a, a < 6 → ∀ b, b < 6 → a ≠ b → (TJ12 a).2.1 ≠ (TJ12 b).2.1 := by decide +kernel
theorem tyJ12_ok : ∀ k, k < 6 → parseFieldDescriptor (TJ12 k).2.2.1 = some (tyJ12 k) := by decide +kernel
abbrev cJ12_init : ByteArray := prog_31_method_1_code
def yJ12_init : MethodName := ⟨RJ12, "<init>", "()V"⟩
theorem q273 : (Jvm.Cond.initialized "java/util/NoSuchElementException") ∈ lw_all := lw_g (lw_at lw_m1 31 rfl) rfl
theorem q2108 : (Jvm.Cond.selects "java/util/NoSuchElementException" ({ cls := "java/lang/Throwable", name := "fillInStackTrace", desc := "()Ljava/lang/Throwable;" } : Jvm.MethodName) ({ cls := "java/lang/Throwable", name := "fillInStackTrace", desc := "()Ljava/lang/Throwable;" } : Jvm.MethodName)) ∈ lw_all := lw_g (lw_at lw_m8 186 rfl) rfl
theorem q2403 : (Jvm.Cond.instantiable "java/util/NoSuchElementException" (6 : Nat)) ∈ lw_all := lw_g (lw_at lw_m10 1 rfl) rfl
theorem q2404 : (Jvm.Cond.castable "java/util/NoSuchElementException" "java/util/NoSuchElementException") ∈ lw_tbl := lw_at lw_m10 2 rfl
theorem q2405 : (Jvm.Cond.selects "java/util/NoSuchElementException" ({ cls := "java/lang/Throwable", name := "fillInStackTrace", desc := "(I)Ljava/lang/Throwable;" } : Jvm.MethodName) ({ cls := "java/lang/Throwable", name := "fillInStackTrace", desc := "(I)Ljava/lang/Throwable;" } : Jvm.MethodName)) ∈ lw_all := lw_g (lw_at lw_m10 3 rfl) rfl
theorem q2406 : (Jvm.Cond.lays "java/util/NoSuchElementException" "java/lang/Throwable" "cause" "Ljava/lang/Throwable;") ∈ lw_all := lw_g (lw_at lw_m10 4 rfl) rfl
theorem q2407 : (Jvm.Cond.lays "java/util/NoSuchElementException" "java/lang/Throwable" "stackTrace" "[Ljava/lang/StackTraceElement;") ∈ lw_all := lw_g (lw_at lw_m10 5 rfl) rfl
theorem q2408 : (Jvm.Cond.lays "java/util/NoSuchElementException" "java/lang/Throwable" "suppressedExceptions" "Ljava/util/List;") ∈ lw_all := lw_g (lw_at lw_m10 6 rfl) rfl
theorem q2409 : (Jvm.Cond.lays "java/util/NoSuchElementException" "java/lang/Throwable" "detailMessage" "Ljava/lang/String;") ∈ lw_all := lw_g (lw_at lw_m10 7 rfl) rfl
theorem q2410 : (Jvm.Cond.lays "java/util/NoSuchElementException" "java/lang/Throwable" "backtrace" "Ljava/lang/Object;") ∈ lw_all := lw_g (lw_at lw_m10 8 rfl) rfl
theorem q2412 : (Jvm.Cond.instanceMethod ({ cls := "java/util/NoSuchElementException", name := "<init>", desc := "()V" } : Jvm.MethodName)) ∈ lw_all := lw_g (lw_at lw_m10 10 rfl) rfl
theorem q2413 : (Jvm.Cond.code ({ cls := "java/util/NoSuchElementException", name := "<init>", desc := "()V" } : Jvm.MethodName) prog_31_method_1_code (1 : Nat) (Option.none : Option Jvm.ClassFile.FieldType)) ∈ lw_all := lw_g (lw_at lw_m10 11 rfl) rfl
theorem q2414 : (Jvm.Cond.methodLink "java/util/NoSuchElementException" (1 : Nat) ({ cls := "java/lang/RuntimeException", name := "<init>", desc := "()V" } : Jvm.MethodName)) ∈ lw_all := lw_g (lw_at lw_m10 12 rfl) rfl
theorem q2415 : (Jvm.Cond.lays "java/util/NoSuchElementException" "java/lang/Throwable" "depth" "I") ∈ lw_all := lw_g (lw_at lw_m10 13 rfl) rfl
theorem q2416 : (Jvm.Cond.superclass "java/util/NoSuchElementException" "java/lang/RuntimeException") ∈ lw_all := lw_g (lw_at lw_m10 14 rfl) rfl
theorem in_J12 : ∀ w ∈ wsJ120, w ∈ lw_all := lw_in wsJ120 [2406, 2407, 2408, 2409, 2410, 2415] (by decide +kernel) (by decide +kernel)
/-! MarkHouseLaw -/
set_option maxRecDepth 100000
def RX0 : String := "MarkHouseLaw"
abbrev cX0_compile : ByteArray := method_3_code
def yX0_compile : MethodName := ⟨RX0, "compile", "(LMarkHouse;[J)I"⟩
abbrev cX0_begin : ByteArray := method_4_code
def yX0_begin : MethodName := ⟨RX0, "begin", "(LMarkHouse;IZ)I"⟩
abbrev cX0_go : ByteArray := method_5_code
def yX0_go : MethodName := ⟨RX0, "go", "(LMarkHouse;I[J)I"⟩
theorem q242 : (Jvm.Cond.initialized "MarkHouseLaw") ∈ lw_all := lw_g (lw_at lw_m1 0 rfl) rfl
theorem q274 : (Jvm.Cond.classLink "MarkHouseLaw" (8 : Nat) "MarkHouse") ∈ lw_all := lw_g (lw_at lw_m1 32 rfl) rfl
theorem q276 : (Jvm.Cond.methodLink "MarkHouseLaw" (27 : Nat) ({ cls := "MarkHouse", name := "<init>", desc := "()V" } : Jvm.MethodName)) ∈ lw_all := lw_g (lw_at lw_m1 34 rfl) rfl
theorem q1224 : (Jvm.Cond.methodLink "MarkHouseLaw" (31 : Nat) ({ cls := "MarkHouse", name := "feed", desc := "(IIIII)I" } : Jvm.MethodName)) ∈ lw_all := lw_g (lw_at lw_m5 22 rfl) rfl
theorem q1240 : (Jvm.Cond.methodLink "MarkHouseLaw" (36 : Nat) ({ cls := "MarkHouse", name := "end", desc := "(I)I" } : Jvm.MethodName)) ∈ lw_all := lw_g (lw_at lw_m5 38 rfl) rfl
theorem q1248 : (Jvm.Cond.methodLink "MarkHouseLaw" (40 : Nat) ({ cls := "MarkHouse", name := "out", desc := "(I)I" } : Jvm.MethodName)) ∈ lw_all := lw_g (lw_at lw_m5 46 rfl) rfl
theorem q1256 : (Jvm.Cond.methodLink "MarkHouseLaw" (53 : Nat) ({ cls := "MarkHouse", name := "fault", desc := "(I)I" } : Jvm.MethodName)) ∈ lw_all := lw_g (lw_at lw_m5 54 rfl) rfl
theorem q1260 : (Jvm.Cond.methodLink "MarkHouseLaw" (57 : Nat) ({ cls := "MarkHouse", name := "tell", desc := "()I" } : Jvm.MethodName)) ∈ lw_all := lw_g (lw_at lw_m5 58 rfl) rfl
theorem q1434 : (Jvm.Cond.methodLink "MarkHouseLaw" (61 : Nat) ({ cls := "MarkHouse", name := "size", desc := "(II)I" } : Jvm.MethodName)) ∈ lw_all := lw_g (lw_at lw_m5 232 rfl) rfl
theorem q1455 : (Jvm.Cond.methodLink "MarkHouseLaw" (66 : Nat) ({ cls := "MarkHouse", name := "order", desc := "(IIII)I" } : Jvm.MethodName)) ∈ lw_all := lw_g (lw_at lw_m6 13 rfl) rfl
theorem q1472 : (Jvm.Cond.methodLink "MarkHouseLaw" (71 : Nat) ({ cls := "MarkHouse", name := "mark", desc := "(III)I" } : Jvm.MethodName)) ∈ lw_all := lw_g (lw_at lw_m6 30 rfl) rfl
theorem q1479 : (Jvm.Cond.methodLink "MarkHouseLaw" (76 : Nat) ({ cls := "MarkHouse", name := "give", desc := "(I)I" } : Jvm.MethodName)) ∈ lw_all := lw_g (lw_at lw_m6 37 rfl) rfl
theorem q1551 : (Jvm.Cond.methodLink "MarkHouseLaw" (80 : Nat) ({ cls := "MarkHouse", name := "file", desc := "(I)I" } : Jvm.MethodName)) ∈ lw_all := lw_g (lw_at lw_m6 109 rfl) rfl
theorem q1570 : (Jvm.Cond.methodLink "MarkHouseLaw" (84 : Nat) ({ cls := "MarkHouse", name := "effective", desc := "(II)I" } : Jvm.MethodName)) ∈ lw_all := lw_g (lw_at lw_m6 128 rfl) rfl
theorem q1641 : (Jvm.Cond.methodLink "MarkHouseLaw" (88 : Nat) ({ cls := "MarkHouse", name := "whence", desc := "(III)I" } : Jvm.MethodName)) ∈ lw_all := lw_g (lw_at lw_m6 199 rfl) rfl
theorem q1648 : (Jvm.Cond.methodLink "MarkHouseLaw" (92 : Nat) ({ cls := "MarkHouse", name := "ask", desc := "(IIII)I" } : Jvm.MethodName)) ∈ lw_all := lw_g (lw_at lw_m6 206 rfl) rfl
theorem q1665 : (Jvm.Cond.methodLink "MarkHouseLaw" (96 : Nat) ({ cls := "MarkHouse", name := "markOf", desc := "(II)I" } : Jvm.MethodName)) ∈ lw_all := lw_g (lw_at lw_m6 223 rfl) rfl
theorem q1675 : (Jvm.Cond.methodLink "MarkHouseLaw" (100 : Nat) ({ cls := "MarkHouse", name := "rounds", desc := "()I" } : Jvm.MethodName)) ∈ lw_all := lw_g (lw_at lw_m6 233 rfl) rfl
theorem q1692 : (Jvm.Cond.methodLink "MarkHouseLaw" (104 : Nat) ({ cls := "MarkHouse", name := "flow", desc := "(I)I" } : Jvm.MethodName)) ∈ lw_all := lw_g (lw_at lw_m7 10 rfl) rfl
theorem q1778 : (Jvm.Cond.methodLink "MarkHouseLaw" (108 : Nat) ({ cls := "MarkHouse", name := "error", desc := "(II)I" } : Jvm.MethodName)) ∈ lw_all := lw_g (lw_at lw_m7 96 rfl) rfl
theorem q1783 : (Jvm.Cond.methodLink "MarkHouseLaw" (112 : Nat) ({ cls := "MarkHouse", name := "way", desc := "(I)I" } : Jvm.MethodName)) ∈ lw_all := lw_g (lw_at lw_m7 101 rfl) rfl
theorem q1814 : (Jvm.Cond.methodLink "MarkHouseLaw" (116 : Nat) ({ cls := "MarkHouse", name := "step", desc := "(I)I" } : Jvm.MethodName)) ∈ lw_all := lw_g (lw_at lw_m7 132 rfl) rfl
theorem q1818 : (Jvm.Cond.methodLink "MarkHouseLaw" (120 : Nat) ({ cls := "MarkHouse", name := "state", desc := "(III)I" } : Jvm.MethodName)) ∈ lw_all := lw_g (lw_at lw_m7 136 rfl) rfl
theorem q1823 : (Jvm.Cond.methodLink "MarkHouseLaw" (124 : Nat) ({ cls := "MarkHouse", name := "find", desc := "(I)I" } : Jvm.MethodName)) ∈ lw_all := lw_g (lw_at lw_m7 141 rfl) rfl
theorem q1836 : (Jvm.Cond.methodLink "MarkHouseLaw" (128 : Nat) ({ cls := "MarkHouse", name := "plain", desc := "(I)Z" } : Jvm.MethodName)) ∈ lw_all := lw_g (lw_at lw_m7 154 rfl) rfl
theorem q1844 : (Jvm.Cond.methodLink "MarkHouseLaw" (133 : Nat) ({ cls := "MarkHouse", name := "weave", desc := "()I" } : Jvm.MethodName)) ∈ lw_all := lw_g (lw_at lw_m7 162 rfl) rfl
theorem q1854 : (Jvm.Cond.methodLink "MarkHouseLaw" (137 : Nat) ({ cls := "MarkHouse", name := "code", desc := "(IZ)I" } : Jvm.MethodName)) ∈ lw_all := lw_g (lw_at lw_m7 172 rfl) rfl
theorem q1864 : (Jvm.Cond.methodLink "MarkHouseLaw" (142 : Nat) ({ cls := "MarkHouse", name := "argument", desc := "(II)Z" } : Jvm.MethodName)) ∈ lw_all := lw_g (lw_at lw_m7 182 rfl) rfl
theorem q1868 : (Jvm.Cond.methodLink "MarkHouseLaw" (147 : Nat) ({ cls := "MarkHouse", name := "input", desc := "(I)I" } : Jvm.MethodName)) ∈ lw_all := lw_g (lw_at lw_m7 186 rfl) rfl
theorem q1876 : (Jvm.Cond.methodLink "MarkHouseLaw" (159 : Nat) ({ cls := "MarkHouse", name := "run", desc := "(I)I" } : Jvm.MethodName)) ∈ lw_all := lw_g (lw_at lw_m7 194 rfl) rfl
theorem q1886 : (Jvm.Cond.methodLink "MarkHouseLaw" (163 : Nat) ({ cls := "MarkHouse", name := "truth", desc := "(I)I" } : Jvm.MethodName)) ∈ lw_all := lw_g (lw_at lw_m7 204 rfl) rfl
theorem q1898 : (Jvm.Cond.methodLink "MarkHouseLaw" (167 : Nat) ({ cls := "MarkHouse", name := "wire", desc := "()I" } : Jvm.MethodName)) ∈ lw_all := lw_g (lw_at lw_m7 216 rfl) rfl
theorem q1949 : (Jvm.Cond.methodLink "MarkHouseLaw" (171 : Nat) ({ cls := "MarkHouse", name := "wired", desc := "(I)I" } : Jvm.MethodName)) ∈ lw_all := lw_g (lw_at lw_m8 27 rfl) rfl
theorem q1957 : (Jvm.Cond.methodLink "MarkHouseLaw" (44 : Nat) ({ cls := "MarkHouseLaw", name := "compile", desc := "(LMarkHouse;[J)I" } : Jvm.MethodName)) ∈ lw_all := lw_g (lw_at lw_m8 35 rfl) rfl
theorem q1958 : (Jvm.Cond.static ({ cls := "MarkHouseLaw", name := "compile", desc := "(LMarkHouse;[J)I" } : Jvm.MethodName)) ∈ lw_all := lw_g (lw_at lw_m8 36 rfl) rfl
theorem q1959 : (Jvm.Cond.codeWith ({ cls := "MarkHouseLaw", name := "compile", desc := "(LMarkHouse;[J)I" } : Jvm.MethodName) method_3_code (3 : Nat) (Option.some Jvm.ClassFile.FieldType.int) [((0 : Nat), (8 : Nat), (11 : Nat), (13 : Nat))]) ∈ lw_all := lw_g (lw_at lw_m8 37 rfl) rfl
theorem q1960 : (Jvm.Cond.classLink "MarkHouseLaw" (13 : Nat) "java/lang/IllegalArgumentException") ∈ lw_all := lw_g (lw_at lw_m8 38 rfl) rfl
theorem q1961 : (Jvm.Cond.methodLink "MarkHouseLaw" (7 : Nat) ({ cls := "MarkHouse", name := "compile", desc := "()I" } : Jvm.MethodName)) ∈ lw_all := lw_g (lw_at lw_m8 39 rfl) rfl
theorem q2378 : (Jvm.Cond.methodLink "MarkHouseLaw" (151 : Nat) ({ cls := "MarkHouseLaw", name := "begin", desc := "(LMarkHouse;IZ)I" } : Jvm.MethodName)) ∈ lw_all := lw_g (lw_at lw_m9 216 rfl) rfl
theorem q2379 : (Jvm.Cond.static ({ cls := "MarkHouseLaw", name := "begin", desc := "(LMarkHouse;IZ)I" } : Jvm.MethodName)) ∈ lw_all := lw_g (lw_at lw_m9 217 rfl) rfl
theorem q2380 : (Jvm.Cond.codeWith ({ cls := "MarkHouseLaw", name := "begin", desc := "(LMarkHouse;IZ)I" } : Jvm.MethodName) method_4_code (4 : Nat) (Option.some Jvm.ClassFile.FieldType.int) [((0 : Nat), (6 : Nat), (9 : Nat), (19 : Nat)), ((0 : Nat), (6 : Nat), (12 : Nat), (21 : Nat))]) ∈ lw_all := lw_g (lw_at lw_m9 218 rfl) rfl
theorem q2381 : (Jvm.Cond.classLink "MarkHouseLaw" (19 : Nat) "java/lang/IllegalStateException") ∈ lw_all := lw_g (lw_at lw_m9 219 rfl) rfl
theorem q2382 : (Jvm.Cond.classLink "MarkHouseLaw" (21 : Nat) "java/util/NoSuchElementException") ∈ lw_all := lw_g (lw_at lw_m9 220 rfl) rfl
theorem q2383 : (Jvm.Cond.methodLink "MarkHouseLaw" (15 : Nat) ({ cls := "MarkHouse", name := "begin", desc := "(IZ)V" } : Jvm.MethodName)) ∈ lw_all := lw_g (lw_at lw_m9 221 rfl) rfl
theorem q2428 : (Jvm.Cond.methodLink "MarkHouseLaw" (155 : Nat) ({ cls := "MarkHouseLaw", name := "go", desc := "(LMarkHouse;I[J)I" } : Jvm.MethodName)) ∈ lw_all := lw_g (lw_at lw_m10 26 rfl) rfl
theorem q2429 : (Jvm.Cond.static ({ cls := "MarkHouseLaw", name := "go", desc := "(LMarkHouse;I[J)I" } : Jvm.MethodName)) ∈ lw_all := lw_g (lw_at lw_m10 27 rfl) rfl
theorem q2430 : (Jvm.Cond.codeWith ({ cls := "MarkHouseLaw", name := "go", desc := "(LMarkHouse;I[J)I" } : Jvm.MethodName) method_5_code (4 : Nat) (Option.some Jvm.ClassFile.FieldType.int) [((0 : Nat), (9 : Nat), (12 : Nat), (13 : Nat)), ((0 : Nat), (9 : Nat), (15 : Nat), (19 : Nat))]) ∈ lw_all := lw_g (lw_at lw_m10 28 rfl) rfl
theorem q2431 : (Jvm.Cond.methodLink "MarkHouseLaw" (23 : Nat) ({ cls := "MarkHouse", name := "go", desc := "(I)I" } : Jvm.MethodName)) ∈ lw_all := lw_g (lw_at lw_m10 29 rfl) rfl
theorem q2504 : (Jvm.Cond.classLink "MarkHouseLaw" (28 : Nat) "MarkHouseModel") ∈ lw_all := lw_g (lw_at lw_m10 102 rfl) rfl
theorem q2506 : (Jvm.Cond.methodLink "MarkHouseLaw" (30 : Nat) ({ cls := "MarkHouseModel", name := "<init>", desc := "()V" } : Jvm.MethodName)) ∈ lw_all := lw_g (lw_at lw_m10 104 rfl) rfl
theorem q2965 : (Jvm.Cond.methodLink "MarkHouseLaw" (50 : Nat) ({ cls := "MarkHouseModel", name := "thrown", desc := "()I" } : Jvm.MethodName)) ∈ lw_all := lw_g (lw_at lw_m12 83 rfl) rfl
theorem q2969 : (Jvm.Cond.methodLink "MarkHouseLaw" (35 : Nat) ({ cls := "MarkHouseModel", name := "feed", desc := "(IIIII)I" } : Jvm.MethodName)) ∈ lw_all := lw_g (lw_at lw_m12 87 rfl) rfl
theorem q2977 : (Jvm.Cond.methodLink "MarkHouseLaw" (39 : Nat) ({ cls := "MarkHouseModel", name := "end", desc := "(I)I" } : Jvm.MethodName)) ∈ lw_all := lw_g (lw_at lw_m12 95 rfl) rfl
theorem q2981 : (Jvm.Cond.methodLink "MarkHouseLaw" (43 : Nat) ({ cls := "MarkHouseModel", name := "out", desc := "(I)I" } : Jvm.MethodName)) ∈ lw_all := lw_g (lw_at lw_m12 99 rfl) rfl
theorem q2985 : (Jvm.Cond.methodLink "MarkHouseLaw" (49 : Nat) ({ cls := "MarkHouseModel", name := "compile", desc := "()I" } : Jvm.MethodName)) ∈ lw_all := lw_g (lw_at lw_m12 103 rfl) rfl
theorem q3238 : (Jvm.Cond.methodLink "MarkHouseLaw" (56 : Nat) ({ cls := "MarkHouseModel", name := "fault", desc := "(I)I" } : Jvm.MethodName)) ∈ lw_all := lw_g (lw_at lw_m13 116 rfl) rfl
theorem q3242 : (Jvm.Cond.methodLink "MarkHouseLaw" (87 : Nat) ({ cls := "MarkHouseModel", name := "effective", desc := "(II)I" } : Jvm.MethodName)) ∈ lw_all := lw_g (lw_at lw_m13 120 rfl) rfl
theorem q3287 : (Jvm.Cond.methodLink "MarkHouseLaw" (91 : Nat) ({ cls := "MarkHouseModel", name := "whence", desc := "(III)I" } : Jvm.MethodName)) ∈ lw_all := lw_g (lw_at lw_m13 165 rfl) rfl
theorem q3307 : (Jvm.Cond.methodLink "MarkHouseLaw" (95 : Nat) ({ cls := "MarkHouseModel", name := "ask", desc := "(IIII)I" } : Jvm.MethodName)) ∈ lw_all := lw_g (lw_at lw_m13 185 rfl) rfl
theorem q3324 : (Jvm.Cond.methodLink "MarkHouseLaw" (75 : Nat) ({ cls := "MarkHouseModel", name := "mark", desc := "(III)I" } : Jvm.MethodName)) ∈ lw_all := lw_g (lw_at lw_m13 202 rfl) rfl
theorem q3328 : (Jvm.Cond.methodLink "MarkHouseLaw" (65 : Nat) ({ cls := "MarkHouseModel", name := "size", desc := "(II)I" } : Jvm.MethodName)) ∈ lw_all := lw_g (lw_at lw_m13 206 rfl) rfl
theorem q3340 : (Jvm.Cond.methodLink "MarkHouseLaw" (70 : Nat) ({ cls := "MarkHouseModel", name := "order", desc := "(IIII)I" } : Jvm.MethodName)) ∈ lw_all := lw_g (lw_at lw_m13 218 rfl) rfl
theorem q3356 : (Jvm.Cond.methodLink "MarkHouseLaw" (79 : Nat) ({ cls := "MarkHouseModel", name := "give", desc := "(I)I" } : Jvm.MethodName)) ∈ lw_all := lw_g (lw_at lw_m13 234 rfl) rfl
theorem q3380 : (Jvm.Cond.methodLink "MarkHouseLaw" (83 : Nat) ({ cls := "MarkHouseModel", name := "file", desc := "(I)I" } : Jvm.MethodName)) ∈ lw_all := lw_g (lw_at lw_m14 18 rfl) rfl
theorem q3391 : (Jvm.Cond.methodLink "MarkHouseLaw" (60 : Nat) ({ cls := "MarkHouseModel", name := "tell", desc := "()I" } : Jvm.MethodName)) ∈ lw_all := lw_g (lw_at lw_m14 29 rfl) rfl
theorem q3479 : (Jvm.Cond.methodLink "MarkHouseLaw" (103 : Nat) ({ cls := "MarkHouseModel", name := "rounds", desc := "()I" } : Jvm.MethodName)) ∈ lw_all := lw_g (lw_at lw_m14 117 rfl) rfl
theorem q3483 : (Jvm.Cond.methodLink "MarkHouseLaw" (99 : Nat) ({ cls := "MarkHouseModel", name := "markOf", desc := "(II)I" } : Jvm.MethodName)) ∈ lw_all := lw_g (lw_at lw_m14 121 rfl) rfl
theorem q3495 : (Jvm.Cond.methodLink "MarkHouseLaw" (107 : Nat) ({ cls := "MarkHouseModel", name := "flow", desc := "(I)I" } : Jvm.MethodName)) ∈ lw_all := lw_g (lw_at lw_m14 133 rfl) rfl
theorem q3542 : (Jvm.Cond.methodLink "MarkHouseLaw" (111 : Nat) ({ cls := "MarkHouseModel", name := "error", desc := "(II)I" } : Jvm.MethodName)) ∈ lw_all := lw_g (lw_at lw_m14 180 rfl) rfl
theorem q3546 : (Jvm.Cond.methodLink "MarkHouseLaw" (123 : Nat) ({ cls := "MarkHouseModel", name := "state", desc := "(III)I" } : Jvm.MethodName)) ∈ lw_all := lw_g (lw_at lw_m14 184 rfl) rfl
theorem q3550 : (Jvm.Cond.methodLink "MarkHouseLaw" (115 : Nat) ({ cls := "MarkHouseModel", name := "way", desc := "(I)I" } : Jvm.MethodName)) ∈ lw_all := lw_g (lw_at lw_m14 188 rfl) rfl
theorem q3562 : (Jvm.Cond.methodLink "MarkHouseLaw" (119 : Nat) ({ cls := "MarkHouseModel", name := "step", desc := "(I)I" } : Jvm.MethodName)) ∈ lw_all := lw_g (lw_at lw_m14 200 rfl) rfl
theorem q3566 : (Jvm.Cond.methodLink "MarkHouseLaw" (127 : Nat) ({ cls := "MarkHouseModel", name := "find", desc := "(I)I" } : Jvm.MethodName)) ∈ lw_all := lw_g (lw_at lw_m14 204 rfl) rfl
theorem q3570 : (Jvm.Cond.methodLink "MarkHouseLaw" (132 : Nat) ({ cls := "MarkHouseModel", name := "plain", desc := "(I)Z" } : Jvm.MethodName)) ∈ lw_all := lw_g (lw_at lw_m14 208 rfl) rfl
theorem q3574 : (Jvm.Cond.methodLink "MarkHouseLaw" (136 : Nat) ({ cls := "MarkHouseModel", name := "weave", desc := "()I" } : Jvm.MethodName)) ∈ lw_all := lw_g (lw_at lw_m14 212 rfl) rfl
theorem q3581 : (Jvm.Cond.methodLink "MarkHouseLaw" (141 : Nat) ({ cls := "MarkHouseModel", name := "code", desc := "(IZ)I" } : Jvm.MethodName)) ∈ lw_all := lw_g (lw_at lw_m14 219 rfl) rfl
theorem q3586 : (Jvm.Cond.methodLink "MarkHouseLaw" (146 : Nat) ({ cls := "MarkHouseModel", name := "argument", desc := "(II)Z" } : Jvm.MethodName)) ∈ lw_all := lw_g (lw_at lw_m14 224 rfl) rfl
theorem q3590 : (Jvm.Cond.methodLink "MarkHouseLaw" (150 : Nat) ({ cls := "MarkHouseModel", name := "input", desc := "(I)I" } : Jvm.MethodName)) ∈ lw_all := lw_g (lw_at lw_m14 228 rfl) rfl
theorem q3594 : (Jvm.Cond.methodLink "MarkHouseLaw" (154 : Nat) ({ cls := "MarkHouseModel", name := "begin", desc := "(IZ)V" } : Jvm.MethodName)) ∈ lw_all := lw_g (lw_at lw_m14 232 rfl) rfl
theorem q3606 : (Jvm.Cond.methodLink "MarkHouseLaw" (158 : Nat) ({ cls := "MarkHouseModel", name := "go", desc := "(I)I" } : Jvm.MethodName)) ∈ lw_all := lw_g (lw_at lw_m15 4 rfl) rfl
theorem q3638 : (Jvm.Cond.methodLink "MarkHouseLaw" (162 : Nat) ({ cls := "MarkHouseModel", name := "run", desc := "(I)I" } : Jvm.MethodName)) ∈ lw_all := lw_g (lw_at lw_m15 36 rfl) rfl
theorem q3642 : (Jvm.Cond.methodLink "MarkHouseLaw" (166 : Nat) ({ cls := "MarkHouseModel", name := "truth", desc := "(I)I" } : Jvm.MethodName)) ∈ lw_all := lw_g (lw_at lw_m15 40 rfl) rfl
theorem q3646 : (Jvm.Cond.methodLink "MarkHouseLaw" (170 : Nat) ({ cls := "MarkHouseModel", name := "wire", desc := "()I" } : Jvm.MethodName)) ∈ lw_all := lw_g (lw_at lw_m15 44 rfl) rfl
theorem q3683 : (Jvm.Cond.methodLink "MarkHouseLaw" (174 : Nat) ({ cls := "MarkHouseModel", name := "wired", desc := "(I)I" } : Jvm.MethodName)) ∈ lw_all := lw_g (lw_at lw_m15 81 rfl) rfl
/-! MarkHouse -/
set_option maxRecDepth 100000
def RX1 : String := "MarkHouse"
def TX1 : u_T := fun k => match k with
  | 0 => ("MarkHouse", "tape", "LMarkHouse$Bytes;", true)
  | 1 => ("MarkHouse", "out", "LMarkHouse$Bytes;", true)
  | 2 => ("MarkHouse", "fault", "LMarkHouse$Fault;", true)
  | 3 => ("MarkHouse", "lexemes", "LMarkHouse$Lexemes;", true)
  | 4 => ("MarkHouse", "program", "LMarkHouse$Program;", true)
  | 5 => ("MarkHouse", "reader", "LMarkHouse$Reader;", true)
  | 6 => ("MarkHouse", "passing", "LMarkHouse$Passing;", true)
  | 7 => ("MarkHouse", "files", "LMarkHouse$Attributes;", true)
  | 8 => ("MarkHouse", "flow", "LMarkHouse$Flow;", true)
  | 9 => ("MarkHouse", "spare", "LMarkHouse$Flow;", true)
  | 10 => ("MarkHouse", "ways", "LMarkHouse$Ways;", true)
  | 11 => ("MarkHouse", "weaver", "LMarkHouse$Weaver;", true)
  | 12 => ("MarkHouse", "machine", "LMarkHouse$Machine;", true)
  | 13 => ("MarkHouse", "wirer", "LMarkHouse$Wirer;", true)
  | 14 => ("MarkHouse", "teller", "LMarkHouse$Teller;", true)
  | 15 => ("MarkHouse", "flowed", "Z", false)
  | _ => ("MarkHouse", "wayLong", "I", false)
def tyX1 : Nat → FieldType := fun k => match k with
  | 0 => .object "MarkHouse$Bytes"
  | 1 => .object "MarkHouse$Bytes"
  | 2 => .object "MarkHouse$Fault"
  | 3 => .object "MarkHouse$Lexemes"
  | 4 => .object "MarkHouse$Program"
  | 5 => .object "MarkHouse$Reader"
  | 6 => .object "MarkHouse$Passing"
  | 7 => .object "MarkHouse$Attributes"
  | 8 => .object "MarkHouse$Flow"
  | 9 => .object "MarkHouse$Flow"
  | 10 => .object "MarkHouse$Ways"
  | 11 => .object "MarkHouse$Weaver"
  | 12 => .object "MarkHouse$Machine"
  | 13 => .object "MarkHouse$Wirer"
  | 14 => .object "MarkHouse$Teller"
  | 15 => .boolean
  | _ => .int
abbrev wsX10 : List Cond := u_ws RX1 TX1 17
set_option maxRecDepth 100000 in
theorem nmX1 : ∀ a, a < 17 → ∀ b, b < 17 → a ≠ b → (TX1 a).2.1 ≠ (TX1 b).2.1 := by decide +kernel
set_option maxRecDepth 100000 in
theorem tyX1_ok : ∀ k, k < 17 → parseFieldDescriptor (TX1 k).2.2.1 = some (tyX1 k) := by decide +kernel
abbrev cX1_init : ByteArray := prog_1_method_1_code
def yX1_init : MethodName := ⟨RX1, "<init>", "()V"⟩
abbrev cX1_feed : ByteArray := prog_1_method_2_code
def yX1_feed : MethodName := ⟨RX1, "feed", "(IIIII)I"⟩
abbrev cX1_end : ByteArray := prog_1_method_3_code
def yX1_end : MethodName := ⟨RX1, "end", "(I)I"⟩
abbrev cX1_out : ByteArray := prog_1_method_4_code
def yX1_out : MethodName := ⟨RX1, "out", "(I)I"⟩
abbrev cX1_fault : ByteArray := prog_1_method_7_code
def yX1_fault : MethodName := ⟨RX1, "fault", "(I)I"⟩
abbrev cX1_tell : ByteArray := prog_1_method_8_code
def yX1_tell : MethodName := ⟨RX1, "tell", "()I"⟩
abbrev cX1_size : ByteArray := prog_1_method_10_code
def yX1_size : MethodName := ⟨RX1, "size", "(II)I"⟩
abbrev cX1_in : ByteArray := prog_1_method_9_code
def yX1_in : MethodName := ⟨RX1, "in", "(II)Z"⟩
abbrev cX1_order : ByteArray := prog_1_method_12_code
def yX1_order : MethodName := ⟨RX1, "order", "(IIII)I"⟩
abbrev cX1_isOrder : ByteArray := prog_1_method_11_code
def yX1_isOrder : MethodName := ⟨RX1, "isOrder", "(I)Z"⟩
abbrev cX1_mark : ByteArray := prog_1_method_13_code
def yX1_mark : MethodName := ⟨RX1, "mark", "(III)I"⟩
abbrev cX1_give : ByteArray := prog_1_method_14_code
def yX1_give : MethodName := ⟨RX1, "give", "(I)I"⟩
abbrev cX1_change : ByteArray := prog_1_method_5_code
def yX1_change : MethodName := ⟨RX1, "change", "()V"⟩
abbrev cX1_file : ByteArray := prog_1_method_15_code
def yX1_file : MethodName := ⟨RX1, "file", "(I)I"⟩
abbrev cX1_effective : ByteArray := prog_1_method_17_code
def yX1_effective : MethodName := ⟨RX1, "effective", "(II)I"⟩
abbrev cX1_isAsked : ByteArray := prog_1_method_16_code
def yX1_isAsked : MethodName := ⟨RX1, "isAsked", "(II)Z"⟩
abbrev cX1_whence : ByteArray := prog_1_method_18_code
def yX1_whence : MethodName := ⟨RX1, "whence", "(III)I"⟩
abbrev cX1_ask : ByteArray := prog_1_method_19_code
def yX1_ask : MethodName := ⟨RX1, "ask", "(IIII)I"⟩
abbrev cX1_markOf : ByteArray := prog_1_method_20_code
def yX1_markOf : MethodName := ⟨RX1, "markOf", "(II)I"⟩
abbrev cX1_rounds : ByteArray := prog_1_method_21_code
def yX1_rounds : MethodName := ⟨RX1, "rounds", "()I"⟩
abbrev cX1_flow : ByteArray := prog_1_method_22_code
def yX1_flow : MethodName := ⟨RX1, "flow", "(I)I"⟩
abbrev cX1_error : ByteArray := prog_1_method_23_code
def yX1_error : MethodName := ⟨RX1, "error", "(II)I"⟩
abbrev cX1_way : ByteArray := prog_1_method_24_code
def yX1_way : MethodName := ⟨RX1, "way", "(I)I"⟩
abbrev cX1_step : ByteArray := prog_1_method_25_code
def yX1_step : MethodName := ⟨RX1, "step", "(I)I"⟩
abbrev cX1_state : ByteArray := prog_1_method_26_code
def yX1_state : MethodName := ⟨RX1, "state", "(III)I"⟩
abbrev cX1_find : ByteArray := prog_1_method_27_code
def yX1_find : MethodName := ⟨RX1, "find", "(I)I"⟩
abbrev cX1_plain : ByteArray := prog_1_method_28_code
def yX1_plain : MethodName := ⟨RX1, "plain", "(I)Z"⟩
abbrev cX1_weave : ByteArray := prog_1_method_29_code
def yX1_weave : MethodName := ⟨RX1, "weave", "()I"⟩
abbrev cX1_code : ByteArray := prog_1_method_30_code
def yX1_code : MethodName := ⟨RX1, "code", "(IZ)I"⟩
abbrev cX1_argument : ByteArray := prog_1_method_31_code
def yX1_argument : MethodName := ⟨RX1, "argument", "(II)Z"⟩
abbrev cX1_input : ByteArray := prog_1_method_32_code
def yX1_input : MethodName := ⟨RX1, "input", "(I)I"⟩
abbrev cX1_run : ByteArray := prog_1_method_35_code
def yX1_run : MethodName := ⟨RX1, "run", "(I)I"⟩
abbrev cX1_truth : ByteArray := prog_1_method_36_code
def yX1_truth : MethodName := ⟨RX1, "truth", "(I)I"⟩
abbrev cX1_wire : ByteArray := prog_1_method_37_code
def yX1_wire : MethodName := ⟨RX1, "wire", "()I"⟩
abbrev cX1_wired : ByteArray := prog_1_method_38_code
def yX1_wired : MethodName := ⟨RX1, "wired", "(I)I"⟩
abbrev cX1_compile : ByteArray := prog_1_method_6_code
def yX1_compile : MethodName := ⟨RX1, "compile", "()I"⟩
abbrev cX1_begin : ByteArray := prog_1_method_33_code
def yX1_begin : MethodName := ⟨RX1, "begin", "(IZ)V"⟩
abbrev cX1_go : ByteArray := prog_1_method_34_code
def yX1_go : MethodName := ⟨RX1, "go", "(I)I"⟩
theorem q243 : (Jvm.Cond.initialized "MarkHouse") ∈ lw_all := lw_g (lw_at lw_m1 1 rfl) rfl
theorem q275 : (Jvm.Cond.instantiable "MarkHouse" (17 : Nat)) ∈ lw_all := lw_g (lw_at lw_m1 33 rfl) rfl
theorem q277 : (Jvm.Cond.instanceMethod ({ cls := "MarkHouse", name := "<init>", desc := "()V" } : Jvm.MethodName)) ∈ lw_all := lw_g (lw_at lw_m1 35 rfl) rfl
theorem q278 : (Jvm.Cond.code ({ cls := "MarkHouse", name := "<init>", desc := "()V" } : Jvm.MethodName) prog_1_method_1_code (1 : Nat) (Option.none : Option Jvm.ClassFile.FieldType)) ∈ lw_all := lw_g (lw_at lw_m1 36 rfl) rfl
theorem q279 : (Jvm.Cond.methodLink "MarkHouse" (3 : Nat) ({ cls := "java/lang/Object", name := "<init>", desc := "()V" } : Jvm.MethodName)) ∈ lw_all := lw_g (lw_at lw_m1 37 rfl) rfl
theorem q282 : (Jvm.Cond.classLink "MarkHouse" (9 : Nat) "MarkHouse$Bytes") ∈ lw_all := lw_g (lw_at lw_m1 40 rfl) rfl
theorem q284 : (Jvm.Cond.methodLink "MarkHouse" (11 : Nat) ({ cls := "MarkHouse$Bytes", name := "<init>", desc := "(I)V" } : Jvm.MethodName)) ∈ lw_all := lw_g (lw_at lw_m1 42 rfl) rfl
theorem q296 : (Jvm.Cond.classLink "MarkHouse" (21 : Nat) "MarkHouse$Fault") ∈ lw_all := lw_g (lw_at lw_m1 54 rfl) rfl
theorem q298 : (Jvm.Cond.methodLinkNest "MarkHouse" (23 : Nat) ({ cls := "MarkHouse$Fault", name := "<init>", desc := "()V" } : Jvm.MethodName) "MarkHouse") ∈ lw_tbl := lw_at lw_m1 56 rfl
theorem q303 : (Jvm.Cond.fieldLinkNest "MarkHouse" (188 : Nat) "MarkHouse$Fault" "kind" "I" "MarkHouse") ∈ lw_tbl := lw_at lw_m1 61 rfl
theorem q305 : (Jvm.Cond.fieldLinkNest "MarkHouse" (191 : Nat) "MarkHouse$Fault" "place" "I" "MarkHouse") ∈ lw_tbl := lw_at lw_m1 63 rfl
theorem q311 : (Jvm.Cond.classLink "MarkHouse" (28 : Nat) "MarkHouse$Lexemes") ∈ lw_all := lw_g (lw_at lw_m1 69 rfl) rfl
theorem q313 : (Jvm.Cond.methodLink "MarkHouse" (30 : Nat) ({ cls := "MarkHouse$Lexemes", name := "<init>", desc := "()V" } : Jvm.MethodName)) ∈ lw_all := lw_g (lw_at lw_m1 71 rfl) rfl
theorem q434 : (Jvm.Cond.classLink "MarkHouse" (35 : Nat) "MarkHouse$Program") ∈ lw_all := lw_g (lw_at lw_m1 192 rfl) rfl
theorem q436 : (Jvm.Cond.methodLinkNest "MarkHouse" (37 : Nat) ({ cls := "MarkHouse$Program", name := "<init>", desc := "()V" } : Jvm.MethodName) "MarkHouse") ∈ lw_tbl := lw_at lw_m1 194 rfl
theorem q451 : (Jvm.Cond.fieldLinkNest "MarkHouse" (177 : Nat) "MarkHouse$Orders" "count" "I" "MarkHouse") ∈ lw_tbl := lw_at lw_m1 209 rfl
theorem q460 : (Jvm.Cond.fieldLinkNest "MarkHouse" (207 : Nat) "MarkHouse$Orders" "sizes" "[I" "MarkHouse") ∈ lw_tbl := lw_at lw_m1 218 rfl
theorem q470 : (Jvm.Cond.fieldLinkNest "MarkHouse" (308 : Nat) "MarkHouse$Orders" "elements" "[J" "MarkHouse") ∈ lw_tbl := lw_at lw_m1 228 rfl
theorem q506 : (Jvm.Cond.fieldLinkNest "MarkHouse" (236 : Nat) "MarkHouse$Marks" "counts" "[I" "MarkHouse") ∈ lw_tbl := lw_at lw_m2 24 rfl
theorem q512 : (Jvm.Cond.fieldLinkNest "MarkHouse" (255 : Nat) "MarkHouse$Marks" "names" "[J" "MarkHouse") ∈ lw_tbl := lw_at lw_m2 30 rfl
theorem q516 : (Jvm.Cond.fieldLinkNest "MarkHouse" (268 : Nat) "MarkHouse$Marks" "pairs" "[I" "MarkHouse") ∈ lw_tbl := lw_at lw_m2 34 rfl
theorem q545 : (Jvm.Cond.fieldLinkNest "MarkHouse" (173 : Nat) "MarkHouse$Program" "orders" "LMarkHouse$Orders;" "MarkHouse") ∈ lw_tbl := lw_at lw_m2 63 rfl
theorem q553 : (Jvm.Cond.fieldLinkNest "MarkHouse" (232 : Nat) "MarkHouse$Program" "marks" "LMarkHouse$Marks;" "MarkHouse") ∈ lw_tbl := lw_at lw_m2 71 rfl
theorem q556 : (Jvm.Cond.fieldLinkNest "MarkHouse" (167 : Nat) "MarkHouse$Program" "there" "Z" "MarkHouse") ∈ lw_tbl := lw_at lw_m2 74 rfl
theorem q561 : (Jvm.Cond.fieldLinkNest "MarkHouse" (197 : Nat) "MarkHouse$Program" "kinds" "I" "MarkHouse") ∈ lw_tbl := lw_at lw_m2 79 rfl
theorem q577 : (Jvm.Cond.fieldLinkNest "MarkHouse" (211 : Nat) "MarkHouse$Program" "members" "[I" "MarkHouse") ∈ lw_tbl := lw_at lw_m2 95 rfl
theorem q602 : (Jvm.Cond.fieldLinkNest "MarkHouse" (200 : Nat) "MarkHouse$Program" "makers" "I" "MarkHouse") ∈ lw_tbl := lw_at lw_m2 120 rfl
theorem q615 : (Jvm.Cond.fieldLinkNest "MarkHouse" (185 : Nat) "MarkHouse$Program" "classes" "I" "MarkHouse") ∈ lw_tbl := lw_at lw_m2 133 rfl
theorem q634 : (Jvm.Cond.fieldLinkNest "MarkHouse" (214 : Nat) "MarkHouse$Program" "fields" "[I" "MarkHouse") ∈ lw_tbl := lw_at lw_m2 152 rfl
theorem q639 : (Jvm.Cond.fieldLinkNest "MarkHouse" (217 : Nat) "MarkHouse$Program" "methods" "[I" "MarkHouse") ∈ lw_tbl := lw_at lw_m2 157 rfl
theorem q649 : (Jvm.Cond.fieldLinkNest "MarkHouse" (223 : Nat) "MarkHouse$Program" "parameters" "[I" "MarkHouse") ∈ lw_tbl := lw_at lw_m2 167 rfl
theorem q656 : (Jvm.Cond.fieldLinkNest "MarkHouse" (226 : Nat) "MarkHouse$Program" "acts" "[I" "MarkHouse") ∈ lw_tbl := lw_at lw_m2 174 rfl
theorem q802 : (Jvm.Cond.classLink "MarkHouse" (42 : Nat) "MarkHouse$Reader") ∈ lw_all := lw_g (lw_at lw_m3 80 rfl) rfl
theorem q804 : (Jvm.Cond.methodLink "MarkHouse" (44 : Nat) ({ cls := "MarkHouse$Reader", name := "<init>", desc := "(LMarkHouse$Lexemes;LMarkHouse$Program;LMarkHouse$Fault;)V" } : Jvm.MethodName)) ∈ lw_all := lw_g (lw_at lw_m3 82 rfl) rfl
theorem q827 : (Jvm.Cond.classLink "MarkHouse" (51 : Nat) "MarkHouse$Passing") ∈ lw_all := lw_g (lw_at lw_m3 105 rfl) rfl
theorem q829 : (Jvm.Cond.methodLink "MarkHouse" (53 : Nat) ({ cls := "MarkHouse$Passing", name := "<init>", desc := "(LMarkHouse$Program;)V" } : Jvm.MethodName)) ∈ lw_all := lw_g (lw_at lw_m3 107 rfl) rfl
theorem q838 : (Jvm.Cond.fieldLinkNest "MarkHouse" (289 : Nat) "MarkHouse$Passing" "row" "I" "MarkHouse") ∈ lw_tbl := lw_at lw_m3 116 rfl
theorem q842 : (Jvm.Cond.fieldLinkNest "MarkHouse" (293 : Nat) "MarkHouse$Passing" "steps" "I" "MarkHouse") ∈ lw_tbl := lw_at lw_m3 120 rfl
theorem q844 : (Jvm.Cond.fieldLinkNest "MarkHouse" (296 : Nat) "MarkHouse$Passing" "isGiven" "Z" "MarkHouse") ∈ lw_tbl := lw_at lw_m3 122 rfl
theorem q846 : (Jvm.Cond.fieldLinkNest "MarkHouse" (299 : Nat) "MarkHouse$Passing" "clashes" "Z" "MarkHouse") ∈ lw_tbl := lw_at lw_m3 124 rfl
theorem q877 : (Jvm.Cond.classLink "MarkHouse" (60 : Nat) "MarkHouse$Attributes") ∈ lw_all := lw_g (lw_at lw_m3 155 rfl) rfl
theorem q879 : (Jvm.Cond.methodLink "MarkHouse" (62 : Nat) ({ cls := "MarkHouse$Attributes", name := "<init>", desc := "(LMarkHouse$Program;)V" } : Jvm.MethodName)) ∈ lw_all := lw_g (lw_at lw_m3 157 rfl) rfl
theorem q899 : (Jvm.Cond.classLink "MarkHouse" (67 : Nat) "MarkHouse$Flow") ∈ lw_all := lw_g (lw_at lw_m3 177 rfl) rfl
theorem q901 : (Jvm.Cond.methodLink "MarkHouse" (69 : Nat) ({ cls := "MarkHouse$Flow", name := "<init>", desc := "(LMarkHouse$Program;LMarkHouse$Passing;)V" } : Jvm.MethodName)) ∈ lw_all := lw_g (lw_at lw_m3 179 rfl) rfl
theorem q912 : (Jvm.Cond.fieldLinkNest "MarkHouse" (355 : Nat) "MarkHouse$Flow" "states" "[B" "MarkHouse") ∈ lw_tbl := lw_at lw_m3 190 rfl
theorem q918 : (Jvm.Cond.fieldLinkNest "MarkHouse" (338 : Nat) "MarkHouse$Flow" "acts" "[I" "MarkHouse") ∈ lw_tbl := lw_at lw_m3 196 rfl
theorem q922 : (Jvm.Cond.fieldLinkNest "MarkHouse" (342 : Nat) "MarkHouse$Flow" "parameters" "[I" "MarkHouse") ∈ lw_tbl := lw_at lw_m3 200 rfl
theorem q924 : (Jvm.Cond.fieldLinkNest "MarkHouse" (343 : Nat) "MarkHouse$Flow" "comes" "[I" "MarkHouse") ∈ lw_tbl := lw_at lw_m3 202 rfl
theorem q928 : (Jvm.Cond.fieldLinkNest "MarkHouse" (346 : Nat) "MarkHouse$Flow" "wanted" "[I" "MarkHouse") ∈ lw_tbl := lw_at lw_m3 206 rfl
theorem q930 : (Jvm.Cond.fieldLinkNest "MarkHouse" (335 : Nat) "MarkHouse$Flow" "errors" "I" "MarkHouse") ∈ lw_tbl := lw_at lw_m3 208 rfl
theorem q959 : (Jvm.Cond.classLink "MarkHouse" (79 : Nat) "MarkHouse$Ways") ∈ lw_all := lw_g (lw_at lw_m3 237 rfl) rfl
theorem q961 : (Jvm.Cond.methodLink "MarkHouse" (81 : Nat) ({ cls := "MarkHouse$Ways", name := "<init>", desc := "(LMarkHouse$Program;LMarkHouse$Flow;)V" } : Jvm.MethodName)) ∈ lw_all := lw_g (lw_at lw_m3 239 rfl) rfl
theorem q976 : (Jvm.Cond.fieldLinkNest "MarkHouse" (350 : Nat) "MarkHouse$Ways" "steps" "[I" "MarkHouse") ∈ lw_tbl := lw_at lw_m4 14 rfl
theorem q1000 : (Jvm.Cond.classLink "MarkHouse" (88 : Nat) "MarkHouse$Weaver") ∈ lw_all := lw_g (lw_at lw_m4 38 rfl) rfl
theorem q1002 : (Jvm.Cond.methodLink "MarkHouse" (90 : Nat) ({ cls := "MarkHouse$Weaver", name := "<init>", desc := "(LMarkHouse$Program;LMarkHouse$Flow;)V" } : Jvm.MethodName)) ∈ lw_all := lw_g (lw_at lw_m4 40 rfl) rfl
theorem q1019 : (Jvm.Cond.classLink "MarkHouse" (95 : Nat) "MarkHouse$Machine") ∈ lw_all := lw_g (lw_at lw_m4 57 rfl) rfl
theorem q1021 : (Jvm.Cond.methodLink "MarkHouse" (97 : Nat) ({ cls := "MarkHouse$Machine", name := "<init>", desc := "(LMarkHouse$Program;LMarkHouse$Flow;LMarkHouse$Passing;LMarkHouse$Weaver;)V" } : Jvm.MethodName)) ∈ lw_all := lw_g (lw_at lw_m4 59 rfl) rfl
theorem q1030 : (Jvm.Cond.fieldLinkNest "MarkHouse" (369 : Nat) "MarkHouse$Machine" "arguments" "[I" "MarkHouse") ∈ lw_tbl := lw_at lw_m4 68 rfl
theorem q1033 : (Jvm.Cond.fieldLinkNest "MarkHouse" (375 : Nat) "MarkHouse$Machine" "inputCount" "I" "MarkHouse") ∈ lw_tbl := lw_at lw_m4 71 rfl
theorem q1042 : (Jvm.Cond.fieldLinkNest "MarkHouse" (387 : Nat) "MarkHouse$Machine" "state" "I" "MarkHouse") ∈ lw_tbl := lw_at lw_m4 80 rfl
theorem q1107 : (Jvm.Cond.classLink "MarkHouse" (104 : Nat) "MarkHouse$Wirer") ∈ lw_all := lw_g (lw_at lw_m4 145 rfl) rfl
theorem q1109 : (Jvm.Cond.methodLink "MarkHouse" (106 : Nat) ({ cls := "MarkHouse$Wirer", name := "<init>", desc := "(LMarkHouse$Program;LMarkHouse$Passing;)V" } : Jvm.MethodName)) ∈ lw_all := lw_g (lw_at lw_m4 147 rfl) rfl
theorem q1147 : (Jvm.Cond.classLink "MarkHouse" (111 : Nat) "MarkHouse$Teller") ∈ lw_all := lw_g (lw_at lw_m4 185 rfl) rfl
theorem q1149 : (Jvm.Cond.methodLink "MarkHouse" (113 : Nat) ({ cls := "MarkHouse$Teller", name := "<init>", desc := "(LMarkHouse$Lexemes;LMarkHouse$Program;LMarkHouse$Passing;LMarkHouse$Weaver;LMarkHouse$Flow;LMarkHouse$Bytes;)V" } : Jvm.MethodName)) ∈ lw_all := lw_g (lw_at lw_m4 187 rfl) rfl
theorem q1172 : (Jvm.Cond.fieldLink "MarkHouse" (14 : Nat) "MarkHouse" "tape" "LMarkHouse$Bytes;") ∈ lw_all := lw_g (lw_at lw_m4 210 rfl) rfl
theorem q1173 : (Jvm.Cond.fieldLink "MarkHouse" (18 : Nat) "MarkHouse" "out" "LMarkHouse$Bytes;") ∈ lw_all := lw_g (lw_at lw_m4 211 rfl) rfl
theorem q1174 : (Jvm.Cond.fieldLink "MarkHouse" (24 : Nat) "MarkHouse" "fault" "LMarkHouse$Fault;") ∈ lw_all := lw_g (lw_at lw_m4 212 rfl) rfl
theorem q1175 : (Jvm.Cond.fieldLink "MarkHouse" (31 : Nat) "MarkHouse" "lexemes" "LMarkHouse$Lexemes;") ∈ lw_all := lw_g (lw_at lw_m4 213 rfl) rfl
theorem q1176 : (Jvm.Cond.fieldLink "MarkHouse" (38 : Nat) "MarkHouse" "program" "LMarkHouse$Program;") ∈ lw_all := lw_g (lw_at lw_m4 214 rfl) rfl
theorem q1177 : (Jvm.Cond.fieldLink "MarkHouse" (47 : Nat) "MarkHouse" "reader" "LMarkHouse$Reader;") ∈ lw_all := lw_g (lw_at lw_m4 215 rfl) rfl
theorem q1178 : (Jvm.Cond.fieldLink "MarkHouse" (56 : Nat) "MarkHouse" "passing" "LMarkHouse$Passing;") ∈ lw_all := lw_g (lw_at lw_m4 216 rfl) rfl
theorem q1179 : (Jvm.Cond.fieldLink "MarkHouse" (63 : Nat) "MarkHouse" "files" "LMarkHouse$Attributes;") ∈ lw_all := lw_g (lw_at lw_m4 217 rfl) rfl
theorem q1180 : (Jvm.Cond.fieldLink "MarkHouse" (72 : Nat) "MarkHouse" "flow" "LMarkHouse$Flow;") ∈ lw_all := lw_g (lw_at lw_m4 218 rfl) rfl
theorem q1181 : (Jvm.Cond.fieldLink "MarkHouse" (76 : Nat) "MarkHouse" "spare" "LMarkHouse$Flow;") ∈ lw_all := lw_g (lw_at lw_m4 219 rfl) rfl
theorem q1182 : (Jvm.Cond.fieldLink "MarkHouse" (84 : Nat) "MarkHouse" "ways" "LMarkHouse$Ways;") ∈ lw_all := lw_g (lw_at lw_m4 220 rfl) rfl
theorem q1183 : (Jvm.Cond.fieldLink "MarkHouse" (91 : Nat) "MarkHouse" "weaver" "LMarkHouse$Weaver;") ∈ lw_all := lw_g (lw_at lw_m4 221 rfl) rfl
theorem q1184 : (Jvm.Cond.fieldLink "MarkHouse" (100 : Nat) "MarkHouse" "machine" "LMarkHouse$Machine;") ∈ lw_all := lw_g (lw_at lw_m4 222 rfl) rfl
theorem q1185 : (Jvm.Cond.fieldLink "MarkHouse" (107 : Nat) "MarkHouse" "wirer" "LMarkHouse$Wirer;") ∈ lw_all := lw_g (lw_at lw_m4 223 rfl) rfl
theorem q1186 : (Jvm.Cond.fieldLink "MarkHouse" (116 : Nat) "MarkHouse" "teller" "LMarkHouse$Teller;") ∈ lw_all := lw_g (lw_at lw_m4 224 rfl) rfl
theorem q1187 : (Jvm.Cond.fieldLink "MarkHouse" (138 : Nat) "MarkHouse" "flowed" "Z") ∈ lw_all := lw_g (lw_at lw_m4 225 rfl) rfl
theorem q1188 : (Jvm.Cond.fieldLink "MarkHouse" (142 : Nat) "MarkHouse" "wayLong" "I") ∈ lw_all := lw_g (lw_at lw_m4 226 rfl) rfl
theorem q1189 : (Jvm.Cond.laysFinal "MarkHouse" "MarkHouse" "tape" "LMarkHouse$Bytes;") ∈ lw_all := lw_g (lw_at lw_m4 227 rfl) rfl
theorem q1190 : (Jvm.Cond.soleField "MarkHouse" "tape") ∈ lw_all := lw_g (lw_at lw_m4 228 rfl) rfl
theorem q1191 : (Jvm.Cond.laysFinal "MarkHouse" "MarkHouse" "out" "LMarkHouse$Bytes;") ∈ lw_all := lw_g (lw_at lw_m4 229 rfl) rfl
theorem q1192 : (Jvm.Cond.soleField "MarkHouse" "out") ∈ lw_all := lw_g (lw_at lw_m4 230 rfl) rfl
theorem q1193 : (Jvm.Cond.laysFinal "MarkHouse" "MarkHouse" "fault" "LMarkHouse$Fault;") ∈ lw_all := lw_g (lw_at lw_m4 231 rfl) rfl
theorem q1194 : (Jvm.Cond.soleField "MarkHouse" "fault") ∈ lw_all := lw_g (lw_at lw_m4 232 rfl) rfl
theorem q1195 : (Jvm.Cond.laysFinal "MarkHouse" "MarkHouse" "lexemes" "LMarkHouse$Lexemes;") ∈ lw_all := lw_g (lw_at lw_m4 233 rfl) rfl
theorem q1196 : (Jvm.Cond.soleField "MarkHouse" "lexemes") ∈ lw_all := lw_g (lw_at lw_m4 234 rfl) rfl
theorem q1197 : (Jvm.Cond.laysFinal "MarkHouse" "MarkHouse" "program" "LMarkHouse$Program;") ∈ lw_all := lw_g (lw_at lw_m4 235 rfl) rfl
theorem q1198 : (Jvm.Cond.soleField "MarkHouse" "program") ∈ lw_all := lw_g (lw_at lw_m4 236 rfl) rfl
theorem q1199 : (Jvm.Cond.laysFinal "MarkHouse" "MarkHouse" "reader" "LMarkHouse$Reader;") ∈ lw_all := lw_g (lw_at lw_m4 237 rfl) rfl
theorem q1200 : (Jvm.Cond.soleField "MarkHouse" "reader") ∈ lw_all := lw_g (lw_at lw_m4 238 rfl) rfl
theorem q1201 : (Jvm.Cond.laysFinal "MarkHouse" "MarkHouse" "passing" "LMarkHouse$Passing;") ∈ lw_all := lw_g (lw_at lw_m4 239 rfl) rfl
theorem q1202 : (Jvm.Cond.soleField "MarkHouse" "passing") ∈ lw_all := lw_g (lw_at lw_m5 0 rfl) rfl
theorem q1203 : (Jvm.Cond.laysFinal "MarkHouse" "MarkHouse" "files" "LMarkHouse$Attributes;") ∈ lw_all := lw_g (lw_at lw_m5 1 rfl) rfl
theorem q1204 : (Jvm.Cond.soleField "MarkHouse" "files") ∈ lw_all := lw_g (lw_at lw_m5 2 rfl) rfl
theorem q1205 : (Jvm.Cond.laysFinal "MarkHouse" "MarkHouse" "flow" "LMarkHouse$Flow;") ∈ lw_all := lw_g (lw_at lw_m5 3 rfl) rfl
theorem q1206 : (Jvm.Cond.soleField "MarkHouse" "flow") ∈ lw_all := lw_g (lw_at lw_m5 4 rfl) rfl
theorem q1207 : (Jvm.Cond.laysFinal "MarkHouse" "MarkHouse" "spare" "LMarkHouse$Flow;") ∈ lw_all := lw_g (lw_at lw_m5 5 rfl) rfl
theorem q1208 : (Jvm.Cond.soleField "MarkHouse" "spare") ∈ lw_all := lw_g (lw_at lw_m5 6 rfl) rfl
theorem q1209 : (Jvm.Cond.laysFinal "MarkHouse" "MarkHouse" "ways" "LMarkHouse$Ways;") ∈ lw_all := lw_g (lw_at lw_m5 7 rfl) rfl
theorem q1210 : (Jvm.Cond.soleField "MarkHouse" "ways") ∈ lw_all := lw_g (lw_at lw_m5 8 rfl) rfl
theorem q1211 : (Jvm.Cond.laysFinal "MarkHouse" "MarkHouse" "weaver" "LMarkHouse$Weaver;") ∈ lw_all := lw_g (lw_at lw_m5 9 rfl) rfl
theorem q1212 : (Jvm.Cond.soleField "MarkHouse" "weaver") ∈ lw_all := lw_g (lw_at lw_m5 10 rfl) rfl
theorem q1213 : (Jvm.Cond.laysFinal "MarkHouse" "MarkHouse" "machine" "LMarkHouse$Machine;") ∈ lw_all := lw_g (lw_at lw_m5 11 rfl) rfl
theorem q1214 : (Jvm.Cond.soleField "MarkHouse" "machine") ∈ lw_all := lw_g (lw_at lw_m5 12 rfl) rfl
theorem q1215 : (Jvm.Cond.laysFinal "MarkHouse" "MarkHouse" "wirer" "LMarkHouse$Wirer;") ∈ lw_all := lw_g (lw_at lw_m5 13 rfl) rfl
theorem q1216 : (Jvm.Cond.soleField "MarkHouse" "wirer") ∈ lw_all := lw_g (lw_at lw_m5 14 rfl) rfl
theorem q1217 : (Jvm.Cond.laysFinal "MarkHouse" "MarkHouse" "teller" "LMarkHouse$Teller;") ∈ lw_all := lw_g (lw_at lw_m5 15 rfl) rfl
theorem q1218 : (Jvm.Cond.soleField "MarkHouse" "teller") ∈ lw_all := lw_g (lw_at lw_m5 16 rfl) rfl
theorem q1219 : (Jvm.Cond.lays "MarkHouse" "MarkHouse" "flowed" "Z") ∈ lw_all := lw_g (lw_at lw_m5 17 rfl) rfl
theorem q1220 : (Jvm.Cond.soleField "MarkHouse" "flowed") ∈ lw_all := lw_g (lw_at lw_m5 18 rfl) rfl
theorem q1221 : (Jvm.Cond.lays "MarkHouse" "MarkHouse" "wayLong" "I") ∈ lw_all := lw_g (lw_at lw_m5 19 rfl) rfl
theorem q1222 : (Jvm.Cond.soleField "MarkHouse" "wayLong") ∈ lw_all := lw_g (lw_at lw_m5 20 rfl) rfl
theorem q1223 : (Jvm.Cond.superclass "MarkHouse" "java/lang/Object") ∈ lw_all := lw_g (lw_at lw_m5 21 rfl) rfl
theorem q1225 : (Jvm.Cond.instanceMethod ({ cls := "MarkHouse", name := "feed", desc := "(IIIII)I" } : Jvm.MethodName)) ∈ lw_all := lw_g (lw_at lw_m5 23 rfl) rfl
theorem q1226 : (Jvm.Cond.selects "MarkHouse" ({ cls := "MarkHouse", name := "feed", desc := "(IIIII)I" } : Jvm.MethodName) ({ cls := "MarkHouse", name := "feed", desc := "(IIIII)I" } : Jvm.MethodName)) ∈ lw_all := lw_g (lw_at lw_m5 24 rfl) rfl
theorem q1227 : (Jvm.Cond.code ({ cls := "MarkHouse", name := "feed", desc := "(IIIII)I" } : Jvm.MethodName) prog_1_method_2_code (7 : Nat) (Option.some Jvm.ClassFile.FieldType.int)) ∈ lw_all := lw_g (lw_at lw_m5 25 rfl) rfl
theorem q1228 : (Jvm.Cond.methodLink "MarkHouse" (120 : Nat) ({ cls := "MarkHouse$Bytes", name := "has", desc := "(I)Z" } : Jvm.MethodName)) ∈ lw_all := lw_g (lw_at lw_m5 26 rfl) rfl
theorem q1232 : (Jvm.Cond.methodLink "MarkHouse" (124 : Nat) ({ cls := "MarkHouse$Bytes", name := "add", desc := "(I)V" } : Jvm.MethodName)) ∈ lw_all := lw_g (lw_at lw_m5 30 rfl) rfl
theorem q1236 : (Jvm.Cond.methodLink "MarkHouse" (127 : Nat) ({ cls := "MarkHouse$Bytes", name := "size", desc := "()I" } : Jvm.MethodName)) ∈ lw_all := lw_g (lw_at lw_m5 34 rfl) rfl
theorem q1241 : (Jvm.Cond.instanceMethod ({ cls := "MarkHouse", name := "end", desc := "(I)I" } : Jvm.MethodName)) ∈ lw_all := lw_g (lw_at lw_m5 39 rfl) rfl
theorem q1242 : (Jvm.Cond.selects "MarkHouse" ({ cls := "MarkHouse", name := "end", desc := "(I)I" } : Jvm.MethodName) ({ cls := "MarkHouse", name := "end", desc := "(I)I" } : Jvm.MethodName)) ∈ lw_all := lw_g (lw_at lw_m5 40 rfl) rfl
theorem q1243 : (Jvm.Cond.code ({ cls := "MarkHouse", name := "end", desc := "(I)I" } : Jvm.MethodName) prog_1_method_3_code (2 : Nat) (Option.some Jvm.ClassFile.FieldType.int)) ∈ lw_all := lw_g (lw_at lw_m5 41 rfl) rfl
theorem q1244 : (Jvm.Cond.methodLink "MarkHouse" (131 : Nat) ({ cls := "MarkHouse$Bytes", name := "cut", desc := "(I)V" } : Jvm.MethodName)) ∈ lw_all := lw_g (lw_at lw_m5 42 rfl) rfl
theorem q1249 : (Jvm.Cond.instanceMethod ({ cls := "MarkHouse", name := "out", desc := "(I)I" } : Jvm.MethodName)) ∈ lw_all := lw_g (lw_at lw_m5 47 rfl) rfl
theorem q1250 : (Jvm.Cond.selects "MarkHouse" ({ cls := "MarkHouse", name := "out", desc := "(I)I" } : Jvm.MethodName) ({ cls := "MarkHouse", name := "out", desc := "(I)I" } : Jvm.MethodName)) ∈ lw_all := lw_g (lw_at lw_m5 48 rfl) rfl
theorem q1251 : (Jvm.Cond.code ({ cls := "MarkHouse", name := "out", desc := "(I)I" } : Jvm.MethodName) prog_1_method_4_code (2 : Nat) (Option.some Jvm.ClassFile.FieldType.int)) ∈ lw_all := lw_g (lw_at lw_m5 49 rfl) rfl
theorem q1252 : (Jvm.Cond.methodLink "MarkHouse" (134 : Nat) ({ cls := "MarkHouse$Bytes", name := "at", desc := "(I)I" } : Jvm.MethodName)) ∈ lw_all := lw_g (lw_at lw_m5 50 rfl) rfl
theorem q1257 : (Jvm.Cond.instanceMethod ({ cls := "MarkHouse", name := "fault", desc := "(I)I" } : Jvm.MethodName)) ∈ lw_all := lw_g (lw_at lw_m5 55 rfl) rfl
theorem q1258 : (Jvm.Cond.selects "MarkHouse" ({ cls := "MarkHouse", name := "fault", desc := "(I)I" } : Jvm.MethodName) ({ cls := "MarkHouse", name := "fault", desc := "(I)I" } : Jvm.MethodName)) ∈ lw_all := lw_g (lw_at lw_m5 56 rfl) rfl
theorem q1259 : (Jvm.Cond.code ({ cls := "MarkHouse", name := "fault", desc := "(I)I" } : Jvm.MethodName) prog_1_method_7_code (2 : Nat) (Option.some Jvm.ClassFile.FieldType.int)) ∈ lw_all := lw_g (lw_at lw_m5 57 rfl) rfl
theorem q1261 : (Jvm.Cond.instanceMethod ({ cls := "MarkHouse", name := "tell", desc := "()I" } : Jvm.MethodName)) ∈ lw_all := lw_g (lw_at lw_m5 59 rfl) rfl
theorem q1262 : (Jvm.Cond.selects "MarkHouse" ({ cls := "MarkHouse", name := "tell", desc := "()I" } : Jvm.MethodName) ({ cls := "MarkHouse", name := "tell", desc := "()I" } : Jvm.MethodName)) ∈ lw_all := lw_g (lw_at lw_m5 60 rfl) rfl
theorem q1263 : (Jvm.Cond.code ({ cls := "MarkHouse", name := "tell", desc := "()I" } : Jvm.MethodName) prog_1_method_8_code (1 : Nat) (Option.some Jvm.ClassFile.FieldType.int)) ∈ lw_all := lw_g (lw_at lw_m5 61 rfl) rfl
theorem q1264 : (Jvm.Cond.methodLink "MarkHouse" (194 : Nat) ({ cls := "MarkHouse$Teller", name := "tell", desc := "()V" } : Jvm.MethodName)) ∈ lw_all := lw_g (lw_at lw_m5 62 rfl) rfl
theorem q1435 : (Jvm.Cond.instanceMethod ({ cls := "MarkHouse", name := "size", desc := "(II)I" } : Jvm.MethodName)) ∈ lw_all := lw_g (lw_at lw_m5 233 rfl) rfl
theorem q1436 : (Jvm.Cond.selects "MarkHouse" ({ cls := "MarkHouse", name := "size", desc := "(II)I" } : Jvm.MethodName) ({ cls := "MarkHouse", name := "size", desc := "(II)I" } : Jvm.MethodName)) ∈ lw_all := lw_g (lw_at lw_m5 234 rfl) rfl
theorem q1437 : (Jvm.Cond.code ({ cls := "MarkHouse", name := "size", desc := "(II)I" } : Jvm.MethodName) prog_1_method_10_code (3 : Nat) (Option.some Jvm.ClassFile.FieldType.int)) ∈ lw_all := lw_g (lw_at lw_m5 235 rfl) rfl
theorem q1438 : (Jvm.Cond.methodLink "MarkHouse" (203 : Nat) ({ cls := "MarkHouse", name := "in", desc := "(II)Z" } : Jvm.MethodName)) ∈ lw_all := lw_g (lw_at lw_m5 236 rfl) rfl
theorem q1439 : (Jvm.Cond.static ({ cls := "MarkHouse", name := "in", desc := "(II)Z" } : Jvm.MethodName)) ∈ lw_all := lw_g (lw_at lw_m5 237 rfl) rfl
theorem q1440 : (Jvm.Cond.code ({ cls := "MarkHouse", name := "in", desc := "(II)Z" } : Jvm.MethodName) prog_1_method_9_code (2 : Nat) (Option.some Jvm.ClassFile.FieldType.boolean)) ∈ lw_all := lw_g (lw_at lw_m5 238 rfl) rfl
theorem q1441 : (Jvm.Cond.methodLink "MarkHouse" (220 : Nat) ({ cls := "MarkHouse$Program", name := "methodAt", desc := "(I)I" } : Jvm.MethodName)) ∈ lw_all := lw_g (lw_at lw_m5 239 rfl) rfl
theorem q1454 : (Jvm.Cond.methodLink "MarkHouse" (229 : Nat) ({ cls := "MarkHouse$Program", name := "row", desc := "(I)I" } : Jvm.MethodName)) ∈ lw_all := lw_g (lw_at lw_m6 12 rfl) rfl
theorem q1456 : (Jvm.Cond.instanceMethod ({ cls := "MarkHouse", name := "order", desc := "(IIII)I" } : Jvm.MethodName)) ∈ lw_all := lw_g (lw_at lw_m6 14 rfl) rfl
theorem q1457 : (Jvm.Cond.selects "MarkHouse" ({ cls := "MarkHouse", name := "order", desc := "(IIII)I" } : Jvm.MethodName) ({ cls := "MarkHouse", name := "order", desc := "(IIII)I" } : Jvm.MethodName)) ∈ lw_all := lw_g (lw_at lw_m6 15 rfl) rfl
theorem q1458 : (Jvm.Cond.code ({ cls := "MarkHouse", name := "order", desc := "(IIII)I" } : Jvm.MethodName) prog_1_method_12_code (5 : Nat) (Option.some Jvm.ClassFile.FieldType.int)) ∈ lw_all := lw_g (lw_at lw_m6 16 rfl) rfl
theorem q1459 : (Jvm.Cond.methodLink "MarkHouse" (241 : Nat) ({ cls := "MarkHouse", name := "isOrder", desc := "(I)Z" } : Jvm.MethodName)) ∈ lw_all := lw_g (lw_at lw_m6 17 rfl) rfl
theorem q1460 : (Jvm.Cond.privateMethod ({ cls := "MarkHouse", name := "isOrder", desc := "(I)Z" } : Jvm.MethodName)) ∈ lw_tbl := lw_at lw_m6 18 rfl
theorem q1461 : (Jvm.Cond.instanceMethod ({ cls := "MarkHouse", name := "isOrder", desc := "(I)Z" } : Jvm.MethodName)) ∈ lw_all := lw_g (lw_at lw_m6 19 rfl) rfl
theorem q1462 : (Jvm.Cond.code ({ cls := "MarkHouse", name := "isOrder", desc := "(I)Z" } : Jvm.MethodName) prog_1_method_11_code (2 : Nat) (Option.some Jvm.ClassFile.FieldType.boolean)) ∈ lw_all := lw_g (lw_at lw_m6 20 rfl) rfl
theorem q1463 : (Jvm.Cond.methodLink "MarkHouse" (244 : Nat) ({ cls := "MarkHouse$Orders", name := "isBelow", desc := "(III)Z" } : Jvm.MethodName)) ∈ lw_all := lw_g (lw_at lw_m6 21 rfl) rfl
theorem q1464 : (Jvm.Cond.methodLink "MarkHouse" (248 : Nat) ({ cls := "MarkHouse$Orders", name := "join", desc := "(III)I" } : Jvm.MethodName)) ∈ lw_all := lw_g (lw_at lw_m6 22 rfl) rfl
theorem q1468 : (Jvm.Cond.methodLink "MarkHouse" (252 : Nat) ({ cls := "MarkHouse$Orders", name := "meet", desc := "(III)I" } : Jvm.MethodName)) ∈ lw_all := lw_g (lw_at lw_m6 26 rfl) rfl
theorem q1473 : (Jvm.Cond.instanceMethod ({ cls := "MarkHouse", name := "mark", desc := "(III)I" } : Jvm.MethodName)) ∈ lw_all := lw_g (lw_at lw_m6 31 rfl) rfl
theorem q1474 : (Jvm.Cond.selects "MarkHouse" ({ cls := "MarkHouse", name := "mark", desc := "(III)I" } : Jvm.MethodName) ({ cls := "MarkHouse", name := "mark", desc := "(III)I" } : Jvm.MethodName)) ∈ lw_all := lw_g (lw_at lw_m6 32 rfl) rfl
theorem q1475 : (Jvm.Cond.code ({ cls := "MarkHouse", name := "mark", desc := "(III)I" } : Jvm.MethodName) prog_1_method_13_code (6 : Nat) (Option.some Jvm.ClassFile.FieldType.int)) ∈ lw_all := lw_g (lw_at lw_m6 33 rfl) rfl
theorem q1476 : (Jvm.Cond.methodLink "MarkHouse" (259 : Nat) ({ cls := "MarkHouse$Passing", name := "kindOf", desc := "(J)I" } : Jvm.MethodName)) ∈ lw_all := lw_g (lw_at lw_m6 34 rfl) rfl
theorem q1477 : (Jvm.Cond.methodLink "MarkHouse" (263 : Nat) ({ cls := "MarkHouse$Passing", name := "counts", desc := "(II)Z" } : Jvm.MethodName)) ∈ lw_all := lw_g (lw_at lw_m6 35 rfl) rfl
theorem q1478 : (Jvm.Cond.methodLink "MarkHouse" (265 : Nat) ({ cls := "MarkHouse$Marks", name := "isNo", desc := "(I)Z" } : Jvm.MethodName)) ∈ lw_all := lw_g (lw_at lw_m6 36 rfl) rfl
theorem q1480 : (Jvm.Cond.instanceMethod ({ cls := "MarkHouse", name := "give", desc := "(I)I" } : Jvm.MethodName)) ∈ lw_all := lw_g (lw_at lw_m6 38 rfl) rfl
theorem q1481 : (Jvm.Cond.selects "MarkHouse" ({ cls := "MarkHouse", name := "give", desc := "(I)I" } : Jvm.MethodName) ({ cls := "MarkHouse", name := "give", desc := "(I)I" } : Jvm.MethodName)) ∈ lw_all := lw_g (lw_at lw_m6 39 rfl) rfl
theorem q1482 : (Jvm.Cond.code ({ cls := "MarkHouse", name := "give", desc := "(I)I" } : Jvm.MethodName) prog_1_method_14_code (4 : Nat) (Option.some Jvm.ClassFile.FieldType.int)) ∈ lw_all := lw_g (lw_at lw_m6 40 rfl) rfl
theorem q1483 : (Jvm.Cond.methodLink "MarkHouse" (271 : Nat) ({ cls := "MarkHouse$Attributes", name := "give", desc := "(ILMarkHouse$Bytes;)I" } : Jvm.MethodName)) ∈ lw_all := lw_g (lw_at lw_m6 41 rfl) rfl
theorem q1534 : (Jvm.Cond.methodLink "MarkHouse" (166 : Nat) ({ cls := "MarkHouse$Bytes", name := "clear", desc := "()V" } : Jvm.MethodName)) ∈ lw_all := lw_g (lw_at lw_m6 92 rfl) rfl
theorem q1535 : (Jvm.Cond.methodLink "MarkHouse" (153 : Nat) ({ cls := "MarkHouse", name := "change", desc := "()V" } : Jvm.MethodName)) ∈ lw_all := lw_g (lw_at lw_m6 93 rfl) rfl
theorem q1536 : (Jvm.Cond.privateMethod ({ cls := "MarkHouse", name := "change", desc := "()V" } : Jvm.MethodName)) ∈ lw_tbl := lw_at lw_m6 94 rfl
theorem q1537 : (Jvm.Cond.instanceMethod ({ cls := "MarkHouse", name := "change", desc := "()V" } : Jvm.MethodName)) ∈ lw_all := lw_g (lw_at lw_m6 95 rfl) rfl
theorem q1538 : (Jvm.Cond.code ({ cls := "MarkHouse", name := "change", desc := "()V" } : Jvm.MethodName) prog_1_method_5_code (1 : Nat) (Option.none : Option Jvm.ClassFile.FieldType)) ∈ lw_all := lw_g (lw_at lw_m6 96 rfl) rfl
theorem q1539 : (Jvm.Cond.methodLink "MarkHouse" (146 : Nat) ({ cls := "MarkHouse$Weaver", name := "clear", desc := "()V" } : Jvm.MethodName)) ∈ lw_all := lw_g (lw_at lw_m6 97 rfl) rfl
theorem q1543 : (Jvm.Cond.methodLink "MarkHouse" (149 : Nat) ({ cls := "MarkHouse$Machine", name := "stop", desc := "()V" } : Jvm.MethodName)) ∈ lw_all := lw_g (lw_at lw_m6 101 rfl) rfl
theorem q1547 : (Jvm.Cond.methodLink "MarkHouse" (152 : Nat) ({ cls := "MarkHouse$Wirer", name := "clear", desc := "()V" } : Jvm.MethodName)) ∈ lw_all := lw_g (lw_at lw_m6 105 rfl) rfl
theorem q1552 : (Jvm.Cond.instanceMethod ({ cls := "MarkHouse", name := "file", desc := "(I)I" } : Jvm.MethodName)) ∈ lw_all := lw_g (lw_at lw_m6 110 rfl) rfl
theorem q1553 : (Jvm.Cond.selects "MarkHouse" ({ cls := "MarkHouse", name := "file", desc := "(I)I" } : Jvm.MethodName) ({ cls := "MarkHouse", name := "file", desc := "(I)I" } : Jvm.MethodName)) ∈ lw_all := lw_g (lw_at lw_m6 111 rfl) rfl
theorem q1554 : (Jvm.Cond.code ({ cls := "MarkHouse", name := "file", desc := "(I)I" } : Jvm.MethodName) prog_1_method_15_code (3 : Nat) (Option.some Jvm.ClassFile.FieldType.int)) ∈ lw_all := lw_g (lw_at lw_m6 112 rfl) rfl
theorem q1555 : (Jvm.Cond.methodLink "MarkHouse" (275 : Nat) ({ cls := "MarkHouse$Attributes", name := "write", desc := "(ILMarkHouse$Bytes;)V" } : Jvm.MethodName)) ∈ lw_all := lw_g (lw_at lw_m6 113 rfl) rfl
theorem q1571 : (Jvm.Cond.instanceMethod ({ cls := "MarkHouse", name := "effective", desc := "(II)I" } : Jvm.MethodName)) ∈ lw_all := lw_g (lw_at lw_m6 129 rfl) rfl
theorem q1572 : (Jvm.Cond.selects "MarkHouse" ({ cls := "MarkHouse", name := "effective", desc := "(II)I" } : Jvm.MethodName) ({ cls := "MarkHouse", name := "effective", desc := "(II)I" } : Jvm.MethodName)) ∈ lw_all := lw_g (lw_at lw_m6 130 rfl) rfl
theorem q1573 : (Jvm.Cond.code ({ cls := "MarkHouse", name := "effective", desc := "(II)I" } : Jvm.MethodName) prog_1_method_17_code (3 : Nat) (Option.some Jvm.ClassFile.FieldType.int)) ∈ lw_all := lw_g (lw_at lw_m6 131 rfl) rfl
theorem q1574 : (Jvm.Cond.methodLink "MarkHouse" (282 : Nat) ({ cls := "MarkHouse", name := "isAsked", desc := "(II)Z" } : Jvm.MethodName)) ∈ lw_all := lw_g (lw_at lw_m6 132 rfl) rfl
theorem q1575 : (Jvm.Cond.privateMethod ({ cls := "MarkHouse", name := "isAsked", desc := "(II)Z" } : Jvm.MethodName)) ∈ lw_tbl := lw_at lw_m6 133 rfl
theorem q1576 : (Jvm.Cond.instanceMethod ({ cls := "MarkHouse", name := "isAsked", desc := "(II)Z" } : Jvm.MethodName)) ∈ lw_all := lw_g (lw_at lw_m6 134 rfl) rfl
theorem q1577 : (Jvm.Cond.code ({ cls := "MarkHouse", name := "isAsked", desc := "(II)Z" } : Jvm.MethodName) prog_1_method_16_code (3 : Nat) (Option.some Jvm.ClassFile.FieldType.boolean)) ∈ lw_all := lw_g (lw_at lw_m6 135 rfl) rfl
theorem q1578 : (Jvm.Cond.methodLink "MarkHouse" (279 : Nat) ({ cls := "MarkHouse$Passing", name := "isKind", desc := "(I)Z" } : Jvm.MethodName)) ∈ lw_all := lw_g (lw_at lw_m6 136 rfl) rfl
theorem q1582 : (Jvm.Cond.methodLink "MarkHouse" (285 : Nat) ({ cls := "MarkHouse$Passing", name := "find", desc := "(II)I" } : Jvm.MethodName)) ∈ lw_all := lw_g (lw_at lw_m6 140 rfl) rfl
theorem q1642 : (Jvm.Cond.instanceMethod ({ cls := "MarkHouse", name := "whence", desc := "(III)I" } : Jvm.MethodName)) ∈ lw_all := lw_g (lw_at lw_m6 200 rfl) rfl
theorem q1643 : (Jvm.Cond.selects "MarkHouse" ({ cls := "MarkHouse", name := "whence", desc := "(III)I" } : Jvm.MethodName) ({ cls := "MarkHouse", name := "whence", desc := "(III)I" } : Jvm.MethodName)) ∈ lw_all := lw_g (lw_at lw_m6 201 rfl) rfl
theorem q1644 : (Jvm.Cond.code ({ cls := "MarkHouse", name := "whence", desc := "(III)I" } : Jvm.MethodName) prog_1_method_18_code (4 : Nat) (Option.some Jvm.ClassFile.FieldType.int)) ∈ lw_all := lw_g (lw_at lw_m6 202 rfl) rfl
theorem q1645 : (Jvm.Cond.methodLink "MarkHouse" (291 : Nat) ({ cls := "MarkHouse$Program", name := "place", desc := "(I)I" } : Jvm.MethodName)) ∈ lw_all := lw_g (lw_at lw_m6 203 rfl) rfl
theorem q1649 : (Jvm.Cond.instanceMethod ({ cls := "MarkHouse", name := "ask", desc := "(IIII)I" } : Jvm.MethodName)) ∈ lw_all := lw_g (lw_at lw_m6 207 rfl) rfl
theorem q1650 : (Jvm.Cond.selects "MarkHouse" ({ cls := "MarkHouse", name := "ask", desc := "(IIII)I" } : Jvm.MethodName) ({ cls := "MarkHouse", name := "ask", desc := "(IIII)I" } : Jvm.MethodName)) ∈ lw_all := lw_g (lw_at lw_m6 208 rfl) rfl
theorem q1651 : (Jvm.Cond.code ({ cls := "MarkHouse", name := "ask", desc := "(IIII)I" } : Jvm.MethodName) prog_1_method_19_code (7 : Nat) (Option.some Jvm.ClassFile.FieldType.int)) ∈ lw_all := lw_g (lw_at lw_m6 209 rfl) rfl
theorem q1652 : (Jvm.Cond.methodLink "MarkHouse" (302 : Nat) ({ cls := "MarkHouse$Passing", name := "mark", desc := "(I)I" } : Jvm.MethodName)) ∈ lw_all := lw_g (lw_at lw_m6 210 rfl) rfl
theorem q1656 : (Jvm.Cond.methodLink "MarkHouse" (305 : Nat) ({ cls := "MarkHouse$Passing", name := "element", desc := "(II)I" } : Jvm.MethodName)) ∈ lw_all := lw_g (lw_at lw_m6 214 rfl) rfl
theorem q1657 : (Jvm.Cond.methodLink "MarkHouse" (311 : Nat) ({ cls := "MarkHouse$Bytes", name := "addName", desc := "(J)V" } : Jvm.MethodName)) ∈ lw_all := lw_g (lw_at lw_m6 215 rfl) rfl
theorem q1658 : (Jvm.Cond.methodLink "MarkHouse" (315 : Nat) ({ cls := "MarkHouse$Passing", name := "sort", desc := "(III)I" } : Jvm.MethodName)) ∈ lw_all := lw_g (lw_at lw_m6 216 rfl) rfl
theorem q1659 : (Jvm.Cond.methodLink "MarkHouse" (318 : Nat) ({ cls := "MarkHouse$Passing", name := "value", desc := "(III)J" } : Jvm.MethodName)) ∈ lw_all := lw_g (lw_at lw_m6 217 rfl) rfl
theorem q1660 : (Jvm.Cond.methodLink "MarkHouse" (322 : Nat) ({ cls := "MarkHouse$Bytes", name := "addNumber", desc := "(I)V" } : Jvm.MethodName)) ∈ lw_all := lw_g (lw_at lw_m6 218 rfl) rfl
theorem q1666 : (Jvm.Cond.instanceMethod ({ cls := "MarkHouse", name := "markOf", desc := "(II)I" } : Jvm.MethodName)) ∈ lw_all := lw_g (lw_at lw_m6 224 rfl) rfl
theorem q1667 : (Jvm.Cond.selects "MarkHouse" ({ cls := "MarkHouse", name := "markOf", desc := "(II)I" } : Jvm.MethodName) ({ cls := "MarkHouse", name := "markOf", desc := "(II)I" } : Jvm.MethodName)) ∈ lw_all := lw_g (lw_at lw_m6 225 rfl) rfl
theorem q1668 : (Jvm.Cond.code ({ cls := "MarkHouse", name := "markOf", desc := "(II)I" } : Jvm.MethodName) prog_1_method_20_code (4 : Nat) (Option.some Jvm.ClassFile.FieldType.int)) ∈ lw_all := lw_g (lw_at lw_m6 226 rfl) rfl
theorem q1669 : (Jvm.Cond.methodLink "MarkHouse" (325 : Nat) ({ cls := "MarkHouse$Program", name := "sort", desc := "(I)I" } : Jvm.MethodName)) ∈ lw_all := lw_g (lw_at lw_m6 227 rfl) rfl
theorem q1670 : (Jvm.Cond.methodLink "MarkHouse" (327 : Nat) ({ cls := "MarkHouse$Passing", name := "markOf", desc := "(II)I" } : Jvm.MethodName)) ∈ lw_all := lw_g (lw_at lw_m6 228 rfl) rfl
theorem q1676 : (Jvm.Cond.instanceMethod ({ cls := "MarkHouse", name := "rounds", desc := "()I" } : Jvm.MethodName)) ∈ lw_all := lw_g (lw_at lw_m6 234 rfl) rfl
theorem q1677 : (Jvm.Cond.selects "MarkHouse" ({ cls := "MarkHouse", name := "rounds", desc := "()I" } : Jvm.MethodName) ({ cls := "MarkHouse", name := "rounds", desc := "()I" } : Jvm.MethodName)) ∈ lw_all := lw_g (lw_at lw_m6 235 rfl) rfl
theorem q1678 : (Jvm.Cond.code ({ cls := "MarkHouse", name := "rounds", desc := "()I" } : Jvm.MethodName) prog_1_method_21_code (1 : Nat) (Option.some Jvm.ClassFile.FieldType.int)) ∈ lw_all := lw_g (lw_at lw_m6 236 rfl) rfl
theorem q1679 : (Jvm.Cond.methodLink "MarkHouse" (330 : Nat) ({ cls := "MarkHouse$Passing", name := "rounds", desc := "()I" } : Jvm.MethodName)) ∈ lw_all := lw_g (lw_at lw_m6 237 rfl) rfl
theorem q1693 : (Jvm.Cond.instanceMethod ({ cls := "MarkHouse", name := "flow", desc := "(I)I" } : Jvm.MethodName)) ∈ lw_all := lw_g (lw_at lw_m7 11 rfl) rfl
theorem q1694 : (Jvm.Cond.selects "MarkHouse" ({ cls := "MarkHouse", name := "flow", desc := "(I)I" } : Jvm.MethodName) ({ cls := "MarkHouse", name := "flow", desc := "(I)I" } : Jvm.MethodName)) ∈ lw_all := lw_g (lw_at lw_m7 12 rfl) rfl
theorem q1695 : (Jvm.Cond.code ({ cls := "MarkHouse", name := "flow", desc := "(I)I" } : Jvm.MethodName) prog_1_method_22_code (2 : Nat) (Option.some Jvm.ClassFile.FieldType.int)) ∈ lw_all := lw_g (lw_at lw_m7 13 rfl) rfl
theorem q1696 : (Jvm.Cond.methodLink "MarkHouse" (333 : Nat) ({ cls := "MarkHouse$Flow", name := "find", desc := "(I)I" } : Jvm.MethodName)) ∈ lw_all := lw_g (lw_at lw_m7 14 rfl) rfl
theorem q1779 : (Jvm.Cond.instanceMethod ({ cls := "MarkHouse", name := "error", desc := "(II)I" } : Jvm.MethodName)) ∈ lw_all := lw_g (lw_at lw_m7 97 rfl) rfl
theorem q1780 : (Jvm.Cond.selects "MarkHouse" ({ cls := "MarkHouse", name := "error", desc := "(II)I" } : Jvm.MethodName) ({ cls := "MarkHouse", name := "error", desc := "(II)I" } : Jvm.MethodName)) ∈ lw_all := lw_g (lw_at lw_m7 98 rfl) rfl
theorem q1781 : (Jvm.Cond.code ({ cls := "MarkHouse", name := "error", desc := "(II)I" } : Jvm.MethodName) prog_1_method_23_code (3 : Nat) (Option.some Jvm.ClassFile.FieldType.int)) ∈ lw_all := lw_g (lw_at lw_m7 99 rfl) rfl
theorem q1782 : (Jvm.Cond.methodLink "MarkHouse" (339 : Nat) ({ cls := "MarkHouse$Program", name := "ofMethod", desc := "(I)I" } : Jvm.MethodName)) ∈ lw_all := lw_g (lw_at lw_m7 100 rfl) rfl
theorem q1784 : (Jvm.Cond.instanceMethod ({ cls := "MarkHouse", name := "way", desc := "(I)I" } : Jvm.MethodName)) ∈ lw_all := lw_g (lw_at lw_m7 102 rfl) rfl
theorem q1785 : (Jvm.Cond.selects "MarkHouse" ({ cls := "MarkHouse", name := "way", desc := "(I)I" } : Jvm.MethodName) ({ cls := "MarkHouse", name := "way", desc := "(I)I" } : Jvm.MethodName)) ∈ lw_all := lw_g (lw_at lw_m7 103 rfl) rfl
theorem q1786 : (Jvm.Cond.code ({ cls := "MarkHouse", name := "way", desc := "(I)I" } : Jvm.MethodName) prog_1_method_24_code (3 : Nat) (Option.some Jvm.ClassFile.FieldType.int)) ∈ lw_all := lw_g (lw_at lw_m7 104 rfl) rfl
theorem q1787 : (Jvm.Cond.methodLink "MarkHouse" (349 : Nat) ({ cls := "MarkHouse$Ways", name := "find", desc := "(I)I" } : Jvm.MethodName)) ∈ lw_all := lw_g (lw_at lw_m7 105 rfl) rfl
theorem q1815 : (Jvm.Cond.instanceMethod ({ cls := "MarkHouse", name := "step", desc := "(I)I" } : Jvm.MethodName)) ∈ lw_all := lw_g (lw_at lw_m7 133 rfl) rfl
theorem q1816 : (Jvm.Cond.selects "MarkHouse" ({ cls := "MarkHouse", name := "step", desc := "(I)I" } : Jvm.MethodName) ({ cls := "MarkHouse", name := "step", desc := "(I)I" } : Jvm.MethodName)) ∈ lw_all := lw_g (lw_at lw_m7 134 rfl) rfl
theorem q1817 : (Jvm.Cond.code ({ cls := "MarkHouse", name := "step", desc := "(I)I" } : Jvm.MethodName) prog_1_method_25_code (2 : Nat) (Option.some Jvm.ClassFile.FieldType.int)) ∈ lw_all := lw_g (lw_at lw_m7 135 rfl) rfl
theorem q1819 : (Jvm.Cond.instanceMethod ({ cls := "MarkHouse", name := "state", desc := "(III)I" } : Jvm.MethodName)) ∈ lw_all := lw_g (lw_at lw_m7 137 rfl) rfl
theorem q1820 : (Jvm.Cond.selects "MarkHouse" ({ cls := "MarkHouse", name := "state", desc := "(III)I" } : Jvm.MethodName) ({ cls := "MarkHouse", name := "state", desc := "(III)I" } : Jvm.MethodName)) ∈ lw_all := lw_g (lw_at lw_m7 138 rfl) rfl
theorem q1821 : (Jvm.Cond.code ({ cls := "MarkHouse", name := "state", desc := "(III)I" } : Jvm.MethodName) prog_1_method_26_code (5 : Nat) (Option.some Jvm.ClassFile.FieldType.int)) ∈ lw_all := lw_g (lw_at lw_m7 139 rfl) rfl
theorem q1822 : (Jvm.Cond.methodLink "MarkHouse" (352 : Nat) ({ cls := "MarkHouse$Flow", name := "isReached", desc := "(I)Z" } : Jvm.MethodName)) ∈ lw_all := lw_g (lw_at lw_m7 140 rfl) rfl
theorem q1824 : (Jvm.Cond.instanceMethod ({ cls := "MarkHouse", name := "find", desc := "(I)I" } : Jvm.MethodName)) ∈ lw_all := lw_g (lw_at lw_m7 142 rfl) rfl
theorem q1825 : (Jvm.Cond.selects "MarkHouse" ({ cls := "MarkHouse", name := "find", desc := "(I)I" } : Jvm.MethodName) ({ cls := "MarkHouse", name := "find", desc := "(I)I" } : Jvm.MethodName)) ∈ lw_all := lw_g (lw_at lw_m7 143 rfl) rfl
theorem q1826 : (Jvm.Cond.code ({ cls := "MarkHouse", name := "find", desc := "(I)I" } : Jvm.MethodName) prog_1_method_27_code (2 : Nat) (Option.some Jvm.ClassFile.FieldType.int)) ∈ lw_all := lw_g (lw_at lw_m7 144 rfl) rfl
theorem q1827 : (Jvm.Cond.methodLink "MarkHouse" (359 : Nat) ({ cls := "MarkHouse$Flow", name := "least", desc := "(I)I" } : Jvm.MethodName)) ∈ lw_all := lw_g (lw_at lw_m7 145 rfl) rfl
theorem q1837 : (Jvm.Cond.instanceMethod ({ cls := "MarkHouse", name := "plain", desc := "(I)Z" } : Jvm.MethodName)) ∈ lw_all := lw_g (lw_at lw_m7 155 rfl) rfl
theorem q1838 : (Jvm.Cond.selects "MarkHouse" ({ cls := "MarkHouse", name := "plain", desc := "(I)Z" } : Jvm.MethodName) ({ cls := "MarkHouse", name := "plain", desc := "(I)Z" } : Jvm.MethodName)) ∈ lw_all := lw_g (lw_at lw_m7 156 rfl) rfl
theorem q1839 : (Jvm.Cond.code ({ cls := "MarkHouse", name := "plain", desc := "(I)Z" } : Jvm.MethodName) prog_1_method_28_code (2 : Nat) (Option.some Jvm.ClassFile.FieldType.boolean)) ∈ lw_all := lw_g (lw_at lw_m7 157 rfl) rfl
theorem q1840 : (Jvm.Cond.methodLink "MarkHouse" (182 : Nat) ({ cls := "MarkHouse$Passing", name := "plain", desc := "(I)V" } : Jvm.MethodName)) ∈ lw_all := lw_g (lw_at lw_m7 158 rfl) rfl
theorem q1845 : (Jvm.Cond.instanceMethod ({ cls := "MarkHouse", name := "weave", desc := "()I" } : Jvm.MethodName)) ∈ lw_all := lw_g (lw_at lw_m7 163 rfl) rfl
theorem q1846 : (Jvm.Cond.selects "MarkHouse" ({ cls := "MarkHouse", name := "weave", desc := "()I" } : Jvm.MethodName) ({ cls := "MarkHouse", name := "weave", desc := "()I" } : Jvm.MethodName)) ∈ lw_all := lw_g (lw_at lw_m7 164 rfl) rfl
theorem q1847 : (Jvm.Cond.code ({ cls := "MarkHouse", name := "weave", desc := "()I" } : Jvm.MethodName) prog_1_method_29_code (1 : Nat) (Option.some Jvm.ClassFile.FieldType.int)) ∈ lw_all := lw_g (lw_at lw_m7 165 rfl) rfl
theorem q1848 : (Jvm.Cond.methodLink "MarkHouse" (362 : Nat) ({ cls := "MarkHouse$Weaver", name := "weave", desc := "()I" } : Jvm.MethodName)) ∈ lw_all := lw_g (lw_at lw_m7 166 rfl) rfl
theorem q1855 : (Jvm.Cond.instanceMethod ({ cls := "MarkHouse", name := "code", desc := "(IZ)I" } : Jvm.MethodName)) ∈ lw_all := lw_g (lw_at lw_m7 173 rfl) rfl
theorem q1856 : (Jvm.Cond.selects "MarkHouse" ({ cls := "MarkHouse", name := "code", desc := "(IZ)I" } : Jvm.MethodName) ({ cls := "MarkHouse", name := "code", desc := "(IZ)I" } : Jvm.MethodName)) ∈ lw_all := lw_g (lw_at lw_m7 174 rfl) rfl
theorem q1857 : (Jvm.Cond.code ({ cls := "MarkHouse", name := "code", desc := "(IZ)I" } : Jvm.MethodName) prog_1_method_30_code (4 : Nat) (Option.some Jvm.ClassFile.FieldType.int)) ∈ lw_all := lw_g (lw_at lw_m7 175 rfl) rfl
theorem q1858 : (Jvm.Cond.methodLink "MarkHouse" (365 : Nat) ({ cls := "MarkHouse$Teller", name := "code", desc := "(IZ)V" } : Jvm.MethodName)) ∈ lw_all := lw_g (lw_at lw_m7 176 rfl) rfl
theorem q1865 : (Jvm.Cond.instanceMethod ({ cls := "MarkHouse", name := "argument", desc := "(II)Z" } : Jvm.MethodName)) ∈ lw_all := lw_g (lw_at lw_m7 183 rfl) rfl
theorem q1866 : (Jvm.Cond.selects "MarkHouse" ({ cls := "MarkHouse", name := "argument", desc := "(II)Z" } : Jvm.MethodName) ({ cls := "MarkHouse", name := "argument", desc := "(II)Z" } : Jvm.MethodName)) ∈ lw_all := lw_g (lw_at lw_m7 184 rfl) rfl
theorem q1867 : (Jvm.Cond.code ({ cls := "MarkHouse", name := "argument", desc := "(II)Z" } : Jvm.MethodName) prog_1_method_31_code (3 : Nat) (Option.some Jvm.ClassFile.FieldType.boolean)) ∈ lw_all := lw_g (lw_at lw_m7 185 rfl) rfl
theorem q1869 : (Jvm.Cond.instanceMethod ({ cls := "MarkHouse", name := "input", desc := "(I)I" } : Jvm.MethodName)) ∈ lw_all := lw_g (lw_at lw_m7 187 rfl) rfl
theorem q1870 : (Jvm.Cond.selects "MarkHouse" ({ cls := "MarkHouse", name := "input", desc := "(I)I" } : Jvm.MethodName) ({ cls := "MarkHouse", name := "input", desc := "(I)I" } : Jvm.MethodName)) ∈ lw_all := lw_g (lw_at lw_m7 188 rfl) rfl
theorem q1871 : (Jvm.Cond.code ({ cls := "MarkHouse", name := "input", desc := "(I)I" } : Jvm.MethodName) prog_1_method_32_code (2 : Nat) (Option.some Jvm.ClassFile.FieldType.int)) ∈ lw_all := lw_g (lw_at lw_m7 189 rfl) rfl
theorem q1872 : (Jvm.Cond.methodLink "MarkHouse" (372 : Nat) ({ cls := "MarkHouse$Machine", name := "input", desc := "(I)Z" } : Jvm.MethodName)) ∈ lw_all := lw_g (lw_at lw_m7 190 rfl) rfl
theorem q1877 : (Jvm.Cond.instanceMethod ({ cls := "MarkHouse", name := "run", desc := "(I)I" } : Jvm.MethodName)) ∈ lw_all := lw_g (lw_at lw_m7 195 rfl) rfl
theorem q1878 : (Jvm.Cond.selects "MarkHouse" ({ cls := "MarkHouse", name := "run", desc := "(I)I" } : Jvm.MethodName) ({ cls := "MarkHouse", name := "run", desc := "(I)I" } : Jvm.MethodName)) ∈ lw_all := lw_g (lw_at lw_m7 196 rfl) rfl
theorem q1879 : (Jvm.Cond.code ({ cls := "MarkHouse", name := "run", desc := "(I)I" } : Jvm.MethodName) prog_1_method_35_code (2 : Nat) (Option.some Jvm.ClassFile.FieldType.int)) ∈ lw_all := lw_g (lw_at lw_m7 197 rfl) rfl
theorem q1880 : (Jvm.Cond.methodLink "MarkHouse" (393 : Nat) ({ cls := "MarkHouse$Machine", name := "told0", desc := "(I)I" } : Jvm.MethodName)) ∈ lw_all := lw_g (lw_at lw_m7 198 rfl) rfl
theorem q1887 : (Jvm.Cond.instanceMethod ({ cls := "MarkHouse", name := "truth", desc := "(I)I" } : Jvm.MethodName)) ∈ lw_all := lw_g (lw_at lw_m7 205 rfl) rfl
theorem q1888 : (Jvm.Cond.selects "MarkHouse" ({ cls := "MarkHouse", name := "truth", desc := "(I)I" } : Jvm.MethodName) ({ cls := "MarkHouse", name := "truth", desc := "(I)I" } : Jvm.MethodName)) ∈ lw_all := lw_g (lw_at lw_m7 206 rfl) rfl
theorem q1889 : (Jvm.Cond.code ({ cls := "MarkHouse", name := "truth", desc := "(I)I" } : Jvm.MethodName) prog_1_method_36_code (2 : Nat) (Option.some Jvm.ClassFile.FieldType.int)) ∈ lw_all := lw_g (lw_at lw_m7 207 rfl) rfl
theorem q1890 : (Jvm.Cond.methodLink "MarkHouse" (396 : Nat) ({ cls := "MarkHouse$Machine", name := "truth", desc := "(I)I" } : Jvm.MethodName)) ∈ lw_all := lw_g (lw_at lw_m7 208 rfl) rfl
theorem q1899 : (Jvm.Cond.instanceMethod ({ cls := "MarkHouse", name := "wire", desc := "()I" } : Jvm.MethodName)) ∈ lw_all := lw_g (lw_at lw_m7 217 rfl) rfl
theorem q1900 : (Jvm.Cond.selects "MarkHouse" ({ cls := "MarkHouse", name := "wire", desc := "()I" } : Jvm.MethodName) ({ cls := "MarkHouse", name := "wire", desc := "()I" } : Jvm.MethodName)) ∈ lw_all := lw_g (lw_at lw_m7 218 rfl) rfl
theorem q1901 : (Jvm.Cond.code ({ cls := "MarkHouse", name := "wire", desc := "()I" } : Jvm.MethodName) prog_1_method_37_code (1 : Nat) (Option.some Jvm.ClassFile.FieldType.int)) ∈ lw_all := lw_g (lw_at lw_m7 219 rfl) rfl
theorem q1902 : (Jvm.Cond.methodLink "MarkHouse" (399 : Nat) ({ cls := "MarkHouse$Wirer", name := "wire", desc := "()I" } : Jvm.MethodName)) ∈ lw_all := lw_g (lw_at lw_m7 220 rfl) rfl
theorem q1950 : (Jvm.Cond.instanceMethod ({ cls := "MarkHouse", name := "wired", desc := "(I)I" } : Jvm.MethodName)) ∈ lw_all := lw_g (lw_at lw_m8 28 rfl) rfl
theorem q1951 : (Jvm.Cond.selects "MarkHouse" ({ cls := "MarkHouse", name := "wired", desc := "(I)I" } : Jvm.MethodName) ({ cls := "MarkHouse", name := "wired", desc := "(I)I" } : Jvm.MethodName)) ∈ lw_all := lw_g (lw_at lw_m8 29 rfl) rfl
theorem q1952 : (Jvm.Cond.code ({ cls := "MarkHouse", name := "wired", desc := "(I)I" } : Jvm.MethodName) prog_1_method_38_code (2 : Nat) (Option.some Jvm.ClassFile.FieldType.int)) ∈ lw_all := lw_g (lw_at lw_m8 30 rfl) rfl
theorem q1953 : (Jvm.Cond.methodLink "MarkHouse" (402 : Nat) ({ cls := "MarkHouse$Wirer", name := "told", desc := "(I)I" } : Jvm.MethodName)) ∈ lw_all := lw_g (lw_at lw_m8 31 rfl) rfl
theorem q1962 : (Jvm.Cond.instanceMethod ({ cls := "MarkHouse", name := "compile", desc := "()I" } : Jvm.MethodName)) ∈ lw_all := lw_g (lw_at lw_m8 40 rfl) rfl
theorem q1963 : (Jvm.Cond.selects "MarkHouse" ({ cls := "MarkHouse", name := "compile", desc := "()I" } : Jvm.MethodName) ({ cls := "MarkHouse", name := "compile", desc := "()I" } : Jvm.MethodName)) ∈ lw_all := lw_g (lw_at lw_m8 41 rfl) rfl
theorem q1964 : (Jvm.Cond.codeWith ({ cls := "MarkHouse", name := "compile", desc := "()I" } : Jvm.MethodName) prog_1_method_6_code (2 : Nat) (Option.some Jvm.ClassFile.FieldType.int) [((18 : Nat), (40 : Nat), (43 : Nat), (164 : Nat))]) ∈ lw_all := lw_g (lw_at lw_m8 42 rfl) rfl
theorem q1965 : (Jvm.Cond.classLink "MarkHouse" (164 : Nat) "java/lang/UnsupportedOperationException") ∈ lw_all := lw_g (lw_at lw_m8 43 rfl) rfl
theorem q1966 : (Jvm.Cond.methodLink "MarkHouse" (156 : Nat) ({ cls := "MarkHouse$Fault", name := "clear", desc := "()V" } : Jvm.MethodName)) ∈ lw_all := lw_g (lw_at lw_m8 44 rfl) rfl
theorem q1970 : (Jvm.Cond.methodLink "MarkHouse" (157 : Nat) ({ cls := "MarkHouse$Program", name := "clear", desc := "()V" } : Jvm.MethodName)) ∈ lw_all := lw_g (lw_at lw_m8 48 rfl) rfl
theorem q1978 : (Jvm.Cond.methodLink "MarkHouse" (158 : Nat) ({ cls := "MarkHouse$Lexemes", name := "cut", desc := "(LMarkHouse$Bytes;LMarkHouse$Fault;)V" } : Jvm.MethodName)) ∈ lw_all := lw_g (lw_at lw_m8 56 rfl) rfl
theorem q2137 : (Jvm.Cond.methodLink "MarkHouse" (161 : Nat) ({ cls := "MarkHouse$Reader", name := "read", desc := "()V" } : Jvm.MethodName)) ∈ lw_all := lw_g (lw_at lw_m8 215 rfl) rfl
theorem q2363 : (Jvm.Cond.classLink "MarkHouse" (170 : Nat) "java/lang/IllegalArgumentException") ∈ lw_all := lw_g (lw_at lw_m9 201 rfl) rfl
theorem q2372 : (Jvm.Cond.methodLink "MarkHouse" (172 : Nat) ({ cls := "java/lang/IllegalArgumentException", name := "<init>", desc := "()V" } : Jvm.MethodName)) ∈ lw_all := lw_g (lw_at lw_m9 210 rfl) rfl
theorem q2384 : (Jvm.Cond.instanceMethod ({ cls := "MarkHouse", name := "begin", desc := "(IZ)V" } : Jvm.MethodName)) ∈ lw_all := lw_g (lw_at lw_m9 222 rfl) rfl
theorem q2385 : (Jvm.Cond.selects "MarkHouse" ({ cls := "MarkHouse", name := "begin", desc := "(IZ)V" } : Jvm.MethodName) ({ cls := "MarkHouse", name := "begin", desc := "(IZ)V" } : Jvm.MethodName)) ∈ lw_all := lw_g (lw_at lw_m9 223 rfl) rfl
theorem q2386 : (Jvm.Cond.code ({ cls := "MarkHouse", name := "begin", desc := "(IZ)V" } : Jvm.MethodName) prog_1_method_33_code (4 : Nat) (Option.none : Option Jvm.ClassFile.FieldType)) ∈ lw_all := lw_g (lw_at lw_m9 224 rfl) rfl
theorem q2387 : (Jvm.Cond.classLink "MarkHouse" (378 : Nat) "java/lang/IllegalStateException") ∈ lw_all := lw_g (lw_at lw_m9 225 rfl) rfl
theorem q2396 : (Jvm.Cond.methodLink "MarkHouse" (380 : Nat) ({ cls := "java/lang/IllegalStateException", name := "<init>", desc := "()V" } : Jvm.MethodName)) ∈ lw_all := lw_g (lw_at lw_m9 234 rfl) rfl
theorem q2402 : (Jvm.Cond.classLink "MarkHouse" (381 : Nat) "java/util/NoSuchElementException") ∈ lw_all := lw_g (lw_at lw_m10 0 rfl) rfl
theorem q2411 : (Jvm.Cond.methodLink "MarkHouse" (383 : Nat) ({ cls := "java/util/NoSuchElementException", name := "<init>", desc := "()V" } : Jvm.MethodName)) ∈ lw_all := lw_g (lw_at lw_m10 9 rfl) rfl
theorem q2417 : (Jvm.Cond.methodLink "MarkHouse" (384 : Nat) ({ cls := "MarkHouse$Machine", name := "begin", desc := "(IZ)V" } : Jvm.MethodName)) ∈ lw_all := lw_g (lw_at lw_m10 15 rfl) rfl
theorem q2432 : (Jvm.Cond.instanceMethod ({ cls := "MarkHouse", name := "go", desc := "(I)I" } : Jvm.MethodName)) ∈ lw_all := lw_g (lw_at lw_m10 30 rfl) rfl
theorem q2433 : (Jvm.Cond.selects "MarkHouse" ({ cls := "MarkHouse", name := "go", desc := "(I)I" } : Jvm.MethodName) ({ cls := "MarkHouse", name := "go", desc := "(I)I" } : Jvm.MethodName)) ∈ lw_all := lw_g (lw_at lw_m10 31 rfl) rfl
theorem q2434 : (Jvm.Cond.code ({ cls := "MarkHouse", name := "go", desc := "(I)I" } : Jvm.MethodName) prog_1_method_34_code (2 : Nat) (Option.some Jvm.ClassFile.FieldType.int)) ∈ lw_all := lw_g (lw_at lw_m10 32 rfl) rfl
theorem q2435 : (Jvm.Cond.methodLink "MarkHouse" (390 : Nat) ({ cls := "MarkHouse$Machine", name := "go", desc := "(I)I" } : Jvm.MethodName)) ∈ lw_all := lw_g (lw_at lw_m10 33 rfl) rfl
theorem in_X1 : ∀ w ∈ wsX10, w ∈ lw_all := lw_in wsX10 [1189, 1191, 1193, 1195, 1197, 1199, 1201, 1203, 1205, 1207, 1209, 1211, 1213, 1215, 1217, 1219, 1221] (by decide +kernel) (by decide +kernel)
/-! MarkHouse$Bytes -/
set_option maxRecDepth 100000
def RX2 : String := "MarkHouse$Bytes"
def TX2 : u_T := fun k => match k with
  | 0 => ("MarkHouse$Bytes", "row", "[B", true)
  | _ => ("MarkHouse$Bytes", "size", "I", false)
def tyX2 : Nat → FieldType := fun k => match k with
  | 0 => .array .byte
  | _ => .int
abbrev wsX20 : List Cond := u_ws RX2 TX2 2
theorem nmX2 : ∀ a, a < 2 → ∀ b, b < 2 → a ≠ b → (TX2 a).2.1 ≠ (TX2 b).2.1 := by decide +kernel
theorem tyX2_ok : ∀ k, k < 2 → parseFieldDescriptor (TX2 k).2.2.1 = some (tyX2 k) := by decide +kernel
abbrev cX2_init : ByteArray := prog_3_method_1_code
def yX2_init : MethodName := ⟨RX2, "<init>", "(I)V"⟩
abbrev cX2_has : ByteArray := prog_3_method_6_code
def yX2_has : MethodName := ⟨RX2, "has", "(I)Z"⟩
abbrev cX2_add : ByteArray := prog_3_method_7_code
def yX2_add : MethodName := ⟨RX2, "add", "(I)V"⟩
abbrev cX2_size : ByteArray := prog_3_method_2_code
def yX2_size : MethodName := ⟨RX2, "size", "()I"⟩
abbrev cX2_cut : ByteArray := prog_3_method_5_code
def yX2_cut : MethodName := ⟨RX2, "cut", "(I)V"⟩
abbrev cX2_at : ByteArray := prog_3_method_3_code
def yX2_at : MethodName := ⟨RX2, "at", "(I)I"⟩
abbrev cX2_clear : ByteArray := prog_3_method_4_code
def yX2_clear : MethodName := ⟨RX2, "clear", "()V"⟩
abbrev cX2_addWord : ByteArray := prog_3_method_9_code
def yX2_addWord : MethodName := ⟨RX2, "addWord", "(Ljava/lang/String;)V"⟩
abbrev cX2_addName : ByteArray := prog_3_method_8_code
def yX2_addName : MethodName := ⟨RX2, "addName", "(J)V"⟩
abbrev cX2_addDigits : ByteArray := prog_3_method_11_code
def yX2_addDigits : MethodName := ⟨RX2, "addDigits", "(J)V"⟩
abbrev cX2_addNumber : ByteArray := prog_3_method_10_code
def yX2_addNumber : MethodName := ⟨RX2, "addNumber", "(I)V"⟩
theorem q244 : (Jvm.Cond.initialized "MarkHouse$Bytes") ∈ lw_all := lw_g (lw_at lw_m1 2 rfl) rfl
theorem q283 : (Jvm.Cond.instantiable "MarkHouse$Bytes" (2 : Nat)) ∈ lw_all := lw_g (lw_at lw_m1 41 rfl) rfl
theorem q285 : (Jvm.Cond.instanceMethod ({ cls := "MarkHouse$Bytes", name := "<init>", desc := "(I)V" } : Jvm.MethodName)) ∈ lw_all := lw_g (lw_at lw_m1 43 rfl) rfl
theorem q286 : (Jvm.Cond.code ({ cls := "MarkHouse$Bytes", name := "<init>", desc := "(I)V" } : Jvm.MethodName) prog_3_method_1_code (2 : Nat) (Option.none : Option Jvm.ClassFile.FieldType)) ∈ lw_all := lw_g (lw_at lw_m1 44 rfl) rfl
theorem q287 : (Jvm.Cond.methodLink "MarkHouse$Bytes" (1 : Nat) ({ cls := "java/lang/Object", name := "<init>", desc := "()V" } : Jvm.MethodName)) ∈ lw_all := lw_g (lw_at lw_m1 45 rfl) rfl
theorem q288 : (Jvm.Cond.fieldLink "MarkHouse$Bytes" (7 : Nat) "MarkHouse$Bytes" "row" "[B") ∈ lw_all := lw_g (lw_at lw_m1 46 rfl) rfl
theorem q289 : (Jvm.Cond.fieldLink "MarkHouse$Bytes" (13 : Nat) "MarkHouse$Bytes" "size" "I") ∈ lw_all := lw_g (lw_at lw_m1 47 rfl) rfl
theorem q290 : (Jvm.Cond.laysFinal "MarkHouse$Bytes" "MarkHouse$Bytes" "row" "[B") ∈ lw_all := lw_g (lw_at lw_m1 48 rfl) rfl
theorem q291 : (Jvm.Cond.soleField "MarkHouse$Bytes" "row") ∈ lw_all := lw_g (lw_at lw_m1 49 rfl) rfl
theorem q292 : (Jvm.Cond.lays "MarkHouse$Bytes" "MarkHouse$Bytes" "size" "I") ∈ lw_all := lw_g (lw_at lw_m1 50 rfl) rfl
theorem q293 : (Jvm.Cond.soleField "MarkHouse$Bytes" "size") ∈ lw_all := lw_g (lw_at lw_m1 51 rfl) rfl
theorem q294 : (Jvm.Cond.superclass "MarkHouse$Bytes" "java/lang/Object") ∈ lw_all := lw_g (lw_at lw_m1 52 rfl) rfl
theorem q1229 : (Jvm.Cond.instanceMethod ({ cls := "MarkHouse$Bytes", name := "has", desc := "(I)Z" } : Jvm.MethodName)) ∈ lw_all := lw_g (lw_at lw_m5 27 rfl) rfl
theorem q1230 : (Jvm.Cond.selects "MarkHouse$Bytes" ({ cls := "MarkHouse$Bytes", name := "has", desc := "(I)Z" } : Jvm.MethodName) ({ cls := "MarkHouse$Bytes", name := "has", desc := "(I)Z" } : Jvm.MethodName)) ∈ lw_all := lw_g (lw_at lw_m5 28 rfl) rfl
theorem q1231 : (Jvm.Cond.code ({ cls := "MarkHouse$Bytes", name := "has", desc := "(I)Z" } : Jvm.MethodName) prog_3_method_6_code (2 : Nat) (Option.some Jvm.ClassFile.FieldType.boolean)) ∈ lw_all := lw_g (lw_at lw_m5 29 rfl) rfl
theorem q1233 : (Jvm.Cond.instanceMethod ({ cls := "MarkHouse$Bytes", name := "add", desc := "(I)V" } : Jvm.MethodName)) ∈ lw_all := lw_g (lw_at lw_m5 31 rfl) rfl
theorem q1234 : (Jvm.Cond.selects "MarkHouse$Bytes" ({ cls := "MarkHouse$Bytes", name := "add", desc := "(I)V" } : Jvm.MethodName) ({ cls := "MarkHouse$Bytes", name := "add", desc := "(I)V" } : Jvm.MethodName)) ∈ lw_all := lw_g (lw_at lw_m5 32 rfl) rfl
theorem q1235 : (Jvm.Cond.code ({ cls := "MarkHouse$Bytes", name := "add", desc := "(I)V" } : Jvm.MethodName) prog_3_method_7_code (2 : Nat) (Option.none : Option Jvm.ClassFile.FieldType)) ∈ lw_all := lw_g (lw_at lw_m5 33 rfl) rfl
theorem q1237 : (Jvm.Cond.instanceMethod ({ cls := "MarkHouse$Bytes", name := "size", desc := "()I" } : Jvm.MethodName)) ∈ lw_all := lw_g (lw_at lw_m5 35 rfl) rfl
theorem q1238 : (Jvm.Cond.selects "MarkHouse$Bytes" ({ cls := "MarkHouse$Bytes", name := "size", desc := "()I" } : Jvm.MethodName) ({ cls := "MarkHouse$Bytes", name := "size", desc := "()I" } : Jvm.MethodName)) ∈ lw_all := lw_g (lw_at lw_m5 36 rfl) rfl
theorem q1239 : (Jvm.Cond.code ({ cls := "MarkHouse$Bytes", name := "size", desc := "()I" } : Jvm.MethodName) prog_3_method_2_code (1 : Nat) (Option.some Jvm.ClassFile.FieldType.int)) ∈ lw_all := lw_g (lw_at lw_m5 37 rfl) rfl
theorem q1245 : (Jvm.Cond.instanceMethod ({ cls := "MarkHouse$Bytes", name := "cut", desc := "(I)V" } : Jvm.MethodName)) ∈ lw_all := lw_g (lw_at lw_m5 43 rfl) rfl
theorem q1246 : (Jvm.Cond.selects "MarkHouse$Bytes" ({ cls := "MarkHouse$Bytes", name := "cut", desc := "(I)V" } : Jvm.MethodName) ({ cls := "MarkHouse$Bytes", name := "cut", desc := "(I)V" } : Jvm.MethodName)) ∈ lw_all := lw_g (lw_at lw_m5 44 rfl) rfl
theorem q1247 : (Jvm.Cond.code ({ cls := "MarkHouse$Bytes", name := "cut", desc := "(I)V" } : Jvm.MethodName) prog_3_method_5_code (2 : Nat) (Option.none : Option Jvm.ClassFile.FieldType)) ∈ lw_all := lw_g (lw_at lw_m5 45 rfl) rfl
theorem q1253 : (Jvm.Cond.instanceMethod ({ cls := "MarkHouse$Bytes", name := "at", desc := "(I)I" } : Jvm.MethodName)) ∈ lw_all := lw_g (lw_at lw_m5 51 rfl) rfl
theorem q1254 : (Jvm.Cond.selects "MarkHouse$Bytes" ({ cls := "MarkHouse$Bytes", name := "at", desc := "(I)I" } : Jvm.MethodName) ({ cls := "MarkHouse$Bytes", name := "at", desc := "(I)I" } : Jvm.MethodName)) ∈ lw_all := lw_g (lw_at lw_m5 52 rfl) rfl
theorem q1255 : (Jvm.Cond.code ({ cls := "MarkHouse$Bytes", name := "at", desc := "(I)I" } : Jvm.MethodName) prog_3_method_3_code (2 : Nat) (Option.some Jvm.ClassFile.FieldType.int)) ∈ lw_all := lw_g (lw_at lw_m5 53 rfl) rfl
theorem q1269 : (Jvm.Cond.instanceMethod ({ cls := "MarkHouse$Bytes", name := "clear", desc := "()V" } : Jvm.MethodName)) ∈ lw_all := lw_g (lw_at lw_m5 67 rfl) rfl
theorem q1270 : (Jvm.Cond.selects "MarkHouse$Bytes" ({ cls := "MarkHouse$Bytes", name := "clear", desc := "()V" } : Jvm.MethodName) ({ cls := "MarkHouse$Bytes", name := "clear", desc := "()V" } : Jvm.MethodName)) ∈ lw_all := lw_g (lw_at lw_m5 68 rfl) rfl
theorem q1271 : (Jvm.Cond.code ({ cls := "MarkHouse$Bytes", name := "clear", desc := "()V" } : Jvm.MethodName) prog_3_method_4_code (1 : Nat) (Option.none : Option Jvm.ClassFile.FieldType)) ∈ lw_all := lw_g (lw_at lw_m5 69 rfl) rfl
theorem q1287 : (Jvm.Cond.instanceMethod ({ cls := "MarkHouse$Bytes", name := "addWord", desc := "(Ljava/lang/String;)V" } : Jvm.MethodName)) ∈ lw_all := lw_g (lw_at lw_m5 85 rfl) rfl
theorem q1288 : (Jvm.Cond.selects "MarkHouse$Bytes" ({ cls := "MarkHouse$Bytes", name := "addWord", desc := "(Ljava/lang/String;)V" } : Jvm.MethodName) ({ cls := "MarkHouse$Bytes", name := "addWord", desc := "(Ljava/lang/String;)V" } : Jvm.MethodName)) ∈ lw_all := lw_g (lw_at lw_m5 86 rfl) rfl
theorem q1289 : (Jvm.Cond.code ({ cls := "MarkHouse$Bytes", name := "addWord", desc := "(Ljava/lang/String;)V" } : Jvm.MethodName) prog_3_method_9_code (3 : Nat) (Option.none : Option Jvm.ClassFile.FieldType)) ∈ lw_all := lw_g (lw_at lw_m5 87 rfl) rfl
theorem q1290 : (Jvm.Cond.methodLink "MarkHouse$Bytes" (23 : Nat) ({ cls := "java/lang/String", name := "length", desc := "()I" } : Jvm.MethodName)) ∈ lw_all := lw_g (lw_at lw_m5 88 rfl) rfl
theorem q1291 : (Jvm.Cond.methodLink "MarkHouse$Bytes" (29 : Nat) ({ cls := "java/lang/String", name := "charAt", desc := "(I)C" } : Jvm.MethodName)) ∈ lw_all := lw_g (lw_at lw_m5 89 rfl) rfl
theorem q1292 : (Jvm.Cond.methodLink "MarkHouse$Bytes" (19 : Nat) ({ cls := "MarkHouse$Bytes", name := "add", desc := "(I)V" } : Jvm.MethodName)) ∈ lw_all := lw_g (lw_at lw_m5 90 rfl) rfl
theorem q1298 : (Jvm.Cond.instanceMethod ({ cls := "MarkHouse$Bytes", name := "addName", desc := "(J)V" } : Jvm.MethodName)) ∈ lw_all := lw_g (lw_at lw_m5 96 rfl) rfl
theorem q1299 : (Jvm.Cond.selects "MarkHouse$Bytes" ({ cls := "MarkHouse$Bytes", name := "addName", desc := "(J)V" } : Jvm.MethodName) ({ cls := "MarkHouse$Bytes", name := "addName", desc := "(J)V" } : Jvm.MethodName)) ∈ lw_all := lw_g (lw_at lw_m5 97 rfl) rfl
theorem q1300 : (Jvm.Cond.code ({ cls := "MarkHouse$Bytes", name := "addName", desc := "(J)V" } : Jvm.MethodName) prog_3_method_8_code (4 : Nat) (Option.none : Option Jvm.ClassFile.FieldType)) ∈ lw_all := lw_g (lw_at lw_m5 98 rfl) rfl
theorem q1301 : (Jvm.Cond.constantLong "MarkHouse$Bytes" (17 : Nat) (255 : Int64)) ∈ lw_all := lw_g (lw_at lw_m5 99 rfl) rfl
theorem q1330 : (Jvm.Cond.instanceMethod ({ cls := "MarkHouse$Bytes", name := "addDigits", desc := "(J)V" } : Jvm.MethodName)) ∈ lw_all := lw_g (lw_at lw_m5 128 rfl) rfl
theorem q1331 : (Jvm.Cond.selects "MarkHouse$Bytes" ({ cls := "MarkHouse$Bytes", name := "addDigits", desc := "(J)V" } : Jvm.MethodName) ({ cls := "MarkHouse$Bytes", name := "addDigits", desc := "(J)V" } : Jvm.MethodName)) ∈ lw_all := lw_g (lw_at lw_m5 129 rfl) rfl
theorem q1332 : (Jvm.Cond.code ({ cls := "MarkHouse$Bytes", name := "addDigits", desc := "(J)V" } : Jvm.MethodName) prog_3_method_11_code (5 : Nat) (Option.none : Option Jvm.ClassFile.FieldType)) ∈ lw_all := lw_g (lw_at lw_m5 130 rfl) rfl
theorem q1333 : (Jvm.Cond.constantLong "MarkHouse$Bytes" (37 : Nat) (9 : Int64)) ∈ lw_all := lw_g (lw_at lw_m5 131 rfl) rfl
theorem q1334 : (Jvm.Cond.constantLong "MarkHouse$Bytes" (39 : Nat) (10 : Int64)) ∈ lw_all := lw_g (lw_at lw_m5 132 rfl) rfl
theorem q1335 : (Jvm.Cond.constantLong "MarkHouse$Bytes" (41 : Nat) (48 : Int64)) ∈ lw_all := lw_g (lw_at lw_m5 133 rfl) rfl
theorem q1661 : (Jvm.Cond.instanceMethod ({ cls := "MarkHouse$Bytes", name := "addNumber", desc := "(I)V" } : Jvm.MethodName)) ∈ lw_all := lw_g (lw_at lw_m6 219 rfl) rfl
theorem q1662 : (Jvm.Cond.selects "MarkHouse$Bytes" ({ cls := "MarkHouse$Bytes", name := "addNumber", desc := "(I)V" } : Jvm.MethodName) ({ cls := "MarkHouse$Bytes", name := "addNumber", desc := "(I)V" } : Jvm.MethodName)) ∈ lw_all := lw_g (lw_at lw_m6 220 rfl) rfl
theorem q1663 : (Jvm.Cond.code ({ cls := "MarkHouse$Bytes", name := "addNumber", desc := "(I)V" } : Jvm.MethodName) prog_3_method_10_code (2 : Nat) (Option.none : Option Jvm.ClassFile.FieldType)) ∈ lw_all := lw_g (lw_at lw_m6 221 rfl) rfl
theorem q1664 : (Jvm.Cond.methodLink "MarkHouse$Bytes" (33 : Nat) ({ cls := "MarkHouse$Bytes", name := "addDigits", desc := "(J)V" } : Jvm.MethodName)) ∈ lw_all := lw_g (lw_at lw_m6 222 rfl) rfl
theorem in_X2 : ∀ w ∈ wsX20, w ∈ lw_all := lw_in wsX20 [290, 292] (by decide +kernel) (by decide +kernel)
/-! MarkHouse$Fault -/
set_option maxRecDepth 100000
def RX3 : String := "MarkHouse$Fault"
def TX3 : u_T := fun k => match k with
  | 0 => ("MarkHouse$Fault", "kind", "I", false)
  | _ => ("MarkHouse$Fault", "place", "I", false)
def tyX3 : Nat → FieldType := fun k => match k with
  | 0 => .int
  | _ => .int
abbrev wsX30 : List Cond := u_ws RX3 TX3 2
theorem nmX3 : ∀ a, a < 2 → ∀ b, b < 2 → a ≠ b → (TX3 a).2.1 ≠ (TX3 b).2.1 := by decide +kernel
theorem tyX3_ok : ∀ k, k < 2 → parseFieldDescriptor (TX3 k).2.2.1 = some (tyX3 k) := by decide +kernel
abbrev cX3_init : ByteArray := prog_4_method_1_code
def yX3_init : MethodName := ⟨RX3, "<init>", "()V"⟩
abbrev cX3_clear : ByteArray := prog_4_method_2_code
def yX3_clear : MethodName := ⟨RX3, "clear", "()V"⟩
abbrev cX3_fail : ByteArray := prog_4_method_3_code
def yX3_fail : MethodName := ⟨RX3, "fail", "(II)V"⟩
theorem q245 : (Jvm.Cond.initialized "MarkHouse$Fault") ∈ lw_all := lw_g (lw_at lw_m1 3 rfl) rfl
theorem q297 : (Jvm.Cond.instantiable "MarkHouse$Fault" (2 : Nat)) ∈ lw_all := lw_g (lw_at lw_m1 55 rfl) rfl
theorem q299 : (Jvm.Cond.instanceMethod ({ cls := "MarkHouse$Fault", name := "<init>", desc := "()V" } : Jvm.MethodName)) ∈ lw_all := lw_g (lw_at lw_m1 57 rfl) rfl
theorem q300 : (Jvm.Cond.code ({ cls := "MarkHouse$Fault", name := "<init>", desc := "()V" } : Jvm.MethodName) prog_4_method_1_code (1 : Nat) (Option.none : Option Jvm.ClassFile.FieldType)) ∈ lw_all := lw_g (lw_at lw_m1 58 rfl) rfl
theorem q301 : (Jvm.Cond.methodLink "MarkHouse$Fault" (1 : Nat) ({ cls := "java/lang/Object", name := "<init>", desc := "()V" } : Jvm.MethodName)) ∈ lw_all := lw_g (lw_at lw_m1 59 rfl) rfl
theorem q302 : (Jvm.Cond.fieldLink "MarkHouse$Fault" (7 : Nat) "MarkHouse$Fault" "kind" "I") ∈ lw_all := lw_g (lw_at lw_m1 60 rfl) rfl
theorem q304 : (Jvm.Cond.fieldLink "MarkHouse$Fault" (13 : Nat) "MarkHouse$Fault" "place" "I") ∈ lw_all := lw_g (lw_at lw_m1 62 rfl) rfl
theorem q306 : (Jvm.Cond.lays "MarkHouse$Fault" "MarkHouse$Fault" "kind" "I") ∈ lw_all := lw_g (lw_at lw_m1 64 rfl) rfl
theorem q307 : (Jvm.Cond.soleField "MarkHouse$Fault" "kind") ∈ lw_all := lw_g (lw_at lw_m1 65 rfl) rfl
theorem q308 : (Jvm.Cond.lays "MarkHouse$Fault" "MarkHouse$Fault" "place" "I") ∈ lw_all := lw_g (lw_at lw_m1 66 rfl) rfl
theorem q309 : (Jvm.Cond.soleField "MarkHouse$Fault" "place") ∈ lw_all := lw_g (lw_at lw_m1 67 rfl) rfl
theorem q310 : (Jvm.Cond.superclass "MarkHouse$Fault" "java/lang/Object") ∈ lw_all := lw_g (lw_at lw_m1 68 rfl) rfl
theorem q1967 : (Jvm.Cond.instanceMethod ({ cls := "MarkHouse$Fault", name := "clear", desc := "()V" } : Jvm.MethodName)) ∈ lw_all := lw_g (lw_at lw_m8 45 rfl) rfl
theorem q1968 : (Jvm.Cond.selects "MarkHouse$Fault" ({ cls := "MarkHouse$Fault", name := "clear", desc := "()V" } : Jvm.MethodName) ({ cls := "MarkHouse$Fault", name := "clear", desc := "()V" } : Jvm.MethodName)) ∈ lw_all := lw_g (lw_at lw_m8 46 rfl) rfl
theorem q1969 : (Jvm.Cond.code ({ cls := "MarkHouse$Fault", name := "clear", desc := "()V" } : Jvm.MethodName) prog_4_method_2_code (1 : Nat) (Option.none : Option Jvm.ClassFile.FieldType)) ∈ lw_all := lw_g (lw_at lw_m8 47 rfl) rfl
theorem q2070 : (Jvm.Cond.instanceMethod ({ cls := "MarkHouse$Fault", name := "fail", desc := "(II)V" } : Jvm.MethodName)) ∈ lw_all := lw_g (lw_at lw_m8 148 rfl) rfl
theorem q2071 : (Jvm.Cond.selects "MarkHouse$Fault" ({ cls := "MarkHouse$Fault", name := "fail", desc := "(II)V" } : Jvm.MethodName) ({ cls := "MarkHouse$Fault", name := "fail", desc := "(II)V" } : Jvm.MethodName)) ∈ lw_all := lw_g (lw_at lw_m8 149 rfl) rfl
theorem q2072 : (Jvm.Cond.code ({ cls := "MarkHouse$Fault", name := "fail", desc := "(II)V" } : Jvm.MethodName) prog_4_method_3_code (3 : Nat) (Option.none : Option Jvm.ClassFile.FieldType)) ∈ lw_all := lw_g (lw_at lw_m8 150 rfl) rfl
theorem q2073 : (Jvm.Cond.classLink "MarkHouse$Fault" (16 : Nat) "java/lang/UnsupportedOperationException") ∈ lw_all := lw_g (lw_at lw_m8 151 rfl) rfl
theorem q2115 : (Jvm.Cond.methodLink "MarkHouse$Fault" (18 : Nat) ({ cls := "java/lang/UnsupportedOperationException", name := "<init>", desc := "()V" } : Jvm.MethodName)) ∈ lw_all := lw_g (lw_at lw_m8 193 rfl) rfl
theorem in_X3 : ∀ w ∈ wsX30, w ∈ lw_all := lw_in wsX30 [306, 308] (by decide +kernel) (by decide +kernel)
/-! MarkHouse$Lexemes -/
set_option maxRecDepth 100000
def RX4 : String := "MarkHouse$Lexemes"
def TX4 : u_T := fun k => match k with
  | 0 => ("MarkHouse$Lexemes", "words", "[Ljava/lang/String;", true)
  | 1 => ("MarkHouse$Lexemes", "packed", "[J", true)
  | 2 => ("MarkHouse$Lexemes", "kinds", "[I", true)
  | 3 => ("MarkHouse$Lexemes", "values", "[I", true)
  | 4 => ("MarkHouse$Lexemes", "starts", "[I", true)
  | 5 => ("MarkHouse$Lexemes", "names", "[J", true)
  | 6 => ("MarkHouse$Lexemes", "text", "[B", true)
  | 7 => ("MarkHouse$Lexemes", "length", "I", false)
  | 8 => ("MarkHouse$Lexemes", "many", "I", false)
  | _ => ("MarkHouse$Lexemes", "at", "I", false)
def tyX4 : Nat → FieldType := fun k => match k with
  | 0 => .array (.object "java/lang/String")
  | 1 => .array .long
  | 2 => .array .int
  | 3 => .array .int
  | 4 => .array .int
  | 5 => .array .long
  | 6 => .array .byte
  | 7 => .int
  | 8 => .int
  | _ => .int
abbrev wsX40 : List Cond := u_ws RX4 TX4 10
theorem nmX4 : ∀ a, a < 10 → ∀ b, b < 10 → a ≠ b → (TX4 a).2.1 ≠ (TX4 b).2.1 := by decide +kernel
theorem tyX4_ok : ∀ k, k < 10 → parseFieldDescriptor (TX4 k).2.2.1 = some (tyX4 k) := by decide +kernel
abbrev cX4_init : ByteArray := prog_6_method_1_code
def yX4_init : MethodName := ⟨RX4, "<init>", "()V"⟩
abbrev cX4_isLetter : ByteArray := prog_6_method_3_code
def yX4_isLetter : MethodName := ⟨RX4, "isLetter", "(I)Z"⟩
abbrev cX4_isDigit : ByteArray := prog_6_method_4_code
def yX4_isDigit : MethodName := ⟨RX4, "isDigit", "(I)Z"⟩
abbrev cX4_isSign : ByteArray := prog_6_method_5_code
def yX4_isSign : MethodName := ⟨RX4, "isSign", "(I)Z"⟩
abbrev cX4_cut : ByteArray := prog_6_method_11_code
def yX4_cut : MethodName := ⟨RX4, "cut", "(LMarkHouse$Bytes;LMarkHouse$Fault;)V"⟩
abbrev cX4_one : ByteArray := prog_6_method_10_code
def yX4_one : MethodName := ⟨RX4, "one", "(I)I"⟩
abbrev cX4_name : ByteArray := prog_6_method_7_code
def yX4_name : MethodName := ⟨RX4, "name", "(I)I"⟩
abbrev cX4_here : ByteArray := prog_6_method_2_code
def yX4_here : MethodName := ⟨RX4, "here", "(I)I"⟩
abbrev cX4_add : ByteArray := prog_6_method_6_code
def yX4_add : MethodName := ⟨RX4, "add", "(II)V"⟩
abbrev cX4_number : ByteArray := prog_6_method_8_code
def yX4_number : MethodName := ⟨RX4, "number", "(I)I"⟩
abbrev cX4_text : ByteArray := prog_6_method_9_code
def yX4_text : MethodName := ⟨RX4, "text", "(I)I"⟩
abbrev cX4_isWord : ByteArray := prog_6_method_15_code
def yX4_isWord : MethodName := ⟨RX4, "isWord", "(I)Z"⟩
abbrev cX4_takes : ByteArray := prog_6_method_17_code
def yX4_takes : MethodName := ⟨RX4, "takes", "(Z)Z"⟩
abbrev cX4_start : ByteArray := prog_6_method_14_code
def yX4_start : MethodName := ⟨RX4, "start", "()I"⟩
abbrev cX4_kind : ByteArray := prog_6_method_12_code
def yX4_kind : MethodName := ⟨RX4, "kind", "()I"⟩
abbrev cX4_name_2 : ByteArray := prog_6_method_13_code
def yX4_name_2 : MethodName := ⟨RX4, "name", "()J"⟩
abbrev cX4_isSignHere : ByteArray := prog_6_method_16_code
def yX4_isSignHere : MethodName := ⟨RX4, "isSignHere", "(I)Z"⟩
theorem q246 : (Jvm.Cond.initialized "MarkHouse$Lexemes") ∈ lw_all := lw_g (lw_at lw_m1 4 rfl) rfl
theorem q312 : (Jvm.Cond.instantiable "MarkHouse$Lexemes" (10 : Nat)) ∈ lw_all := lw_g (lw_at lw_m1 70 rfl) rfl
theorem q314 : (Jvm.Cond.instanceMethod ({ cls := "MarkHouse$Lexemes", name := "<init>", desc := "()V" } : Jvm.MethodName)) ∈ lw_all := lw_g (lw_at lw_m1 72 rfl) rfl
theorem q315 : (Jvm.Cond.code ({ cls := "MarkHouse$Lexemes", name := "<init>", desc := "()V" } : Jvm.MethodName) prog_6_method_1_code (3 : Nat) (Option.none : Option Jvm.ClassFile.FieldType)) ∈ lw_all := lw_g (lw_at lw_m1 73 rfl) rfl
theorem q316 : (Jvm.Cond.methodLink "MarkHouse$Lexemes" (3 : Nat) ({ cls := "java/lang/Object", name := "<init>", desc := "()V" } : Jvm.MethodName)) ∈ lw_all := lw_g (lw_at lw_m1 74 rfl) rfl
theorem q317 : (Jvm.Cond.classLink "MarkHouse$Lexemes" (9 : Nat) "java/lang/String") ∈ lw_all := lw_g (lw_at lw_m1 75 rfl) rfl
theorem q319 : (Jvm.Cond.stringRef "MarkHouse$Lexemes" (11 : Nat) "order") ∈ lw_tbl := lw_at lw_m1 77 rfl
theorem q320 : (Jvm.Cond.stringRef "MarkHouse$Lexemes" (13 : Nat) "kind") ∈ lw_tbl := lw_at lw_m1 78 rfl
theorem q321 : (Jvm.Cond.stringRef "MarkHouse$Lexemes" (15 : Nat) "class") ∈ lw_tbl := lw_at lw_m1 79 rfl
theorem q322 : (Jvm.Cond.stringRef "MarkHouse$Lexemes" (17 : Nat) "field") ∈ lw_tbl := lw_at lw_m1 80 rfl
theorem q323 : (Jvm.Cond.stringRef "MarkHouse$Lexemes" (19 : Nat) "method") ∈ lw_tbl := lw_at lw_m1 81 rfl
theorem q324 : (Jvm.Cond.stringRef "MarkHouse$Lexemes" (21 : Nat) "param") ∈ lw_tbl := lw_at lw_m1 82 rfl
theorem q325 : (Jvm.Cond.stringRef "MarkHouse$Lexemes" (23 : Nat) "maker") ∈ lw_tbl := lw_at lw_m1 83 rfl
theorem q326 : (Jvm.Cond.stringRef "MarkHouse$Lexemes" (25 : Nat) "adds") ∈ lw_tbl := lw_at lw_m1 84 rfl
theorem q327 : (Jvm.Cond.stringRef "MarkHouse$Lexemes" (27 : Nat) "on") ∈ lw_tbl := lw_at lw_m1 85 rfl
theorem q328 : (Jvm.Cond.stringRef "MarkHouse$Lexemes" (29 : Nat) "heirs") ∈ lw_tbl := lw_at lw_m1 86 rfl
theorem q329 : (Jvm.Cond.stringRef "MarkHouse$Lexemes" (31 : Nat) "many") ∈ lw_tbl := lw_at lw_m1 87 rfl
theorem q330 : (Jvm.Cond.stringRef "MarkHouse$Lexemes" (33 : Nat) "no") ∈ lw_tbl := lw_at lw_m1 88 rfl
theorem q331 : (Jvm.Cond.stringRef "MarkHouse$Lexemes" (35 : Nat) "int") ∈ lw_tbl := lw_at lw_m1 89 rfl
theorem q332 : (Jvm.Cond.stringRef "MarkHouse$Lexemes" (37 : Nat) "text") ∈ lw_tbl := lw_at lw_m1 90 rfl
theorem q333 : (Jvm.Cond.stringRef "MarkHouse$Lexemes" (39 : Nat) "push") ∈ lw_tbl := lw_at lw_m1 91 rfl
theorem q334 : (Jvm.Cond.stringRef "MarkHouse$Lexemes" (41 : Nat) "read") ∈ lw_tbl := lw_at lw_m1 92 rfl
theorem q335 : (Jvm.Cond.stringRef "MarkHouse$Lexemes" (43 : Nat) "load") ∈ lw_tbl := lw_at lw_m1 93 rfl
theorem q336 : (Jvm.Cond.stringRef "MarkHouse$Lexemes" (45 : Nat) "store") ∈ lw_tbl := lw_at lw_m1 94 rfl
theorem q337 : (Jvm.Cond.stringRef "MarkHouse$Lexemes" (47 : Nat) "get") ∈ lw_tbl := lw_at lw_m1 95 rfl
theorem q338 : (Jvm.Cond.stringRef "MarkHouse$Lexemes" (49 : Nat) "set") ∈ lw_tbl := lw_at lw_m1 96 rfl
theorem q339 : (Jvm.Cond.stringRef "MarkHouse$Lexemes" (51 : Nat) "call") ∈ lw_tbl := lw_at lw_m1 97 rfl
theorem q340 : (Jvm.Cond.stringRef "MarkHouse$Lexemes" (53 : Nat) "ret") ∈ lw_tbl := lw_at lw_m1 98 rfl
theorem q341 : (Jvm.Cond.stringRef "MarkHouse$Lexemes" (55 : Nat) "add") ∈ lw_tbl := lw_at lw_m1 99 rfl
theorem q342 : (Jvm.Cond.stringRef "MarkHouse$Lexemes" (57 : Nat) "sub") ∈ lw_tbl := lw_at lw_m1 100 rfl
theorem q343 : (Jvm.Cond.stringRef "MarkHouse$Lexemes" (59 : Nat) "mul") ∈ lw_tbl := lw_at lw_m1 101 rfl
theorem q344 : (Jvm.Cond.stringRef "MarkHouse$Lexemes" (61 : Nat) "dup") ∈ lw_tbl := lw_at lw_m1 102 rfl
theorem q345 : (Jvm.Cond.stringRef "MarkHouse$Lexemes" (63 : Nat) "pop") ∈ lw_tbl := lw_at lw_m1 103 rfl
theorem q346 : (Jvm.Cond.stringRef "MarkHouse$Lexemes" (65 : Nat) "jump") ∈ lw_tbl := lw_at lw_m1 104 rfl
theorem q347 : (Jvm.Cond.stringRef "MarkHouse$Lexemes" (67 : Nat) "zero") ∈ lw_tbl := lw_at lw_m1 105 rfl
theorem q348 : (Jvm.Cond.stringRef "MarkHouse$Lexemes" (69 : Nat) "is") ∈ lw_tbl := lw_at lw_m1 106 rfl
theorem q349 : (Jvm.Cond.stringRef "MarkHouse$Lexemes" (71 : Nat) "as") ∈ lw_tbl := lw_at lw_m1 107 rfl
theorem q350 : (Jvm.Cond.methodLink "MarkHouse$Lexemes" (99 : Nat) ({ cls := "java/lang/String", name := "length", desc := "()I" } : Jvm.MethodName)) ∈ lw_all := lw_g (lw_at lw_m1 108 rfl) rfl
theorem q360 : (Jvm.Cond.methodLink "MarkHouse$Lexemes" (103 : Nat) ({ cls := "java/lang/String", name := "charAt", desc := "(I)C" } : Jvm.MethodName)) ∈ lw_all := lw_g (lw_at lw_m1 118 rfl) rfl
theorem q398 : (Jvm.Cond.fieldLink "MarkHouse$Lexemes" (73 : Nat) "MarkHouse$Lexemes" "words" "[Ljava/lang/String;") ∈ lw_all := lw_g (lw_at lw_m1 156 rfl) rfl
theorem q400 : (Jvm.Cond.fieldLink "MarkHouse$Lexemes" (79 : Nat) "MarkHouse$Lexemes" "packed" "[J") ∈ lw_all := lw_g (lw_at lw_m1 158 rfl) rfl
theorem q401 : (Jvm.Cond.fieldLink "MarkHouse$Lexemes" (83 : Nat) "MarkHouse$Lexemes" "kinds" "[I") ∈ lw_all := lw_g (lw_at lw_m1 159 rfl) rfl
theorem q402 : (Jvm.Cond.fieldLink "MarkHouse$Lexemes" (87 : Nat) "MarkHouse$Lexemes" "values" "[I") ∈ lw_all := lw_g (lw_at lw_m1 160 rfl) rfl
theorem q404 : (Jvm.Cond.fieldLink "MarkHouse$Lexemes" (90 : Nat) "MarkHouse$Lexemes" "starts" "[I") ∈ lw_all := lw_g (lw_at lw_m1 162 rfl) rfl
theorem q405 : (Jvm.Cond.fieldLink "MarkHouse$Lexemes" (93 : Nat) "MarkHouse$Lexemes" "names" "[J") ∈ lw_all := lw_g (lw_at lw_m1 163 rfl) rfl
theorem q406 : (Jvm.Cond.fieldLink "MarkHouse$Lexemes" (96 : Nat) "MarkHouse$Lexemes" "text" "[B") ∈ lw_all := lw_g (lw_at lw_m1 164 rfl) rfl
theorem q407 : (Jvm.Cond.fieldLink "MarkHouse$Lexemes" (107 : Nat) "MarkHouse$Lexemes" "length" "I") ∈ lw_all := lw_g (lw_at lw_m1 165 rfl) rfl
theorem q408 : (Jvm.Cond.fieldLink "MarkHouse$Lexemes" (110 : Nat) "MarkHouse$Lexemes" "many" "I") ∈ lw_all := lw_g (lw_at lw_m1 166 rfl) rfl
theorem q410 : (Jvm.Cond.fieldLink "MarkHouse$Lexemes" (150 : Nat) "MarkHouse$Lexemes" "at" "I") ∈ lw_all := lw_g (lw_at lw_m1 168 rfl) rfl
theorem q411 : (Jvm.Cond.laysFinal "MarkHouse$Lexemes" "MarkHouse$Lexemes" "words" "[Ljava/lang/String;") ∈ lw_all := lw_g (lw_at lw_m1 169 rfl) rfl
theorem q412 : (Jvm.Cond.soleField "MarkHouse$Lexemes" "words") ∈ lw_all := lw_g (lw_at lw_m1 170 rfl) rfl
theorem q413 : (Jvm.Cond.laysFinal "MarkHouse$Lexemes" "MarkHouse$Lexemes" "packed" "[J") ∈ lw_all := lw_g (lw_at lw_m1 171 rfl) rfl
theorem q414 : (Jvm.Cond.soleField "MarkHouse$Lexemes" "packed") ∈ lw_all := lw_g (lw_at lw_m1 172 rfl) rfl
theorem q415 : (Jvm.Cond.laysFinal "MarkHouse$Lexemes" "MarkHouse$Lexemes" "kinds" "[I") ∈ lw_all := lw_g (lw_at lw_m1 173 rfl) rfl
theorem q416 : (Jvm.Cond.soleField "MarkHouse$Lexemes" "kinds") ∈ lw_all := lw_g (lw_at lw_m1 174 rfl) rfl
theorem q417 : (Jvm.Cond.laysFinal "MarkHouse$Lexemes" "MarkHouse$Lexemes" "values" "[I") ∈ lw_all := lw_g (lw_at lw_m1 175 rfl) rfl
theorem q418 : (Jvm.Cond.soleField "MarkHouse$Lexemes" "values") ∈ lw_all := lw_g (lw_at lw_m1 176 rfl) rfl
theorem q419 : (Jvm.Cond.laysFinal "MarkHouse$Lexemes" "MarkHouse$Lexemes" "starts" "[I") ∈ lw_all := lw_g (lw_at lw_m1 177 rfl) rfl
theorem q420 : (Jvm.Cond.soleField "MarkHouse$Lexemes" "starts") ∈ lw_all := lw_g (lw_at lw_m1 178 rfl) rfl
theorem q421 : (Jvm.Cond.laysFinal "MarkHouse$Lexemes" "MarkHouse$Lexemes" "names" "[J") ∈ lw_all := lw_g (lw_at lw_m1 179 rfl) rfl
theorem q422 : (Jvm.Cond.soleField "MarkHouse$Lexemes" "names") ∈ lw_all := lw_g (lw_at lw_m1 180 rfl) rfl
theorem q423 : (Jvm.Cond.laysFinal "MarkHouse$Lexemes" "MarkHouse$Lexemes" "text" "[B") ∈ lw_all := lw_g (lw_at lw_m1 181 rfl) rfl
theorem q424 : (Jvm.Cond.soleField "MarkHouse$Lexemes" "text") ∈ lw_all := lw_g (lw_at lw_m1 182 rfl) rfl
theorem q425 : (Jvm.Cond.lays "MarkHouse$Lexemes" "MarkHouse$Lexemes" "length" "I") ∈ lw_all := lw_g (lw_at lw_m1 183 rfl) rfl
theorem q426 : (Jvm.Cond.soleField "MarkHouse$Lexemes" "length") ∈ lw_all := lw_g (lw_at lw_m1 184 rfl) rfl
theorem q427 : (Jvm.Cond.lays "MarkHouse$Lexemes" "MarkHouse$Lexemes" "many" "I") ∈ lw_all := lw_g (lw_at lw_m1 185 rfl) rfl
theorem q428 : (Jvm.Cond.soleField "MarkHouse$Lexemes" "many") ∈ lw_all := lw_g (lw_at lw_m1 186 rfl) rfl
theorem q429 : (Jvm.Cond.lays "MarkHouse$Lexemes" "MarkHouse$Lexemes" "at" "I") ∈ lw_all := lw_g (lw_at lw_m1 187 rfl) rfl
theorem q430 : (Jvm.Cond.soleField "MarkHouse$Lexemes" "at") ∈ lw_all := lw_g (lw_at lw_m1 188 rfl) rfl
theorem q431 : (Jvm.Cond.superclass "MarkHouse$Lexemes" "java/lang/Object") ∈ lw_all := lw_g (lw_at lw_m1 189 rfl) rfl
theorem q1506 : (Jvm.Cond.static ({ cls := "MarkHouse$Lexemes", name := "isLetter", desc := "(I)Z" } : Jvm.MethodName)) ∈ lw_all := lw_g (lw_at lw_m6 64 rfl) rfl
theorem q1507 : (Jvm.Cond.code ({ cls := "MarkHouse$Lexemes", name := "isLetter", desc := "(I)Z" } : Jvm.MethodName) prog_6_method_3_code (1 : Nat) (Option.some Jvm.ClassFile.FieldType.boolean)) ∈ lw_all := lw_g (lw_at lw_m6 65 rfl) rfl
theorem q1509 : (Jvm.Cond.static ({ cls := "MarkHouse$Lexemes", name := "isDigit", desc := "(I)Z" } : Jvm.MethodName)) ∈ lw_all := lw_g (lw_at lw_m6 67 rfl) rfl
theorem q1510 : (Jvm.Cond.code ({ cls := "MarkHouse$Lexemes", name := "isDigit", desc := "(I)Z" } : Jvm.MethodName) prog_6_method_4_code (1 : Nat) (Option.some Jvm.ClassFile.FieldType.boolean)) ∈ lw_all := lw_g (lw_at lw_m6 68 rfl) rfl
theorem q1524 : (Jvm.Cond.static ({ cls := "MarkHouse$Lexemes", name := "isSign", desc := "(I)Z" } : Jvm.MethodName)) ∈ lw_all := lw_g (lw_at lw_m6 82 rfl) rfl
theorem q1525 : (Jvm.Cond.code ({ cls := "MarkHouse$Lexemes", name := "isSign", desc := "(I)Z" } : Jvm.MethodName) prog_6_method_5_code (1 : Nat) (Option.some Jvm.ClassFile.FieldType.boolean)) ∈ lw_all := lw_g (lw_at lw_m6 83 rfl) rfl
theorem q1979 : (Jvm.Cond.instanceMethod ({ cls := "MarkHouse$Lexemes", name := "cut", desc := "(LMarkHouse$Bytes;LMarkHouse$Fault;)V" } : Jvm.MethodName)) ∈ lw_all := lw_g (lw_at lw_m8 57 rfl) rfl
theorem q1980 : (Jvm.Cond.selects "MarkHouse$Lexemes" ({ cls := "MarkHouse$Lexemes", name := "cut", desc := "(LMarkHouse$Bytes;LMarkHouse$Fault;)V" } : Jvm.MethodName) ({ cls := "MarkHouse$Lexemes", name := "cut", desc := "(LMarkHouse$Bytes;LMarkHouse$Fault;)V" } : Jvm.MethodName)) ∈ lw_all := lw_g (lw_at lw_m8 58 rfl) rfl
theorem q1981 : (Jvm.Cond.code ({ cls := "MarkHouse$Lexemes", name := "cut", desc := "(LMarkHouse$Bytes;LMarkHouse$Fault;)V" } : Jvm.MethodName) prog_6_method_11_code (5 : Nat) (Option.none : Option Jvm.ClassFile.FieldType)) ∈ lw_all := lw_g (lw_at lw_m8 59 rfl) rfl
theorem q1982 : (Jvm.Cond.methodLink "MarkHouse$Lexemes" (142 : Nat) ({ cls := "MarkHouse$Bytes", name := "size", desc := "()I" } : Jvm.MethodName)) ∈ lw_all := lw_g (lw_at lw_m8 60 rfl) rfl
theorem q1983 : (Jvm.Cond.methodLink "MarkHouse$Lexemes" (147 : Nat) ({ cls := "MarkHouse$Bytes", name := "at", desc := "(I)I" } : Jvm.MethodName)) ∈ lw_all := lw_g (lw_at lw_m8 61 rfl) rfl
theorem q1984 : (Jvm.Cond.methodLink "MarkHouse$Lexemes" (152 : Nat) ({ cls := "MarkHouse$Lexemes", name := "one", desc := "(I)I" } : Jvm.MethodName)) ∈ lw_all := lw_g (lw_at lw_m8 62 rfl) rfl
theorem q1985 : (Jvm.Cond.privateMethod ({ cls := "MarkHouse$Lexemes", name := "one", desc := "(I)I" } : Jvm.MethodName)) ∈ lw_tbl := lw_at lw_m8 63 rfl
theorem q1986 : (Jvm.Cond.instanceMethod ({ cls := "MarkHouse$Lexemes", name := "one", desc := "(I)I" } : Jvm.MethodName)) ∈ lw_all := lw_g (lw_at lw_m8 64 rfl) rfl
theorem q1987 : (Jvm.Cond.code ({ cls := "MarkHouse$Lexemes", name := "one", desc := "(I)I" } : Jvm.MethodName) prog_6_method_10_code (3 : Nat) (Option.some Jvm.ClassFile.FieldType.int)) ∈ lw_all := lw_g (lw_at lw_m8 65 rfl) rfl
theorem q1988 : (Jvm.Cond.methodLink "MarkHouse$Lexemes" (116 : Nat) ({ cls := "MarkHouse$Lexemes", name := "isLetter", desc := "(I)Z" } : Jvm.MethodName)) ∈ lw_all := lw_g (lw_at lw_m8 66 rfl) rfl
theorem q1989 : (Jvm.Cond.methodLink "MarkHouse$Lexemes" (129 : Nat) ({ cls := "MarkHouse$Lexemes", name := "name", desc := "(I)I" } : Jvm.MethodName)) ∈ lw_all := lw_g (lw_at lw_m8 67 rfl) rfl
theorem q1990 : (Jvm.Cond.privateMethod ({ cls := "MarkHouse$Lexemes", name := "name", desc := "(I)I" } : Jvm.MethodName)) ∈ lw_tbl := lw_at lw_m8 68 rfl
theorem q1991 : (Jvm.Cond.instanceMethod ({ cls := "MarkHouse$Lexemes", name := "name", desc := "(I)I" } : Jvm.MethodName)) ∈ lw_all := lw_g (lw_at lw_m8 69 rfl) rfl
theorem q1992 : (Jvm.Cond.code ({ cls := "MarkHouse$Lexemes", name := "name", desc := "(I)I" } : Jvm.MethodName) prog_6_method_7_code (6 : Nat) (Option.some Jvm.ClassFile.FieldType.int)) ∈ lw_all := lw_g (lw_at lw_m8 70 rfl) rfl
theorem q1993 : (Jvm.Cond.methodLink "MarkHouse$Lexemes" (112 : Nat) ({ cls := "MarkHouse$Lexemes", name := "here", desc := "(I)I" } : Jvm.MethodName)) ∈ lw_all := lw_g (lw_at lw_m8 71 rfl) rfl
theorem q1994 : (Jvm.Cond.privateMethod ({ cls := "MarkHouse$Lexemes", name := "here", desc := "(I)I" } : Jvm.MethodName)) ∈ lw_tbl := lw_at lw_m8 72 rfl
theorem q1995 : (Jvm.Cond.instanceMethod ({ cls := "MarkHouse$Lexemes", name := "here", desc := "(I)I" } : Jvm.MethodName)) ∈ lw_all := lw_g (lw_at lw_m8 73 rfl) rfl
theorem q1996 : (Jvm.Cond.code ({ cls := "MarkHouse$Lexemes", name := "here", desc := "(I)I" } : Jvm.MethodName) prog_6_method_2_code (2 : Nat) (Option.some Jvm.ClassFile.FieldType.int)) ∈ lw_all := lw_g (lw_at lw_m8 74 rfl) rfl
theorem q1997 : (Jvm.Cond.methodLink "MarkHouse$Lexemes" (120 : Nat) ({ cls := "MarkHouse$Lexemes", name := "isDigit", desc := "(I)Z" } : Jvm.MethodName)) ∈ lw_all := lw_g (lw_at lw_m8 75 rfl) rfl
theorem q1998 : (Jvm.Cond.methodLink "MarkHouse$Lexemes" (123 : Nat) ({ cls := "MarkHouse$Lexemes", name := "add", desc := "(II)V" } : Jvm.MethodName)) ∈ lw_all := lw_g (lw_at lw_m8 76 rfl) rfl
theorem q1999 : (Jvm.Cond.privateMethod ({ cls := "MarkHouse$Lexemes", name := "add", desc := "(II)V" } : Jvm.MethodName)) ∈ lw_tbl := lw_at lw_m8 77 rfl
theorem q2000 : (Jvm.Cond.instanceMethod ({ cls := "MarkHouse$Lexemes", name := "add", desc := "(II)V" } : Jvm.MethodName)) ∈ lw_all := lw_g (lw_at lw_m8 78 rfl) rfl
theorem q2001 : (Jvm.Cond.code ({ cls := "MarkHouse$Lexemes", name := "add", desc := "(II)V" } : Jvm.MethodName) prog_6_method_6_code (3 : Nat) (Option.none : Option Jvm.ClassFile.FieldType)) ∈ lw_all := lw_g (lw_at lw_m8 79 rfl) rfl
theorem q2002 : (Jvm.Cond.methodLink "MarkHouse$Lexemes" (132 : Nat) ({ cls := "MarkHouse$Lexemes", name := "number", desc := "(I)I" } : Jvm.MethodName)) ∈ lw_all := lw_g (lw_at lw_m8 80 rfl) rfl
theorem q2003 : (Jvm.Cond.privateMethod ({ cls := "MarkHouse$Lexemes", name := "number", desc := "(I)I" } : Jvm.MethodName)) ∈ lw_tbl := lw_at lw_m8 81 rfl
theorem q2004 : (Jvm.Cond.instanceMethod ({ cls := "MarkHouse$Lexemes", name := "number", desc := "(I)I" } : Jvm.MethodName)) ∈ lw_all := lw_g (lw_at lw_m8 82 rfl) rfl
theorem q2005 : (Jvm.Cond.code ({ cls := "MarkHouse$Lexemes", name := "number", desc := "(I)I" } : Jvm.MethodName) prog_6_method_8_code (4 : Nat) (Option.some Jvm.ClassFile.FieldType.int)) ∈ lw_all := lw_g (lw_at lw_m8 83 rfl) rfl
theorem q2006 : (Jvm.Cond.methodLink "MarkHouse$Lexemes" (135 : Nat) ({ cls := "MarkHouse$Lexemes", name := "text", desc := "(I)I" } : Jvm.MethodName)) ∈ lw_all := lw_g (lw_at lw_m8 84 rfl) rfl
theorem q2007 : (Jvm.Cond.privateMethod ({ cls := "MarkHouse$Lexemes", name := "text", desc := "(I)I" } : Jvm.MethodName)) ∈ lw_tbl := lw_at lw_m8 85 rfl
theorem q2008 : (Jvm.Cond.instanceMethod ({ cls := "MarkHouse$Lexemes", name := "text", desc := "(I)I" } : Jvm.MethodName)) ∈ lw_all := lw_g (lw_at lw_m8 86 rfl) rfl
theorem q2009 : (Jvm.Cond.code ({ cls := "MarkHouse$Lexemes", name := "text", desc := "(I)I" } : Jvm.MethodName) prog_6_method_9_code (5 : Nat) (Option.some Jvm.ClassFile.FieldType.int)) ∈ lw_all := lw_g (lw_at lw_m8 87 rfl) rfl
theorem q2010 : (Jvm.Cond.methodLink "MarkHouse$Lexemes" (126 : Nat) ({ cls := "MarkHouse$Lexemes", name := "isSign", desc := "(I)Z" } : Jvm.MethodName)) ∈ lw_all := lw_g (lw_at lw_m8 88 rfl) rfl
theorem q2011 : (Jvm.Cond.stringRef "MarkHouse$Lexemes" (137 : Nat) ":;,.=<(){}@-") ∈ lw_tbl := lw_at lw_m8 89 rfl
theorem q2012 : (Jvm.Cond.methodLink "MarkHouse$Lexemes" (139 : Nat) ({ cls := "java/lang/String", name := "indexOf", desc := "(I)I" } : Jvm.MethodName)) ∈ lw_all := lw_g (lw_at lw_m8 90 rfl) rfl
theorem q2069 : (Jvm.Cond.methodLink "MarkHouse$Lexemes" (155 : Nat) ({ cls := "MarkHouse$Fault", name := "fail", desc := "(II)V" } : Jvm.MethodName)) ∈ lw_all := lw_g (lw_at lw_m8 147 rfl) rfl
theorem q2147 : (Jvm.Cond.instanceMethod ({ cls := "MarkHouse$Lexemes", name := "isWord", desc := "(I)Z" } : Jvm.MethodName)) ∈ lw_all := lw_g (lw_at lw_m8 225 rfl) rfl
theorem q2148 : (Jvm.Cond.selects "MarkHouse$Lexemes" ({ cls := "MarkHouse$Lexemes", name := "isWord", desc := "(I)Z" } : Jvm.MethodName) ({ cls := "MarkHouse$Lexemes", name := "isWord", desc := "(I)Z" } : Jvm.MethodName)) ∈ lw_all := lw_g (lw_at lw_m8 226 rfl) rfl
theorem q2149 : (Jvm.Cond.code ({ cls := "MarkHouse$Lexemes", name := "isWord", desc := "(I)Z" } : Jvm.MethodName) prog_6_method_15_code (2 : Nat) (Option.some Jvm.ClassFile.FieldType.boolean)) ∈ lw_all := lw_g (lw_at lw_m8 227 rfl) rfl
theorem q2151 : (Jvm.Cond.instanceMethod ({ cls := "MarkHouse$Lexemes", name := "takes", desc := "(Z)Z" } : Jvm.MethodName)) ∈ lw_all := lw_g (lw_at lw_m8 229 rfl) rfl
theorem q2152 : (Jvm.Cond.selects "MarkHouse$Lexemes" ({ cls := "MarkHouse$Lexemes", name := "takes", desc := "(Z)Z" } : Jvm.MethodName) ({ cls := "MarkHouse$Lexemes", name := "takes", desc := "(Z)Z" } : Jvm.MethodName)) ∈ lw_all := lw_g (lw_at lw_m8 230 rfl) rfl
theorem q2153 : (Jvm.Cond.code ({ cls := "MarkHouse$Lexemes", name := "takes", desc := "(Z)Z" } : Jvm.MethodName) prog_6_method_17_code (2 : Nat) (Option.some Jvm.ClassFile.FieldType.boolean)) ∈ lw_all := lw_g (lw_at lw_m8 231 rfl) rfl
theorem q2159 : (Jvm.Cond.instanceMethod ({ cls := "MarkHouse$Lexemes", name := "start", desc := "()I" } : Jvm.MethodName)) ∈ lw_all := lw_g (lw_at lw_m8 237 rfl) rfl
theorem q2160 : (Jvm.Cond.selects "MarkHouse$Lexemes" ({ cls := "MarkHouse$Lexemes", name := "start", desc := "()I" } : Jvm.MethodName) ({ cls := "MarkHouse$Lexemes", name := "start", desc := "()I" } : Jvm.MethodName)) ∈ lw_all := lw_g (lw_at lw_m8 238 rfl) rfl
theorem q2161 : (Jvm.Cond.code ({ cls := "MarkHouse$Lexemes", name := "start", desc := "()I" } : Jvm.MethodName) prog_6_method_14_code (1 : Nat) (Option.some Jvm.ClassFile.FieldType.int)) ∈ lw_all := lw_g (lw_at lw_m8 239 rfl) rfl
theorem q2171 : (Jvm.Cond.instanceMethod ({ cls := "MarkHouse$Lexemes", name := "kind", desc := "()I" } : Jvm.MethodName)) ∈ lw_all := lw_g (lw_at lw_m9 9 rfl) rfl
theorem q2172 : (Jvm.Cond.selects "MarkHouse$Lexemes" ({ cls := "MarkHouse$Lexemes", name := "kind", desc := "()I" } : Jvm.MethodName) ({ cls := "MarkHouse$Lexemes", name := "kind", desc := "()I" } : Jvm.MethodName)) ∈ lw_all := lw_g (lw_at lw_m9 10 rfl) rfl
theorem q2173 : (Jvm.Cond.code ({ cls := "MarkHouse$Lexemes", name := "kind", desc := "()I" } : Jvm.MethodName) prog_6_method_12_code (1 : Nat) (Option.some Jvm.ClassFile.FieldType.int)) ∈ lw_all := lw_g (lw_at lw_m9 11 rfl) rfl
theorem q2184 : (Jvm.Cond.instanceMethod ({ cls := "MarkHouse$Lexemes", name := "name", desc := "()J" } : Jvm.MethodName)) ∈ lw_all := lw_g (lw_at lw_m9 22 rfl) rfl
theorem q2185 : (Jvm.Cond.selects "MarkHouse$Lexemes" ({ cls := "MarkHouse$Lexemes", name := "name", desc := "()J" } : Jvm.MethodName) ({ cls := "MarkHouse$Lexemes", name := "name", desc := "()J" } : Jvm.MethodName)) ∈ lw_all := lw_g (lw_at lw_m9 23 rfl) rfl
theorem q2186 : (Jvm.Cond.code ({ cls := "MarkHouse$Lexemes", name := "name", desc := "()J" } : Jvm.MethodName) prog_6_method_13_code (1 : Nat) (Option.some Jvm.ClassFile.FieldType.long)) ∈ lw_all := lw_g (lw_at lw_m9 24 rfl) rfl
theorem q2203 : (Jvm.Cond.instanceMethod ({ cls := "MarkHouse$Lexemes", name := "isSignHere", desc := "(I)Z" } : Jvm.MethodName)) ∈ lw_all := lw_g (lw_at lw_m9 41 rfl) rfl
theorem q2204 : (Jvm.Cond.selects "MarkHouse$Lexemes" ({ cls := "MarkHouse$Lexemes", name := "isSignHere", desc := "(I)Z" } : Jvm.MethodName) ({ cls := "MarkHouse$Lexemes", name := "isSignHere", desc := "(I)Z" } : Jvm.MethodName)) ∈ lw_all := lw_g (lw_at lw_m9 42 rfl) rfl
theorem q2205 : (Jvm.Cond.code ({ cls := "MarkHouse$Lexemes", name := "isSignHere", desc := "(I)Z" } : Jvm.MethodName) prog_6_method_16_code (2 : Nat) (Option.some Jvm.ClassFile.FieldType.boolean)) ∈ lw_all := lw_g (lw_at lw_m9 43 rfl) rfl
theorem in_X4 : ∀ w ∈ wsX40, w ∈ lw_all := lw_in wsX40 [411, 413, 415, 417, 419, 421, 423, 425, 427, 429] (by decide +kernel) (by decide +kernel)
/-! MarkHouse$Program -/
set_option maxRecDepth 100000
def RX5 : String := "MarkHouse$Program"
def TX5 : u_T := fun k => match k with
  | 0 => ("MarkHouse$Program", "orders", "LMarkHouse$Orders;", true)
  | 1 => ("MarkHouse$Program", "marks", "LMarkHouse$Marks;", true)
  | 2 => ("MarkHouse$Program", "there", "Z", false)
  | 3 => ("MarkHouse$Program", "kinds", "I", false)
  | 4 => ("MarkHouse$Program", "kindNames", "[J", true)
  | 5 => ("MarkHouse$Program", "memberNames", "[J", true)
  | 6 => ("MarkHouse$Program", "defaults", "[J", true)
  | 7 => ("MarkHouse$Program", "members", "[I", true)
  | 8 => ("MarkHouse$Program", "sorts", "[I", true)
  | 9 => ("MarkHouse$Program", "where", "[I", true)
  | 10 => ("MarkHouse$Program", "hasDefault", "[Z", true)
  | 11 => ("MarkHouse$Program", "heirs", "[Z", true)
  | 12 => ("MarkHouse$Program", "several", "[Z", true)
  | 13 => ("MarkHouse$Program", "makers", "I", false)
  | 14 => ("MarkHouse$Program", "makerNames", "[J", true)
  | 15 => ("MarkHouse$Program", "makerKinds", "[I", true)
  | 16 => ("MarkHouse$Program", "classes", "I", false)
  | 17 => ("MarkHouse$Program", "classNames", "[J", true)
  | 18 => ("MarkHouse$Program", "fieldNames", "[J", true)
  | 19 => ("MarkHouse$Program", "methodNames", "[J", true)
  | 20 => ("MarkHouse$Program", "parents", "[I", true)
  | 21 => ("MarkHouse$Program", "fields", "[I", true)
  | 22 => ("MarkHouse$Program", "methods", "[I", true)
  | 23 => ("MarkHouse$Program", "firsts", "[I", true)
  | 24 => ("MarkHouse$Program", "parameters", "[I", true)
  | 25 => ("MarkHouse$Program", "locals", "[I", true)
  | 26 => ("MarkHouse$Program", "acts", "[I", true)
  | 27 => ("MarkHouse$Program", "localNames", "[J", true)
  | 28 => ("MarkHouse$Program", "does", "[B", true)
  | 29 => ("MarkHouse$Program", "number", "[I", true)
  | 30 => ("MarkHouse$Program", "element", "[I", true)
  | 31 => ("MarkHouse$Program", "told", "[I", true)
  | 32 => ("MarkHouse$Program", "leads", "[I", true)
  | 33 => ("MarkHouse$Program", "starts", "[I", true)
  | 34 => ("MarkHouse$Program", "labels", "[J", true)
  | 35 => ("MarkHouse$Program", "goals", "[J", true)
  | 36 => ("MarkHouse$Program", "classAt", "[I", true)
  | 37 => ("MarkHouse$Program", "nameAt", "[I", true)
  | 38 => ("MarkHouse$Program", "goalAt", "[I", true)
  | 39 => ("MarkHouse$Program", "named", "[I", true)
  | 40 => ("MarkHouse$Program", "classNamed", "[J", true)
  | 41 => ("MarkHouse$Program", "memberNamed", "[J", true)
  | _ => ("MarkHouse$Program", "depths", "[I", true)
def tyX5 : Nat → FieldType := fun k => match k with
  | 0 => .object "MarkHouse$Orders"
  | 1 => .object "MarkHouse$Marks"
  | 2 => .boolean
  | 3 => .int
  | 4 => .array .long
  | 5 => .array .long
  | 6 => .array .long
  | 7 => .array .int
  | 8 => .array .int
  | 9 => .array .int
  | 10 => .array .boolean
  | 11 => .array .boolean
  | 12 => .array .boolean
  | 13 => .int
  | 14 => .array .long
  | 15 => .array .int
  | 16 => .int
  | 17 => .array .long
  | 18 => .array .long
  | 19 => .array .long
  | 20 => .array .int
  | 21 => .array .int
  | 22 => .array .int
  | 23 => .array .int
  | 24 => .array .int
  | 25 => .array .int
  | 26 => .array .int
  | 27 => .array .long
  | 28 => .array .byte
  | 29 => .array .int
  | 30 => .array .int
  | 31 => .array .int
  | 32 => .array .int
  | 33 => .array .int
  | 34 => .array .long
  | 35 => .array .long
  | 36 => .array .int
  | 37 => .array .int
  | 38 => .array .int
  | 39 => .array .int
  | 40 => .array .long
  | 41 => .array .long
  | _ => .array .int
abbrev wsX50 : List Cond := u_ws RX5 TX5 43
set_option maxRecDepth 100000 in
theorem nmX5 : ∀ a, a < 43 → ∀ b, b < 43 → a ≠ b → (TX5 a).2.1 ≠ (TX5 b).2.1 := by decide +kernel
set_option maxRecDepth 100000 in
theorem tyX5_ok : ∀ k, k < 43 → parseFieldDescriptor (TX5 k).2.2.1 = some (tyX5 k) := by decide +kernel
abbrev cX5_init : ByteArray := prog_11_method_1_code
def yX5_init : MethodName := ⟨RX5, "<init>", "()V"⟩
abbrev cX5_kind : ByteArray := prog_11_method_3_code
def yX5_kind : MethodName := ⟨RX5, "kind", "(J)I"⟩
abbrev cX5_sort : ByteArray := prog_11_method_16_code
def yX5_sort : MethodName := ⟨RX5, "sort", "(I)I"⟩
abbrev cX5_ofField : ByteArray := prog_11_method_12_code
def yX5_ofField : MethodName := ⟨RX5, "ofField", "(I)I"⟩
abbrev cX5_ofMethod : ByteArray := prog_11_method_13_code
def yX5_ofMethod : MethodName := ⟨RX5, "ofMethod", "(I)I"⟩
abbrev cX5_leads : ByteArray := prog_11_method_25_code
def yX5_leads : MethodName := ⟨RX5, "leads", "(I)Z"⟩
abbrev cX5_methodAt : ByteArray := prog_11_method_20_code
def yX5_methodAt : MethodName := ⟨RX5, "methodAt", "(I)I"⟩
abbrev cX5_row : ByteArray := prog_11_method_14_code
def yX5_row : MethodName := ⟨RX5, "row", "(I)I"⟩
abbrev cX5_methodOf : ByteArray := prog_11_method_17_code
def yX5_methodOf : MethodName := ⟨RX5, "methodOf", "(I)I"⟩
abbrev cX5_above : ByteArray := prog_11_method_21_code
def yX5_above : MethodName := ⟨RX5, "above", "(I)I"⟩
abbrev cX5_methodFrom : ByteArray := prog_11_method_9_code
def yX5_methodFrom : MethodName := ⟨RX5, "methodFrom", "(IJ)I"⟩
abbrev cX5_method : ByteArray := prog_11_method_7_code
def yX5_method : MethodName := ⟨RX5, "method", "(IJ)I"⟩
abbrev cX5_parameterOf : ByteArray := prog_11_method_18_code
def yX5_parameterOf : MethodName := ⟨RX5, "parameterOf", "(I)I"⟩
abbrev cX5_place : ByteArray := prog_11_method_15_code
def yX5_place : MethodName := ⟨RX5, "place", "(I)I"⟩
abbrev cX5_isRow : ByteArray := prog_11_method_19_code
def yX5_isRow : MethodName := ⟨RX5, "isRow", "(I)Z"⟩
abbrev cX5_falls : ByteArray := prog_11_method_24_code
def yX5_falls : MethodName := ⟨RX5, "falls", "(I)Z"⟩
abbrev cX5_takes : ByteArray := prog_11_method_22_code
def yX5_takes : MethodName := ⟨RX5, "takes", "(I)I"⟩
abbrev cX5_gives : ByteArray := prog_11_method_23_code
def yX5_gives : MethodName := ⟨RX5, "gives", "(I)I"⟩
abbrev cX5_member : ByteArray := prog_11_method_10_code
def yX5_member : MethodName := ⟨RX5, "member", "(IJ)I"⟩
abbrev cX5_cls : ByteArray := prog_11_method_4_code
def yX5_cls : MethodName := ⟨RX5, "cls", "(J)I"⟩
abbrev cX5_clear : ByteArray := prog_11_method_2_code
def yX5_clear : MethodName := ⟨RX5, "clear", "()V"⟩
abbrev cX5_isTaken : ByteArray := prog_11_method_5_code
def yX5_isTaken : MethodName := ⟨RX5, "isTaken", "(J)Z"⟩
abbrev cX5_field : ByteArray := prog_11_method_6_code
def yX5_field : MethodName := ⟨RX5, "field", "(IJ)I"⟩
abbrev cX5_local : ByteArray := prog_11_method_11_code
def yX5_local : MethodName := ⟨RX5, "local", "(IJ)I"⟩
abbrev cX5_fieldFrom : ByteArray := prog_11_method_8_code
def yX5_fieldFrom : MethodName := ⟨RX5, "fieldFrom", "(IJ)I"⟩
theorem q251 : (Jvm.Cond.initialized "MarkHouse$Program") ∈ lw_all := lw_g (lw_at lw_m1 9 rfl) rfl
theorem q435 : (Jvm.Cond.instantiable "MarkHouse$Program" (43 : Nat)) ∈ lw_all := lw_g (lw_at lw_m1 193 rfl) rfl
theorem q437 : (Jvm.Cond.instanceMethod ({ cls := "MarkHouse$Program", name := "<init>", desc := "()V" } : Jvm.MethodName)) ∈ lw_all := lw_g (lw_at lw_m1 195 rfl) rfl
theorem q438 : (Jvm.Cond.code ({ cls := "MarkHouse$Program", name := "<init>", desc := "()V" } : Jvm.MethodName) prog_11_method_1_code (1 : Nat) (Option.none : Option Jvm.ClassFile.FieldType)) ∈ lw_all := lw_g (lw_at lw_m1 196 rfl) rfl
theorem q439 : (Jvm.Cond.methodLink "MarkHouse$Program" (3 : Nat) ({ cls := "java/lang/Object", name := "<init>", desc := "()V" } : Jvm.MethodName)) ∈ lw_all := lw_g (lw_at lw_m1 197 rfl) rfl
theorem q440 : (Jvm.Cond.classLink "MarkHouse$Program" (9 : Nat) "MarkHouse$Orders") ∈ lw_all := lw_g (lw_at lw_m1 198 rfl) rfl
theorem q442 : (Jvm.Cond.methodLinkNest "MarkHouse$Program" (11 : Nat) ({ cls := "MarkHouse$Orders", name := "<init>", desc := "()V" } : Jvm.MethodName) "MarkHouse") ∈ lw_tbl := lw_at lw_m1 200 rfl
theorem q447 : (Jvm.Cond.fieldLinkNest "MarkHouse$Program" (144 : Nat) "MarkHouse$Orders" "count" "I" "MarkHouse") ∈ lw_tbl := lw_at lw_m1 205 rfl
theorem q495 : (Jvm.Cond.classLink "MarkHouse$Program" (18 : Nat) "MarkHouse$Marks") ∈ lw_all := lw_g (lw_at lw_m2 13 rfl) rfl
theorem q497 : (Jvm.Cond.methodLinkNest "MarkHouse$Program" (20 : Nat) ({ cls := "MarkHouse$Marks", name := "<init>", desc := "()V" } : Jvm.MethodName) "MarkHouse") ∈ lw_tbl := lw_at lw_m2 15 rfl
theorem q540 : (Jvm.Cond.fieldLink "MarkHouse$Program" (12 : Nat) "MarkHouse$Program" "orders" "LMarkHouse$Orders;") ∈ lw_all := lw_g (lw_at lw_m2 58 rfl) rfl
theorem q550 : (Jvm.Cond.fieldLink "MarkHouse$Program" (21 : Nat) "MarkHouse$Program" "marks" "LMarkHouse$Marks;") ∈ lw_all := lw_g (lw_at lw_m2 68 rfl) rfl
theorem q555 : (Jvm.Cond.fieldLink "MarkHouse$Program" (140 : Nat) "MarkHouse$Program" "there" "Z") ∈ lw_all := lw_g (lw_at lw_m2 73 rfl) rfl
theorem q558 : (Jvm.Cond.fieldLink "MarkHouse$Program" (148 : Nat) "MarkHouse$Program" "kinds" "I") ∈ lw_all := lw_g (lw_at lw_m2 76 rfl) rfl
theorem q563 : (Jvm.Cond.fieldLink "MarkHouse$Program" (25 : Nat) "MarkHouse$Program" "kindNames" "[J") ∈ lw_all := lw_g (lw_at lw_m2 81 rfl) rfl
theorem q567 : (Jvm.Cond.fieldLink "MarkHouse$Program" (29 : Nat) "MarkHouse$Program" "memberNames" "[J") ∈ lw_all := lw_g (lw_at lw_m2 85 rfl) rfl
theorem q571 : (Jvm.Cond.fieldLink "MarkHouse$Program" (32 : Nat) "MarkHouse$Program" "defaults" "[J") ∈ lw_all := lw_g (lw_at lw_m2 89 rfl) rfl
theorem q575 : (Jvm.Cond.fieldLink "MarkHouse$Program" (35 : Nat) "MarkHouse$Program" "members" "[I") ∈ lw_all := lw_g (lw_at lw_m2 93 rfl) rfl
theorem q580 : (Jvm.Cond.fieldLink "MarkHouse$Program" (39 : Nat) "MarkHouse$Program" "sorts" "[I") ∈ lw_all := lw_g (lw_at lw_m2 98 rfl) rfl
theorem q584 : (Jvm.Cond.fieldLink "MarkHouse$Program" (42 : Nat) "MarkHouse$Program" "where" "[I") ∈ lw_all := lw_g (lw_at lw_m2 102 rfl) rfl
theorem q588 : (Jvm.Cond.fieldLink "MarkHouse$Program" (45 : Nat) "MarkHouse$Program" "hasDefault" "[Z") ∈ lw_all := lw_g (lw_at lw_m2 106 rfl) rfl
theorem q592 : (Jvm.Cond.fieldLink "MarkHouse$Program" (49 : Nat) "MarkHouse$Program" "heirs" "[Z") ∈ lw_all := lw_g (lw_at lw_m2 110 rfl) rfl
theorem q596 : (Jvm.Cond.fieldLink "MarkHouse$Program" (52 : Nat) "MarkHouse$Program" "several" "[Z") ∈ lw_all := lw_g (lw_at lw_m2 114 rfl) rfl
theorem q600 : (Jvm.Cond.fieldLink "MarkHouse$Program" (151 : Nat) "MarkHouse$Program" "makers" "I") ∈ lw_all := lw_g (lw_at lw_m2 118 rfl) rfl
theorem q605 : (Jvm.Cond.fieldLink "MarkHouse$Program" (55 : Nat) "MarkHouse$Program" "makerNames" "[J") ∈ lw_all := lw_g (lw_at lw_m2 123 rfl) rfl
theorem q608 : (Jvm.Cond.fieldLink "MarkHouse$Program" (58 : Nat) "MarkHouse$Program" "makerKinds" "[I") ∈ lw_all := lw_g (lw_at lw_m2 126 rfl) rfl
theorem q613 : (Jvm.Cond.fieldLink "MarkHouse$Program" (154 : Nat) "MarkHouse$Program" "classes" "I") ∈ lw_all := lw_g (lw_at lw_m2 131 rfl) rfl
theorem q619 : (Jvm.Cond.fieldLink "MarkHouse$Program" (61 : Nat) "MarkHouse$Program" "classNames" "[J") ∈ lw_all := lw_g (lw_at lw_m2 137 rfl) rfl
theorem q622 : (Jvm.Cond.fieldLink "MarkHouse$Program" (64 : Nat) "MarkHouse$Program" "fieldNames" "[J") ∈ lw_all := lw_g (lw_at lw_m2 140 rfl) rfl
theorem q625 : (Jvm.Cond.fieldLink "MarkHouse$Program" (67 : Nat) "MarkHouse$Program" "methodNames" "[J") ∈ lw_all := lw_g (lw_at lw_m2 143 rfl) rfl
theorem q628 : (Jvm.Cond.fieldLink "MarkHouse$Program" (70 : Nat) "MarkHouse$Program" "parents" "[I") ∈ lw_all := lw_g (lw_at lw_m2 146 rfl) rfl
theorem q632 : (Jvm.Cond.fieldLink "MarkHouse$Program" (73 : Nat) "MarkHouse$Program" "fields" "[I") ∈ lw_all := lw_g (lw_at lw_m2 150 rfl) rfl
theorem q637 : (Jvm.Cond.fieldLink "MarkHouse$Program" (76 : Nat) "MarkHouse$Program" "methods" "[I") ∈ lw_all := lw_g (lw_at lw_m2 155 rfl) rfl
theorem q642 : (Jvm.Cond.fieldLink "MarkHouse$Program" (79 : Nat) "MarkHouse$Program" "firsts" "[I") ∈ lw_all := lw_g (lw_at lw_m2 160 rfl) rfl
theorem q646 : (Jvm.Cond.fieldLink "MarkHouse$Program" (82 : Nat) "MarkHouse$Program" "parameters" "[I") ∈ lw_all := lw_g (lw_at lw_m2 164 rfl) rfl
theorem q652 : (Jvm.Cond.fieldLink "MarkHouse$Program" (85 : Nat) "MarkHouse$Program" "locals" "[I") ∈ lw_all := lw_g (lw_at lw_m2 170 rfl) rfl
theorem q655 : (Jvm.Cond.fieldLink "MarkHouse$Program" (88 : Nat) "MarkHouse$Program" "acts" "[I") ∈ lw_all := lw_g (lw_at lw_m2 173 rfl) rfl
theorem q660 : (Jvm.Cond.fieldLink "MarkHouse$Program" (91 : Nat) "MarkHouse$Program" "localNames" "[J") ∈ lw_all := lw_g (lw_at lw_m2 178 rfl) rfl
theorem q663 : (Jvm.Cond.fieldLink "MarkHouse$Program" (94 : Nat) "MarkHouse$Program" "does" "[B") ∈ lw_all := lw_g (lw_at lw_m2 181 rfl) rfl
theorem q668 : (Jvm.Cond.fieldLink "MarkHouse$Program" (98 : Nat) "MarkHouse$Program" "number" "[I") ∈ lw_all := lw_g (lw_at lw_m2 186 rfl) rfl
theorem q673 : (Jvm.Cond.fieldLink "MarkHouse$Program" (101 : Nat) "MarkHouse$Program" "element" "[I") ∈ lw_all := lw_g (lw_at lw_m2 191 rfl) rfl
theorem q678 : (Jvm.Cond.fieldLink "MarkHouse$Program" (104 : Nat) "MarkHouse$Program" "told" "[I") ∈ lw_all := lw_g (lw_at lw_m2 196 rfl) rfl
theorem q683 : (Jvm.Cond.fieldLink "MarkHouse$Program" (107 : Nat) "MarkHouse$Program" "leads" "[I") ∈ lw_all := lw_g (lw_at lw_m2 201 rfl) rfl
theorem q689 : (Jvm.Cond.fieldLink "MarkHouse$Program" (110 : Nat) "MarkHouse$Program" "starts" "[I") ∈ lw_all := lw_g (lw_at lw_m2 207 rfl) rfl
theorem q691 : (Jvm.Cond.fieldLink "MarkHouse$Program" (113 : Nat) "MarkHouse$Program" "labels" "[J") ∈ lw_all := lw_g (lw_at lw_m2 209 rfl) rfl
theorem q694 : (Jvm.Cond.fieldLink "MarkHouse$Program" (116 : Nat) "MarkHouse$Program" "goals" "[J") ∈ lw_all := lw_g (lw_at lw_m2 212 rfl) rfl
theorem q697 : (Jvm.Cond.fieldLink "MarkHouse$Program" (119 : Nat) "MarkHouse$Program" "classAt" "[I") ∈ lw_all := lw_g (lw_at lw_m2 215 rfl) rfl
theorem q699 : (Jvm.Cond.fieldLink "MarkHouse$Program" (122 : Nat) "MarkHouse$Program" "nameAt" "[I") ∈ lw_all := lw_g (lw_at lw_m2 217 rfl) rfl
theorem q701 : (Jvm.Cond.fieldLink "MarkHouse$Program" (125 : Nat) "MarkHouse$Program" "goalAt" "[I") ∈ lw_all := lw_g (lw_at lw_m2 219 rfl) rfl
theorem q703 : (Jvm.Cond.fieldLink "MarkHouse$Program" (128 : Nat) "MarkHouse$Program" "named" "[I") ∈ lw_all := lw_g (lw_at lw_m2 221 rfl) rfl
theorem q705 : (Jvm.Cond.fieldLink "MarkHouse$Program" (131 : Nat) "MarkHouse$Program" "classNamed" "[J") ∈ lw_all := lw_g (lw_at lw_m2 223 rfl) rfl
theorem q708 : (Jvm.Cond.fieldLink "MarkHouse$Program" (134 : Nat) "MarkHouse$Program" "memberNamed" "[J") ∈ lw_all := lw_g (lw_at lw_m2 226 rfl) rfl
theorem q711 : (Jvm.Cond.fieldLink "MarkHouse$Program" (137 : Nat) "MarkHouse$Program" "depths" "[I") ∈ lw_all := lw_g (lw_at lw_m2 229 rfl) rfl
theorem q715 : (Jvm.Cond.laysFinal "MarkHouse$Program" "MarkHouse$Program" "orders" "LMarkHouse$Orders;") ∈ lw_all := lw_g (lw_at lw_m2 233 rfl) rfl
theorem q716 : (Jvm.Cond.soleField "MarkHouse$Program" "orders") ∈ lw_all := lw_g (lw_at lw_m2 234 rfl) rfl
theorem q717 : (Jvm.Cond.laysFinal "MarkHouse$Program" "MarkHouse$Program" "marks" "LMarkHouse$Marks;") ∈ lw_all := lw_g (lw_at lw_m2 235 rfl) rfl
theorem q718 : (Jvm.Cond.soleField "MarkHouse$Program" "marks") ∈ lw_all := lw_g (lw_at lw_m2 236 rfl) rfl
theorem q719 : (Jvm.Cond.lays "MarkHouse$Program" "MarkHouse$Program" "there" "Z") ∈ lw_all := lw_g (lw_at lw_m2 237 rfl) rfl
theorem q720 : (Jvm.Cond.soleField "MarkHouse$Program" "there") ∈ lw_all := lw_g (lw_at lw_m2 238 rfl) rfl
theorem q721 : (Jvm.Cond.lays "MarkHouse$Program" "MarkHouse$Program" "kinds" "I") ∈ lw_all := lw_g (lw_at lw_m2 239 rfl) rfl
theorem q722 : (Jvm.Cond.soleField "MarkHouse$Program" "kinds") ∈ lw_all := lw_g (lw_at lw_m3 0 rfl) rfl
theorem q723 : (Jvm.Cond.laysFinal "MarkHouse$Program" "MarkHouse$Program" "kindNames" "[J") ∈ lw_all := lw_g (lw_at lw_m3 1 rfl) rfl
theorem q724 : (Jvm.Cond.soleField "MarkHouse$Program" "kindNames") ∈ lw_all := lw_g (lw_at lw_m3 2 rfl) rfl
theorem q725 : (Jvm.Cond.laysFinal "MarkHouse$Program" "MarkHouse$Program" "memberNames" "[J") ∈ lw_all := lw_g (lw_at lw_m3 3 rfl) rfl
theorem q726 : (Jvm.Cond.soleField "MarkHouse$Program" "memberNames") ∈ lw_all := lw_g (lw_at lw_m3 4 rfl) rfl
theorem q727 : (Jvm.Cond.laysFinal "MarkHouse$Program" "MarkHouse$Program" "defaults" "[J") ∈ lw_all := lw_g (lw_at lw_m3 5 rfl) rfl
theorem q728 : (Jvm.Cond.soleField "MarkHouse$Program" "defaults") ∈ lw_all := lw_g (lw_at lw_m3 6 rfl) rfl
theorem q729 : (Jvm.Cond.laysFinal "MarkHouse$Program" "MarkHouse$Program" "members" "[I") ∈ lw_all := lw_g (lw_at lw_m3 7 rfl) rfl
theorem q730 : (Jvm.Cond.soleField "MarkHouse$Program" "members") ∈ lw_all := lw_g (lw_at lw_m3 8 rfl) rfl
theorem q731 : (Jvm.Cond.laysFinal "MarkHouse$Program" "MarkHouse$Program" "sorts" "[I") ∈ lw_all := lw_g (lw_at lw_m3 9 rfl) rfl
theorem q732 : (Jvm.Cond.soleField "MarkHouse$Program" "sorts") ∈ lw_all := lw_g (lw_at lw_m3 10 rfl) rfl
theorem q733 : (Jvm.Cond.laysFinal "MarkHouse$Program" "MarkHouse$Program" "where" "[I") ∈ lw_all := lw_g (lw_at lw_m3 11 rfl) rfl
theorem q734 : (Jvm.Cond.soleField "MarkHouse$Program" "where") ∈ lw_all := lw_g (lw_at lw_m3 12 rfl) rfl
theorem q735 : (Jvm.Cond.laysFinal "MarkHouse$Program" "MarkHouse$Program" "hasDefault" "[Z") ∈ lw_all := lw_g (lw_at lw_m3 13 rfl) rfl
theorem q736 : (Jvm.Cond.soleField "MarkHouse$Program" "hasDefault") ∈ lw_all := lw_g (lw_at lw_m3 14 rfl) rfl
theorem q737 : (Jvm.Cond.laysFinal "MarkHouse$Program" "MarkHouse$Program" "heirs" "[Z") ∈ lw_all := lw_g (lw_at lw_m3 15 rfl) rfl
theorem q738 : (Jvm.Cond.soleField "MarkHouse$Program" "heirs") ∈ lw_all := lw_g (lw_at lw_m3 16 rfl) rfl
theorem q739 : (Jvm.Cond.laysFinal "MarkHouse$Program" "MarkHouse$Program" "several" "[Z") ∈ lw_all := lw_g (lw_at lw_m3 17 rfl) rfl
theorem q740 : (Jvm.Cond.soleField "MarkHouse$Program" "several") ∈ lw_all := lw_g (lw_at lw_m3 18 rfl) rfl
theorem q741 : (Jvm.Cond.lays "MarkHouse$Program" "MarkHouse$Program" "makers" "I") ∈ lw_all := lw_g (lw_at lw_m3 19 rfl) rfl
theorem q742 : (Jvm.Cond.soleField "MarkHouse$Program" "makers") ∈ lw_all := lw_g (lw_at lw_m3 20 rfl) rfl
theorem q743 : (Jvm.Cond.laysFinal "MarkHouse$Program" "MarkHouse$Program" "makerNames" "[J") ∈ lw_all := lw_g (lw_at lw_m3 21 rfl) rfl
theorem q744 : (Jvm.Cond.soleField "MarkHouse$Program" "makerNames") ∈ lw_all := lw_g (lw_at lw_m3 22 rfl) rfl
theorem q745 : (Jvm.Cond.laysFinal "MarkHouse$Program" "MarkHouse$Program" "makerKinds" "[I") ∈ lw_all := lw_g (lw_at lw_m3 23 rfl) rfl
theorem q746 : (Jvm.Cond.soleField "MarkHouse$Program" "makerKinds") ∈ lw_all := lw_g (lw_at lw_m3 24 rfl) rfl
theorem q747 : (Jvm.Cond.lays "MarkHouse$Program" "MarkHouse$Program" "classes" "I") ∈ lw_all := lw_g (lw_at lw_m3 25 rfl) rfl
theorem q748 : (Jvm.Cond.soleField "MarkHouse$Program" "classes") ∈ lw_all := lw_g (lw_at lw_m3 26 rfl) rfl
theorem q749 : (Jvm.Cond.laysFinal "MarkHouse$Program" "MarkHouse$Program" "classNames" "[J") ∈ lw_all := lw_g (lw_at lw_m3 27 rfl) rfl
theorem q750 : (Jvm.Cond.soleField "MarkHouse$Program" "classNames") ∈ lw_all := lw_g (lw_at lw_m3 28 rfl) rfl
theorem q751 : (Jvm.Cond.laysFinal "MarkHouse$Program" "MarkHouse$Program" "fieldNames" "[J") ∈ lw_all := lw_g (lw_at lw_m3 29 rfl) rfl
theorem q752 : (Jvm.Cond.soleField "MarkHouse$Program" "fieldNames") ∈ lw_all := lw_g (lw_at lw_m3 30 rfl) rfl
theorem q753 : (Jvm.Cond.laysFinal "MarkHouse$Program" "MarkHouse$Program" "methodNames" "[J") ∈ lw_all := lw_g (lw_at lw_m3 31 rfl) rfl
theorem q754 : (Jvm.Cond.soleField "MarkHouse$Program" "methodNames") ∈ lw_all := lw_g (lw_at lw_m3 32 rfl) rfl
theorem q755 : (Jvm.Cond.laysFinal "MarkHouse$Program" "MarkHouse$Program" "parents" "[I") ∈ lw_all := lw_g (lw_at lw_m3 33 rfl) rfl
theorem q756 : (Jvm.Cond.soleField "MarkHouse$Program" "parents") ∈ lw_all := lw_g (lw_at lw_m3 34 rfl) rfl
theorem q757 : (Jvm.Cond.laysFinal "MarkHouse$Program" "MarkHouse$Program" "fields" "[I") ∈ lw_all := lw_g (lw_at lw_m3 35 rfl) rfl
theorem q758 : (Jvm.Cond.soleField "MarkHouse$Program" "fields") ∈ lw_all := lw_g (lw_at lw_m3 36 rfl) rfl
theorem q759 : (Jvm.Cond.laysFinal "MarkHouse$Program" "MarkHouse$Program" "methods" "[I") ∈ lw_all := lw_g (lw_at lw_m3 37 rfl) rfl
theorem q760 : (Jvm.Cond.soleField "MarkHouse$Program" "methods") ∈ lw_all := lw_g (lw_at lw_m3 38 rfl) rfl
theorem q761 : (Jvm.Cond.laysFinal "MarkHouse$Program" "MarkHouse$Program" "firsts" "[I") ∈ lw_all := lw_g (lw_at lw_m3 39 rfl) rfl
theorem q762 : (Jvm.Cond.soleField "MarkHouse$Program" "firsts") ∈ lw_all := lw_g (lw_at lw_m3 40 rfl) rfl
theorem q763 : (Jvm.Cond.laysFinal "MarkHouse$Program" "MarkHouse$Program" "parameters" "[I") ∈ lw_all := lw_g (lw_at lw_m3 41 rfl) rfl
theorem q764 : (Jvm.Cond.soleField "MarkHouse$Program" "parameters") ∈ lw_all := lw_g (lw_at lw_m3 42 rfl) rfl
theorem q765 : (Jvm.Cond.laysFinal "MarkHouse$Program" "MarkHouse$Program" "locals" "[I") ∈ lw_all := lw_g (lw_at lw_m3 43 rfl) rfl
theorem q766 : (Jvm.Cond.soleField "MarkHouse$Program" "locals") ∈ lw_all := lw_g (lw_at lw_m3 44 rfl) rfl
theorem q767 : (Jvm.Cond.laysFinal "MarkHouse$Program" "MarkHouse$Program" "acts" "[I") ∈ lw_all := lw_g (lw_at lw_m3 45 rfl) rfl
theorem q768 : (Jvm.Cond.soleField "MarkHouse$Program" "acts") ∈ lw_all := lw_g (lw_at lw_m3 46 rfl) rfl
theorem q769 : (Jvm.Cond.laysFinal "MarkHouse$Program" "MarkHouse$Program" "localNames" "[J") ∈ lw_all := lw_g (lw_at lw_m3 47 rfl) rfl
theorem q770 : (Jvm.Cond.soleField "MarkHouse$Program" "localNames") ∈ lw_all := lw_g (lw_at lw_m3 48 rfl) rfl
theorem q771 : (Jvm.Cond.laysFinal "MarkHouse$Program" "MarkHouse$Program" "does" "[B") ∈ lw_all := lw_g (lw_at lw_m3 49 rfl) rfl
theorem q772 : (Jvm.Cond.soleField "MarkHouse$Program" "does") ∈ lw_all := lw_g (lw_at lw_m3 50 rfl) rfl
theorem q773 : (Jvm.Cond.laysFinal "MarkHouse$Program" "MarkHouse$Program" "number" "[I") ∈ lw_all := lw_g (lw_at lw_m3 51 rfl) rfl
theorem q774 : (Jvm.Cond.soleField "MarkHouse$Program" "number") ∈ lw_all := lw_g (lw_at lw_m3 52 rfl) rfl
theorem q775 : (Jvm.Cond.laysFinal "MarkHouse$Program" "MarkHouse$Program" "element" "[I") ∈ lw_all := lw_g (lw_at lw_m3 53 rfl) rfl
theorem q776 : (Jvm.Cond.soleField "MarkHouse$Program" "element") ∈ lw_all := lw_g (lw_at lw_m3 54 rfl) rfl
theorem q777 : (Jvm.Cond.laysFinal "MarkHouse$Program" "MarkHouse$Program" "told" "[I") ∈ lw_all := lw_g (lw_at lw_m3 55 rfl) rfl
theorem q778 : (Jvm.Cond.soleField "MarkHouse$Program" "told") ∈ lw_all := lw_g (lw_at lw_m3 56 rfl) rfl
theorem q779 : (Jvm.Cond.laysFinal "MarkHouse$Program" "MarkHouse$Program" "leads" "[I") ∈ lw_all := lw_g (lw_at lw_m3 57 rfl) rfl
theorem q780 : (Jvm.Cond.soleField "MarkHouse$Program" "leads") ∈ lw_all := lw_g (lw_at lw_m3 58 rfl) rfl
theorem q781 : (Jvm.Cond.laysFinal "MarkHouse$Program" "MarkHouse$Program" "starts" "[I") ∈ lw_all := lw_g (lw_at lw_m3 59 rfl) rfl
theorem q782 : (Jvm.Cond.soleField "MarkHouse$Program" "starts") ∈ lw_all := lw_g (lw_at lw_m3 60 rfl) rfl
theorem q783 : (Jvm.Cond.laysFinal "MarkHouse$Program" "MarkHouse$Program" "labels" "[J") ∈ lw_all := lw_g (lw_at lw_m3 61 rfl) rfl
theorem q784 : (Jvm.Cond.soleField "MarkHouse$Program" "labels") ∈ lw_all := lw_g (lw_at lw_m3 62 rfl) rfl
theorem q785 : (Jvm.Cond.laysFinal "MarkHouse$Program" "MarkHouse$Program" "goals" "[J") ∈ lw_all := lw_g (lw_at lw_m3 63 rfl) rfl
theorem q786 : (Jvm.Cond.soleField "MarkHouse$Program" "goals") ∈ lw_all := lw_g (lw_at lw_m3 64 rfl) rfl
theorem q787 : (Jvm.Cond.laysFinal "MarkHouse$Program" "MarkHouse$Program" "classAt" "[I") ∈ lw_all := lw_g (lw_at lw_m3 65 rfl) rfl
theorem q788 : (Jvm.Cond.soleField "MarkHouse$Program" "classAt") ∈ lw_all := lw_g (lw_at lw_m3 66 rfl) rfl
theorem q789 : (Jvm.Cond.laysFinal "MarkHouse$Program" "MarkHouse$Program" "nameAt" "[I") ∈ lw_all := lw_g (lw_at lw_m3 67 rfl) rfl
theorem q790 : (Jvm.Cond.soleField "MarkHouse$Program" "nameAt") ∈ lw_all := lw_g (lw_at lw_m3 68 rfl) rfl
theorem q791 : (Jvm.Cond.laysFinal "MarkHouse$Program" "MarkHouse$Program" "goalAt" "[I") ∈ lw_all := lw_g (lw_at lw_m3 69 rfl) rfl
theorem q792 : (Jvm.Cond.soleField "MarkHouse$Program" "goalAt") ∈ lw_all := lw_g (lw_at lw_m3 70 rfl) rfl
theorem q793 : (Jvm.Cond.laysFinal "MarkHouse$Program" "MarkHouse$Program" "named" "[I") ∈ lw_all := lw_g (lw_at lw_m3 71 rfl) rfl
theorem q794 : (Jvm.Cond.soleField "MarkHouse$Program" "named") ∈ lw_all := lw_g (lw_at lw_m3 72 rfl) rfl
theorem q795 : (Jvm.Cond.laysFinal "MarkHouse$Program" "MarkHouse$Program" "classNamed" "[J") ∈ lw_all := lw_g (lw_at lw_m3 73 rfl) rfl
theorem q796 : (Jvm.Cond.soleField "MarkHouse$Program" "classNamed") ∈ lw_all := lw_g (lw_at lw_m3 74 rfl) rfl
theorem q797 : (Jvm.Cond.laysFinal "MarkHouse$Program" "MarkHouse$Program" "memberNamed" "[J") ∈ lw_all := lw_g (lw_at lw_m3 75 rfl) rfl
theorem q798 : (Jvm.Cond.soleField "MarkHouse$Program" "memberNamed") ∈ lw_all := lw_g (lw_at lw_m3 76 rfl) rfl
theorem q799 : (Jvm.Cond.laysFinal "MarkHouse$Program" "MarkHouse$Program" "depths" "[I") ∈ lw_all := lw_g (lw_at lw_m3 77 rfl) rfl
theorem q800 : (Jvm.Cond.soleField "MarkHouse$Program" "depths") ∈ lw_all := lw_g (lw_at lw_m3 78 rfl) rfl
theorem q801 : (Jvm.Cond.superclass "MarkHouse$Program" "java/lang/Object") ∈ lw_all := lw_g (lw_at lw_m3 79 rfl) rfl
theorem q1357 : (Jvm.Cond.instanceMethod ({ cls := "MarkHouse$Program", name := "kind", desc := "(J)I" } : Jvm.MethodName)) ∈ lw_all := lw_g (lw_at lw_m5 155 rfl) rfl
theorem q1358 : (Jvm.Cond.selects "MarkHouse$Program" ({ cls := "MarkHouse$Program", name := "kind", desc := "(J)I" } : Jvm.MethodName) ({ cls := "MarkHouse$Program", name := "kind", desc := "(J)I" } : Jvm.MethodName)) ∈ lw_all := lw_g (lw_at lw_m5 156 rfl) rfl
theorem q1359 : (Jvm.Cond.code ({ cls := "MarkHouse$Program", name := "kind", desc := "(J)I" } : Jvm.MethodName) prog_11_method_3_code (4 : Nat) (Option.some Jvm.ClassFile.FieldType.int)) ∈ lw_all := lw_g (lw_at lw_m5 157 rfl) rfl
theorem q1361 : (Jvm.Cond.static ({ cls := "MarkHouse$Program", name := "sort", desc := "(I)I" } : Jvm.MethodName)) ∈ lw_all := lw_g (lw_at lw_m5 159 rfl) rfl
theorem q1362 : (Jvm.Cond.code ({ cls := "MarkHouse$Program", name := "sort", desc := "(I)I" } : Jvm.MethodName) prog_11_method_16_code (2 : Nat) (Option.some Jvm.ClassFile.FieldType.int)) ∈ lw_all := lw_g (lw_at lw_m5 160 rfl) rfl
theorem q1401 : (Jvm.Cond.static ({ cls := "MarkHouse$Program", name := "ofField", desc := "(I)I" } : Jvm.MethodName)) ∈ lw_all := lw_g (lw_at lw_m5 199 rfl) rfl
theorem q1402 : (Jvm.Cond.code ({ cls := "MarkHouse$Program", name := "ofField", desc := "(I)I" } : Jvm.MethodName) prog_11_method_12_code (1 : Nat) (Option.some Jvm.ClassFile.FieldType.int)) ∈ lw_all := lw_g (lw_at lw_m5 200 rfl) rfl
theorem q1408 : (Jvm.Cond.static ({ cls := "MarkHouse$Program", name := "ofMethod", desc := "(I)I" } : Jvm.MethodName)) ∈ lw_all := lw_g (lw_at lw_m5 206 rfl) rfl
theorem q1409 : (Jvm.Cond.code ({ cls := "MarkHouse$Program", name := "ofMethod", desc := "(I)I" } : Jvm.MethodName) prog_11_method_13_code (1 : Nat) (Option.some Jvm.ClassFile.FieldType.int)) ∈ lw_all := lw_g (lw_at lw_m5 207 rfl) rfl
theorem q1423 : (Jvm.Cond.instanceMethod ({ cls := "MarkHouse$Program", name := "leads", desc := "(I)Z" } : Jvm.MethodName)) ∈ lw_all := lw_g (lw_at lw_m5 221 rfl) rfl
theorem q1424 : (Jvm.Cond.selects "MarkHouse$Program" ({ cls := "MarkHouse$Program", name := "leads", desc := "(I)Z" } : Jvm.MethodName) ({ cls := "MarkHouse$Program", name := "leads", desc := "(I)Z" } : Jvm.MethodName)) ∈ lw_all := lw_g (lw_at lw_m5 222 rfl) rfl
theorem q1425 : (Jvm.Cond.code ({ cls := "MarkHouse$Program", name := "leads", desc := "(I)Z" } : Jvm.MethodName) prog_11_method_25_code (2 : Nat) (Option.some Jvm.ClassFile.FieldType.boolean)) ∈ lw_all := lw_g (lw_at lw_m5 223 rfl) rfl
theorem q1442 : (Jvm.Cond.instanceMethod ({ cls := "MarkHouse$Program", name := "methodAt", desc := "(I)I" } : Jvm.MethodName)) ∈ lw_all := lw_g (lw_at lw_m6 0 rfl) rfl
theorem q1443 : (Jvm.Cond.selects "MarkHouse$Program" ({ cls := "MarkHouse$Program", name := "methodAt", desc := "(I)I" } : Jvm.MethodName) ({ cls := "MarkHouse$Program", name := "methodAt", desc := "(I)I" } : Jvm.MethodName)) ∈ lw_all := lw_g (lw_at lw_m6 1 rfl) rfl
theorem q1444 : (Jvm.Cond.code ({ cls := "MarkHouse$Program", name := "methodAt", desc := "(I)I" } : Jvm.MethodName) prog_11_method_20_code (3 : Nat) (Option.some Jvm.ClassFile.FieldType.int)) ∈ lw_all := lw_g (lw_at lw_m6 2 rfl) rfl
theorem q1445 : (Jvm.Cond.methodLink "MarkHouse$Program" (190 : Nat) ({ cls := "MarkHouse$Program", name := "row", desc := "(I)I" } : Jvm.MethodName)) ∈ lw_all := lw_g (lw_at lw_m6 3 rfl) rfl
theorem q1446 : (Jvm.Cond.instanceMethod ({ cls := "MarkHouse$Program", name := "row", desc := "(I)I" } : Jvm.MethodName)) ∈ lw_all := lw_g (lw_at lw_m6 4 rfl) rfl
theorem q1447 : (Jvm.Cond.selects "MarkHouse$Program" ({ cls := "MarkHouse$Program", name := "row", desc := "(I)I" } : Jvm.MethodName) ({ cls := "MarkHouse$Program", name := "row", desc := "(I)I" } : Jvm.MethodName)) ∈ lw_all := lw_g (lw_at lw_m6 5 rfl) rfl
theorem q1448 : (Jvm.Cond.code ({ cls := "MarkHouse$Program", name := "row", desc := "(I)I" } : Jvm.MethodName) prog_11_method_14_code (5 : Nat) (Option.some Jvm.ClassFile.FieldType.int)) ∈ lw_all := lw_g (lw_at lw_m6 6 rfl) rfl
theorem q1449 : (Jvm.Cond.methodLink "MarkHouse$Program" (177 : Nat) ({ cls := "MarkHouse$Program", name := "ofMethod", desc := "(I)I" } : Jvm.MethodName)) ∈ lw_all := lw_g (lw_at lw_m6 7 rfl) rfl
theorem q1450 : (Jvm.Cond.methodLink "MarkHouse$Program" (181 : Nat) ({ cls := "MarkHouse$Program", name := "sort", desc := "(I)I" } : Jvm.MethodName)) ∈ lw_all := lw_g (lw_at lw_m6 8 rfl) rfl
theorem q1451 : (Jvm.Cond.methodLink "MarkHouse$Program" (184 : Nat) ({ cls := "MarkHouse$Program", name := "methodOf", desc := "(I)I" } : Jvm.MethodName)) ∈ lw_all := lw_g (lw_at lw_m6 9 rfl) rfl
theorem q1452 : (Jvm.Cond.static ({ cls := "MarkHouse$Program", name := "methodOf", desc := "(I)I" } : Jvm.MethodName)) ∈ lw_all := lw_g (lw_at lw_m6 10 rfl) rfl
theorem q1453 : (Jvm.Cond.code ({ cls := "MarkHouse$Program", name := "methodOf", desc := "(I)I" } : Jvm.MethodName) prog_11_method_17_code (1 : Nat) (Option.some Jvm.ClassFile.FieldType.int)) ∈ lw_all := lw_g (lw_at lw_m6 11 rfl) rfl
theorem q1627 : (Jvm.Cond.instanceMethod ({ cls := "MarkHouse$Program", name := "above", desc := "(I)I" } : Jvm.MethodName)) ∈ lw_all := lw_g (lw_at lw_m6 185 rfl) rfl
theorem q1628 : (Jvm.Cond.selects "MarkHouse$Program" ({ cls := "MarkHouse$Program", name := "above", desc := "(I)I" } : Jvm.MethodName) ({ cls := "MarkHouse$Program", name := "above", desc := "(I)I" } : Jvm.MethodName)) ∈ lw_all := lw_g (lw_at lw_m6 186 rfl) rfl
theorem q1629 : (Jvm.Cond.code ({ cls := "MarkHouse$Program", name := "above", desc := "(I)I" } : Jvm.MethodName) prog_11_method_21_code (6 : Nat) (Option.some Jvm.ClassFile.FieldType.int)) ∈ lw_all := lw_g (lw_at lw_m6 187 rfl) rfl
theorem q1630 : (Jvm.Cond.methodLink "MarkHouse$Program" (193 : Nat) ({ cls := "MarkHouse$Program", name := "methodFrom", desc := "(IJ)I" } : Jvm.MethodName)) ∈ lw_all := lw_g (lw_at lw_m6 188 rfl) rfl
theorem q1631 : (Jvm.Cond.instanceMethod ({ cls := "MarkHouse$Program", name := "methodFrom", desc := "(IJ)I" } : Jvm.MethodName)) ∈ lw_all := lw_g (lw_at lw_m6 189 rfl) rfl
theorem q1632 : (Jvm.Cond.selects "MarkHouse$Program" ({ cls := "MarkHouse$Program", name := "methodFrom", desc := "(IJ)I" } : Jvm.MethodName) ({ cls := "MarkHouse$Program", name := "methodFrom", desc := "(IJ)I" } : Jvm.MethodName)) ∈ lw_all := lw_g (lw_at lw_m6 190 rfl) rfl
theorem q1633 : (Jvm.Cond.code ({ cls := "MarkHouse$Program", name := "methodFrom", desc := "(IJ)I" } : Jvm.MethodName) prog_11_method_9_code (5 : Nat) (Option.some Jvm.ClassFile.FieldType.int)) ∈ lw_all := lw_g (lw_at lw_m6 191 rfl) rfl
theorem q1634 : (Jvm.Cond.methodLink "MarkHouse$Program" (174 : Nat) ({ cls := "MarkHouse$Program", name := "method", desc := "(IJ)I" } : Jvm.MethodName)) ∈ lw_all := lw_g (lw_at lw_m6 192 rfl) rfl
theorem q1635 : (Jvm.Cond.instanceMethod ({ cls := "MarkHouse$Program", name := "method", desc := "(IJ)I" } : Jvm.MethodName)) ∈ lw_all := lw_g (lw_at lw_m6 193 rfl) rfl
theorem q1636 : (Jvm.Cond.selects "MarkHouse$Program" ({ cls := "MarkHouse$Program", name := "method", desc := "(IJ)I" } : Jvm.MethodName) ({ cls := "MarkHouse$Program", name := "method", desc := "(IJ)I" } : Jvm.MethodName)) ∈ lw_all := lw_g (lw_at lw_m6 194 rfl) rfl
theorem q1637 : (Jvm.Cond.code ({ cls := "MarkHouse$Program", name := "method", desc := "(IJ)I" } : Jvm.MethodName) prog_11_method_7_code (5 : Nat) (Option.some Jvm.ClassFile.FieldType.int)) ∈ lw_all := lw_g (lw_at lw_m6 195 rfl) rfl
theorem q1638 : (Jvm.Cond.methodLink "MarkHouse$Program" (187 : Nat) ({ cls := "MarkHouse$Program", name := "parameterOf", desc := "(I)I" } : Jvm.MethodName)) ∈ lw_all := lw_g (lw_at lw_m6 196 rfl) rfl
theorem q1639 : (Jvm.Cond.static ({ cls := "MarkHouse$Program", name := "parameterOf", desc := "(I)I" } : Jvm.MethodName)) ∈ lw_all := lw_g (lw_at lw_m6 197 rfl) rfl
theorem q1640 : (Jvm.Cond.code ({ cls := "MarkHouse$Program", name := "parameterOf", desc := "(I)I" } : Jvm.MethodName) prog_11_method_18_code (1 : Nat) (Option.some Jvm.ClassFile.FieldType.int)) ∈ lw_all := lw_g (lw_at lw_m6 198 rfl) rfl
theorem q1646 : (Jvm.Cond.static ({ cls := "MarkHouse$Program", name := "place", desc := "(I)I" } : Jvm.MethodName)) ∈ lw_all := lw_g (lw_at lw_m6 204 rfl) rfl
theorem q1647 : (Jvm.Cond.code ({ cls := "MarkHouse$Program", name := "place", desc := "(I)I" } : Jvm.MethodName) prog_11_method_15_code (3 : Nat) (Option.some Jvm.ClassFile.FieldType.int)) ∈ lw_all := lw_g (lw_at lw_m6 205 rfl) rfl
theorem q1706 : (Jvm.Cond.instanceMethod ({ cls := "MarkHouse$Program", name := "isRow", desc := "(I)Z" } : Jvm.MethodName)) ∈ lw_all := lw_g (lw_at lw_m7 24 rfl) rfl
theorem q1707 : (Jvm.Cond.selects "MarkHouse$Program" ({ cls := "MarkHouse$Program", name := "isRow", desc := "(I)Z" } : Jvm.MethodName) ({ cls := "MarkHouse$Program", name := "isRow", desc := "(I)Z" } : Jvm.MethodName)) ∈ lw_all := lw_g (lw_at lw_m7 25 rfl) rfl
theorem q1708 : (Jvm.Cond.code ({ cls := "MarkHouse$Program", name := "isRow", desc := "(I)Z" } : Jvm.MethodName) prog_11_method_19_code (5 : Nat) (Option.some Jvm.ClassFile.FieldType.boolean)) ∈ lw_all := lw_g (lw_at lw_m7 26 rfl) rfl
theorem q1728 : (Jvm.Cond.instanceMethod ({ cls := "MarkHouse$Program", name := "falls", desc := "(I)Z" } : Jvm.MethodName)) ∈ lw_all := lw_g (lw_at lw_m7 46 rfl) rfl
theorem q1729 : (Jvm.Cond.selects "MarkHouse$Program" ({ cls := "MarkHouse$Program", name := "falls", desc := "(I)Z" } : Jvm.MethodName) ({ cls := "MarkHouse$Program", name := "falls", desc := "(I)Z" } : Jvm.MethodName)) ∈ lw_all := lw_g (lw_at lw_m7 47 rfl) rfl
theorem q1730 : (Jvm.Cond.code ({ cls := "MarkHouse$Program", name := "falls", desc := "(I)Z" } : Jvm.MethodName) prog_11_method_24_code (2 : Nat) (Option.some Jvm.ClassFile.FieldType.boolean)) ∈ lw_all := lw_g (lw_at lw_m7 48 rfl) rfl
theorem q1739 : (Jvm.Cond.instanceMethod ({ cls := "MarkHouse$Program", name := "takes", desc := "(I)I" } : Jvm.MethodName)) ∈ lw_all := lw_g (lw_at lw_m7 57 rfl) rfl
theorem q1740 : (Jvm.Cond.selects "MarkHouse$Program" ({ cls := "MarkHouse$Program", name := "takes", desc := "(I)I" } : Jvm.MethodName) ({ cls := "MarkHouse$Program", name := "takes", desc := "(I)I" } : Jvm.MethodName)) ∈ lw_all := lw_g (lw_at lw_m7 58 rfl) rfl
theorem q1741 : (Jvm.Cond.code ({ cls := "MarkHouse$Program", name := "takes", desc := "(I)I" } : Jvm.MethodName) prog_11_method_22_code (2 : Nat) (Option.some Jvm.ClassFile.FieldType.int)) ∈ lw_all := lw_g (lw_at lw_m7 59 rfl) rfl
theorem q1743 : (Jvm.Cond.instanceMethod ({ cls := "MarkHouse$Program", name := "gives", desc := "(I)I" } : Jvm.MethodName)) ∈ lw_all := lw_g (lw_at lw_m7 61 rfl) rfl
theorem q1744 : (Jvm.Cond.selects "MarkHouse$Program" ({ cls := "MarkHouse$Program", name := "gives", desc := "(I)I" } : Jvm.MethodName) ({ cls := "MarkHouse$Program", name := "gives", desc := "(I)I" } : Jvm.MethodName)) ∈ lw_all := lw_g (lw_at lw_m7 62 rfl) rfl
theorem q1745 : (Jvm.Cond.code ({ cls := "MarkHouse$Program", name := "gives", desc := "(I)I" } : Jvm.MethodName) prog_11_method_23_code (2 : Nat) (Option.some Jvm.ClassFile.FieldType.int)) ∈ lw_all := lw_g (lw_at lw_m7 63 rfl) rfl
theorem q1915 : (Jvm.Cond.instanceMethod ({ cls := "MarkHouse$Program", name := "member", desc := "(IJ)I" } : Jvm.MethodName)) ∈ lw_all := lw_g (lw_at lw_m7 233 rfl) rfl
theorem q1916 : (Jvm.Cond.selects "MarkHouse$Program" ({ cls := "MarkHouse$Program", name := "member", desc := "(IJ)I" } : Jvm.MethodName) ({ cls := "MarkHouse$Program", name := "member", desc := "(IJ)I" } : Jvm.MethodName)) ∈ lw_all := lw_g (lw_at lw_m7 234 rfl) rfl
theorem q1917 : (Jvm.Cond.code ({ cls := "MarkHouse$Program", name := "member", desc := "(IJ)I" } : Jvm.MethodName) prog_11_method_10_code (5 : Nat) (Option.some Jvm.ClassFile.FieldType.int)) ∈ lw_all := lw_g (lw_at lw_m7 235 rfl) rfl
theorem q1937 : (Jvm.Cond.instanceMethod ({ cls := "MarkHouse$Program", name := "cls", desc := "(J)I" } : Jvm.MethodName)) ∈ lw_all := lw_g (lw_at lw_m8 15 rfl) rfl
theorem q1938 : (Jvm.Cond.selects "MarkHouse$Program" ({ cls := "MarkHouse$Program", name := "cls", desc := "(J)I" } : Jvm.MethodName) ({ cls := "MarkHouse$Program", name := "cls", desc := "(J)I" } : Jvm.MethodName)) ∈ lw_all := lw_g (lw_at lw_m8 16 rfl) rfl
theorem q1939 : (Jvm.Cond.code ({ cls := "MarkHouse$Program", name := "cls", desc := "(J)I" } : Jvm.MethodName) prog_11_method_4_code (4 : Nat) (Option.some Jvm.ClassFile.FieldType.int)) ∈ lw_all := lw_g (lw_at lw_m8 17 rfl) rfl
theorem q1971 : (Jvm.Cond.instanceMethod ({ cls := "MarkHouse$Program", name := "clear", desc := "()V" } : Jvm.MethodName)) ∈ lw_all := lw_g (lw_at lw_m8 49 rfl) rfl
theorem q1972 : (Jvm.Cond.selects "MarkHouse$Program" ({ cls := "MarkHouse$Program", name := "clear", desc := "()V" } : Jvm.MethodName) ({ cls := "MarkHouse$Program", name := "clear", desc := "()V" } : Jvm.MethodName)) ∈ lw_all := lw_g (lw_at lw_m8 50 rfl) rfl
theorem q1973 : (Jvm.Cond.code ({ cls := "MarkHouse$Program", name := "clear", desc := "()V" } : Jvm.MethodName) prog_11_method_2_code (1 : Nat) (Option.none : Option Jvm.ClassFile.FieldType)) ∈ lw_all := lw_g (lw_at lw_m8 51 rfl) rfl
theorem q1974 : (Jvm.Cond.methodLink "MarkHouse$Program" (157 : Nat) ({ cls := "MarkHouse$Marks", name := "clear", desc := "()V" } : Jvm.MethodName)) ∈ lw_all := lw_g (lw_at lw_m8 52 rfl) rfl
theorem q2188 : (Jvm.Cond.instanceMethod ({ cls := "MarkHouse$Program", name := "isTaken", desc := "(J)Z" } : Jvm.MethodName)) ∈ lw_all := lw_g (lw_at lw_m9 26 rfl) rfl
theorem q2189 : (Jvm.Cond.selects "MarkHouse$Program" ({ cls := "MarkHouse$Program", name := "isTaken", desc := "(J)Z" } : Jvm.MethodName) ({ cls := "MarkHouse$Program", name := "isTaken", desc := "(J)Z" } : Jvm.MethodName)) ∈ lw_all := lw_g (lw_at lw_m9 27 rfl) rfl
theorem q2190 : (Jvm.Cond.code ({ cls := "MarkHouse$Program", name := "isTaken", desc := "(J)Z" } : Jvm.MethodName) prog_11_method_5_code (4 : Nat) (Option.some Jvm.ClassFile.FieldType.boolean)) ∈ lw_all := lw_g (lw_at lw_m9 28 rfl) rfl
theorem q2191 : (Jvm.Cond.methodLink "MarkHouse$Program" (160 : Nat) ({ cls := "MarkHouse$Orders", name := "find", desc := "(J)I" } : Jvm.MethodName)) ∈ lw_all := lw_g (lw_at lw_m9 29 rfl) rfl
theorem q2192 : (Jvm.Cond.methodLink "MarkHouse$Program" (164 : Nat) ({ cls := "MarkHouse$Program", name := "kind", desc := "(J)I" } : Jvm.MethodName)) ∈ lw_all := lw_g (lw_at lw_m9 30 rfl) rfl
theorem q2193 : (Jvm.Cond.methodLink "MarkHouse$Program" (167 : Nat) ({ cls := "MarkHouse$Program", name := "cls", desc := "(J)I" } : Jvm.MethodName)) ∈ lw_all := lw_g (lw_at lw_m9 31 rfl) rfl
theorem q2278 : (Jvm.Cond.instanceMethod ({ cls := "MarkHouse$Program", name := "field", desc := "(IJ)I" } : Jvm.MethodName)) ∈ lw_all := lw_g (lw_at lw_m9 116 rfl) rfl
theorem q2279 : (Jvm.Cond.selects "MarkHouse$Program" ({ cls := "MarkHouse$Program", name := "field", desc := "(IJ)I" } : Jvm.MethodName) ({ cls := "MarkHouse$Program", name := "field", desc := "(IJ)I" } : Jvm.MethodName)) ∈ lw_all := lw_g (lw_at lw_m9 117 rfl) rfl
theorem q2280 : (Jvm.Cond.code ({ cls := "MarkHouse$Program", name := "field", desc := "(IJ)I" } : Jvm.MethodName) prog_11_method_6_code (5 : Nat) (Option.some Jvm.ClassFile.FieldType.int)) ∈ lw_all := lw_g (lw_at lw_m9 118 rfl) rfl
theorem q2292 : (Jvm.Cond.instanceMethod ({ cls := "MarkHouse$Program", name := "local", desc := "(IJ)I" } : Jvm.MethodName)) ∈ lw_all := lw_g (lw_at lw_m9 130 rfl) rfl
theorem q2293 : (Jvm.Cond.selects "MarkHouse$Program" ({ cls := "MarkHouse$Program", name := "local", desc := "(IJ)I" } : Jvm.MethodName) ({ cls := "MarkHouse$Program", name := "local", desc := "(IJ)I" } : Jvm.MethodName)) ∈ lw_all := lw_g (lw_at lw_m9 131 rfl) rfl
theorem q2294 : (Jvm.Cond.code ({ cls := "MarkHouse$Program", name := "local", desc := "(IJ)I" } : Jvm.MethodName) prog_11_method_11_code (5 : Nat) (Option.some Jvm.ClassFile.FieldType.int)) ∈ lw_all := lw_g (lw_at lw_m9 132 rfl) rfl
theorem q2343 : (Jvm.Cond.instanceMethod ({ cls := "MarkHouse$Program", name := "fieldFrom", desc := "(IJ)I" } : Jvm.MethodName)) ∈ lw_all := lw_g (lw_at lw_m9 181 rfl) rfl
theorem q2344 : (Jvm.Cond.selects "MarkHouse$Program" ({ cls := "MarkHouse$Program", name := "fieldFrom", desc := "(IJ)I" } : Jvm.MethodName) ({ cls := "MarkHouse$Program", name := "fieldFrom", desc := "(IJ)I" } : Jvm.MethodName)) ∈ lw_all := lw_g (lw_at lw_m9 182 rfl) rfl
theorem q2345 : (Jvm.Cond.code ({ cls := "MarkHouse$Program", name := "fieldFrom", desc := "(IJ)I" } : Jvm.MethodName) prog_11_method_8_code (5 : Nat) (Option.some Jvm.ClassFile.FieldType.int)) ∈ lw_all := lw_g (lw_at lw_m9 183 rfl) rfl
theorem q2346 : (Jvm.Cond.methodLink "MarkHouse$Program" (170 : Nat) ({ cls := "MarkHouse$Program", name := "field", desc := "(IJ)I" } : Jvm.MethodName)) ∈ lw_all := lw_g (lw_at lw_m9 184 rfl) rfl
theorem in_X5 : ∀ w ∈ wsX50, w ∈ lw_all := lw_in wsX50 [715, 717, 719, 721, 723, 725, 727, 729, 731, 733, 735, 737, 739, 741, 743, 745, 747, 749, 751, 753, 755, 757, 759, 761, 763, 765, 767, 769, 771, 773, 775, 777, 779, 781, 783, 785, 787, 789, 791, 793, 795, 797, 799] (by decide +kernel) (by decide +kernel)
/-! MarkHouse$Orders -/
set_option maxRecDepth 100000
def RX6 : String := "MarkHouse$Orders"
def TX6 : u_T := fun k => match k with
  | 0 => ("MarkHouse$Orders", "count", "I", false)
  | 1 => ("MarkHouse$Orders", "names", "[J", true)
  | 2 => ("MarkHouse$Orders", "sizes", "[I", true)
  | 3 => ("MarkHouse$Orders", "tops", "[I", true)
  | 4 => ("MarkHouse$Orders", "bottoms", "[I", true)
  | 5 => ("MarkHouse$Orders", "elements", "[J", true)
  | 6 => ("MarkHouse$Orders", "below", "[Z", true)
  | 7 => ("MarkHouse$Orders", "joins", "[I", true)
  | _ => ("MarkHouse$Orders", "meets", "[I", true)
def tyX6 : Nat → FieldType := fun k => match k with
  | 0 => .int
  | 1 => .array .long
  | 2 => .array .int
  | 3 => .array .int
  | 4 => .array .int
  | 5 => .array .long
  | 6 => .array .boolean
  | 7 => .array .int
  | _ => .array .int
abbrev wsX60 : List Cond := u_ws RX6 TX6 9
theorem nmX6 : ∀ a, a < 9 → ∀ b, b < 9 → a ≠ b → (TX6 a).2.1 ≠ (TX6 b).2.1 := by decide +kernel
theorem tyX6_ok : ∀ k, k < 9 → parseFieldDescriptor (TX6 k).2.2.1 = some (tyX6 k) := by decide +kernel
abbrev cX6_init : ByteArray := prog_9_method_1_code
def yX6_init : MethodName := ⟨RX6, "<init>", "()V"⟩
abbrev cX6_isNext : ByteArray := prog_9_method_11_code
def yX6_isNext : MethodName := ⟨RX6, "isNext", "(III)Z"⟩
abbrev cX6_isBelow : ByteArray := prog_9_method_4_code
def yX6_isBelow : MethodName := ⟨RX6, "isBelow", "(III)Z"⟩
abbrev cX6_at : ByteArray := prog_9_method_3_code
def yX6_at : MethodName := ⟨RX6, "at", "(III)I"⟩
abbrev cX6_find : ByteArray := prog_9_method_8_code
def yX6_find : MethodName := ⟨RX6, "find", "(J)I"⟩
abbrev cX6_element : ByteArray := prog_9_method_7_code
def yX6_element : MethodName := ⟨RX6, "element", "(IJ)I"⟩
abbrev cX6_join : ByteArray := prog_9_method_5_code
def yX6_join : MethodName := ⟨RX6, "join", "(III)I"⟩
abbrev cX6_meet : ByteArray := prog_9_method_6_code
def yX6_meet : MethodName := ⟨RX6, "meet", "(III)I"⟩
abbrev cX6_begin : ByteArray := prog_9_method_2_code
def yX6_begin : MethodName := ⟨RX6, "begin", "()V"⟩
abbrev cX6_close : ByteArray := prog_9_method_10_code
def yX6_close : MethodName := ⟨RX6, "close", "()Z"⟩
abbrev cX6_bound : ByteArray := prog_9_method_9_code
def yX6_bound : MethodName := ⟨RX6, "bound", "(IIIZ)I"⟩
theorem q252 : (Jvm.Cond.initialized "MarkHouse$Orders") ∈ lw_all := lw_g (lw_at lw_m1 10 rfl) rfl
theorem q441 : (Jvm.Cond.instantiable "MarkHouse$Orders" (9 : Nat)) ∈ lw_all := lw_g (lw_at lw_m1 199 rfl) rfl
theorem q443 : (Jvm.Cond.instanceMethod ({ cls := "MarkHouse$Orders", name := "<init>", desc := "()V" } : Jvm.MethodName)) ∈ lw_all := lw_g (lw_at lw_m1 201 rfl) rfl
theorem q444 : (Jvm.Cond.code ({ cls := "MarkHouse$Orders", name := "<init>", desc := "()V" } : Jvm.MethodName) prog_9_method_1_code (1 : Nat) (Option.none : Option Jvm.ClassFile.FieldType)) ∈ lw_all := lw_g (lw_at lw_m1 202 rfl) rfl
theorem q445 : (Jvm.Cond.methodLink "MarkHouse$Orders" (3 : Nat) ({ cls := "java/lang/Object", name := "<init>", desc := "()V" } : Jvm.MethodName)) ∈ lw_all := lw_g (lw_at lw_m1 203 rfl) rfl
theorem q446 : (Jvm.Cond.fieldLink "MarkHouse$Orders" (38 : Nat) "MarkHouse$Orders" "count" "I") ∈ lw_all := lw_g (lw_at lw_m1 204 rfl) rfl
theorem q454 : (Jvm.Cond.fieldLink "MarkHouse$Orders" (9 : Nat) "MarkHouse$Orders" "names" "[J") ∈ lw_all := lw_g (lw_at lw_m1 212 rfl) rfl
theorem q458 : (Jvm.Cond.fieldLink "MarkHouse$Orders" (15 : Nat) "MarkHouse$Orders" "sizes" "[I") ∈ lw_all := lw_g (lw_at lw_m1 216 rfl) rfl
theorem q462 : (Jvm.Cond.fieldLink "MarkHouse$Orders" (19 : Nat) "MarkHouse$Orders" "tops" "[I") ∈ lw_all := lw_g (lw_at lw_m1 220 rfl) rfl
theorem q464 : (Jvm.Cond.fieldLink "MarkHouse$Orders" (22 : Nat) "MarkHouse$Orders" "bottoms" "[I") ∈ lw_all := lw_g (lw_at lw_m1 222 rfl) rfl
theorem q467 : (Jvm.Cond.fieldLink "MarkHouse$Orders" (25 : Nat) "MarkHouse$Orders" "elements" "[J") ∈ lw_all := lw_g (lw_at lw_m1 225 rfl) rfl
theorem q471 : (Jvm.Cond.fieldLink "MarkHouse$Orders" (28 : Nat) "MarkHouse$Orders" "below" "[Z") ∈ lw_all := lw_g (lw_at lw_m1 229 rfl) rfl
theorem q473 : (Jvm.Cond.fieldLink "MarkHouse$Orders" (32 : Nat) "MarkHouse$Orders" "joins" "[I") ∈ lw_all := lw_g (lw_at lw_m1 231 rfl) rfl
theorem q474 : (Jvm.Cond.fieldLink "MarkHouse$Orders" (35 : Nat) "MarkHouse$Orders" "meets" "[I") ∈ lw_all := lw_g (lw_at lw_m1 232 rfl) rfl
theorem q475 : (Jvm.Cond.lays "MarkHouse$Orders" "MarkHouse$Orders" "count" "I") ∈ lw_all := lw_g (lw_at lw_m1 233 rfl) rfl
theorem q476 : (Jvm.Cond.soleField "MarkHouse$Orders" "count") ∈ lw_all := lw_g (lw_at lw_m1 234 rfl) rfl
theorem q477 : (Jvm.Cond.laysFinal "MarkHouse$Orders" "MarkHouse$Orders" "names" "[J") ∈ lw_all := lw_g (lw_at lw_m1 235 rfl) rfl
theorem q478 : (Jvm.Cond.soleField "MarkHouse$Orders" "names") ∈ lw_all := lw_g (lw_at lw_m1 236 rfl) rfl
theorem q479 : (Jvm.Cond.laysFinal "MarkHouse$Orders" "MarkHouse$Orders" "sizes" "[I") ∈ lw_all := lw_g (lw_at lw_m1 237 rfl) rfl
theorem q480 : (Jvm.Cond.soleField "MarkHouse$Orders" "sizes") ∈ lw_all := lw_g (lw_at lw_m1 238 rfl) rfl
theorem q481 : (Jvm.Cond.laysFinal "MarkHouse$Orders" "MarkHouse$Orders" "tops" "[I") ∈ lw_all := lw_g (lw_at lw_m1 239 rfl) rfl
theorem q482 : (Jvm.Cond.soleField "MarkHouse$Orders" "tops") ∈ lw_all := lw_g (lw_at lw_m2 0 rfl) rfl
theorem q483 : (Jvm.Cond.laysFinal "MarkHouse$Orders" "MarkHouse$Orders" "bottoms" "[I") ∈ lw_all := lw_g (lw_at lw_m2 1 rfl) rfl
theorem q484 : (Jvm.Cond.soleField "MarkHouse$Orders" "bottoms") ∈ lw_all := lw_g (lw_at lw_m2 2 rfl) rfl
theorem q485 : (Jvm.Cond.laysFinal "MarkHouse$Orders" "MarkHouse$Orders" "elements" "[J") ∈ lw_all := lw_g (lw_at lw_m2 3 rfl) rfl
theorem q486 : (Jvm.Cond.soleField "MarkHouse$Orders" "elements") ∈ lw_all := lw_g (lw_at lw_m2 4 rfl) rfl
theorem q487 : (Jvm.Cond.laysFinal "MarkHouse$Orders" "MarkHouse$Orders" "below" "[Z") ∈ lw_all := lw_g (lw_at lw_m2 5 rfl) rfl
theorem q488 : (Jvm.Cond.soleField "MarkHouse$Orders" "below") ∈ lw_all := lw_g (lw_at lw_m2 6 rfl) rfl
theorem q489 : (Jvm.Cond.laysFinal "MarkHouse$Orders" "MarkHouse$Orders" "joins" "[I") ∈ lw_all := lw_g (lw_at lw_m2 7 rfl) rfl
theorem q490 : (Jvm.Cond.soleField "MarkHouse$Orders" "joins") ∈ lw_all := lw_g (lw_at lw_m2 8 rfl) rfl
theorem q491 : (Jvm.Cond.laysFinal "MarkHouse$Orders" "MarkHouse$Orders" "meets" "[I") ∈ lw_all := lw_g (lw_at lw_m2 9 rfl) rfl
theorem q492 : (Jvm.Cond.soleField "MarkHouse$Orders" "meets") ∈ lw_all := lw_g (lw_at lw_m2 10 rfl) rfl
theorem q493 : (Jvm.Cond.superclass "MarkHouse$Orders" "java/lang/Object") ∈ lw_all := lw_g (lw_at lw_m2 11 rfl) rfl
theorem q1307 : (Jvm.Cond.instanceMethod ({ cls := "MarkHouse$Orders", name := "isNext", desc := "(III)Z" } : Jvm.MethodName)) ∈ lw_all := lw_g (lw_at lw_m5 105 rfl) rfl
theorem q1308 : (Jvm.Cond.selects "MarkHouse$Orders" ({ cls := "MarkHouse$Orders", name := "isNext", desc := "(III)Z" } : Jvm.MethodName) ({ cls := "MarkHouse$Orders", name := "isNext", desc := "(III)Z" } : Jvm.MethodName)) ∈ lw_all := lw_g (lw_at lw_m5 106 rfl) rfl
theorem q1309 : (Jvm.Cond.code ({ cls := "MarkHouse$Orders", name := "isNext", desc := "(III)Z" } : Jvm.MethodName) prog_9_method_11_code (5 : Nat) (Option.some Jvm.ClassFile.FieldType.boolean)) ∈ lw_all := lw_g (lw_at lw_m5 107 rfl) rfl
theorem q1310 : (Jvm.Cond.methodLink "MarkHouse$Orders" (46 : Nat) ({ cls := "MarkHouse$Orders", name := "isBelow", desc := "(III)Z" } : Jvm.MethodName)) ∈ lw_all := lw_g (lw_at lw_m5 108 rfl) rfl
theorem q1311 : (Jvm.Cond.instanceMethod ({ cls := "MarkHouse$Orders", name := "isBelow", desc := "(III)Z" } : Jvm.MethodName)) ∈ lw_all := lw_g (lw_at lw_m5 109 rfl) rfl
theorem q1312 : (Jvm.Cond.selects "MarkHouse$Orders" ({ cls := "MarkHouse$Orders", name := "isBelow", desc := "(III)Z" } : Jvm.MethodName) ({ cls := "MarkHouse$Orders", name := "isBelow", desc := "(III)Z" } : Jvm.MethodName)) ∈ lw_all := lw_g (lw_at lw_m5 110 rfl) rfl
theorem q1313 : (Jvm.Cond.code ({ cls := "MarkHouse$Orders", name := "isBelow", desc := "(III)Z" } : Jvm.MethodName) prog_9_method_4_code (4 : Nat) (Option.some Jvm.ClassFile.FieldType.boolean)) ∈ lw_all := lw_g (lw_at lw_m5 111 rfl) rfl
theorem q1314 : (Jvm.Cond.methodLink "MarkHouse$Orders" (42 : Nat) ({ cls := "MarkHouse$Orders", name := "at", desc := "(III)I" } : Jvm.MethodName)) ∈ lw_all := lw_g (lw_at lw_m5 112 rfl) rfl
theorem q1315 : (Jvm.Cond.static ({ cls := "MarkHouse$Orders", name := "at", desc := "(III)I" } : Jvm.MethodName)) ∈ lw_all := lw_g (lw_at lw_m5 113 rfl) rfl
theorem q1316 : (Jvm.Cond.code ({ cls := "MarkHouse$Orders", name := "at", desc := "(III)I" } : Jvm.MethodName) prog_9_method_3_code (3 : Nat) (Option.some Jvm.ClassFile.FieldType.int)) ∈ lw_all := lw_g (lw_at lw_m5 114 rfl) rfl
theorem q1353 : (Jvm.Cond.instanceMethod ({ cls := "MarkHouse$Orders", name := "find", desc := "(J)I" } : Jvm.MethodName)) ∈ lw_all := lw_g (lw_at lw_m5 151 rfl) rfl
theorem q1354 : (Jvm.Cond.selects "MarkHouse$Orders" ({ cls := "MarkHouse$Orders", name := "find", desc := "(J)I" } : Jvm.MethodName) ({ cls := "MarkHouse$Orders", name := "find", desc := "(J)I" } : Jvm.MethodName)) ∈ lw_all := lw_g (lw_at lw_m5 152 rfl) rfl
theorem q1355 : (Jvm.Cond.code ({ cls := "MarkHouse$Orders", name := "find", desc := "(J)I" } : Jvm.MethodName) prog_9_method_8_code (4 : Nat) (Option.some Jvm.ClassFile.FieldType.int)) ∈ lw_all := lw_g (lw_at lw_m5 153 rfl) rfl
theorem q1383 : (Jvm.Cond.instanceMethod ({ cls := "MarkHouse$Orders", name := "element", desc := "(IJ)I" } : Jvm.MethodName)) ∈ lw_all := lw_g (lw_at lw_m5 181 rfl) rfl
theorem q1384 : (Jvm.Cond.selects "MarkHouse$Orders" ({ cls := "MarkHouse$Orders", name := "element", desc := "(IJ)I" } : Jvm.MethodName) ({ cls := "MarkHouse$Orders", name := "element", desc := "(IJ)I" } : Jvm.MethodName)) ∈ lw_all := lw_g (lw_at lw_m5 182 rfl) rfl
theorem q1385 : (Jvm.Cond.code ({ cls := "MarkHouse$Orders", name := "element", desc := "(IJ)I" } : Jvm.MethodName) prog_9_method_7_code (5 : Nat) (Option.some Jvm.ClassFile.FieldType.int)) ∈ lw_all := lw_g (lw_at lw_m5 183 rfl) rfl
theorem q1465 : (Jvm.Cond.instanceMethod ({ cls := "MarkHouse$Orders", name := "join", desc := "(III)I" } : Jvm.MethodName)) ∈ lw_all := lw_g (lw_at lw_m6 23 rfl) rfl
theorem q1466 : (Jvm.Cond.selects "MarkHouse$Orders" ({ cls := "MarkHouse$Orders", name := "join", desc := "(III)I" } : Jvm.MethodName) ({ cls := "MarkHouse$Orders", name := "join", desc := "(III)I" } : Jvm.MethodName)) ∈ lw_all := lw_g (lw_at lw_m6 24 rfl) rfl
theorem q1467 : (Jvm.Cond.code ({ cls := "MarkHouse$Orders", name := "join", desc := "(III)I" } : Jvm.MethodName) prog_9_method_5_code (4 : Nat) (Option.some Jvm.ClassFile.FieldType.int)) ∈ lw_all := lw_g (lw_at lw_m6 25 rfl) rfl
theorem q1469 : (Jvm.Cond.instanceMethod ({ cls := "MarkHouse$Orders", name := "meet", desc := "(III)I" } : Jvm.MethodName)) ∈ lw_all := lw_g (lw_at lw_m6 27 rfl) rfl
theorem q1470 : (Jvm.Cond.selects "MarkHouse$Orders" ({ cls := "MarkHouse$Orders", name := "meet", desc := "(III)I" } : Jvm.MethodName) ({ cls := "MarkHouse$Orders", name := "meet", desc := "(III)I" } : Jvm.MethodName)) ∈ lw_all := lw_g (lw_at lw_m6 28 rfl) rfl
theorem q1471 : (Jvm.Cond.code ({ cls := "MarkHouse$Orders", name := "meet", desc := "(III)I" } : Jvm.MethodName) prog_9_method_6_code (4 : Nat) (Option.some Jvm.ClassFile.FieldType.int)) ∈ lw_all := lw_g (lw_at lw_m6 29 rfl) rfl
theorem q2195 : (Jvm.Cond.instanceMethod ({ cls := "MarkHouse$Orders", name := "begin", desc := "()V" } : Jvm.MethodName)) ∈ lw_all := lw_g (lw_at lw_m9 33 rfl) rfl
theorem q2196 : (Jvm.Cond.selects "MarkHouse$Orders" ({ cls := "MarkHouse$Orders", name := "begin", desc := "()V" } : Jvm.MethodName) ({ cls := "MarkHouse$Orders", name := "begin", desc := "()V" } : Jvm.MethodName)) ∈ lw_all := lw_g (lw_at lw_m9 34 rfl) rfl
theorem q2197 : (Jvm.Cond.code ({ cls := "MarkHouse$Orders", name := "begin", desc := "()V" } : Jvm.MethodName) prog_9_method_2_code (2 : Nat) (Option.none : Option Jvm.ClassFile.FieldType)) ∈ lw_all := lw_g (lw_at lw_m9 35 rfl) rfl
theorem q2217 : (Jvm.Cond.instanceMethod ({ cls := "MarkHouse$Orders", name := "close", desc := "()Z" } : Jvm.MethodName)) ∈ lw_all := lw_g (lw_at lw_m9 55 rfl) rfl
theorem q2218 : (Jvm.Cond.selects "MarkHouse$Orders" ({ cls := "MarkHouse$Orders", name := "close", desc := "()Z" } : Jvm.MethodName) ({ cls := "MarkHouse$Orders", name := "close", desc := "()Z" } : Jvm.MethodName)) ∈ lw_all := lw_g (lw_at lw_m9 56 rfl) rfl
theorem q2219 : (Jvm.Cond.code ({ cls := "MarkHouse$Orders", name := "close", desc := "()Z" } : Jvm.MethodName) prog_9_method_10_code (7 : Nat) (Option.some Jvm.ClassFile.FieldType.boolean)) ∈ lw_all := lw_g (lw_at lw_m9 57 rfl) rfl
theorem q2220 : (Jvm.Cond.methodLink "MarkHouse$Orders" (50 : Nat) ({ cls := "MarkHouse$Orders", name := "bound", desc := "(IIIZ)I" } : Jvm.MethodName)) ∈ lw_all := lw_g (lw_at lw_m9 58 rfl) rfl
theorem q2221 : (Jvm.Cond.privateMethod ({ cls := "MarkHouse$Orders", name := "bound", desc := "(IIIZ)I" } : Jvm.MethodName)) ∈ lw_tbl := lw_at lw_m9 59 rfl
theorem q2222 : (Jvm.Cond.instanceMethod ({ cls := "MarkHouse$Orders", name := "bound", desc := "(IIIZ)I" } : Jvm.MethodName)) ∈ lw_all := lw_g (lw_at lw_m9 60 rfl) rfl
theorem q2223 : (Jvm.Cond.code ({ cls := "MarkHouse$Orders", name := "bound", desc := "(IIIZ)I" } : Jvm.MethodName) prog_9_method_9_code (8 : Nat) (Option.some Jvm.ClassFile.FieldType.int)) ∈ lw_all := lw_g (lw_at lw_m9 61 rfl) rfl
theorem in_X6 : ∀ w ∈ wsX60, w ∈ lw_all := lw_in wsX60 [475, 477, 479, 481, 483, 485, 487, 489, 491] (by decide +kernel) (by decide +kernel)
/-! MarkHouse$Marks -/
set_option maxRecDepth 100000
def RX7 : String := "MarkHouse$Marks"
def TX7 : u_T := fun k => match k with
  | 0 => ("MarkHouse$Marks", "counts", "[I", true)
  | 1 => ("MarkHouse$Marks", "names", "[J", true)
  | 2 => ("MarkHouse$Marks", "pairs", "[I", true)
  | 3 => ("MarkHouse$Marks", "pairNames", "[J", true)
  | 4 => ("MarkHouse$Marks", "values", "[J", true)
  | _ => ("MarkHouse$Marks", "tags", "[B", true)
def tyX7 : Nat → FieldType := fun k => match k with
  | 0 => .array .int
  | 1 => .array .long
  | 2 => .array .int
  | 3 => .array .long
  | 4 => .array .long
  | _ => .array .byte
abbrev wsX70 : List Cond := u_ws RX7 TX7 6
theorem nmX7 : ∀ a, a < 6 → ∀ b, b < 6 → a ≠ b → (TX7 a).2.1 ≠ (TX7 b).2.1 := by decide +kernel
theorem tyX7_ok : ∀ k, k < 6 → parseFieldDescriptor (TX7 k).2.2.1 = some (tyX7 k) := by decide +kernel
abbrev cX7_init : ByteArray := prog_8_method_1_code
def yX7_init : MethodName := ⟨RX7, "<init>", "()V"⟩
abbrev cX7_many : ByteArray := prog_8_method_8_code
def yX7_many : MethodName := ⟨RX7, "many", "(IJ)I"⟩
abbrev cX7_isNo : ByteArray := prog_8_method_6_code
def yX7_isNo : MethodName := ⟨RX7, "isNo", "(I)Z"⟩
abbrev cX7_pair : ByteArray := prog_8_method_7_code
def yX7_pair : MethodName := ⟨RX7, "pair", "(IJ)I"⟩
abbrev cX7_add : ByteArray := prog_8_method_3_code
def yX7_add : MethodName := ⟨RX7, "add", "(IJI)I"⟩
abbrev cX7_addPair : ByteArray := prog_8_method_4_code
def yX7_addPair : MethodName := ⟨RX7, "addPair", "(IJIJ)V"⟩
abbrev cX7_copy : ByteArray := prog_8_method_5_code
def yX7_copy : MethodName := ⟨RX7, "copy", "(II)V"⟩
abbrev cX7_clear : ByteArray := prog_8_method_2_code
def yX7_clear : MethodName := ⟨RX7, "clear", "()V"⟩
theorem q253 : (Jvm.Cond.initialized "MarkHouse$Marks") ∈ lw_all := lw_g (lw_at lw_m1 11 rfl) rfl
theorem q496 : (Jvm.Cond.instantiable "MarkHouse$Marks" (6 : Nat)) ∈ lw_all := lw_g (lw_at lw_m2 14 rfl) rfl
theorem q498 : (Jvm.Cond.instanceMethod ({ cls := "MarkHouse$Marks", name := "<init>", desc := "()V" } : Jvm.MethodName)) ∈ lw_all := lw_g (lw_at lw_m2 16 rfl) rfl
theorem q499 : (Jvm.Cond.code ({ cls := "MarkHouse$Marks", name := "<init>", desc := "()V" } : Jvm.MethodName) prog_8_method_1_code (1 : Nat) (Option.none : Option Jvm.ClassFile.FieldType)) ∈ lw_all := lw_g (lw_at lw_m2 17 rfl) rfl
theorem q500 : (Jvm.Cond.methodLink "MarkHouse$Marks" (3 : Nat) ({ cls := "java/lang/Object", name := "<init>", desc := "()V" } : Jvm.MethodName)) ∈ lw_all := lw_g (lw_at lw_m2 18 rfl) rfl
theorem q501 : (Jvm.Cond.constant "MarkHouse$Marks" (22 : Nat) (48560 : Int32)) ∈ lw_all := lw_g (lw_at lw_m2 19 rfl) rfl
theorem q502 : (Jvm.Cond.fieldLink "MarkHouse$Marks" (9 : Nat) "MarkHouse$Marks" "counts" "[I") ∈ lw_all := lw_g (lw_at lw_m2 20 rfl) rfl
theorem q508 : (Jvm.Cond.fieldLink "MarkHouse$Marks" (15 : Nat) "MarkHouse$Marks" "names" "[J") ∈ lw_all := lw_g (lw_at lw_m2 26 rfl) rfl
theorem q514 : (Jvm.Cond.fieldLink "MarkHouse$Marks" (19 : Nat) "MarkHouse$Marks" "pairs" "[I") ∈ lw_all := lw_g (lw_at lw_m2 32 rfl) rfl
theorem q517 : (Jvm.Cond.fieldLink "MarkHouse$Marks" (23 : Nat) "MarkHouse$Marks" "pairNames" "[J") ∈ lw_all := lw_g (lw_at lw_m2 35 rfl) rfl
theorem q519 : (Jvm.Cond.fieldLink "MarkHouse$Marks" (26 : Nat) "MarkHouse$Marks" "values" "[J") ∈ lw_all := lw_g (lw_at lw_m2 37 rfl) rfl
theorem q524 : (Jvm.Cond.fieldLink "MarkHouse$Marks" (29 : Nat) "MarkHouse$Marks" "tags" "[B") ∈ lw_all := lw_g (lw_at lw_m2 42 rfl) rfl
theorem q527 : (Jvm.Cond.laysFinal "MarkHouse$Marks" "MarkHouse$Marks" "counts" "[I") ∈ lw_all := lw_g (lw_at lw_m2 45 rfl) rfl
theorem q528 : (Jvm.Cond.soleField "MarkHouse$Marks" "counts") ∈ lw_all := lw_g (lw_at lw_m2 46 rfl) rfl
theorem q529 : (Jvm.Cond.laysFinal "MarkHouse$Marks" "MarkHouse$Marks" "names" "[J") ∈ lw_all := lw_g (lw_at lw_m2 47 rfl) rfl
theorem q530 : (Jvm.Cond.soleField "MarkHouse$Marks" "names") ∈ lw_all := lw_g (lw_at lw_m2 48 rfl) rfl
theorem q531 : (Jvm.Cond.laysFinal "MarkHouse$Marks" "MarkHouse$Marks" "pairs" "[I") ∈ lw_all := lw_g (lw_at lw_m2 49 rfl) rfl
theorem q532 : (Jvm.Cond.soleField "MarkHouse$Marks" "pairs") ∈ lw_all := lw_g (lw_at lw_m2 50 rfl) rfl
theorem q533 : (Jvm.Cond.laysFinal "MarkHouse$Marks" "MarkHouse$Marks" "pairNames" "[J") ∈ lw_all := lw_g (lw_at lw_m2 51 rfl) rfl
theorem q534 : (Jvm.Cond.soleField "MarkHouse$Marks" "pairNames") ∈ lw_all := lw_g (lw_at lw_m2 52 rfl) rfl
theorem q535 : (Jvm.Cond.laysFinal "MarkHouse$Marks" "MarkHouse$Marks" "values" "[J") ∈ lw_all := lw_g (lw_at lw_m2 53 rfl) rfl
theorem q536 : (Jvm.Cond.soleField "MarkHouse$Marks" "values") ∈ lw_all := lw_g (lw_at lw_m2 54 rfl) rfl
theorem q537 : (Jvm.Cond.laysFinal "MarkHouse$Marks" "MarkHouse$Marks" "tags" "[B") ∈ lw_all := lw_g (lw_at lw_m2 55 rfl) rfl
theorem q538 : (Jvm.Cond.soleField "MarkHouse$Marks" "tags") ∈ lw_all := lw_g (lw_at lw_m2 56 rfl) rfl
theorem q539 : (Jvm.Cond.superclass "MarkHouse$Marks" "java/lang/Object") ∈ lw_all := lw_g (lw_at lw_m2 57 rfl) rfl
theorem q1364 : (Jvm.Cond.instanceMethod ({ cls := "MarkHouse$Marks", name := "many", desc := "(IJ)I" } : Jvm.MethodName)) ∈ lw_all := lw_g (lw_at lw_m5 162 rfl) rfl
theorem q1365 : (Jvm.Cond.selects "MarkHouse$Marks" ({ cls := "MarkHouse$Marks", name := "many", desc := "(IJ)I" } : Jvm.MethodName) ({ cls := "MarkHouse$Marks", name := "many", desc := "(IJ)I" } : Jvm.MethodName)) ∈ lw_all := lw_g (lw_at lw_m5 163 rfl) rfl
theorem q1366 : (Jvm.Cond.code ({ cls := "MarkHouse$Marks", name := "many", desc := "(IJ)I" } : Jvm.MethodName) prog_8_method_8_code (6 : Nat) (Option.some Jvm.ClassFile.FieldType.int)) ∈ lw_all := lw_g (lw_at lw_m5 164 rfl) rfl
theorem q1369 : (Jvm.Cond.instanceMethod ({ cls := "MarkHouse$Marks", name := "isNo", desc := "(I)Z" } : Jvm.MethodName)) ∈ lw_all := lw_g (lw_at lw_m5 167 rfl) rfl
theorem q1370 : (Jvm.Cond.selects "MarkHouse$Marks" ({ cls := "MarkHouse$Marks", name := "isNo", desc := "(I)Z" } : Jvm.MethodName) ({ cls := "MarkHouse$Marks", name := "isNo", desc := "(I)Z" } : Jvm.MethodName)) ∈ lw_all := lw_g (lw_at lw_m5 168 rfl) rfl
theorem q1371 : (Jvm.Cond.code ({ cls := "MarkHouse$Marks", name := "isNo", desc := "(I)Z" } : Jvm.MethodName) prog_8_method_6_code (2 : Nat) (Option.some Jvm.ClassFile.FieldType.boolean)) ∈ lw_all := lw_g (lw_at lw_m5 169 rfl) rfl
theorem q1378 : (Jvm.Cond.instanceMethod ({ cls := "MarkHouse$Marks", name := "pair", desc := "(IJ)I" } : Jvm.MethodName)) ∈ lw_all := lw_g (lw_at lw_m5 176 rfl) rfl
theorem q1379 : (Jvm.Cond.selects "MarkHouse$Marks" ({ cls := "MarkHouse$Marks", name := "pair", desc := "(IJ)I" } : Jvm.MethodName) ({ cls := "MarkHouse$Marks", name := "pair", desc := "(IJ)I" } : Jvm.MethodName)) ∈ lw_all := lw_g (lw_at lw_m5 177 rfl) rfl
theorem q1380 : (Jvm.Cond.code ({ cls := "MarkHouse$Marks", name := "pair", desc := "(IJ)I" } : Jvm.MethodName) prog_8_method_7_code (5 : Nat) (Option.some Jvm.ClassFile.FieldType.int)) ∈ lw_all := lw_g (lw_at lw_m5 178 rfl) rfl
theorem q1381 : (Jvm.Cond.methodLink "MarkHouse$Marks" (33 : Nat) ({ cls := "MarkHouse$Marks", name := "isNo", desc := "(I)Z" } : Jvm.MethodName)) ∈ lw_all := lw_g (lw_at lw_m5 179 rfl) rfl
theorem q1512 : (Jvm.Cond.instanceMethod ({ cls := "MarkHouse$Marks", name := "add", desc := "(IJI)I" } : Jvm.MethodName)) ∈ lw_all := lw_g (lw_at lw_m6 70 rfl) rfl
theorem q1513 : (Jvm.Cond.selects "MarkHouse$Marks" ({ cls := "MarkHouse$Marks", name := "add", desc := "(IJI)I" } : Jvm.MethodName) ({ cls := "MarkHouse$Marks", name := "add", desc := "(IJI)I" } : Jvm.MethodName)) ∈ lw_all := lw_g (lw_at lw_m6 71 rfl) rfl
theorem q1514 : (Jvm.Cond.code ({ cls := "MarkHouse$Marks", name := "add", desc := "(IJI)I" } : Jvm.MethodName) prog_8_method_3_code (6 : Nat) (Option.some Jvm.ClassFile.FieldType.int)) ∈ lw_all := lw_g (lw_at lw_m6 72 rfl) rfl
theorem q1527 : (Jvm.Cond.instanceMethod ({ cls := "MarkHouse$Marks", name := "addPair", desc := "(IJIJ)V" } : Jvm.MethodName)) ∈ lw_all := lw_g (lw_at lw_m6 85 rfl) rfl
theorem q1528 : (Jvm.Cond.selects "MarkHouse$Marks" ({ cls := "MarkHouse$Marks", name := "addPair", desc := "(IJIJ)V" } : Jvm.MethodName) ({ cls := "MarkHouse$Marks", name := "addPair", desc := "(IJIJ)V" } : Jvm.MethodName)) ∈ lw_all := lw_g (lw_at lw_m6 86 rfl) rfl
theorem q1529 : (Jvm.Cond.code ({ cls := "MarkHouse$Marks", name := "addPair", desc := "(IJIJ)V" } : Jvm.MethodName) prog_8_method_4_code (8 : Nat) (Option.none : Option Jvm.ClassFile.FieldType)) ∈ lw_all := lw_g (lw_at lw_m6 87 rfl) rfl
theorem q1531 : (Jvm.Cond.instanceMethod ({ cls := "MarkHouse$Marks", name := "copy", desc := "(II)V" } : Jvm.MethodName)) ∈ lw_all := lw_g (lw_at lw_m6 89 rfl) rfl
theorem q1532 : (Jvm.Cond.selects "MarkHouse$Marks" ({ cls := "MarkHouse$Marks", name := "copy", desc := "(II)V" } : Jvm.MethodName) ({ cls := "MarkHouse$Marks", name := "copy", desc := "(II)V" } : Jvm.MethodName)) ∈ lw_all := lw_g (lw_at lw_m6 90 rfl) rfl
theorem q1533 : (Jvm.Cond.code ({ cls := "MarkHouse$Marks", name := "copy", desc := "(II)V" } : Jvm.MethodName) prog_8_method_5_code (4 : Nat) (Option.none : Option Jvm.ClassFile.FieldType)) ∈ lw_all := lw_g (lw_at lw_m6 91 rfl) rfl
theorem q1975 : (Jvm.Cond.instanceMethod ({ cls := "MarkHouse$Marks", name := "clear", desc := "()V" } : Jvm.MethodName)) ∈ lw_all := lw_g (lw_at lw_m8 53 rfl) rfl
theorem q1976 : (Jvm.Cond.selects "MarkHouse$Marks" ({ cls := "MarkHouse$Marks", name := "clear", desc := "()V" } : Jvm.MethodName) ({ cls := "MarkHouse$Marks", name := "clear", desc := "()V" } : Jvm.MethodName)) ∈ lw_all := lw_g (lw_at lw_m8 54 rfl) rfl
theorem q1977 : (Jvm.Cond.code ({ cls := "MarkHouse$Marks", name := "clear", desc := "()V" } : Jvm.MethodName) prog_8_method_2_code (2 : Nat) (Option.none : Option Jvm.ClassFile.FieldType)) ∈ lw_all := lw_g (lw_at lw_m8 55 rfl) rfl
theorem in_X7 : ∀ w ∈ wsX70, w ∈ lw_all := lw_in wsX70 [527, 529, 531, 533, 535, 537] (by decide +kernel) (by decide +kernel)
/-! MarkHouse$Reader -/
set_option maxRecDepth 100000
def RX8 : String := "MarkHouse$Reader"
def TX8 : u_T := fun k => match k with
  | 0 => ("MarkHouse$Reader", "row", "LMarkHouse$Lexemes;", true)
  | 1 => ("MarkHouse$Reader", "made", "LMarkHouse$Program;", true)
  | 2 => ("MarkHouse$Reader", "fault", "LMarkHouse$Fault;", true)
  | 3 => ("MarkHouse$Reader", "method", "I", false)
  | 4 => ("MarkHouse$Reader", "acts", "I", false)
  | _ => ("MarkHouse$Reader", "waits", "[Z", true)
def tyX8 : Nat → FieldType := fun k => match k with
  | 0 => .object "MarkHouse$Lexemes"
  | 1 => .object "MarkHouse$Program"
  | 2 => .object "MarkHouse$Fault"
  | 3 => .int
  | 4 => .int
  | _ => .array .boolean
abbrev wsX80 : List Cond := u_ws RX8 TX8 6
theorem nmX8 : ∀ a, a < 6 → ∀ b, b < 6 → a ≠ b → (TX8 a).2.1 ≠ (TX8 b).2.1 := by decide +kernel
theorem tyX8_ok : ∀ k, k < 6 → parseFieldDescriptor (TX8 k).2.2.1 = some (tyX8 k) := by decide +kernel
abbrev cX8_init : ByteArray := prog_12_method_1_code
def yX8_init : MethodName := ⟨RX8, "<init>", "(LMarkHouse$Lexemes;LMarkHouse$Program;LMarkHouse$Fault;)V"⟩
abbrev cX8_read : ByteArray := prog_12_method_11_code
def yX8_read : MethodName := ⟨RX8, "read", "()V"⟩
abbrev cX8_takesWord : ByteArray := prog_12_method_6_code
def yX8_takesWord : MethodName := ⟨RX8, "takesWord", "(I)Z"⟩
abbrev cX8_order : ByteArray := prog_12_method_14_code
def yX8_order : MethodName := ⟨RX8, "order", "()V"⟩
abbrev cX8_fresh : ByteArray := prog_12_method_13_code
def yX8_fresh : MethodName := ⟨RX8, "fresh", "(II)J"⟩
abbrev cX8_name : ByteArray := prog_12_method_8_code
def yX8_name : MethodName := ⟨RX8, "name", "()J"⟩
abbrev cX8_must : ByteArray := prog_12_method_3_code
def yX8_must : MethodName := ⟨RX8, "must", "(ZI)V"⟩
abbrev cX8_fail : ByteArray := prog_12_method_2_code
def yX8_fail : MethodName := ⟨RX8, "fail", "(I)V"⟩
abbrev cX8_sign : ByteArray := prog_12_method_4_code
def yX8_sign : MethodName := ⟨RX8, "sign", "(I)V"⟩
abbrev cX8_element : ByteArray := prog_12_method_15_code
def yX8_element : MethodName := ⟨RX8, "element", "()I"⟩
abbrev cX8_takesSign : ByteArray := prog_12_method_5_code
def yX8_takesSign : MethodName := ⟨RX8, "takesSign", "(I)Z"⟩
abbrev cX8_kind : ByteArray := prog_12_method_16_code
def yX8_kind : MethodName := ⟨RX8, "kind", "()V"⟩
abbrev cX8_member : ByteArray := prog_12_method_18_code
def yX8_member : MethodName := ⟨RX8, "member", "(I)V"⟩
abbrev cX8_value : ByteArray := prog_12_method_10_code
def yX8_value : MethodName := ⟨RX8, "value", "(I)J"⟩
abbrev cX8_sortHere : ByteArray := prog_12_method_17_code
def yX8_sortHere : MethodName := ⟨RX8, "sortHere", "()I"⟩
abbrev cX8_marks : ByteArray := prog_12_method_20_code
def yX8_marks : MethodName := ⟨RX8, "marks", "(II)V"⟩
abbrev cX8_mark : ByteArray := prog_12_method_21_code
def yX8_mark : MethodName := ⟨RX8, "mark", "(IIZ)V"⟩
abbrev cX8_pairs : ByteArray := prog_12_method_22_code
def yX8_pairs : MethodName := ⟨RX8, "pairs", "(II)V"⟩
abbrev cX8_maker : ByteArray := prog_12_method_19_code
def yX8_maker : MethodName := ⟨RX8, "maker", "()V"⟩
abbrev cX8_word : ByteArray := prog_12_method_7_code
def yX8_word : MethodName := ⟨RX8, "word", "(I)V"⟩
abbrev cX8_cls : ByteArray := prog_12_method_23_code
def yX8_cls : MethodName := ⟨RX8, "cls", "()V"⟩
abbrev cX8_field : ByteArray := prog_12_method_24_code
def yX8_field : MethodName := ⟨RX8, "field", "(I)V"⟩
abbrev cX8_method : ByteArray := prog_12_method_25_code
def yX8_method : MethodName := ⟨RX8, "method", "(I)V"⟩
abbrev cX8_parameter : ByteArray := prog_12_method_26_code
def yX8_parameter : MethodName := ⟨RX8, "parameter", "()V"⟩
abbrev cX8_act : ByteArray := prog_12_method_28_code
def yX8_act : MethodName := ⟨RX8, "act", "()V"⟩
abbrev cX8_isAct : ByteArray := prog_12_method_27_code
def yX8_isAct : MethodName := ⟨RX8, "isAct", "()Z"⟩
abbrev cX8_label : ByteArray := prog_12_method_29_code
def yX8_label : MethodName := ⟨RX8, "label", "(J)I"⟩
abbrev cX8_rest : ByteArray := prog_12_method_30_code
def yX8_rest : MethodName := ⟨RX8, "rest", "(I)V"⟩
abbrev cX8_elements : ByteArray := prog_12_method_34_code
def yX8_elements : MethodName := ⟨RX8, "elements", "(I)V"⟩
abbrev cX8_store : ByteArray := prog_12_method_32_code
def yX8_store : MethodName := ⟨RX8, "store", "(I)V"⟩
abbrev cX8_taken : ByteArray := prog_12_method_9_code
def yX8_taken : MethodName := ⟨RX8, "taken", "()J"⟩
abbrev cX8_goal : ByteArray := prog_12_method_31_code
def yX8_goal : MethodName := ⟨RX8, "goal", "(I)V"⟩
abbrev cX8_point : ByteArray := prog_12_method_33_code
def yX8_point : MethodName := ⟨RX8, "point", "(I)V"⟩
abbrev cX8_isMethod : ByteArray := prog_12_method_12_code
def yX8_isMethod : MethodName := ⟨RX8, "isMethod", "(I)Z"⟩
abbrev cX8_resolve : ByteArray := prog_12_method_35_code
def yX8_resolve : MethodName := ⟨RX8, "resolve", "(I)V"⟩
abbrev cX8_measure : ByteArray := prog_12_method_37_code
def yX8_measure : MethodName := ⟨RX8, "measure", "(I)V"⟩
abbrev cX8_coded : ByteArray := prog_12_method_36_code
def yX8_coded : MethodName := ⟨RX8, "coded", "(ZI)V"⟩
abbrev cX8_comes : ByteArray := prog_12_method_38_code
def yX8_comes : MethodName := ⟨RX8, "comes", "(III)V"⟩
theorem q254 : (Jvm.Cond.initialized "MarkHouse$Reader") ∈ lw_all := lw_g (lw_at lw_m1 12 rfl) rfl
theorem q403 : (Jvm.Cond.fieldLinkNest "MarkHouse$Reader" (75 : Nat) "MarkHouse$Lexemes" "values" "[I" "MarkHouse") ∈ lw_tbl := lw_at lw_m1 161 rfl
theorem q409 : (Jvm.Cond.fieldLinkNest "MarkHouse$Reader" (68 : Nat) "MarkHouse$Lexemes" "at" "I" "MarkHouse") ∈ lw_tbl := lw_at lw_m1 167 rfl
theorem q453 : (Jvm.Cond.fieldLinkNest "MarkHouse$Reader" (122 : Nat) "MarkHouse$Orders" "count" "I" "MarkHouse") ∈ lw_tbl := lw_at lw_m1 211 rfl
theorem q457 : (Jvm.Cond.fieldLinkNest "MarkHouse$Reader" (150 : Nat) "MarkHouse$Orders" "names" "[J" "MarkHouse") ∈ lw_tbl := lw_at lw_m1 215 rfl
theorem q461 : (Jvm.Cond.fieldLinkNest "MarkHouse$Reader" (157 : Nat) "MarkHouse$Orders" "sizes" "[I" "MarkHouse") ∈ lw_tbl := lw_at lw_m1 219 rfl
theorem q469 : (Jvm.Cond.fieldLinkNest "MarkHouse$Reader" (160 : Nat) "MarkHouse$Orders" "elements" "[J" "MarkHouse") ∈ lw_tbl := lw_at lw_m1 227 rfl
theorem q472 : (Jvm.Cond.fieldLinkNest "MarkHouse$Reader" (140 : Nat) "MarkHouse$Orders" "below" "[Z" "MarkHouse") ∈ lw_tbl := lw_at lw_m1 230 rfl
theorem q507 : (Jvm.Cond.fieldLinkNest "MarkHouse$Reader" (226 : Nat) "MarkHouse$Marks" "counts" "[I" "MarkHouse") ∈ lw_tbl := lw_at lw_m2 25 rfl
theorem q513 : (Jvm.Cond.fieldLinkNest "MarkHouse$Reader" (378 : Nat) "MarkHouse$Marks" "names" "[J" "MarkHouse") ∈ lw_tbl := lw_at lw_m2 31 rfl
theorem q523 : (Jvm.Cond.fieldLinkNest "MarkHouse$Reader" (379 : Nat) "MarkHouse$Marks" "values" "[J" "MarkHouse") ∈ lw_tbl := lw_at lw_m2 41 rfl
theorem q548 : (Jvm.Cond.fieldLinkNest "MarkHouse$Reader" (118 : Nat) "MarkHouse$Program" "orders" "LMarkHouse$Orders;" "MarkHouse") ∈ lw_tbl := lw_at lw_m2 66 rfl
theorem q554 : (Jvm.Cond.fieldLinkNest "MarkHouse$Reader" (223 : Nat) "MarkHouse$Program" "marks" "LMarkHouse$Marks;" "MarkHouse") ∈ lw_tbl := lw_at lw_m2 72 rfl
theorem q557 : (Jvm.Cond.fieldLinkNest "MarkHouse$Reader" (104 : Nat) "MarkHouse$Program" "there" "Z" "MarkHouse") ∈ lw_tbl := lw_at lw_m2 75 rfl
theorem q562 : (Jvm.Cond.fieldLinkNest "MarkHouse$Reader" (163 : Nat) "MarkHouse$Program" "kinds" "I" "MarkHouse") ∈ lw_tbl := lw_at lw_m2 80 rfl
theorem q566 : (Jvm.Cond.fieldLinkNest "MarkHouse$Reader" (187 : Nat) "MarkHouse$Program" "kindNames" "[J" "MarkHouse") ∈ lw_tbl := lw_at lw_m2 84 rfl
theorem q570 : (Jvm.Cond.fieldLinkNest "MarkHouse$Reader" (205 : Nat) "MarkHouse$Program" "memberNames" "[J" "MarkHouse") ∈ lw_tbl := lw_at lw_m2 88 rfl
theorem q574 : (Jvm.Cond.fieldLinkNest "MarkHouse$Reader" (198 : Nat) "MarkHouse$Program" "defaults" "[J" "MarkHouse") ∈ lw_tbl := lw_at lw_m2 92 rfl
theorem q579 : (Jvm.Cond.fieldLinkNest "MarkHouse$Reader" (166 : Nat) "MarkHouse$Program" "members" "[I" "MarkHouse") ∈ lw_tbl := lw_at lw_m2 97 rfl
theorem q583 : (Jvm.Cond.fieldLinkNest "MarkHouse$Reader" (192 : Nat) "MarkHouse$Program" "sorts" "[I" "MarkHouse") ∈ lw_tbl := lw_at lw_m2 101 rfl
theorem q587 : (Jvm.Cond.fieldLinkNest "MarkHouse$Reader" (172 : Nat) "MarkHouse$Program" "where" "[I" "MarkHouse") ∈ lw_tbl := lw_at lw_m2 105 rfl
theorem q591 : (Jvm.Cond.fieldLinkNest "MarkHouse$Reader" (195 : Nat) "MarkHouse$Program" "hasDefault" "[Z" "MarkHouse") ∈ lw_tbl := lw_at lw_m2 109 rfl
theorem q595 : (Jvm.Cond.fieldLinkNest "MarkHouse$Reader" (178 : Nat) "MarkHouse$Program" "heirs" "[Z" "MarkHouse") ∈ lw_tbl := lw_at lw_m2 113 rfl
theorem q599 : (Jvm.Cond.fieldLinkNest "MarkHouse$Reader" (181 : Nat) "MarkHouse$Program" "several" "[Z" "MarkHouse") ∈ lw_tbl := lw_at lw_m2 117 rfl
theorem q603 : (Jvm.Cond.fieldLinkNest "MarkHouse$Reader" (208 : Nat) "MarkHouse$Program" "makers" "I" "MarkHouse") ∈ lw_tbl := lw_at lw_m2 121 rfl
theorem q607 : (Jvm.Cond.fieldLinkNest "MarkHouse$Reader" (217 : Nat) "MarkHouse$Program" "makerNames" "[J" "MarkHouse") ∈ lw_tbl := lw_at lw_m2 125 rfl
theorem q610 : (Jvm.Cond.fieldLinkNest "MarkHouse$Reader" (220 : Nat) "MarkHouse$Program" "makerKinds" "[I" "MarkHouse") ∈ lw_tbl := lw_at lw_m2 128 rfl
theorem q617 : (Jvm.Cond.fieldLinkNest "MarkHouse$Reader" (108 : Nat) "MarkHouse$Program" "classes" "I" "MarkHouse") ∈ lw_tbl := lw_at lw_m2 135 rfl
theorem q621 : (Jvm.Cond.fieldLinkNest "MarkHouse$Reader" (265 : Nat) "MarkHouse$Program" "classNames" "[J" "MarkHouse") ∈ lw_tbl := lw_at lw_m2 139 rfl
theorem q624 : (Jvm.Cond.fieldLinkNest "MarkHouse$Reader" (283 : Nat) "MarkHouse$Program" "fieldNames" "[J" "MarkHouse") ∈ lw_tbl := lw_at lw_m2 142 rfl
theorem q627 : (Jvm.Cond.fieldLinkNest "MarkHouse$Reader" (310 : Nat) "MarkHouse$Program" "methodNames" "[J" "MarkHouse") ∈ lw_tbl := lw_at lw_m2 145 rfl
theorem q631 : (Jvm.Cond.fieldLinkNest "MarkHouse$Reader" (257 : Nat) "MarkHouse$Program" "parents" "[I" "MarkHouse") ∈ lw_tbl := lw_at lw_m2 149 rfl
theorem q636 : (Jvm.Cond.fieldLinkNest "MarkHouse$Reader" (260 : Nat) "MarkHouse$Program" "fields" "[I" "MarkHouse") ∈ lw_tbl := lw_at lw_m2 154 rfl
theorem q640 : (Jvm.Cond.fieldLinkNest "MarkHouse$Reader" (111 : Nat) "MarkHouse$Program" "methods" "[I" "MarkHouse") ∈ lw_tbl := lw_at lw_m2 158 rfl
theorem q645 : (Jvm.Cond.fieldLinkNest "MarkHouse$Reader" (280 : Nat) "MarkHouse$Program" "firsts" "[I" "MarkHouse") ∈ lw_tbl := lw_at lw_m2 163 rfl
theorem q651 : (Jvm.Cond.fieldLinkNest "MarkHouse$Reader" (290 : Nat) "MarkHouse$Program" "parameters" "[I" "MarkHouse") ∈ lw_tbl := lw_at lw_m2 169 rfl
theorem q654 : (Jvm.Cond.fieldLinkNest "MarkHouse$Reader" (293 : Nat) "MarkHouse$Program" "locals" "[I" "MarkHouse") ∈ lw_tbl := lw_at lw_m2 172 rfl
theorem q659 : (Jvm.Cond.fieldLinkNest "MarkHouse$Reader" (308 : Nat) "MarkHouse$Program" "acts" "[I" "MarkHouse") ∈ lw_tbl := lw_at lw_m2 177 rfl
theorem q662 : (Jvm.Cond.fieldLinkNest "MarkHouse$Reader" (316 : Nat) "MarkHouse$Program" "localNames" "[J" "MarkHouse") ∈ lw_tbl := lw_at lw_m2 180 rfl
theorem q667 : (Jvm.Cond.fieldLinkNest "MarkHouse$Reader" (331 : Nat) "MarkHouse$Program" "does" "[B" "MarkHouse") ∈ lw_tbl := lw_at lw_m2 185 rfl
theorem q672 : (Jvm.Cond.fieldLinkNest "MarkHouse$Reader" (338 : Nat) "MarkHouse$Program" "number" "[I" "MarkHouse") ∈ lw_tbl := lw_at lw_m2 190 rfl
theorem q677 : (Jvm.Cond.fieldLinkNest "MarkHouse$Reader" (376 : Nat) "MarkHouse$Program" "element" "[I" "MarkHouse") ∈ lw_tbl := lw_at lw_m2 195 rfl
theorem q682 : (Jvm.Cond.fieldLinkNest "MarkHouse$Reader" (335 : Nat) "MarkHouse$Program" "told" "[I" "MarkHouse") ∈ lw_tbl := lw_at lw_m2 200 rfl
theorem q688 : (Jvm.Cond.fieldLinkNest "MarkHouse$Reader" (384 : Nat) "MarkHouse$Program" "leads" "[I" "MarkHouse") ∈ lw_tbl := lw_at lw_m2 206 rfl
theorem q690 : (Jvm.Cond.fieldLinkNest "MarkHouse$Reader" (325 : Nat) "MarkHouse$Program" "starts" "[I" "MarkHouse") ∈ lw_tbl := lw_at lw_m2 208 rfl
theorem q693 : (Jvm.Cond.fieldLinkNest "MarkHouse$Reader" (328 : Nat) "MarkHouse$Program" "labels" "[J" "MarkHouse") ∈ lw_tbl := lw_at lw_m2 211 rfl
theorem q696 : (Jvm.Cond.fieldLinkNest "MarkHouse$Reader" (373 : Nat) "MarkHouse$Program" "goals" "[J" "MarkHouse") ∈ lw_tbl := lw_at lw_m2 214 rfl
theorem q698 : (Jvm.Cond.fieldLinkNest "MarkHouse$Reader" (349 : Nat) "MarkHouse$Program" "classAt" "[I" "MarkHouse") ∈ lw_tbl := lw_at lw_m2 216 rfl
theorem q700 : (Jvm.Cond.fieldLinkNest "MarkHouse$Reader" (358 : Nat) "MarkHouse$Program" "nameAt" "[I" "MarkHouse") ∈ lw_tbl := lw_at lw_m2 218 rfl
theorem q702 : (Jvm.Cond.fieldLinkNest "MarkHouse$Reader" (370 : Nat) "MarkHouse$Program" "goalAt" "[I" "MarkHouse") ∈ lw_tbl := lw_at lw_m2 220 rfl
theorem q704 : (Jvm.Cond.fieldLinkNest "MarkHouse$Reader" (386 : Nat) "MarkHouse$Program" "named" "[I" "MarkHouse") ∈ lw_tbl := lw_at lw_m2 222 rfl
theorem q707 : (Jvm.Cond.fieldLinkNest "MarkHouse$Reader" (352 : Nat) "MarkHouse$Program" "classNamed" "[J" "MarkHouse") ∈ lw_tbl := lw_at lw_m2 225 rfl
theorem q710 : (Jvm.Cond.fieldLinkNest "MarkHouse$Reader" (361 : Nat) "MarkHouse$Program" "memberNamed" "[J" "MarkHouse") ∈ lw_tbl := lw_at lw_m2 228 rfl
theorem q714 : (Jvm.Cond.fieldLinkNest "MarkHouse$Reader" (395 : Nat) "MarkHouse$Program" "depths" "[I" "MarkHouse") ∈ lw_tbl := lw_at lw_m2 232 rfl
theorem q803 : (Jvm.Cond.instantiable "MarkHouse$Reader" (6 : Nat)) ∈ lw_all := lw_g (lw_at lw_m3 81 rfl) rfl
theorem q805 : (Jvm.Cond.instanceMethod ({ cls := "MarkHouse$Reader", name := "<init>", desc := "(LMarkHouse$Lexemes;LMarkHouse$Program;LMarkHouse$Fault;)V" } : Jvm.MethodName)) ∈ lw_all := lw_g (lw_at lw_m3 83 rfl) rfl
theorem q806 : (Jvm.Cond.code ({ cls := "MarkHouse$Reader", name := "<init>", desc := "(LMarkHouse$Lexemes;LMarkHouse$Program;LMarkHouse$Fault;)V" } : Jvm.MethodName) prog_12_method_1_code (4 : Nat) (Option.none : Option Jvm.ClassFile.FieldType)) ∈ lw_all := lw_g (lw_at lw_m3 84 rfl) rfl
theorem q807 : (Jvm.Cond.methodLink "MarkHouse$Reader" (3 : Nat) ({ cls := "java/lang/Object", name := "<init>", desc := "()V" } : Jvm.MethodName)) ∈ lw_all := lw_g (lw_at lw_m3 85 rfl) rfl
theorem q808 : (Jvm.Cond.fieldLink "MarkHouse$Reader" (15 : Nat) "MarkHouse$Reader" "row" "LMarkHouse$Lexemes;") ∈ lw_all := lw_g (lw_at lw_m3 86 rfl) rfl
theorem q809 : (Jvm.Cond.fieldLink "MarkHouse$Reader" (19 : Nat) "MarkHouse$Reader" "made" "LMarkHouse$Program;") ∈ lw_all := lw_g (lw_at lw_m3 87 rfl) rfl
theorem q810 : (Jvm.Cond.fieldLink "MarkHouse$Reader" (23 : Nat) "MarkHouse$Reader" "fault" "LMarkHouse$Fault;") ∈ lw_all := lw_g (lw_at lw_m3 88 rfl) rfl
theorem q811 : (Jvm.Cond.fieldLink "MarkHouse$Reader" (288 : Nat) "MarkHouse$Reader" "method" "I") ∈ lw_all := lw_g (lw_at lw_m3 89 rfl) rfl
theorem q812 : (Jvm.Cond.fieldLink "MarkHouse$Reader" (302 : Nat) "MarkHouse$Reader" "acts" "I") ∈ lw_all := lw_g (lw_at lw_m3 90 rfl) rfl
theorem q813 : (Jvm.Cond.fieldLink "MarkHouse$Reader" (9 : Nat) "MarkHouse$Reader" "waits" "[Z") ∈ lw_all := lw_g (lw_at lw_m3 91 rfl) rfl
theorem q814 : (Jvm.Cond.laysFinal "MarkHouse$Reader" "MarkHouse$Reader" "row" "LMarkHouse$Lexemes;") ∈ lw_all := lw_g (lw_at lw_m3 92 rfl) rfl
theorem q815 : (Jvm.Cond.soleField "MarkHouse$Reader" "row") ∈ lw_all := lw_g (lw_at lw_m3 93 rfl) rfl
theorem q816 : (Jvm.Cond.laysFinal "MarkHouse$Reader" "MarkHouse$Reader" "made" "LMarkHouse$Program;") ∈ lw_all := lw_g (lw_at lw_m3 94 rfl) rfl
theorem q817 : (Jvm.Cond.soleField "MarkHouse$Reader" "made") ∈ lw_all := lw_g (lw_at lw_m3 95 rfl) rfl
theorem q818 : (Jvm.Cond.laysFinal "MarkHouse$Reader" "MarkHouse$Reader" "fault" "LMarkHouse$Fault;") ∈ lw_all := lw_g (lw_at lw_m3 96 rfl) rfl
theorem q819 : (Jvm.Cond.soleField "MarkHouse$Reader" "fault") ∈ lw_all := lw_g (lw_at lw_m3 97 rfl) rfl
theorem q820 : (Jvm.Cond.lays "MarkHouse$Reader" "MarkHouse$Reader" "method" "I") ∈ lw_all := lw_g (lw_at lw_m3 98 rfl) rfl
theorem q821 : (Jvm.Cond.soleField "MarkHouse$Reader" "method") ∈ lw_all := lw_g (lw_at lw_m3 99 rfl) rfl
theorem q822 : (Jvm.Cond.lays "MarkHouse$Reader" "MarkHouse$Reader" "acts" "I") ∈ lw_all := lw_g (lw_at lw_m3 100 rfl) rfl
theorem q823 : (Jvm.Cond.soleField "MarkHouse$Reader" "acts") ∈ lw_all := lw_g (lw_at lw_m3 101 rfl) rfl
theorem q824 : (Jvm.Cond.laysFinal "MarkHouse$Reader" "MarkHouse$Reader" "waits" "[Z") ∈ lw_all := lw_g (lw_at lw_m3 102 rfl) rfl
theorem q825 : (Jvm.Cond.soleField "MarkHouse$Reader" "waits") ∈ lw_all := lw_g (lw_at lw_m3 103 rfl) rfl
theorem q826 : (Jvm.Cond.superclass "MarkHouse$Reader" "java/lang/Object") ∈ lw_all := lw_g (lw_at lw_m3 104 rfl) rfl
theorem q2138 : (Jvm.Cond.instanceMethod ({ cls := "MarkHouse$Reader", name := "read", desc := "()V" } : Jvm.MethodName)) ∈ lw_all := lw_g (lw_at lw_m8 216 rfl) rfl
theorem q2139 : (Jvm.Cond.selects "MarkHouse$Reader" ({ cls := "MarkHouse$Reader", name := "read", desc := "()V" } : Jvm.MethodName) ({ cls := "MarkHouse$Reader", name := "read", desc := "()V" } : Jvm.MethodName)) ∈ lw_all := lw_g (lw_at lw_m8 217 rfl) rfl
theorem q2140 : (Jvm.Cond.code ({ cls := "MarkHouse$Reader", name := "read", desc := "()V" } : Jvm.MethodName) prog_12_method_11_code (2 : Nat) (Option.none : Option Jvm.ClassFile.FieldType)) ∈ lw_all := lw_g (lw_at lw_m8 218 rfl) rfl
theorem q2141 : (Jvm.Cond.methodLink "MarkHouse$Reader" (79 : Nat) ({ cls := "MarkHouse$Program", name := "clear", desc := "()V" } : Jvm.MethodName)) ∈ lw_all := lw_g (lw_at lw_m8 219 rfl) rfl
theorem q2142 : (Jvm.Cond.methodLink "MarkHouse$Reader" (57 : Nat) ({ cls := "MarkHouse$Reader", name := "takesWord", desc := "(I)Z" } : Jvm.MethodName)) ∈ lw_all := lw_g (lw_at lw_m8 220 rfl) rfl
theorem q2143 : (Jvm.Cond.privateMethod ({ cls := "MarkHouse$Reader", name := "takesWord", desc := "(I)Z" } : Jvm.MethodName)) ∈ lw_tbl := lw_at lw_m8 221 rfl
theorem q2144 : (Jvm.Cond.instanceMethod ({ cls := "MarkHouse$Reader", name := "takesWord", desc := "(I)Z" } : Jvm.MethodName)) ∈ lw_all := lw_g (lw_at lw_m8 222 rfl) rfl
theorem q2145 : (Jvm.Cond.code ({ cls := "MarkHouse$Reader", name := "takesWord", desc := "(I)Z" } : Jvm.MethodName) prog_12_method_6_code (2 : Nat) (Option.some Jvm.ClassFile.FieldType.boolean)) ∈ lw_all := lw_g (lw_at lw_m8 223 rfl) rfl
theorem q2146 : (Jvm.Cond.methodLink "MarkHouse$Reader" (54 : Nat) ({ cls := "MarkHouse$Lexemes", name := "isWord", desc := "(I)Z" } : Jvm.MethodName)) ∈ lw_all := lw_g (lw_at lw_m8 224 rfl) rfl
theorem q2150 : (Jvm.Cond.methodLink "MarkHouse$Reader" (46 : Nat) ({ cls := "MarkHouse$Lexemes", name := "takes", desc := "(Z)Z" } : Jvm.MethodName)) ∈ lw_all := lw_g (lw_at lw_m8 228 rfl) rfl
theorem q2154 : (Jvm.Cond.methodLink "MarkHouse$Reader" (84 : Nat) ({ cls := "MarkHouse$Reader", name := "order", desc := "()V" } : Jvm.MethodName)) ∈ lw_all := lw_g (lw_at lw_m8 232 rfl) rfl
theorem q2155 : (Jvm.Cond.privateMethod ({ cls := "MarkHouse$Reader", name := "order", desc := "()V" } : Jvm.MethodName)) ∈ lw_tbl := lw_at lw_m8 233 rfl
theorem q2156 : (Jvm.Cond.instanceMethod ({ cls := "MarkHouse$Reader", name := "order", desc := "()V" } : Jvm.MethodName)) ∈ lw_all := lw_g (lw_at lw_m8 234 rfl) rfl
theorem q2157 : (Jvm.Cond.code ({ cls := "MarkHouse$Reader", name := "order", desc := "()V" } : Jvm.MethodName) prog_12_method_14_code (7 : Nat) (Option.none : Option Jvm.ClassFile.FieldType)) ∈ lw_all := lw_g (lw_at lw_m8 235 rfl) rfl
theorem q2158 : (Jvm.Cond.methodLink "MarkHouse$Reader" (27 : Nat) ({ cls := "MarkHouse$Lexemes", name := "start", desc := "()I" } : Jvm.MethodName)) ∈ lw_all := lw_g (lw_at lw_m8 236 rfl) rfl
theorem q2162 : (Jvm.Cond.methodLink "MarkHouse$Reader" (127 : Nat) ({ cls := "MarkHouse$Reader", name := "fresh", desc := "(II)J" } : Jvm.MethodName)) ∈ lw_all := lw_g (lw_at lw_m9 0 rfl) rfl
theorem q2163 : (Jvm.Cond.privateMethod ({ cls := "MarkHouse$Reader", name := "fresh", desc := "(II)J" } : Jvm.MethodName)) ∈ lw_tbl := lw_at lw_m9 1 rfl
theorem q2164 : (Jvm.Cond.instanceMethod ({ cls := "MarkHouse$Reader", name := "fresh", desc := "(II)J" } : Jvm.MethodName)) ∈ lw_all := lw_g (lw_at lw_m9 2 rfl) rfl
theorem q2165 : (Jvm.Cond.code ({ cls := "MarkHouse$Reader", name := "fresh", desc := "(II)J" } : Jvm.MethodName) prog_12_method_13_code (5 : Nat) (Option.some Jvm.ClassFile.FieldType.long)) ∈ lw_all := lw_g (lw_at lw_m9 3 rfl) rfl
theorem q2166 : (Jvm.Cond.methodLink "MarkHouse$Reader" (67 : Nat) ({ cls := "MarkHouse$Reader", name := "name", desc := "()J" } : Jvm.MethodName)) ∈ lw_all := lw_g (lw_at lw_m9 4 rfl) rfl
theorem q2167 : (Jvm.Cond.privateMethod ({ cls := "MarkHouse$Reader", name := "name", desc := "()J" } : Jvm.MethodName)) ∈ lw_tbl := lw_at lw_m9 5 rfl
theorem q2168 : (Jvm.Cond.instanceMethod ({ cls := "MarkHouse$Reader", name := "name", desc := "()J" } : Jvm.MethodName)) ∈ lw_all := lw_g (lw_at lw_m9 6 rfl) rfl
theorem q2169 : (Jvm.Cond.code ({ cls := "MarkHouse$Reader", name := "name", desc := "()J" } : Jvm.MethodName) prog_12_method_8_code (1 : Nat) (Option.some Jvm.ClassFile.FieldType.long)) ∈ lw_all := lw_g (lw_at lw_m9 7 rfl) rfl
theorem q2170 : (Jvm.Cond.methodLink "MarkHouse$Reader" (60 : Nat) ({ cls := "MarkHouse$Lexemes", name := "kind", desc := "()I" } : Jvm.MethodName)) ∈ lw_all := lw_g (lw_at lw_m9 8 rfl) rfl
theorem q2174 : (Jvm.Cond.methodLink "MarkHouse$Reader" (50 : Nat) ({ cls := "MarkHouse$Reader", name := "must", desc := "(ZI)V" } : Jvm.MethodName)) ∈ lw_all := lw_g (lw_at lw_m9 12 rfl) rfl
theorem q2175 : (Jvm.Cond.privateMethod ({ cls := "MarkHouse$Reader", name := "must", desc := "(ZI)V" } : Jvm.MethodName)) ∈ lw_tbl := lw_at lw_m9 13 rfl
theorem q2176 : (Jvm.Cond.instanceMethod ({ cls := "MarkHouse$Reader", name := "must", desc := "(ZI)V" } : Jvm.MethodName)) ∈ lw_all := lw_g (lw_at lw_m9 14 rfl) rfl
theorem q2177 : (Jvm.Cond.code ({ cls := "MarkHouse$Reader", name := "must", desc := "(ZI)V" } : Jvm.MethodName) prog_12_method_3_code (3 : Nat) (Option.none : Option Jvm.ClassFile.FieldType)) ∈ lw_all := lw_g (lw_at lw_m9 15 rfl) rfl
theorem q2178 : (Jvm.Cond.methodLink "MarkHouse$Reader" (39 : Nat) ({ cls := "MarkHouse$Reader", name := "fail", desc := "(I)V" } : Jvm.MethodName)) ∈ lw_all := lw_g (lw_at lw_m9 16 rfl) rfl
theorem q2179 : (Jvm.Cond.privateMethod ({ cls := "MarkHouse$Reader", name := "fail", desc := "(I)V" } : Jvm.MethodName)) ∈ lw_tbl := lw_at lw_m9 17 rfl
theorem q2180 : (Jvm.Cond.instanceMethod ({ cls := "MarkHouse$Reader", name := "fail", desc := "(I)V" } : Jvm.MethodName)) ∈ lw_all := lw_g (lw_at lw_m9 18 rfl) rfl
theorem q2181 : (Jvm.Cond.code ({ cls := "MarkHouse$Reader", name := "fail", desc := "(I)V" } : Jvm.MethodName) prog_12_method_2_code (2 : Nat) (Option.none : Option Jvm.ClassFile.FieldType)) ∈ lw_all := lw_g (lw_at lw_m9 19 rfl) rfl
theorem q2182 : (Jvm.Cond.methodLink "MarkHouse$Reader" (33 : Nat) ({ cls := "MarkHouse$Fault", name := "fail", desc := "(II)V" } : Jvm.MethodName)) ∈ lw_all := lw_g (lw_at lw_m9 20 rfl) rfl
theorem q2183 : (Jvm.Cond.methodLink "MarkHouse$Reader" (63 : Nat) ({ cls := "MarkHouse$Lexemes", name := "name", desc := "()J" } : Jvm.MethodName)) ∈ lw_all := lw_g (lw_at lw_m9 21 rfl) rfl
theorem q2187 : (Jvm.Cond.methodLink "MarkHouse$Reader" (114 : Nat) ({ cls := "MarkHouse$Program", name := "isTaken", desc := "(J)Z" } : Jvm.MethodName)) ∈ lw_all := lw_g (lw_at lw_m9 25 rfl) rfl
theorem q2194 : (Jvm.Cond.methodLink "MarkHouse$Reader" (131 : Nat) ({ cls := "MarkHouse$Orders", name := "begin", desc := "()V" } : Jvm.MethodName)) ∈ lw_all := lw_g (lw_at lw_m9 32 rfl) rfl
theorem q2198 : (Jvm.Cond.methodLink "MarkHouse$Reader" (134 : Nat) ({ cls := "MarkHouse$Reader", name := "sign", desc := "(I)V" } : Jvm.MethodName)) ∈ lw_all := lw_g (lw_at lw_m9 36 rfl) rfl
theorem q2199 : (Jvm.Cond.privateMethod ({ cls := "MarkHouse$Reader", name := "sign", desc := "(I)V" } : Jvm.MethodName)) ∈ lw_tbl := lw_at lw_m9 37 rfl
theorem q2200 : (Jvm.Cond.instanceMethod ({ cls := "MarkHouse$Reader", name := "sign", desc := "(I)V" } : Jvm.MethodName)) ∈ lw_all := lw_g (lw_at lw_m9 38 rfl) rfl
theorem q2201 : (Jvm.Cond.code ({ cls := "MarkHouse$Reader", name := "sign", desc := "(I)V" } : Jvm.MethodName) prog_12_method_4_code (2 : Nat) (Option.none : Option Jvm.ClassFile.FieldType)) ∈ lw_all := lw_g (lw_at lw_m9 39 rfl) rfl
theorem q2202 : (Jvm.Cond.methodLink "MarkHouse$Reader" (42 : Nat) ({ cls := "MarkHouse$Lexemes", name := "isSignHere", desc := "(I)Z" } : Jvm.MethodName)) ∈ lw_all := lw_g (lw_at lw_m9 40 rfl) rfl
theorem q2206 : (Jvm.Cond.methodLink "MarkHouse$Reader" (137 : Nat) ({ cls := "MarkHouse$Reader", name := "element", desc := "()I" } : Jvm.MethodName)) ∈ lw_all := lw_g (lw_at lw_m9 44 rfl) rfl
theorem q2207 : (Jvm.Cond.privateMethod ({ cls := "MarkHouse$Reader", name := "element", desc := "()I" } : Jvm.MethodName)) ∈ lw_tbl := lw_at lw_m9 45 rfl
theorem q2208 : (Jvm.Cond.instanceMethod ({ cls := "MarkHouse$Reader", name := "element", desc := "()I" } : Jvm.MethodName)) ∈ lw_all := lw_g (lw_at lw_m9 46 rfl) rfl
theorem q2209 : (Jvm.Cond.code ({ cls := "MarkHouse$Reader", name := "element", desc := "()I" } : Jvm.MethodName) prog_12_method_15_code (6 : Nat) (Option.some Jvm.ClassFile.FieldType.int)) ∈ lw_all := lw_g (lw_at lw_m9 47 rfl) rfl
theorem q2210 : (Jvm.Cond.methodLink "MarkHouse$Reader" (154 : Nat) ({ cls := "MarkHouse$Orders", name := "element", desc := "(IJ)I" } : Jvm.MethodName)) ∈ lw_all := lw_g (lw_at lw_m9 48 rfl) rfl
theorem q2211 : (Jvm.Cond.methodLink "MarkHouse$Reader" (72 : Nat) ({ cls := "MarkHouse$Reader", name := "takesSign", desc := "(I)Z" } : Jvm.MethodName)) ∈ lw_all := lw_g (lw_at lw_m9 49 rfl) rfl
theorem q2212 : (Jvm.Cond.privateMethod ({ cls := "MarkHouse$Reader", name := "takesSign", desc := "(I)Z" } : Jvm.MethodName)) ∈ lw_tbl := lw_at lw_m9 50 rfl
theorem q2213 : (Jvm.Cond.instanceMethod ({ cls := "MarkHouse$Reader", name := "takesSign", desc := "(I)Z" } : Jvm.MethodName)) ∈ lw_all := lw_g (lw_at lw_m9 51 rfl) rfl
theorem q2214 : (Jvm.Cond.code ({ cls := "MarkHouse$Reader", name := "takesSign", desc := "(I)Z" } : Jvm.MethodName) prog_12_method_5_code (2 : Nat) (Option.some Jvm.ClassFile.FieldType.boolean)) ∈ lw_all := lw_g (lw_at lw_m9 52 rfl) rfl
theorem q2215 : (Jvm.Cond.methodLinkNest "MarkHouse$Reader" (143 : Nat) ({ cls := "MarkHouse$Orders", name := "at", desc := "(III)I" } : Jvm.MethodName) "MarkHouse") ∈ lw_tbl := lw_at lw_m9 53 rfl
theorem q2216 : (Jvm.Cond.methodLink "MarkHouse$Reader" (146 : Nat) ({ cls := "MarkHouse$Orders", name := "close", desc := "()Z" } : Jvm.MethodName)) ∈ lw_all := lw_g (lw_at lw_m9 54 rfl) rfl
theorem q2224 : (Jvm.Cond.methodLink "MarkHouse$Reader" (87 : Nat) ({ cls := "MarkHouse$Reader", name := "kind", desc := "()V" } : Jvm.MethodName)) ∈ lw_all := lw_g (lw_at lw_m9 62 rfl) rfl
theorem q2225 : (Jvm.Cond.privateMethod ({ cls := "MarkHouse$Reader", name := "kind", desc := "()V" } : Jvm.MethodName)) ∈ lw_tbl := lw_at lw_m9 63 rfl
theorem q2226 : (Jvm.Cond.instanceMethod ({ cls := "MarkHouse$Reader", name := "kind", desc := "()V" } : Jvm.MethodName)) ∈ lw_all := lw_g (lw_at lw_m9 64 rfl) rfl
theorem q2227 : (Jvm.Cond.code ({ cls := "MarkHouse$Reader", name := "kind", desc := "()V" } : Jvm.MethodName) prog_12_method_16_code (5 : Nat) (Option.none : Option Jvm.ClassFile.FieldType)) ∈ lw_all := lw_g (lw_at lw_m9 65 rfl) rfl
theorem q2228 : (Jvm.Cond.methodLink "MarkHouse$Reader" (169 : Nat) ({ cls := "MarkHouse$Reader", name := "member", desc := "(I)V" } : Jvm.MethodName)) ∈ lw_all := lw_g (lw_at lw_m9 66 rfl) rfl
theorem q2229 : (Jvm.Cond.privateMethod ({ cls := "MarkHouse$Reader", name := "member", desc := "(I)V" } : Jvm.MethodName)) ∈ lw_tbl := lw_at lw_m9 67 rfl
theorem q2230 : (Jvm.Cond.instanceMethod ({ cls := "MarkHouse$Reader", name := "member", desc := "(I)V" } : Jvm.MethodName)) ∈ lw_all := lw_g (lw_at lw_m9 68 rfl) rfl
theorem q2231 : (Jvm.Cond.code ({ cls := "MarkHouse$Reader", name := "member", desc := "(I)V" } : Jvm.MethodName) prog_12_method_18_code (5 : Nat) (Option.none : Option Jvm.ClassFile.FieldType)) ∈ lw_all := lw_g (lw_at lw_m9 69 rfl) rfl
theorem q2232 : (Jvm.Cond.methodLink "MarkHouse$Reader" (190 : Nat) ({ cls := "MarkHouse$Program", name := "member", desc := "(IJ)I" } : Jvm.MethodName)) ∈ lw_all := lw_g (lw_at lw_m9 70 rfl) rfl
theorem q2233 : (Jvm.Cond.methodLink "MarkHouse$Reader" (201 : Nat) ({ cls := "MarkHouse$Reader", name := "value", desc := "(I)J" } : Jvm.MethodName)) ∈ lw_all := lw_g (lw_at lw_m9 71 rfl) rfl
theorem q2234 : (Jvm.Cond.privateMethod ({ cls := "MarkHouse$Reader", name := "value", desc := "(I)J" } : Jvm.MethodName)) ∈ lw_tbl := lw_at lw_m9 72 rfl
theorem q2235 : (Jvm.Cond.instanceMethod ({ cls := "MarkHouse$Reader", name := "value", desc := "(I)J" } : Jvm.MethodName)) ∈ lw_all := lw_g (lw_at lw_m9 73 rfl) rfl
theorem q2236 : (Jvm.Cond.code ({ cls := "MarkHouse$Reader", name := "value", desc := "(I)J" } : Jvm.MethodName) prog_12_method_10_code (7 : Nat) (Option.some Jvm.ClassFile.FieldType.long)) ∈ lw_all := lw_g (lw_at lw_m9 74 rfl) rfl
theorem q2237 : (Jvm.Cond.methodLink "MarkHouse$Reader" (175 : Nat) ({ cls := "MarkHouse$Reader", name := "sortHere", desc := "()I" } : Jvm.MethodName)) ∈ lw_all := lw_g (lw_at lw_m9 75 rfl) rfl
theorem q2238 : (Jvm.Cond.privateMethod ({ cls := "MarkHouse$Reader", name := "sortHere", desc := "()I" } : Jvm.MethodName)) ∈ lw_tbl := lw_at lw_m9 76 rfl
theorem q2239 : (Jvm.Cond.instanceMethod ({ cls := "MarkHouse$Reader", name := "sortHere", desc := "()I" } : Jvm.MethodName)) ∈ lw_all := lw_g (lw_at lw_m9 77 rfl) rfl
theorem q2240 : (Jvm.Cond.code ({ cls := "MarkHouse$Reader", name := "sortHere", desc := "()I" } : Jvm.MethodName) prog_12_method_17_code (1 : Nat) (Option.some Jvm.ClassFile.FieldType.int)) ∈ lw_all := lw_g (lw_at lw_m9 78 rfl) rfl
theorem q2241 : (Jvm.Cond.methodLink "MarkHouse$Reader" (184 : Nat) ({ cls := "MarkHouse$Reader", name := "marks", desc := "(II)V" } : Jvm.MethodName)) ∈ lw_all := lw_g (lw_at lw_m9 79 rfl) rfl
theorem q2242 : (Jvm.Cond.privateMethod ({ cls := "MarkHouse$Reader", name := "marks", desc := "(II)V" } : Jvm.MethodName)) ∈ lw_tbl := lw_at lw_m9 80 rfl
theorem q2243 : (Jvm.Cond.instanceMethod ({ cls := "MarkHouse$Reader", name := "marks", desc := "(II)V" } : Jvm.MethodName)) ∈ lw_all := lw_g (lw_at lw_m9 81 rfl) rfl
theorem q2244 : (Jvm.Cond.code ({ cls := "MarkHouse$Reader", name := "marks", desc := "(II)V" } : Jvm.MethodName) prog_12_method_20_code (4 : Nat) (Option.none : Option Jvm.ClassFile.FieldType)) ∈ lw_all := lw_g (lw_at lw_m9 82 rfl) rfl
theorem q2245 : (Jvm.Cond.methodLink "MarkHouse$Reader" (231 : Nat) ({ cls := "MarkHouse$Reader", name := "mark", desc := "(IIZ)V" } : Jvm.MethodName)) ∈ lw_all := lw_g (lw_at lw_m9 83 rfl) rfl
theorem q2246 : (Jvm.Cond.privateMethod ({ cls := "MarkHouse$Reader", name := "mark", desc := "(IIZ)V" } : Jvm.MethodName)) ∈ lw_tbl := lw_at lw_m9 84 rfl
theorem q2247 : (Jvm.Cond.instanceMethod ({ cls := "MarkHouse$Reader", name := "mark", desc := "(IIZ)V" } : Jvm.MethodName)) ∈ lw_all := lw_g (lw_at lw_m9 85 rfl) rfl
theorem q2248 : (Jvm.Cond.code ({ cls := "MarkHouse$Reader", name := "mark", desc := "(IIZ)V" } : Jvm.MethodName) prog_12_method_21_code (13 : Nat) (Option.none : Option Jvm.ClassFile.FieldType)) ∈ lw_all := lw_g (lw_at lw_m9 86 rfl) rfl
theorem q2249 : (Jvm.Cond.methodLink "MarkHouse$Reader" (235 : Nat) ({ cls := "MarkHouse$Orders", name := "find", desc := "(J)I" } : Jvm.MethodName)) ∈ lw_all := lw_g (lw_at lw_m9 87 rfl) rfl
theorem q2250 : (Jvm.Cond.methodLink "MarkHouse$Reader" (211 : Nat) ({ cls := "MarkHouse$Program", name := "kind", desc := "(J)I" } : Jvm.MethodName)) ∈ lw_all := lw_g (lw_at lw_m9 88 rfl) rfl
theorem q2251 : (Jvm.Cond.methodLink "MarkHouse$Reader" (238 : Nat) ({ cls := "MarkHouse$Marks", name := "many", desc := "(IJ)I" } : Jvm.MethodName)) ∈ lw_all := lw_g (lw_at lw_m9 89 rfl) rfl
theorem q2252 : (Jvm.Cond.methodLink "MarkHouse$Reader" (241 : Nat) ({ cls := "MarkHouse$Marks", name := "add", desc := "(IJI)I" } : Jvm.MethodName)) ∈ lw_all := lw_g (lw_at lw_m9 90 rfl) rfl
theorem q2253 : (Jvm.Cond.constantLong "MarkHouse$Reader" (245 : Nat) (7022237718977445888 : Int64)) ∈ lw_all := lw_g (lw_at lw_m9 91 rfl) rfl
theorem q2254 : (Jvm.Cond.methodLink "MarkHouse$Reader" (247 : Nat) ({ cls := "MarkHouse$Marks", name := "addPair", desc := "(IJIJ)V" } : Jvm.MethodName)) ∈ lw_all := lw_g (lw_at lw_m9 92 rfl) rfl
theorem q2255 : (Jvm.Cond.methodLink "MarkHouse$Reader" (251 : Nat) ({ cls := "MarkHouse$Reader", name := "pairs", desc := "(II)V" } : Jvm.MethodName)) ∈ lw_all := lw_g (lw_at lw_m9 93 rfl) rfl
theorem q2256 : (Jvm.Cond.privateMethod ({ cls := "MarkHouse$Reader", name := "pairs", desc := "(II)V" } : Jvm.MethodName)) ∈ lw_tbl := lw_at lw_m9 94 rfl
theorem q2257 : (Jvm.Cond.instanceMethod ({ cls := "MarkHouse$Reader", name := "pairs", desc := "(II)V" } : Jvm.MethodName)) ∈ lw_all := lw_g (lw_at lw_m9 95 rfl) rfl
theorem q2258 : (Jvm.Cond.code ({ cls := "MarkHouse$Reader", name := "pairs", desc := "(II)V" } : Jvm.MethodName) prog_12_method_22_code (8 : Nat) (Option.none : Option Jvm.ClassFile.FieldType)) ∈ lw_all := lw_g (lw_at lw_m9 96 rfl) rfl
theorem q2259 : (Jvm.Cond.methodLink "MarkHouse$Reader" (254 : Nat) ({ cls := "MarkHouse$Marks", name := "pair", desc := "(IJ)I" } : Jvm.MethodName)) ∈ lw_all := lw_g (lw_at lw_m9 97 rfl) rfl
theorem q2260 : (Jvm.Cond.methodLink "MarkHouse$Reader" (89 : Nat) ({ cls := "MarkHouse$Reader", name := "maker", desc := "()V" } : Jvm.MethodName)) ∈ lw_all := lw_g (lw_at lw_m9 98 rfl) rfl
theorem q2261 : (Jvm.Cond.privateMethod ({ cls := "MarkHouse$Reader", name := "maker", desc := "()V" } : Jvm.MethodName)) ∈ lw_tbl := lw_at lw_m9 99 rfl
theorem q2262 : (Jvm.Cond.instanceMethod ({ cls := "MarkHouse$Reader", name := "maker", desc := "()V" } : Jvm.MethodName)) ∈ lw_all := lw_g (lw_at lw_m9 100 rfl) rfl
theorem q2263 : (Jvm.Cond.code ({ cls := "MarkHouse$Reader", name := "maker", desc := "()V" } : Jvm.MethodName) prog_12_method_19_code (5 : Nat) (Option.none : Option Jvm.ClassFile.FieldType)) ∈ lw_all := lw_g (lw_at lw_m9 101 rfl) rfl
theorem q2264 : (Jvm.Cond.methodLink "MarkHouse$Reader" (214 : Nat) ({ cls := "MarkHouse$Reader", name := "word", desc := "(I)V" } : Jvm.MethodName)) ∈ lw_all := lw_g (lw_at lw_m9 102 rfl) rfl
theorem q2265 : (Jvm.Cond.privateMethod ({ cls := "MarkHouse$Reader", name := "word", desc := "(I)V" } : Jvm.MethodName)) ∈ lw_tbl := lw_at lw_m9 103 rfl
theorem q2266 : (Jvm.Cond.instanceMethod ({ cls := "MarkHouse$Reader", name := "word", desc := "(I)V" } : Jvm.MethodName)) ∈ lw_all := lw_g (lw_at lw_m9 104 rfl) rfl
theorem q2267 : (Jvm.Cond.code ({ cls := "MarkHouse$Reader", name := "word", desc := "(I)V" } : Jvm.MethodName) prog_12_method_7_code (2 : Nat) (Option.none : Option Jvm.ClassFile.FieldType)) ∈ lw_all := lw_g (lw_at lw_m9 105 rfl) rfl
theorem q2268 : (Jvm.Cond.methodLink "MarkHouse$Reader" (92 : Nat) ({ cls := "MarkHouse$Reader", name := "cls", desc := "()V" } : Jvm.MethodName)) ∈ lw_all := lw_g (lw_at lw_m9 106 rfl) rfl
theorem q2269 : (Jvm.Cond.privateMethod ({ cls := "MarkHouse$Reader", name := "cls", desc := "()V" } : Jvm.MethodName)) ∈ lw_tbl := lw_at lw_m9 107 rfl
theorem q2270 : (Jvm.Cond.instanceMethod ({ cls := "MarkHouse$Reader", name := "cls", desc := "()V" } : Jvm.MethodName)) ∈ lw_all := lw_g (lw_at lw_m9 108 rfl) rfl
theorem q2271 : (Jvm.Cond.code ({ cls := "MarkHouse$Reader", name := "cls", desc := "()V" } : Jvm.MethodName) prog_12_method_23_code (4 : Nat) (Option.none : Option Jvm.ClassFile.FieldType)) ∈ lw_all := lw_g (lw_at lw_m9 109 rfl) rfl
theorem q2272 : (Jvm.Cond.methodLink "MarkHouse$Reader" (263 : Nat) ({ cls := "MarkHouse$Program", name := "cls", desc := "(J)I" } : Jvm.MethodName)) ∈ lw_all := lw_g (lw_at lw_m9 110 rfl) rfl
theorem q2273 : (Jvm.Cond.methodLink "MarkHouse$Reader" (268 : Nat) ({ cls := "MarkHouse$Reader", name := "field", desc := "(I)V" } : Jvm.MethodName)) ∈ lw_all := lw_g (lw_at lw_m9 111 rfl) rfl
theorem q2274 : (Jvm.Cond.privateMethod ({ cls := "MarkHouse$Reader", name := "field", desc := "(I)V" } : Jvm.MethodName)) ∈ lw_tbl := lw_at lw_m9 112 rfl
theorem q2275 : (Jvm.Cond.instanceMethod ({ cls := "MarkHouse$Reader", name := "field", desc := "(I)V" } : Jvm.MethodName)) ∈ lw_all := lw_g (lw_at lw_m9 113 rfl) rfl
theorem q2276 : (Jvm.Cond.code ({ cls := "MarkHouse$Reader", name := "field", desc := "(I)V" } : Jvm.MethodName) prog_12_method_24_code (5 : Nat) (Option.none : Option Jvm.ClassFile.FieldType)) ∈ lw_all := lw_g (lw_at lw_m9 114 rfl) rfl
theorem q2277 : (Jvm.Cond.methodLink "MarkHouse$Reader" (274 : Nat) ({ cls := "MarkHouse$Program", name := "field", desc := "(IJ)I" } : Jvm.MethodName)) ∈ lw_all := lw_g (lw_at lw_m9 115 rfl) rfl
theorem q2281 : (Jvm.Cond.methodLink "MarkHouse$Reader" (276 : Nat) ({ cls := "MarkHouse$Program", name := "ofField", desc := "(I)I" } : Jvm.MethodName)) ∈ lw_all := lw_g (lw_at lw_m9 119 rfl) rfl
theorem q2282 : (Jvm.Cond.methodLink "MarkHouse$Reader" (271 : Nat) ({ cls := "MarkHouse$Reader", name := "method", desc := "(I)V" } : Jvm.MethodName)) ∈ lw_all := lw_g (lw_at lw_m9 120 rfl) rfl
theorem q2283 : (Jvm.Cond.privateMethod ({ cls := "MarkHouse$Reader", name := "method", desc := "(I)V" } : Jvm.MethodName)) ∈ lw_tbl := lw_at lw_m9 121 rfl
theorem q2284 : (Jvm.Cond.instanceMethod ({ cls := "MarkHouse$Reader", name := "method", desc := "(I)V" } : Jvm.MethodName)) ∈ lw_all := lw_g (lw_at lw_m9 122 rfl) rfl
theorem q2285 : (Jvm.Cond.code ({ cls := "MarkHouse$Reader", name := "method", desc := "(I)V" } : Jvm.MethodName) prog_12_method_25_code (5 : Nat) (Option.none : Option Jvm.ClassFile.FieldType)) ∈ lw_all := lw_g (lw_at lw_m9 123 rfl) rfl
theorem q2286 : (Jvm.Cond.methodLink "MarkHouse$Reader" (286 : Nat) ({ cls := "MarkHouse$Program", name := "method", desc := "(IJ)I" } : Jvm.MethodName)) ∈ lw_all := lw_g (lw_at lw_m9 124 rfl) rfl
theorem q2287 : (Jvm.Cond.methodLink "MarkHouse$Reader" (296 : Nat) ({ cls := "MarkHouse$Reader", name := "parameter", desc := "()V" } : Jvm.MethodName)) ∈ lw_all := lw_g (lw_at lw_m9 125 rfl) rfl
theorem q2288 : (Jvm.Cond.privateMethod ({ cls := "MarkHouse$Reader", name := "parameter", desc := "()V" } : Jvm.MethodName)) ∈ lw_tbl := lw_at lw_m9 126 rfl
theorem q2289 : (Jvm.Cond.instanceMethod ({ cls := "MarkHouse$Reader", name := "parameter", desc := "()V" } : Jvm.MethodName)) ∈ lw_all := lw_g (lw_at lw_m9 127 rfl) rfl
theorem q2290 : (Jvm.Cond.code ({ cls := "MarkHouse$Reader", name := "parameter", desc := "()V" } : Jvm.MethodName) prog_12_method_26_code (3 : Nat) (Option.none : Option Jvm.ClassFile.FieldType)) ∈ lw_all := lw_g (lw_at lw_m9 128 rfl) rfl
theorem q2291 : (Jvm.Cond.methodLink "MarkHouse$Reader" (313 : Nat) ({ cls := "MarkHouse$Program", name := "local", desc := "(IJ)I" } : Jvm.MethodName)) ∈ lw_all := lw_g (lw_at lw_m9 129 rfl) rfl
theorem q2295 : (Jvm.Cond.methodLink "MarkHouse$Reader" (299 : Nat) ({ cls := "MarkHouse$Program", name := "ofMethod", desc := "(I)I" } : Jvm.MethodName)) ∈ lw_all := lw_g (lw_at lw_m9 133 rfl) rfl
theorem q2296 : (Jvm.Cond.methodLink "MarkHouse$Reader" (305 : Nat) ({ cls := "MarkHouse$Reader", name := "act", desc := "()V" } : Jvm.MethodName)) ∈ lw_all := lw_g (lw_at lw_m9 134 rfl) rfl
theorem q2297 : (Jvm.Cond.privateMethod ({ cls := "MarkHouse$Reader", name := "act", desc := "()V" } : Jvm.MethodName)) ∈ lw_tbl := lw_at lw_m9 135 rfl
theorem q2298 : (Jvm.Cond.instanceMethod ({ cls := "MarkHouse$Reader", name := "act", desc := "()V" } : Jvm.MethodName)) ∈ lw_all := lw_g (lw_at lw_m9 136 rfl) rfl
theorem q2299 : (Jvm.Cond.code ({ cls := "MarkHouse$Reader", name := "act", desc := "()V" } : Jvm.MethodName) prog_12_method_28_code (4 : Nat) (Option.none : Option Jvm.ClassFile.FieldType)) ∈ lw_all := lw_g (lw_at lw_m9 137 rfl) rfl
theorem q2300 : (Jvm.Cond.methodLink "MarkHouse$Reader" (319 : Nat) ({ cls := "MarkHouse$Reader", name := "isAct", desc := "()Z" } : Jvm.MethodName)) ∈ lw_all := lw_g (lw_at lw_m9 138 rfl) rfl
theorem q2301 : (Jvm.Cond.privateMethod ({ cls := "MarkHouse$Reader", name := "isAct", desc := "()Z" } : Jvm.MethodName)) ∈ lw_tbl := lw_at lw_m9 139 rfl
theorem q2302 : (Jvm.Cond.instanceMethod ({ cls := "MarkHouse$Reader", name := "isAct", desc := "()Z" } : Jvm.MethodName)) ∈ lw_all := lw_g (lw_at lw_m9 140 rfl) rfl
theorem q2303 : (Jvm.Cond.code ({ cls := "MarkHouse$Reader", name := "isAct", desc := "()Z" } : Jvm.MethodName) prog_12_method_27_code (1 : Nat) (Option.some Jvm.ClassFile.FieldType.boolean)) ∈ lw_all := lw_g (lw_at lw_m9 141 rfl) rfl
theorem q2304 : (Jvm.Cond.methodLink "MarkHouse$Reader" (322 : Nat) ({ cls := "MarkHouse$Reader", name := "label", desc := "(J)I" } : Jvm.MethodName)) ∈ lw_all := lw_g (lw_at lw_m9 142 rfl) rfl
theorem q2305 : (Jvm.Cond.privateMethod ({ cls := "MarkHouse$Reader", name := "label", desc := "(J)I" } : Jvm.MethodName)) ∈ lw_tbl := lw_at lw_m9 143 rfl
theorem q2306 : (Jvm.Cond.instanceMethod ({ cls := "MarkHouse$Reader", name := "label", desc := "(J)I" } : Jvm.MethodName)) ∈ lw_all := lw_g (lw_at lw_m9 144 rfl) rfl
theorem q2307 : (Jvm.Cond.code ({ cls := "MarkHouse$Reader", name := "label", desc := "(J)I" } : Jvm.MethodName) prog_12_method_29_code (4 : Nat) (Option.some Jvm.ClassFile.FieldType.int)) ∈ lw_all := lw_g (lw_at lw_m9 145 rfl) rfl
theorem q2308 : (Jvm.Cond.methodLink "MarkHouse$Reader" (341 : Nat) ({ cls := "MarkHouse$Reader", name := "rest", desc := "(I)V" } : Jvm.MethodName)) ∈ lw_all := lw_g (lw_at lw_m9 146 rfl) rfl
theorem q2309 : (Jvm.Cond.privateMethod ({ cls := "MarkHouse$Reader", name := "rest", desc := "(I)V" } : Jvm.MethodName)) ∈ lw_tbl := lw_at lw_m9 147 rfl
theorem q2310 : (Jvm.Cond.instanceMethod ({ cls := "MarkHouse$Reader", name := "rest", desc := "(I)V" } : Jvm.MethodName)) ∈ lw_all := lw_g (lw_at lw_m9 148 rfl) rfl
theorem q2311 : (Jvm.Cond.code ({ cls := "MarkHouse$Reader", name := "rest", desc := "(I)V" } : Jvm.MethodName) prog_12_method_30_code (2 : Nat) (Option.none : Option Jvm.ClassFile.FieldType)) ∈ lw_all := lw_g (lw_at lw_m9 149 rfl) rfl
theorem q2312 : (Jvm.Cond.methodLink "MarkHouse$Reader" (344 : Nat) ({ cls := "MarkHouse$Reader", name := "elements", desc := "(I)V" } : Jvm.MethodName)) ∈ lw_all := lw_g (lw_at lw_m9 150 rfl) rfl
theorem q2313 : (Jvm.Cond.privateMethod ({ cls := "MarkHouse$Reader", name := "elements", desc := "(I)V" } : Jvm.MethodName)) ∈ lw_tbl := lw_at lw_m9 151 rfl
theorem q2314 : (Jvm.Cond.instanceMethod ({ cls := "MarkHouse$Reader", name := "elements", desc := "(I)V" } : Jvm.MethodName)) ∈ lw_all := lw_g (lw_at lw_m9 152 rfl) rfl
theorem q2315 : (Jvm.Cond.code ({ cls := "MarkHouse$Reader", name := "elements", desc := "(I)V" } : Jvm.MethodName) prog_12_method_34_code (6 : Nat) (Option.none : Option Jvm.ClassFile.FieldType)) ∈ lw_all := lw_g (lw_at lw_m9 153 rfl) rfl
theorem q2316 : (Jvm.Cond.methodLink "MarkHouse$Reader" (346 : Nat) ({ cls := "MarkHouse$Reader", name := "store", desc := "(I)V" } : Jvm.MethodName)) ∈ lw_all := lw_g (lw_at lw_m9 154 rfl) rfl
theorem q2317 : (Jvm.Cond.privateMethod ({ cls := "MarkHouse$Reader", name := "store", desc := "(I)V" } : Jvm.MethodName)) ∈ lw_tbl := lw_at lw_m9 155 rfl
theorem q2318 : (Jvm.Cond.instanceMethod ({ cls := "MarkHouse$Reader", name := "store", desc := "(I)V" } : Jvm.MethodName)) ∈ lw_all := lw_g (lw_at lw_m9 156 rfl) rfl
theorem q2319 : (Jvm.Cond.code ({ cls := "MarkHouse$Reader", name := "store", desc := "(I)V" } : Jvm.MethodName) prog_12_method_32_code (5 : Nat) (Option.none : Option Jvm.ClassFile.FieldType)) ∈ lw_all := lw_g (lw_at lw_m9 157 rfl) rfl
theorem q2320 : (Jvm.Cond.methodLink "MarkHouse$Reader" (355 : Nat) ({ cls := "MarkHouse$Reader", name := "taken", desc := "()J" } : Jvm.MethodName)) ∈ lw_all := lw_g (lw_at lw_m9 158 rfl) rfl
theorem q2321 : (Jvm.Cond.privateMethod ({ cls := "MarkHouse$Reader", name := "taken", desc := "()J" } : Jvm.MethodName)) ∈ lw_tbl := lw_at lw_m9 159 rfl
theorem q2322 : (Jvm.Cond.instanceMethod ({ cls := "MarkHouse$Reader", name := "taken", desc := "()J" } : Jvm.MethodName)) ∈ lw_all := lw_g (lw_at lw_m9 160 rfl) rfl
theorem q2323 : (Jvm.Cond.code ({ cls := "MarkHouse$Reader", name := "taken", desc := "()J" } : Jvm.MethodName) prog_12_method_9_code (3 : Nat) (Option.some Jvm.ClassFile.FieldType.long)) ∈ lw_all := lw_g (lw_at lw_m9 161 rfl) rfl
theorem q2324 : (Jvm.Cond.methodLink "MarkHouse$Reader" (364 : Nat) ({ cls := "MarkHouse$Reader", name := "goal", desc := "(I)V" } : Jvm.MethodName)) ∈ lw_all := lw_g (lw_at lw_m9 162 rfl) rfl
theorem q2325 : (Jvm.Cond.privateMethod ({ cls := "MarkHouse$Reader", name := "goal", desc := "(I)V" } : Jvm.MethodName)) ∈ lw_tbl := lw_at lw_m9 163 rfl
theorem q2326 : (Jvm.Cond.instanceMethod ({ cls := "MarkHouse$Reader", name := "goal", desc := "(I)V" } : Jvm.MethodName)) ∈ lw_all := lw_g (lw_at lw_m9 164 rfl) rfl
theorem q2327 : (Jvm.Cond.code ({ cls := "MarkHouse$Reader", name := "goal", desc := "(I)V" } : Jvm.MethodName) prog_12_method_31_code (2 : Nat) (Option.none : Option Jvm.ClassFile.FieldType)) ∈ lw_all := lw_g (lw_at lw_m9 165 rfl) rfl
theorem q2328 : (Jvm.Cond.methodLink "MarkHouse$Reader" (367 : Nat) ({ cls := "MarkHouse$Reader", name := "point", desc := "(I)V" } : Jvm.MethodName)) ∈ lw_all := lw_g (lw_at lw_m9 166 rfl) rfl
theorem q2329 : (Jvm.Cond.privateMethod ({ cls := "MarkHouse$Reader", name := "point", desc := "(I)V" } : Jvm.MethodName)) ∈ lw_tbl := lw_at lw_m9 167 rfl
theorem q2330 : (Jvm.Cond.instanceMethod ({ cls := "MarkHouse$Reader", name := "point", desc := "(I)V" } : Jvm.MethodName)) ∈ lw_all := lw_g (lw_at lw_m9 168 rfl) rfl
theorem q2331 : (Jvm.Cond.code ({ cls := "MarkHouse$Reader", name := "point", desc := "(I)V" } : Jvm.MethodName) prog_12_method_33_code (4 : Nat) (Option.none : Option Jvm.ClassFile.FieldType)) ∈ lw_all := lw_g (lw_at lw_m9 169 rfl) rfl
theorem q2332 : (Jvm.Cond.methodLink "MarkHouse$Reader" (95 : Nat) ({ cls := "MarkHouse$Reader", name := "isMethod", desc := "(I)Z" } : Jvm.MethodName)) ∈ lw_all := lw_g (lw_at lw_m9 170 rfl) rfl
theorem q2333 : (Jvm.Cond.privateMethod ({ cls := "MarkHouse$Reader", name := "isMethod", desc := "(I)Z" } : Jvm.MethodName)) ∈ lw_tbl := lw_at lw_m9 171 rfl
theorem q2334 : (Jvm.Cond.instanceMethod ({ cls := "MarkHouse$Reader", name := "isMethod", desc := "(I)Z" } : Jvm.MethodName)) ∈ lw_all := lw_g (lw_at lw_m9 172 rfl) rfl
theorem q2335 : (Jvm.Cond.code ({ cls := "MarkHouse$Reader", name := "isMethod", desc := "(I)Z" } : Jvm.MethodName) prog_12_method_12_code (2 : Nat) (Option.some Jvm.ClassFile.FieldType.boolean)) ∈ lw_all := lw_g (lw_at lw_m9 173 rfl) rfl
theorem q2336 : (Jvm.Cond.methodLink "MarkHouse$Reader" (98 : Nat) ({ cls := "MarkHouse$Reader", name := "resolve", desc := "(I)V" } : Jvm.MethodName)) ∈ lw_all := lw_g (lw_at lw_m9 174 rfl) rfl
theorem q2337 : (Jvm.Cond.privateMethod ({ cls := "MarkHouse$Reader", name := "resolve", desc := "(I)V" } : Jvm.MethodName)) ∈ lw_tbl := lw_at lw_m9 175 rfl
theorem q2338 : (Jvm.Cond.instanceMethod ({ cls := "MarkHouse$Reader", name := "resolve", desc := "(I)V" } : Jvm.MethodName)) ∈ lw_all := lw_g (lw_at lw_m9 176 rfl) rfl
theorem q2339 : (Jvm.Cond.code ({ cls := "MarkHouse$Reader", name := "resolve", desc := "(I)V" } : Jvm.MethodName) prog_12_method_35_code (5 : Nat) (Option.none : Option Jvm.ClassFile.FieldType)) ∈ lw_all := lw_g (lw_at lw_m9 177 rfl) rfl
theorem q2340 : (Jvm.Cond.methodLink "MarkHouse$Reader" (381 : Nat) ({ cls := "MarkHouse$Program", name := "leads", desc := "(I)Z" } : Jvm.MethodName)) ∈ lw_all := lw_g (lw_at lw_m9 178 rfl) rfl
theorem q2341 : (Jvm.Cond.methodLink "MarkHouse$Reader" (389 : Nat) ({ cls := "MarkHouse$Program", name := "methodFrom", desc := "(IJ)I" } : Jvm.MethodName)) ∈ lw_all := lw_g (lw_at lw_m9 179 rfl) rfl
theorem q2342 : (Jvm.Cond.methodLink "MarkHouse$Reader" (392 : Nat) ({ cls := "MarkHouse$Program", name := "fieldFrom", desc := "(IJ)I" } : Jvm.MethodName)) ∈ lw_all := lw_g (lw_at lw_m9 180 rfl) rfl
theorem q2347 : (Jvm.Cond.methodLink "MarkHouse$Reader" (101 : Nat) ({ cls := "MarkHouse$Reader", name := "measure", desc := "(I)V" } : Jvm.MethodName)) ∈ lw_all := lw_g (lw_at lw_m9 185 rfl) rfl
theorem q2348 : (Jvm.Cond.privateMethod ({ cls := "MarkHouse$Reader", name := "measure", desc := "(I)V" } : Jvm.MethodName)) ∈ lw_tbl := lw_at lw_m9 186 rfl
theorem q2349 : (Jvm.Cond.instanceMethod ({ cls := "MarkHouse$Reader", name := "measure", desc := "(I)V" } : Jvm.MethodName)) ∈ lw_all := lw_g (lw_at lw_m9 187 rfl) rfl
theorem q2350 : (Jvm.Cond.code ({ cls := "MarkHouse$Reader", name := "measure", desc := "(I)V" } : Jvm.MethodName) prog_12_method_37_code (7 : Nat) (Option.none : Option Jvm.ClassFile.FieldType)) ∈ lw_all := lw_g (lw_at lw_m9 188 rfl) rfl
theorem q2351 : (Jvm.Cond.methodLink "MarkHouse$Reader" (398 : Nat) ({ cls := "MarkHouse$Program", name := "takes", desc := "(I)I" } : Jvm.MethodName)) ∈ lw_all := lw_g (lw_at lw_m9 189 rfl) rfl
theorem q2352 : (Jvm.Cond.methodLink "MarkHouse$Reader" (400 : Nat) ({ cls := "MarkHouse$Program", name := "gives", desc := "(I)I" } : Jvm.MethodName)) ∈ lw_all := lw_g (lw_at lw_m9 190 rfl) rfl
theorem q2353 : (Jvm.Cond.methodLink "MarkHouse$Reader" (403 : Nat) ({ cls := "MarkHouse$Reader", name := "coded", desc := "(ZI)V" } : Jvm.MethodName)) ∈ lw_all := lw_g (lw_at lw_m9 191 rfl) rfl
theorem q2354 : (Jvm.Cond.privateMethod ({ cls := "MarkHouse$Reader", name := "coded", desc := "(ZI)V" } : Jvm.MethodName)) ∈ lw_tbl := lw_at lw_m9 192 rfl
theorem q2355 : (Jvm.Cond.instanceMethod ({ cls := "MarkHouse$Reader", name := "coded", desc := "(ZI)V" } : Jvm.MethodName)) ∈ lw_all := lw_g (lw_at lw_m9 193 rfl) rfl
theorem q2356 : (Jvm.Cond.code ({ cls := "MarkHouse$Reader", name := "coded", desc := "(ZI)V" } : Jvm.MethodName) prog_12_method_36_code (3 : Nat) (Option.none : Option Jvm.ClassFile.FieldType)) ∈ lw_all := lw_g (lw_at lw_m9 194 rfl) rfl
theorem q2357 : (Jvm.Cond.methodLink "MarkHouse$Reader" (406 : Nat) ({ cls := "MarkHouse$Program", name := "falls", desc := "(I)Z" } : Jvm.MethodName)) ∈ lw_all := lw_g (lw_at lw_m9 195 rfl) rfl
theorem q2358 : (Jvm.Cond.methodLink "MarkHouse$Reader" (409 : Nat) ({ cls := "MarkHouse$Reader", name := "comes", desc := "(III)V" } : Jvm.MethodName)) ∈ lw_all := lw_g (lw_at lw_m9 196 rfl) rfl
theorem q2359 : (Jvm.Cond.privateMethod ({ cls := "MarkHouse$Reader", name := "comes", desc := "(III)V" } : Jvm.MethodName)) ∈ lw_tbl := lw_at lw_m9 197 rfl
theorem q2360 : (Jvm.Cond.instanceMethod ({ cls := "MarkHouse$Reader", name := "comes", desc := "(III)V" } : Jvm.MethodName)) ∈ lw_all := lw_g (lw_at lw_m9 198 rfl) rfl
theorem q2361 : (Jvm.Cond.code ({ cls := "MarkHouse$Reader", name := "comes", desc := "(III)V" } : Jvm.MethodName) prog_12_method_38_code (4 : Nat) (Option.none : Option Jvm.ClassFile.FieldType)) ∈ lw_all := lw_g (lw_at lw_m9 199 rfl) rfl
theorem q2362 : (Jvm.Cond.methodLink "MarkHouse$Reader" (413 : Nat) ({ cls := "java/lang/Math", name := "min", desc := "(II)I" } : Jvm.MethodName)) ∈ lw_all := lw_g (lw_at lw_m9 200 rfl) rfl
theorem in_X8 : ∀ w ∈ wsX80, w ∈ lw_all := lw_in wsX80 [814, 816, 818, 820, 822, 824] (by decide +kernel) (by decide +kernel)
/-! MarkHouse$Passing -/
set_option maxRecDepth 100000
def RX9 : String := "MarkHouse$Passing"
def TX9 : u_T := fun k => match k with
  | 0 => ("MarkHouse$Passing", "made", "LMarkHouse$Program;", true)
  | 1 => ("MarkHouse$Passing", "marks", "LMarkHouse$Marks;", true)
  | 2 => ("MarkHouse$Passing", "row", "I", false)
  | 3 => ("MarkHouse$Passing", "first", "I", false)
  | 4 => ("MarkHouse$Passing", "many", "I", false)
  | 5 => ("MarkHouse$Passing", "steps", "I", false)
  | 6 => ("MarkHouse$Passing", "isGiven", "Z", false)
  | 7 => ("MarkHouse$Passing", "clashes", "Z", false)
  | 8 => ("MarkHouse$Passing", "found", "[[I", true)
  | 9 => ("MarkHouse$Passing", "givens", "[I", true)
  | 10 => ("MarkHouse$Passing", "isKnown", "Z", false)
  | _ => ("MarkHouse$Passing", "has", "[Z", true)
def tyX9 : Nat → FieldType := fun k => match k with
  | 0 => .object "MarkHouse$Program"
  | 1 => .object "MarkHouse$Marks"
  | 2 => .int
  | 3 => .int
  | 4 => .int
  | 5 => .int
  | 6 => .boolean
  | 7 => .boolean
  | 8 => .array (.array .int)
  | 9 => .array .int
  | 10 => .boolean
  | _ => .array .boolean
abbrev wsX90 : List Cond := u_ws RX9 TX9 12
theorem nmX9 : ∀ a, a < 12 → ∀ b, b < 12 → a ≠ b → (TX9 a).2.1 ≠ (TX9 b).2.1 := by decide +kernel
theorem tyX9_ok : ∀ k, k < 12 → parseFieldDescriptor (TX9 k).2.2.1 = some (tyX9 k) := by decide +kernel
abbrev cX9_init : ByteArray := prog_10_method_1_code
def yX9_init : MethodName := ⟨RX9, "<init>", "(LMarkHouse$Program;)V"⟩
abbrev cX9_counts : ByteArray := prog_10_method_5_code
def yX9_counts : MethodName := ⟨RX9, "counts", "(II)Z"⟩
abbrev cX9_kindOf : ByteArray := prog_10_method_4_code
def yX9_kindOf : MethodName := ⟨RX9, "kindOf", "(J)I"⟩
abbrev cX9_element : ByteArray := prog_10_method_17_code
def yX9_element : MethodName := ⟨RX9, "element", "(II)I"⟩
abbrev cX9_sort : ByteArray := prog_10_method_15_code
def yX9_sort : MethodName := ⟨RX9, "sort", "(III)I"⟩
abbrev cX9_isKind : ByteArray := prog_10_method_2_code
def yX9_isKind : MethodName := ⟨RX9, "isKind", "(I)Z"⟩
abbrev cX9_find : ByteArray := prog_10_method_9_code
def yX9_find : MethodName := ⟨RX9, "find", "(II)I"⟩
abbrev cX9_name : ByteArray := prog_10_method_3_code
def yX9_name : MethodName := ⟨RX9, "name", "(I)J"⟩
abbrev cX9_own : ByteArray := prog_10_method_10_code
def yX9_own : MethodName := ⟨RX9, "own", "(IJ)Z"⟩
abbrev cX9_gives : ByteArray := prog_10_method_12_code
def yX9_gives : MethodName := ⟨RX9, "gives", "(IIJ)Z"⟩
abbrev cX9_isStopped : ByteArray := prog_10_method_11_code
def yX9_isStopped : MethodName := ⟨RX9, "isStopped", "(IJ)Z"⟩
abbrev cX9_givenBy : ByteArray := prog_10_method_8_code
def yX9_givenBy : MethodName := ⟨RX9, "givenBy", "(IIJ)I"⟩
abbrev cX9_know : ByteArray := prog_10_method_6_code
def yX9_know : MethodName := ⟨RX9, "know", "(J)V"⟩
abbrev cX9_given : ByteArray := prog_10_method_7_code
def yX9_given : MethodName := ⟨RX9, "given", "(IJ)I"⟩
abbrev cX9_isAlike : ByteArray := prog_10_method_13_code
def yX9_isAlike : MethodName := ⟨RX9, "isAlike", "(III)Z"⟩
abbrev cX9_value : ByteArray := prog_10_method_16_code
def yX9_value : MethodName := ⟨RX9, "value", "(III)J"⟩
abbrev cX9_mark : ByteArray := prog_10_method_14_code
def yX9_mark : MethodName := ⟨RX9, "mark", "(I)I"⟩
abbrev cX9_markOf : ByteArray := prog_10_method_18_code
def yX9_markOf : MethodName := ⟨RX9, "markOf", "(II)I"⟩
abbrev cX9_rounds : ByteArray := prog_10_method_22_code
def yX9_rounds : MethodName := ⟨RX9, "rounds", "()I"⟩
abbrev cX9_round : ByteArray := prog_10_method_20_code
def yX9_round : MethodName := ⟨RX9, "round", "()Z"⟩
abbrev cX9_adds : ByteArray := prog_10_method_21_code
def yX9_adds : MethodName := ⟨RX9, "adds", "(II)Z"⟩
abbrev cX9_plain : ByteArray := prog_10_method_19_code
def yX9_plain : MethodName := ⟨RX9, "plain", "(I)V"⟩
theorem q255 : (Jvm.Cond.initialized "MarkHouse$Passing") ∈ lw_all := lw_g (lw_at lw_m1 13 rfl) rfl
theorem q448 : (Jvm.Cond.fieldLinkNest "MarkHouse$Passing" (39 : Nat) "MarkHouse$Orders" "count" "I" "MarkHouse") ∈ lw_tbl := lw_at lw_m1 206 rfl
theorem q455 : (Jvm.Cond.fieldLinkNest "MarkHouse$Passing" (48 : Nat) "MarkHouse$Orders" "names" "[J" "MarkHouse") ∈ lw_tbl := lw_at lw_m1 213 rfl
theorem q463 : (Jvm.Cond.fieldLinkNest "MarkHouse$Passing" (191 : Nat) "MarkHouse$Orders" "tops" "[I" "MarkHouse") ∈ lw_tbl := lw_at lw_m1 221 rfl
theorem q504 : (Jvm.Cond.fieldLinkNest "MarkHouse$Passing" (89 : Nat) "MarkHouse$Marks" "counts" "[I" "MarkHouse") ∈ lw_tbl := lw_at lw_m2 22 rfl
theorem q509 : (Jvm.Cond.fieldLinkNest "MarkHouse$Passing" (62 : Nat) "MarkHouse$Marks" "names" "[J" "MarkHouse") ∈ lw_tbl := lw_at lw_m2 27 rfl
theorem q522 : (Jvm.Cond.fieldLinkNest "MarkHouse$Passing" (182 : Nat) "MarkHouse$Marks" "values" "[J" "MarkHouse") ∈ lw_tbl := lw_at lw_m2 40 rfl
theorem q526 : (Jvm.Cond.fieldLinkNest "MarkHouse$Passing" (175 : Nat) "MarkHouse$Marks" "tags" "[B" "MarkHouse") ∈ lw_tbl := lw_at lw_m2 44 rfl
theorem q541 : (Jvm.Cond.fieldLinkNest "MarkHouse$Passing" (35 : Nat) "MarkHouse$Program" "orders" "LMarkHouse$Orders;" "MarkHouse") ∈ lw_tbl := lw_at lw_m2 59 rfl
theorem q551 : (Jvm.Cond.fieldLinkNest "MarkHouse$Passing" (23 : Nat) "MarkHouse$Program" "marks" "LMarkHouse$Marks;" "MarkHouse") ∈ lw_tbl := lw_at lw_m2 69 rfl
theorem q559 : (Jvm.Cond.fieldLinkNest "MarkHouse$Passing" (45 : Nat) "MarkHouse$Program" "kinds" "I" "MarkHouse") ∈ lw_tbl := lw_at lw_m2 77 rfl
theorem q564 : (Jvm.Cond.fieldLinkNest "MarkHouse$Passing" (52 : Nat) "MarkHouse$Program" "kindNames" "[J" "MarkHouse") ∈ lw_tbl := lw_at lw_m2 82 rfl
theorem q569 : (Jvm.Cond.fieldLinkNest "MarkHouse$Passing" (163 : Nat) "MarkHouse$Program" "memberNames" "[J" "MarkHouse") ∈ lw_tbl := lw_at lw_m2 87 rfl
theorem q573 : (Jvm.Cond.fieldLinkNest "MarkHouse$Passing" (179 : Nat) "MarkHouse$Program" "defaults" "[J" "MarkHouse") ∈ lw_tbl := lw_at lw_m2 91 rfl
theorem q578 : (Jvm.Cond.fieldLinkNest "MarkHouse$Passing" (153 : Nat) "MarkHouse$Program" "members" "[I" "MarkHouse") ∈ lw_tbl := lw_at lw_m2 96 rfl
theorem q582 : (Jvm.Cond.fieldLinkNest "MarkHouse$Passing" (172 : Nat) "MarkHouse$Program" "sorts" "[I" "MarkHouse") ∈ lw_tbl := lw_at lw_m2 100 rfl
theorem q585 : (Jvm.Cond.fieldLinkNest "MarkHouse$Passing" (72 : Nat) "MarkHouse$Program" "where" "[I" "MarkHouse") ∈ lw_tbl := lw_at lw_m2 103 rfl
theorem q590 : (Jvm.Cond.fieldLinkNest "MarkHouse$Passing" (169 : Nat) "MarkHouse$Program" "hasDefault" "[Z" "MarkHouse") ∈ lw_tbl := lw_at lw_m2 108 rfl
theorem q593 : (Jvm.Cond.fieldLinkNest "MarkHouse$Passing" (107 : Nat) "MarkHouse$Program" "heirs" "[Z" "MarkHouse") ∈ lw_tbl := lw_at lw_m2 111 rfl
theorem q597 : (Jvm.Cond.fieldLinkNest "MarkHouse$Passing" (75 : Nat) "MarkHouse$Program" "several" "[Z" "MarkHouse") ∈ lw_tbl := lw_at lw_m2 115 rfl
theorem q604 : (Jvm.Cond.fieldLinkNest "MarkHouse$Passing" (194 : Nat) "MarkHouse$Program" "makers" "I" "MarkHouse") ∈ lw_tbl := lw_at lw_m2 122 rfl
theorem q611 : (Jvm.Cond.fieldLinkNest "MarkHouse$Passing" (200 : Nat) "MarkHouse$Program" "makerKinds" "[I" "MarkHouse") ∈ lw_tbl := lw_at lw_m2 129 rfl
theorem q618 : (Jvm.Cond.fieldLinkNest "MarkHouse$Passing" (197 : Nat) "MarkHouse$Program" "classes" "I" "MarkHouse") ∈ lw_tbl := lw_at lw_m2 136 rfl
theorem q828 : (Jvm.Cond.instantiable "MarkHouse$Passing" (12 : Nat)) ∈ lw_all := lw_g (lw_at lw_m3 106 rfl) rfl
theorem q830 : (Jvm.Cond.instanceMethod ({ cls := "MarkHouse$Passing", name := "<init>", desc := "(LMarkHouse$Program;)V" } : Jvm.MethodName)) ∈ lw_all := lw_g (lw_at lw_m3 108 rfl) rfl
theorem q831 : (Jvm.Cond.code ({ cls := "MarkHouse$Passing", name := "<init>", desc := "(LMarkHouse$Program;)V" } : Jvm.MethodName) prog_10_method_1_code (2 : Nat) (Option.none : Option Jvm.ClassFile.FieldType)) ∈ lw_all := lw_g (lw_at lw_m3 109 rfl) rfl
theorem q832 : (Jvm.Cond.methodLink "MarkHouse$Passing" (3 : Nat) ({ cls := "java/lang/Object", name := "<init>", desc := "()V" } : Jvm.MethodName)) ∈ lw_all := lw_g (lw_at lw_m3 110 rfl) rfl
theorem q833 : (Jvm.Cond.classLink "MarkHouse$Passing" (30 : Nat) "[[I") ∈ lw_all := lw_g (lw_at lw_m3 111 rfl) rfl
theorem q835 : (Jvm.Cond.fieldLink "MarkHouse$Passing" (19 : Nat) "MarkHouse$Passing" "made" "LMarkHouse$Program;") ∈ lw_all := lw_g (lw_at lw_m3 113 rfl) rfl
theorem q836 : (Jvm.Cond.fieldLink "MarkHouse$Passing" (29 : Nat) "MarkHouse$Passing" "marks" "LMarkHouse$Marks;") ∈ lw_all := lw_g (lw_at lw_m3 114 rfl) rfl
theorem q837 : (Jvm.Cond.fieldLink "MarkHouse$Passing" (129 : Nat) "MarkHouse$Passing" "row" "I") ∈ lw_all := lw_g (lw_at lw_m3 115 rfl) rfl
theorem q839 : (Jvm.Cond.fieldLink "MarkHouse$Passing" (138 : Nat) "MarkHouse$Passing" "first" "I") ∈ lw_all := lw_g (lw_at lw_m3 117 rfl) rfl
theorem q840 : (Jvm.Cond.fieldLink "MarkHouse$Passing" (121 : Nat) "MarkHouse$Passing" "many" "I") ∈ lw_all := lw_g (lw_at lw_m3 118 rfl) rfl
theorem q841 : (Jvm.Cond.fieldLink "MarkHouse$Passing" (110 : Nat) "MarkHouse$Passing" "steps" "I") ∈ lw_all := lw_g (lw_at lw_m3 119 rfl) rfl
theorem q843 : (Jvm.Cond.fieldLink "MarkHouse$Passing" (132 : Nat) "MarkHouse$Passing" "isGiven" "Z") ∈ lw_all := lw_g (lw_at lw_m3 121 rfl) rfl
theorem q845 : (Jvm.Cond.fieldLink "MarkHouse$Passing" (135 : Nat) "MarkHouse$Passing" "clashes" "Z") ∈ lw_all := lw_g (lw_at lw_m3 123 rfl) rfl
theorem q847 : (Jvm.Cond.fieldLink "MarkHouse$Passing" (32 : Nat) "MarkHouse$Passing" "found" "[[I") ∈ lw_all := lw_g (lw_at lw_m3 125 rfl) rfl
theorem q849 : (Jvm.Cond.fieldLink "MarkHouse$Passing" (9 : Nat) "MarkHouse$Passing" "givens" "[I") ∈ lw_all := lw_g (lw_at lw_m3 127 rfl) rfl
theorem q850 : (Jvm.Cond.fieldLink "MarkHouse$Passing" (82 : Nat) "MarkHouse$Passing" "isKnown" "Z") ∈ lw_all := lw_g (lw_at lw_m3 128 rfl) rfl
theorem q851 : (Jvm.Cond.fieldLink "MarkHouse$Passing" (15 : Nat) "MarkHouse$Passing" "has" "[Z") ∈ lw_all := lw_g (lw_at lw_m3 129 rfl) rfl
theorem q852 : (Jvm.Cond.laysFinal "MarkHouse$Passing" "MarkHouse$Passing" "made" "LMarkHouse$Program;") ∈ lw_all := lw_g (lw_at lw_m3 130 rfl) rfl
theorem q853 : (Jvm.Cond.soleField "MarkHouse$Passing" "made") ∈ lw_all := lw_g (lw_at lw_m3 131 rfl) rfl
theorem q854 : (Jvm.Cond.laysFinal "MarkHouse$Passing" "MarkHouse$Passing" "marks" "LMarkHouse$Marks;") ∈ lw_all := lw_g (lw_at lw_m3 132 rfl) rfl
theorem q855 : (Jvm.Cond.soleField "MarkHouse$Passing" "marks") ∈ lw_all := lw_g (lw_at lw_m3 133 rfl) rfl
theorem q856 : (Jvm.Cond.lays "MarkHouse$Passing" "MarkHouse$Passing" "row" "I") ∈ lw_all := lw_g (lw_at lw_m3 134 rfl) rfl
theorem q857 : (Jvm.Cond.soleField "MarkHouse$Passing" "row") ∈ lw_all := lw_g (lw_at lw_m3 135 rfl) rfl
theorem q858 : (Jvm.Cond.lays "MarkHouse$Passing" "MarkHouse$Passing" "first" "I") ∈ lw_all := lw_g (lw_at lw_m3 136 rfl) rfl
theorem q859 : (Jvm.Cond.soleField "MarkHouse$Passing" "first") ∈ lw_all := lw_g (lw_at lw_m3 137 rfl) rfl
theorem q860 : (Jvm.Cond.lays "MarkHouse$Passing" "MarkHouse$Passing" "many" "I") ∈ lw_all := lw_g (lw_at lw_m3 138 rfl) rfl
theorem q861 : (Jvm.Cond.soleField "MarkHouse$Passing" "many") ∈ lw_all := lw_g (lw_at lw_m3 139 rfl) rfl
theorem q862 : (Jvm.Cond.lays "MarkHouse$Passing" "MarkHouse$Passing" "steps" "I") ∈ lw_all := lw_g (lw_at lw_m3 140 rfl) rfl
theorem q863 : (Jvm.Cond.soleField "MarkHouse$Passing" "steps") ∈ lw_all := lw_g (lw_at lw_m3 141 rfl) rfl
theorem q864 : (Jvm.Cond.lays "MarkHouse$Passing" "MarkHouse$Passing" "isGiven" "Z") ∈ lw_all := lw_g (lw_at lw_m3 142 rfl) rfl
theorem q865 : (Jvm.Cond.soleField "MarkHouse$Passing" "isGiven") ∈ lw_all := lw_g (lw_at lw_m3 143 rfl) rfl
theorem q866 : (Jvm.Cond.lays "MarkHouse$Passing" "MarkHouse$Passing" "clashes" "Z") ∈ lw_all := lw_g (lw_at lw_m3 144 rfl) rfl
theorem q867 : (Jvm.Cond.soleField "MarkHouse$Passing" "clashes") ∈ lw_all := lw_g (lw_at lw_m3 145 rfl) rfl
theorem q868 : (Jvm.Cond.laysFinal "MarkHouse$Passing" "MarkHouse$Passing" "found" "[[I") ∈ lw_all := lw_g (lw_at lw_m3 146 rfl) rfl
theorem q869 : (Jvm.Cond.soleField "MarkHouse$Passing" "found") ∈ lw_all := lw_g (lw_at lw_m3 147 rfl) rfl
theorem q870 : (Jvm.Cond.laysFinal "MarkHouse$Passing" "MarkHouse$Passing" "givens" "[I") ∈ lw_all := lw_g (lw_at lw_m3 148 rfl) rfl
theorem q871 : (Jvm.Cond.soleField "MarkHouse$Passing" "givens") ∈ lw_all := lw_g (lw_at lw_m3 149 rfl) rfl
theorem q872 : (Jvm.Cond.lays "MarkHouse$Passing" "MarkHouse$Passing" "isKnown" "Z") ∈ lw_all := lw_g (lw_at lw_m3 150 rfl) rfl
theorem q873 : (Jvm.Cond.soleField "MarkHouse$Passing" "isKnown") ∈ lw_all := lw_g (lw_at lw_m3 151 rfl) rfl
theorem q874 : (Jvm.Cond.laysFinal "MarkHouse$Passing" "MarkHouse$Passing" "has" "[Z") ∈ lw_all := lw_g (lw_at lw_m3 152 rfl) rfl
theorem q875 : (Jvm.Cond.soleField "MarkHouse$Passing" "has") ∈ lw_all := lw_g (lw_at lw_m3 153 rfl) rfl
theorem q876 : (Jvm.Cond.superclass "MarkHouse$Passing" "java/lang/Object") ∈ lw_all := lw_g (lw_at lw_m3 154 rfl) rfl
theorem q1345 : (Jvm.Cond.instanceMethod ({ cls := "MarkHouse$Passing", name := "counts", desc := "(II)Z" } : Jvm.MethodName)) ∈ lw_all := lw_g (lw_at lw_m5 143 rfl) rfl
theorem q1346 : (Jvm.Cond.selects "MarkHouse$Passing" ({ cls := "MarkHouse$Passing", name := "counts", desc := "(II)Z" } : Jvm.MethodName) ({ cls := "MarkHouse$Passing", name := "counts", desc := "(II)Z" } : Jvm.MethodName)) ∈ lw_all := lw_g (lw_at lw_m5 144 rfl) rfl
theorem q1347 : (Jvm.Cond.code ({ cls := "MarkHouse$Passing", name := "counts", desc := "(II)Z" } : Jvm.MethodName) prog_10_method_5_code (5 : Nat) (Option.some Jvm.ClassFile.FieldType.boolean)) ∈ lw_all := lw_g (lw_at lw_m5 145 rfl) rfl
theorem q1348 : (Jvm.Cond.methodLink "MarkHouse$Passing" (65 : Nat) ({ cls := "MarkHouse$Passing", name := "kindOf", desc := "(J)I" } : Jvm.MethodName)) ∈ lw_all := lw_g (lw_at lw_m5 146 rfl) rfl
theorem q1349 : (Jvm.Cond.instanceMethod ({ cls := "MarkHouse$Passing", name := "kindOf", desc := "(J)I" } : Jvm.MethodName)) ∈ lw_all := lw_g (lw_at lw_m5 147 rfl) rfl
theorem q1350 : (Jvm.Cond.selects "MarkHouse$Passing" ({ cls := "MarkHouse$Passing", name := "kindOf", desc := "(J)I" } : Jvm.MethodName) ({ cls := "MarkHouse$Passing", name := "kindOf", desc := "(J)I" } : Jvm.MethodName)) ∈ lw_all := lw_g (lw_at lw_m5 148 rfl) rfl
theorem q1351 : (Jvm.Cond.code ({ cls := "MarkHouse$Passing", name := "kindOf", desc := "(J)I" } : Jvm.MethodName) prog_10_method_4_code (4 : Nat) (Option.some Jvm.ClassFile.FieldType.int)) ∈ lw_all := lw_g (lw_at lw_m5 149 rfl) rfl
theorem q1352 : (Jvm.Cond.methodLink "MarkHouse$Passing" (55 : Nat) ({ cls := "MarkHouse$Orders", name := "find", desc := "(J)I" } : Jvm.MethodName)) ∈ lw_all := lw_g (lw_at lw_m5 150 rfl) rfl
theorem q1356 : (Jvm.Cond.methodLink "MarkHouse$Passing" (59 : Nat) ({ cls := "MarkHouse$Program", name := "kind", desc := "(J)I" } : Jvm.MethodName)) ∈ lw_all := lw_g (lw_at lw_m5 154 rfl) rfl
theorem q1360 : (Jvm.Cond.methodLink "MarkHouse$Passing" (68 : Nat) ({ cls := "MarkHouse$Program", name := "sort", desc := "(I)I" } : Jvm.MethodName)) ∈ lw_all := lw_g (lw_at lw_m5 158 rfl) rfl
theorem q1363 : (Jvm.Cond.methodLink "MarkHouse$Passing" (78 : Nat) ({ cls := "MarkHouse$Marks", name := "many", desc := "(IJ)I" } : Jvm.MethodName)) ∈ lw_all := lw_g (lw_at lw_m5 161 rfl) rfl
theorem q1373 : (Jvm.Cond.instanceMethod ({ cls := "MarkHouse$Passing", name := "element", desc := "(II)I" } : Jvm.MethodName)) ∈ lw_all := lw_g (lw_at lw_m5 171 rfl) rfl
theorem q1374 : (Jvm.Cond.selects "MarkHouse$Passing" ({ cls := "MarkHouse$Passing", name := "element", desc := "(II)I" } : Jvm.MethodName) ({ cls := "MarkHouse$Passing", name := "element", desc := "(II)I" } : Jvm.MethodName)) ∈ lw_all := lw_g (lw_at lw_m5 172 rfl) rfl
theorem q1375 : (Jvm.Cond.code ({ cls := "MarkHouse$Passing", name := "element", desc := "(II)I" } : Jvm.MethodName) prog_10_method_17_code (5 : Nat) (Option.some Jvm.ClassFile.FieldType.int)) ∈ lw_all := lw_g (lw_at lw_m5 173 rfl) rfl
theorem q1376 : (Jvm.Cond.constantLong "MarkHouse$Passing" (185 : Nat) (7022237718977445888 : Int64)) ∈ lw_all := lw_g (lw_at lw_m5 174 rfl) rfl
theorem q1377 : (Jvm.Cond.methodLink "MarkHouse$Passing" (166 : Nat) ({ cls := "MarkHouse$Marks", name := "pair", desc := "(IJ)I" } : Jvm.MethodName)) ∈ lw_all := lw_g (lw_at lw_m5 175 rfl) rfl
theorem q1382 : (Jvm.Cond.methodLink "MarkHouse$Passing" (187 : Nat) ({ cls := "MarkHouse$Orders", name := "element", desc := "(IJ)I" } : Jvm.MethodName)) ∈ lw_all := lw_g (lw_at lw_m5 180 rfl) rfl
theorem q1387 : (Jvm.Cond.instanceMethod ({ cls := "MarkHouse$Passing", name := "sort", desc := "(III)I" } : Jvm.MethodName)) ∈ lw_all := lw_g (lw_at lw_m5 185 rfl) rfl
theorem q1388 : (Jvm.Cond.selects "MarkHouse$Passing" ({ cls := "MarkHouse$Passing", name := "sort", desc := "(III)I" } : Jvm.MethodName) ({ cls := "MarkHouse$Passing", name := "sort", desc := "(III)I" } : Jvm.MethodName)) ∈ lw_all := lw_g (lw_at lw_m5 186 rfl) rfl
theorem q1389 : (Jvm.Cond.code ({ cls := "MarkHouse$Passing", name := "sort", desc := "(III)I" } : Jvm.MethodName) prog_10_method_15_code (6 : Nat) (Option.some Jvm.ClassFile.FieldType.int)) ∈ lw_all := lw_g (lw_at lw_m5 187 rfl) rfl
theorem q1579 : (Jvm.Cond.instanceMethod ({ cls := "MarkHouse$Passing", name := "isKind", desc := "(I)Z" } : Jvm.MethodName)) ∈ lw_all := lw_g (lw_at lw_m6 137 rfl) rfl
theorem q1580 : (Jvm.Cond.selects "MarkHouse$Passing" ({ cls := "MarkHouse$Passing", name := "isKind", desc := "(I)Z" } : Jvm.MethodName) ({ cls := "MarkHouse$Passing", name := "isKind", desc := "(I)Z" } : Jvm.MethodName)) ∈ lw_all := lw_g (lw_at lw_m6 138 rfl) rfl
theorem q1581 : (Jvm.Cond.code ({ cls := "MarkHouse$Passing", name := "isKind", desc := "(I)Z" } : Jvm.MethodName) prog_10_method_2_code (2 : Nat) (Option.some Jvm.ClassFile.FieldType.boolean)) ∈ lw_all := lw_g (lw_at lw_m6 139 rfl) rfl
theorem q1583 : (Jvm.Cond.instanceMethod ({ cls := "MarkHouse$Passing", name := "find", desc := "(II)I" } : Jvm.MethodName)) ∈ lw_all := lw_g (lw_at lw_m6 141 rfl) rfl
theorem q1584 : (Jvm.Cond.selects "MarkHouse$Passing" ({ cls := "MarkHouse$Passing", name := "find", desc := "(II)I" } : Jvm.MethodName) ({ cls := "MarkHouse$Passing", name := "find", desc := "(II)I" } : Jvm.MethodName)) ∈ lw_all := lw_g (lw_at lw_m6 142 rfl) rfl
theorem q1585 : (Jvm.Cond.code ({ cls := "MarkHouse$Passing", name := "find", desc := "(II)I" } : Jvm.MethodName) prog_10_method_9_code (7 : Nat) (Option.some Jvm.ClassFile.FieldType.int)) ∈ lw_all := lw_g (lw_at lw_m6 143 rfl) rfl
theorem q1586 : (Jvm.Cond.methodLink "MarkHouse$Passing" (103 : Nat) ({ cls := "MarkHouse$Passing", name := "name", desc := "(I)J" } : Jvm.MethodName)) ∈ lw_all := lw_g (lw_at lw_m6 144 rfl) rfl
theorem q1587 : (Jvm.Cond.instanceMethod ({ cls := "MarkHouse$Passing", name := "name", desc := "(I)J" } : Jvm.MethodName)) ∈ lw_all := lw_g (lw_at lw_m6 145 rfl) rfl
theorem q1588 : (Jvm.Cond.selects "MarkHouse$Passing" ({ cls := "MarkHouse$Passing", name := "name", desc := "(I)J" } : Jvm.MethodName) ({ cls := "MarkHouse$Passing", name := "name", desc := "(I)J" } : Jvm.MethodName)) ∈ lw_all := lw_g (lw_at lw_m6 146 rfl) rfl
theorem q1589 : (Jvm.Cond.code ({ cls := "MarkHouse$Passing", name := "name", desc := "(I)J" } : Jvm.MethodName) prog_10_method_3_code (2 : Nat) (Option.some Jvm.ClassFile.FieldType.long)) ∈ lw_all := lw_g (lw_at lw_m6 147 rfl) rfl
theorem q1590 : (Jvm.Cond.methodLink "MarkHouse$Passing" (113 : Nat) ({ cls := "MarkHouse$Passing", name := "own", desc := "(IJ)Z" } : Jvm.MethodName)) ∈ lw_all := lw_g (lw_at lw_m6 148 rfl) rfl
theorem q1591 : (Jvm.Cond.privateMethod ({ cls := "MarkHouse$Passing", name := "own", desc := "(IJ)Z" } : Jvm.MethodName)) ∈ lw_tbl := lw_at lw_m6 149 rfl
theorem q1592 : (Jvm.Cond.instanceMethod ({ cls := "MarkHouse$Passing", name := "own", desc := "(IJ)Z" } : Jvm.MethodName)) ∈ lw_all := lw_g (lw_at lw_m6 150 rfl) rfl
theorem q1593 : (Jvm.Cond.code ({ cls := "MarkHouse$Passing", name := "own", desc := "(IJ)Z" } : Jvm.MethodName) prog_10_method_10_code (6 : Nat) (Option.some Jvm.ClassFile.FieldType.boolean)) ∈ lw_all := lw_g (lw_at lw_m6 151 rfl) rfl
theorem q1594 : (Jvm.Cond.methodLink "MarkHouse$Passing" (92 : Nat) ({ cls := "MarkHouse$Marks", name := "isNo", desc := "(I)Z" } : Jvm.MethodName)) ∈ lw_all := lw_g (lw_at lw_m6 152 rfl) rfl
theorem q1595 : (Jvm.Cond.methodLink "MarkHouse$Passing" (96 : Nat) ({ cls := "MarkHouse$Passing", name := "counts", desc := "(II)Z" } : Jvm.MethodName)) ∈ lw_all := lw_g (lw_at lw_m6 153 rfl) rfl
theorem q1596 : (Jvm.Cond.methodLink "MarkHouse$Passing" (117 : Nat) ({ cls := "MarkHouse$Passing", name := "gives", desc := "(IIJ)Z" } : Jvm.MethodName)) ∈ lw_all := lw_g (lw_at lw_m6 154 rfl) rfl
theorem q1597 : (Jvm.Cond.privateMethod ({ cls := "MarkHouse$Passing", name := "gives", desc := "(IIJ)Z" } : Jvm.MethodName)) ∈ lw_tbl := lw_at lw_m6 155 rfl
theorem q1598 : (Jvm.Cond.instanceMethod ({ cls := "MarkHouse$Passing", name := "gives", desc := "(IIJ)Z" } : Jvm.MethodName)) ∈ lw_all := lw_g (lw_at lw_m6 156 rfl) rfl
theorem q1599 : (Jvm.Cond.code ({ cls := "MarkHouse$Passing", name := "gives", desc := "(IIJ)Z" } : Jvm.MethodName) prog_10_method_12_code (7 : Nat) (Option.some Jvm.ClassFile.FieldType.boolean)) ∈ lw_all := lw_g (lw_at lw_m6 157 rfl) rfl
theorem q1600 : (Jvm.Cond.methodLink "MarkHouse$Passing" (123 : Nat) ({ cls := "MarkHouse$Passing", name := "isStopped", desc := "(IJ)Z" } : Jvm.MethodName)) ∈ lw_all := lw_g (lw_at lw_m6 158 rfl) rfl
theorem q1601 : (Jvm.Cond.privateMethod ({ cls := "MarkHouse$Passing", name := "isStopped", desc := "(IJ)Z" } : Jvm.MethodName)) ∈ lw_tbl := lw_at lw_m6 159 rfl
theorem q1602 : (Jvm.Cond.instanceMethod ({ cls := "MarkHouse$Passing", name := "isStopped", desc := "(IJ)Z" } : Jvm.MethodName)) ∈ lw_all := lw_g (lw_at lw_m6 160 rfl) rfl
theorem q1603 : (Jvm.Cond.code ({ cls := "MarkHouse$Passing", name := "isStopped", desc := "(IJ)Z" } : Jvm.MethodName) prog_10_method_11_code (6 : Nat) (Option.some Jvm.ClassFile.FieldType.boolean)) ∈ lw_all := lw_g (lw_at lw_m6 161 rfl) rfl
theorem q1604 : (Jvm.Cond.methodLink "MarkHouse$Passing" (141 : Nat) ({ cls := "MarkHouse$Passing", name := "givenBy", desc := "(IIJ)I" } : Jvm.MethodName)) ∈ lw_all := lw_g (lw_at lw_m6 162 rfl) rfl
theorem q1605 : (Jvm.Cond.privateMethod ({ cls := "MarkHouse$Passing", name := "givenBy", desc := "(IIJ)I" } : Jvm.MethodName)) ∈ lw_tbl := lw_at lw_m6 163 rfl
theorem q1606 : (Jvm.Cond.instanceMethod ({ cls := "MarkHouse$Passing", name := "givenBy", desc := "(IIJ)I" } : Jvm.MethodName)) ∈ lw_all := lw_g (lw_at lw_m6 164 rfl) rfl
theorem q1607 : (Jvm.Cond.code ({ cls := "MarkHouse$Passing", name := "givenBy", desc := "(IIJ)I" } : Jvm.MethodName) prog_10_method_8_code (6 : Nat) (Option.some Jvm.ClassFile.FieldType.int)) ∈ lw_all := lw_g (lw_at lw_m6 165 rfl) rfl
theorem q1608 : (Jvm.Cond.methodLink "MarkHouse$Passing" (99 : Nat) ({ cls := "MarkHouse$Passing", name := "know", desc := "(J)V" } : Jvm.MethodName)) ∈ lw_all := lw_g (lw_at lw_m6 166 rfl) rfl
theorem q1609 : (Jvm.Cond.privateMethod ({ cls := "MarkHouse$Passing", name := "know", desc := "(J)V" } : Jvm.MethodName)) ∈ lw_tbl := lw_at lw_m6 167 rfl
theorem q1610 : (Jvm.Cond.instanceMethod ({ cls := "MarkHouse$Passing", name := "know", desc := "(J)V" } : Jvm.MethodName)) ∈ lw_all := lw_g (lw_at lw_m6 168 rfl) rfl
theorem q1611 : (Jvm.Cond.code ({ cls := "MarkHouse$Passing", name := "know", desc := "(J)V" } : Jvm.MethodName) prog_10_method_6_code (4 : Nat) (Option.none : Option Jvm.ClassFile.FieldType)) ∈ lw_all := lw_g (lw_at lw_m6 169 rfl) rfl
theorem q1612 : (Jvm.Cond.methodLink "MarkHouse$Passing" (86 : Nat) ({ cls := "MarkHouse$Passing", name := "given", desc := "(IJ)I" } : Jvm.MethodName)) ∈ lw_all := lw_g (lw_at lw_m6 170 rfl) rfl
theorem q1613 : (Jvm.Cond.privateMethod ({ cls := "MarkHouse$Passing", name := "given", desc := "(IJ)I" } : Jvm.MethodName)) ∈ lw_tbl := lw_at lw_m6 171 rfl
theorem q1614 : (Jvm.Cond.instanceMethod ({ cls := "MarkHouse$Passing", name := "given", desc := "(IJ)I" } : Jvm.MethodName)) ∈ lw_all := lw_g (lw_at lw_m6 172 rfl) rfl
theorem q1615 : (Jvm.Cond.code ({ cls := "MarkHouse$Passing", name := "given", desc := "(IJ)I" } : Jvm.MethodName) prog_10_method_7_code (7 : Nat) (Option.some Jvm.ClassFile.FieldType.int)) ∈ lw_all := lw_g (lw_at lw_m6 173 rfl) rfl
theorem q1616 : (Jvm.Cond.methodLink "MarkHouse$Passing" (145 : Nat) ({ cls := "MarkHouse$Passing", name := "isAlike", desc := "(III)Z" } : Jvm.MethodName)) ∈ lw_all := lw_g (lw_at lw_m6 174 rfl) rfl
theorem q1617 : (Jvm.Cond.privateMethod ({ cls := "MarkHouse$Passing", name := "isAlike", desc := "(III)Z" } : Jvm.MethodName)) ∈ lw_tbl := lw_at lw_m6 175 rfl
theorem q1618 : (Jvm.Cond.instanceMethod ({ cls := "MarkHouse$Passing", name := "isAlike", desc := "(III)Z" } : Jvm.MethodName)) ∈ lw_all := lw_g (lw_at lw_m6 176 rfl) rfl
theorem q1619 : (Jvm.Cond.code ({ cls := "MarkHouse$Passing", name := "isAlike", desc := "(III)Z" } : Jvm.MethodName) prog_10_method_13_code (5 : Nat) (Option.some Jvm.ClassFile.FieldType.boolean)) ∈ lw_all := lw_g (lw_at lw_m6 177 rfl) rfl
theorem q1620 : (Jvm.Cond.methodLink "MarkHouse$Passing" (149 : Nat) ({ cls := "MarkHouse$Passing", name := "element", desc := "(II)I" } : Jvm.MethodName)) ∈ lw_all := lw_g (lw_at lw_m6 178 rfl) rfl
theorem q1621 : (Jvm.Cond.methodLink "MarkHouse$Passing" (156 : Nat) ({ cls := "MarkHouse$Passing", name := "sort", desc := "(III)I" } : Jvm.MethodName)) ∈ lw_all := lw_g (lw_at lw_m6 179 rfl) rfl
theorem q1622 : (Jvm.Cond.methodLink "MarkHouse$Passing" (159 : Nat) ({ cls := "MarkHouse$Passing", name := "value", desc := "(III)J" } : Jvm.MethodName)) ∈ lw_all := lw_g (lw_at lw_m6 180 rfl) rfl
theorem q1623 : (Jvm.Cond.instanceMethod ({ cls := "MarkHouse$Passing", name := "value", desc := "(III)J" } : Jvm.MethodName)) ∈ lw_all := lw_g (lw_at lw_m6 181 rfl) rfl
theorem q1624 : (Jvm.Cond.selects "MarkHouse$Passing" ({ cls := "MarkHouse$Passing", name := "value", desc := "(III)J" } : Jvm.MethodName) ({ cls := "MarkHouse$Passing", name := "value", desc := "(III)J" } : Jvm.MethodName)) ∈ lw_all := lw_g (lw_at lw_m6 182 rfl) rfl
theorem q1625 : (Jvm.Cond.code ({ cls := "MarkHouse$Passing", name := "value", desc := "(III)J" } : Jvm.MethodName) prog_10_method_16_code (6 : Nat) (Option.some Jvm.ClassFile.FieldType.long)) ∈ lw_all := lw_g (lw_at lw_m6 183 rfl) rfl
theorem q1626 : (Jvm.Cond.methodLink "MarkHouse$Passing" (126 : Nat) ({ cls := "MarkHouse$Program", name := "above", desc := "(I)I" } : Jvm.MethodName)) ∈ lw_all := lw_g (lw_at lw_m6 184 rfl) rfl
theorem q1653 : (Jvm.Cond.instanceMethod ({ cls := "MarkHouse$Passing", name := "mark", desc := "(I)I" } : Jvm.MethodName)) ∈ lw_all := lw_g (lw_at lw_m6 211 rfl) rfl
theorem q1654 : (Jvm.Cond.selects "MarkHouse$Passing" ({ cls := "MarkHouse$Passing", name := "mark", desc := "(I)I" } : Jvm.MethodName) ({ cls := "MarkHouse$Passing", name := "mark", desc := "(I)I" } : Jvm.MethodName)) ∈ lw_all := lw_g (lw_at lw_m6 212 rfl) rfl
theorem q1655 : (Jvm.Cond.code ({ cls := "MarkHouse$Passing", name := "mark", desc := "(I)I" } : Jvm.MethodName) prog_10_method_14_code (4 : Nat) (Option.some Jvm.ClassFile.FieldType.int)) ∈ lw_all := lw_g (lw_at lw_m6 213 rfl) rfl
theorem q1671 : (Jvm.Cond.instanceMethod ({ cls := "MarkHouse$Passing", name := "markOf", desc := "(II)I" } : Jvm.MethodName)) ∈ lw_all := lw_g (lw_at lw_m6 229 rfl) rfl
theorem q1672 : (Jvm.Cond.selects "MarkHouse$Passing" ({ cls := "MarkHouse$Passing", name := "markOf", desc := "(II)I" } : Jvm.MethodName) ({ cls := "MarkHouse$Passing", name := "markOf", desc := "(II)I" } : Jvm.MethodName)) ∈ lw_all := lw_g (lw_at lw_m6 230 rfl) rfl
theorem q1673 : (Jvm.Cond.code ({ cls := "MarkHouse$Passing", name := "markOf", desc := "(II)I" } : Jvm.MethodName) prog_10_method_18_code (4 : Nat) (Option.some Jvm.ClassFile.FieldType.int)) ∈ lw_all := lw_g (lw_at lw_m6 231 rfl) rfl
theorem q1674 : (Jvm.Cond.methodLink "MarkHouse$Passing" (189 : Nat) ({ cls := "MarkHouse$Passing", name := "find", desc := "(II)I" } : Jvm.MethodName)) ∈ lw_all := lw_g (lw_at lw_m6 232 rfl) rfl
theorem q1680 : (Jvm.Cond.instanceMethod ({ cls := "MarkHouse$Passing", name := "rounds", desc := "()I" } : Jvm.MethodName)) ∈ lw_all := lw_g (lw_at lw_m6 238 rfl) rfl
theorem q1681 : (Jvm.Cond.selects "MarkHouse$Passing" ({ cls := "MarkHouse$Passing", name := "rounds", desc := "()I" } : Jvm.MethodName) ({ cls := "MarkHouse$Passing", name := "rounds", desc := "()I" } : Jvm.MethodName)) ∈ lw_all := lw_g (lw_at lw_m6 239 rfl) rfl
theorem q1682 : (Jvm.Cond.code ({ cls := "MarkHouse$Passing", name := "rounds", desc := "()I" } : Jvm.MethodName) prog_10_method_22_code (2 : Nat) (Option.some Jvm.ClassFile.FieldType.int)) ∈ lw_all := lw_g (lw_at lw_m7 0 rfl) rfl
theorem q1683 : (Jvm.Cond.methodLink "MarkHouse$Passing" (210 : Nat) ({ cls := "MarkHouse$Passing", name := "round", desc := "()Z" } : Jvm.MethodName)) ∈ lw_all := lw_g (lw_at lw_m7 1 rfl) rfl
theorem q1684 : (Jvm.Cond.privateMethod ({ cls := "MarkHouse$Passing", name := "round", desc := "()Z" } : Jvm.MethodName)) ∈ lw_tbl := lw_at lw_m7 2 rfl
theorem q1685 : (Jvm.Cond.instanceMethod ({ cls := "MarkHouse$Passing", name := "round", desc := "()Z" } : Jvm.MethodName)) ∈ lw_all := lw_g (lw_at lw_m7 3 rfl) rfl
theorem q1686 : (Jvm.Cond.code ({ cls := "MarkHouse$Passing", name := "round", desc := "()Z" } : Jvm.MethodName) prog_10_method_20_code (4 : Nat) (Option.some Jvm.ClassFile.FieldType.boolean)) ∈ lw_all := lw_g (lw_at lw_m7 4 rfl) rfl
theorem q1687 : (Jvm.Cond.methodLink "MarkHouse$Passing" (203 : Nat) ({ cls := "MarkHouse$Passing", name := "adds", desc := "(II)Z" } : Jvm.MethodName)) ∈ lw_all := lw_g (lw_at lw_m7 5 rfl) rfl
theorem q1688 : (Jvm.Cond.privateMethod ({ cls := "MarkHouse$Passing", name := "adds", desc := "(II)Z" } : Jvm.MethodName)) ∈ lw_tbl := lw_at lw_m7 6 rfl
theorem q1689 : (Jvm.Cond.instanceMethod ({ cls := "MarkHouse$Passing", name := "adds", desc := "(II)Z" } : Jvm.MethodName)) ∈ lw_all := lw_g (lw_at lw_m7 7 rfl) rfl
theorem q1690 : (Jvm.Cond.code ({ cls := "MarkHouse$Passing", name := "adds", desc := "(II)Z" } : Jvm.MethodName) prog_10_method_21_code (6 : Nat) (Option.some Jvm.ClassFile.FieldType.boolean)) ∈ lw_all := lw_g (lw_at lw_m7 8 rfl) rfl
theorem q1691 : (Jvm.Cond.methodLink "MarkHouse$Passing" (206 : Nat) ({ cls := "MarkHouse$Marks", name := "copy", desc := "(II)V" } : Jvm.MethodName)) ∈ lw_all := lw_g (lw_at lw_m7 9 rfl) rfl
theorem q1841 : (Jvm.Cond.instanceMethod ({ cls := "MarkHouse$Passing", name := "plain", desc := "(I)V" } : Jvm.MethodName)) ∈ lw_all := lw_g (lw_at lw_m7 159 rfl) rfl
theorem q1842 : (Jvm.Cond.selects "MarkHouse$Passing" ({ cls := "MarkHouse$Passing", name := "plain", desc := "(I)V" } : Jvm.MethodName) ({ cls := "MarkHouse$Passing", name := "plain", desc := "(I)V" } : Jvm.MethodName)) ∈ lw_all := lw_g (lw_at lw_m7 160 rfl) rfl
theorem q1843 : (Jvm.Cond.code ({ cls := "MarkHouse$Passing", name := "plain", desc := "(I)V" } : Jvm.MethodName) prog_10_method_19_code (3 : Nat) (Option.none : Option Jvm.ClassFile.FieldType)) ∈ lw_all := lw_g (lw_at lw_m7 161 rfl) rfl
theorem in_X9 : ∀ w ∈ wsX90, w ∈ lw_all := lw_in wsX90 [852, 854, 856, 858, 860, 862, 864, 866, 868, 870, 872, 874] (by decide +kernel) (by decide +kernel)
/-! MarkHouse$Attributes -/
set_option maxRecDepth 100000
def RX10 : String := "MarkHouse$Attributes"
def TX10 : u_T := fun k => match k with
  | 0 => ("MarkHouse$Attributes", "made", "LMarkHouse$Program;", true)
  | 1 => ("MarkHouse$Attributes", "marks", "LMarkHouse$Marks;", true)
  | 2 => ("MarkHouse$Attributes", "tape", "LMarkHouse$Bytes;", false)
  | 3 => ("MarkHouse$Attributes", "at", "I", false)
  | _ => ("MarkHouse$Attributes", "wrong", "I", false)
def tyX10 : Nat → FieldType := fun k => match k with
  | 0 => .object "MarkHouse$Program"
  | 1 => .object "MarkHouse$Marks"
  | 2 => .object "MarkHouse$Bytes"
  | 3 => .int
  | _ => .int
abbrev wsX100 : List Cond := u_ws RX10 TX10 5
theorem nmX10 : ∀ a, a < 5 → ∀ b, b < 5 → a ≠ b → (TX10 a).2.1 ≠ (TX10 b).2.1 := by decide +kernel
theorem tyX10_ok : ∀ k, k < 5 → parseFieldDescriptor (TX10 k).2.2.1 = some (tyX10 k) := by decide +kernel
abbrev cX10_init : ByteArray := prog_2_method_1_code
def yX10_init : MethodName := ⟨RX10, "<init>", "(LMarkHouse$Program;)V"⟩
abbrev cX10_give : ByteArray := prog_2_method_8_code
def yX10_give : MethodName := ⟨RX10, "give", "(ILMarkHouse$Bytes;)I"⟩
abbrev cX10_read : ByteArray := prog_2_method_6_code
def yX10_read : MethodName := ⟨RX10, "read", "(I)I"⟩
abbrev cX10_one : ByteArray := prog_2_method_3_code
def yX10_one : MethodName := ⟨RX10, "one", "(II)I"⟩
abbrev cX10_good : ByteArray := prog_2_method_2_code
def yX10_good : MethodName := ⟨RX10, "good", "()Z"⟩
abbrev cX10_name : ByteArray := prog_2_method_4_code
def yX10_name : MethodName := ⟨RX10, "name", "()J"⟩
abbrev cX10_pair : ByteArray := prog_2_method_7_code
def yX10_pair : MethodName := ⟨RX10, "pair", "(I)V"⟩
abbrev cX10_text : ByteArray := prog_2_method_5_code
def yX10_text : MethodName := ⟨RX10, "text", "()J"⟩
abbrev cX10_write : ByteArray := prog_2_method_11_code
def yX10_write : MethodName := ⟨RX10, "write", "(ILMarkHouse$Bytes;)V"⟩
abbrev cX10_put : ByteArray := prog_2_method_10_code
def yX10_put : MethodName := ⟨RX10, "put", "(LMarkHouse$Bytes;J)V"⟩
abbrev cX10_length : ByteArray := prog_2_method_9_code
def yX10_length : MethodName := ⟨RX10, "length", "(J)I"⟩
theorem q256 : (Jvm.Cond.initialized "MarkHouse$Attributes") ∈ lw_all := lw_g (lw_at lw_m1 14 rfl) rfl
theorem q503 : (Jvm.Cond.fieldLinkNest "MarkHouse$Attributes" (62 : Nat) "MarkHouse$Marks" "counts" "[I" "MarkHouse") ∈ lw_tbl := lw_at lw_m2 21 rfl
theorem q511 : (Jvm.Cond.fieldLinkNest "MarkHouse$Attributes" (109 : Nat) "MarkHouse$Marks" "names" "[J" "MarkHouse") ∈ lw_tbl := lw_at lw_m2 29 rfl
theorem q515 : (Jvm.Cond.fieldLinkNest "MarkHouse$Attributes" (117 : Nat) "MarkHouse$Marks" "pairs" "[I" "MarkHouse") ∈ lw_tbl := lw_at lw_m2 33 rfl
theorem q518 : (Jvm.Cond.fieldLinkNest "MarkHouse$Attributes" (123 : Nat) "MarkHouse$Marks" "pairNames" "[J" "MarkHouse") ∈ lw_tbl := lw_at lw_m2 36 rfl
theorem q520 : (Jvm.Cond.fieldLinkNest "MarkHouse$Attributes" (130 : Nat) "MarkHouse$Marks" "values" "[J" "MarkHouse") ∈ lw_tbl := lw_at lw_m2 38 rfl
theorem q525 : (Jvm.Cond.fieldLinkNest "MarkHouse$Attributes" (126 : Nat) "MarkHouse$Marks" "tags" "[B" "MarkHouse") ∈ lw_tbl := lw_at lw_m2 43 rfl
theorem q549 : (Jvm.Cond.fieldLinkNest "MarkHouse$Attributes" (15 : Nat) "MarkHouse$Program" "marks" "LMarkHouse$Marks;" "MarkHouse") ∈ lw_tbl := lw_at lw_m2 67 rfl
theorem q878 : (Jvm.Cond.instantiable "MarkHouse$Attributes" (5 : Nat)) ∈ lw_all := lw_g (lw_at lw_m3 156 rfl) rfl
theorem q880 : (Jvm.Cond.instanceMethod ({ cls := "MarkHouse$Attributes", name := "<init>", desc := "(LMarkHouse$Program;)V" } : Jvm.MethodName)) ∈ lw_all := lw_g (lw_at lw_m3 158 rfl) rfl
theorem q881 : (Jvm.Cond.code ({ cls := "MarkHouse$Attributes", name := "<init>", desc := "(LMarkHouse$Program;)V" } : Jvm.MethodName) prog_2_method_1_code (2 : Nat) (Option.none : Option Jvm.ClassFile.FieldType)) ∈ lw_all := lw_g (lw_at lw_m3 159 rfl) rfl
theorem q882 : (Jvm.Cond.methodLink "MarkHouse$Attributes" (3 : Nat) ({ cls := "java/lang/Object", name := "<init>", desc := "()V" } : Jvm.MethodName)) ∈ lw_all := lw_g (lw_at lw_m3 160 rfl) rfl
theorem q883 : (Jvm.Cond.fieldLink "MarkHouse$Attributes" (9 : Nat) "MarkHouse$Attributes" "made" "LMarkHouse$Program;") ∈ lw_all := lw_g (lw_at lw_m3 161 rfl) rfl
theorem q884 : (Jvm.Cond.fieldLink "MarkHouse$Attributes" (21 : Nat) "MarkHouse$Attributes" "marks" "LMarkHouse$Marks;") ∈ lw_all := lw_g (lw_at lw_m3 162 rfl) rfl
theorem q885 : (Jvm.Cond.fieldLink "MarkHouse$Attributes" (33 : Nat) "MarkHouse$Attributes" "tape" "LMarkHouse$Bytes;") ∈ lw_all := lw_g (lw_at lw_m3 163 rfl) rfl
theorem q886 : (Jvm.Cond.fieldLink "MarkHouse$Attributes" (30 : Nat) "MarkHouse$Attributes" "at" "I") ∈ lw_all := lw_g (lw_at lw_m3 164 rfl) rfl
theorem q887 : (Jvm.Cond.fieldLink "MarkHouse$Attributes" (22 : Nat) "MarkHouse$Attributes" "wrong" "I") ∈ lw_all := lw_g (lw_at lw_m3 165 rfl) rfl
theorem q888 : (Jvm.Cond.laysFinal "MarkHouse$Attributes" "MarkHouse$Attributes" "made" "LMarkHouse$Program;") ∈ lw_all := lw_g (lw_at lw_m3 166 rfl) rfl
theorem q889 : (Jvm.Cond.soleField "MarkHouse$Attributes" "made") ∈ lw_all := lw_g (lw_at lw_m3 167 rfl) rfl
theorem q890 : (Jvm.Cond.laysFinal "MarkHouse$Attributes" "MarkHouse$Attributes" "marks" "LMarkHouse$Marks;") ∈ lw_all := lw_g (lw_at lw_m3 168 rfl) rfl
theorem q891 : (Jvm.Cond.soleField "MarkHouse$Attributes" "marks") ∈ lw_all := lw_g (lw_at lw_m3 169 rfl) rfl
theorem q892 : (Jvm.Cond.lays "MarkHouse$Attributes" "MarkHouse$Attributes" "tape" "LMarkHouse$Bytes;") ∈ lw_all := lw_g (lw_at lw_m3 170 rfl) rfl
theorem q893 : (Jvm.Cond.soleField "MarkHouse$Attributes" "tape") ∈ lw_all := lw_g (lw_at lw_m3 171 rfl) rfl
theorem q894 : (Jvm.Cond.lays "MarkHouse$Attributes" "MarkHouse$Attributes" "at" "I") ∈ lw_all := lw_g (lw_at lw_m3 172 rfl) rfl
theorem q895 : (Jvm.Cond.soleField "MarkHouse$Attributes" "at") ∈ lw_all := lw_g (lw_at lw_m3 173 rfl) rfl
theorem q896 : (Jvm.Cond.lays "MarkHouse$Attributes" "MarkHouse$Attributes" "wrong" "I") ∈ lw_all := lw_g (lw_at lw_m3 174 rfl) rfl
theorem q897 : (Jvm.Cond.soleField "MarkHouse$Attributes" "wrong") ∈ lw_all := lw_g (lw_at lw_m3 175 rfl) rfl
theorem q898 : (Jvm.Cond.superclass "MarkHouse$Attributes" "java/lang/Object") ∈ lw_all := lw_g (lw_at lw_m3 176 rfl) rfl
theorem q1484 : (Jvm.Cond.instanceMethod ({ cls := "MarkHouse$Attributes", name := "give", desc := "(ILMarkHouse$Bytes;)I" } : Jvm.MethodName)) ∈ lw_all := lw_g (lw_at lw_m6 42 rfl) rfl
theorem q1485 : (Jvm.Cond.selects "MarkHouse$Attributes" ({ cls := "MarkHouse$Attributes", name := "give", desc := "(ILMarkHouse$Bytes;)I" } : Jvm.MethodName) ({ cls := "MarkHouse$Attributes", name := "give", desc := "(ILMarkHouse$Bytes;)I" } : Jvm.MethodName)) ∈ lw_all := lw_g (lw_at lw_m6 43 rfl) rfl
theorem q1486 : (Jvm.Cond.code ({ cls := "MarkHouse$Attributes", name := "give", desc := "(ILMarkHouse$Bytes;)I" } : Jvm.MethodName) prog_2_method_8_code (4 : Nat) (Option.some Jvm.ClassFile.FieldType.int)) ∈ lw_all := lw_g (lw_at lw_m6 44 rfl) rfl
theorem q1487 : (Jvm.Cond.methodLink "MarkHouse$Attributes" (87 : Nat) ({ cls := "MarkHouse$Attributes", name := "read", desc := "(I)I" } : Jvm.MethodName)) ∈ lw_all := lw_g (lw_at lw_m6 45 rfl) rfl
theorem q1488 : (Jvm.Cond.privateMethod ({ cls := "MarkHouse$Attributes", name := "read", desc := "(I)I" } : Jvm.MethodName)) ∈ lw_tbl := lw_at lw_m6 46 rfl
theorem q1489 : (Jvm.Cond.instanceMethod ({ cls := "MarkHouse$Attributes", name := "read", desc := "(I)I" } : Jvm.MethodName)) ∈ lw_all := lw_g (lw_at lw_m6 47 rfl) rfl
theorem q1490 : (Jvm.Cond.code ({ cls := "MarkHouse$Attributes", name := "read", desc := "(I)I" } : Jvm.MethodName) prog_2_method_6_code (9 : Nat) (Option.some Jvm.ClassFile.FieldType.int)) ∈ lw_all := lw_g (lw_at lw_m6 48 rfl) rfl
theorem q1491 : (Jvm.Cond.methodLink "MarkHouse$Attributes" (46 : Nat) ({ cls := "MarkHouse$Attributes", name := "one", desc := "(II)I" } : Jvm.MethodName)) ∈ lw_all := lw_g (lw_at lw_m6 49 rfl) rfl
theorem q1492 : (Jvm.Cond.privateMethod ({ cls := "MarkHouse$Attributes", name := "one", desc := "(II)I" } : Jvm.MethodName)) ∈ lw_tbl := lw_at lw_m6 50 rfl
theorem q1493 : (Jvm.Cond.instanceMethod ({ cls := "MarkHouse$Attributes", name := "one", desc := "(II)I" } : Jvm.MethodName)) ∈ lw_all := lw_g (lw_at lw_m6 51 rfl) rfl
theorem q1494 : (Jvm.Cond.code ({ cls := "MarkHouse$Attributes", name := "one", desc := "(II)I" } : Jvm.MethodName) prog_2_method_3_code (3 : Nat) (Option.some Jvm.ClassFile.FieldType.int)) ∈ lw_all := lw_g (lw_at lw_m6 52 rfl) rfl
theorem q1495 : (Jvm.Cond.methodLink "MarkHouse$Attributes" (26 : Nat) ({ cls := "MarkHouse$Attributes", name := "good", desc := "()Z" } : Jvm.MethodName)) ∈ lw_all := lw_g (lw_at lw_m6 53 rfl) rfl
theorem q1496 : (Jvm.Cond.privateMethod ({ cls := "MarkHouse$Attributes", name := "good", desc := "()Z" } : Jvm.MethodName)) ∈ lw_tbl := lw_at lw_m6 54 rfl
theorem q1497 : (Jvm.Cond.instanceMethod ({ cls := "MarkHouse$Attributes", name := "good", desc := "()Z" } : Jvm.MethodName)) ∈ lw_all := lw_g (lw_at lw_m6 55 rfl) rfl
theorem q1498 : (Jvm.Cond.code ({ cls := "MarkHouse$Attributes", name := "good", desc := "()Z" } : Jvm.MethodName) prog_2_method_2_code (1 : Nat) (Option.some Jvm.ClassFile.FieldType.boolean)) ∈ lw_all := lw_g (lw_at lw_m6 56 rfl) rfl
theorem q1499 : (Jvm.Cond.methodLink "MarkHouse$Attributes" (37 : Nat) ({ cls := "MarkHouse$Bytes", name := "size", desc := "()I" } : Jvm.MethodName)) ∈ lw_all := lw_g (lw_at lw_m6 57 rfl) rfl
theorem q1500 : (Jvm.Cond.methodLink "MarkHouse$Attributes" (43 : Nat) ({ cls := "MarkHouse$Bytes", name := "at", desc := "(I)I" } : Jvm.MethodName)) ∈ lw_all := lw_g (lw_at lw_m6 58 rfl) rfl
theorem q1501 : (Jvm.Cond.methodLink "MarkHouse$Attributes" (68 : Nat) ({ cls := "MarkHouse$Attributes", name := "name", desc := "()J" } : Jvm.MethodName)) ∈ lw_all := lw_g (lw_at lw_m6 59 rfl) rfl
theorem q1502 : (Jvm.Cond.privateMethod ({ cls := "MarkHouse$Attributes", name := "name", desc := "()J" } : Jvm.MethodName)) ∈ lw_tbl := lw_at lw_m6 60 rfl
theorem q1503 : (Jvm.Cond.instanceMethod ({ cls := "MarkHouse$Attributes", name := "name", desc := "()J" } : Jvm.MethodName)) ∈ lw_all := lw_g (lw_at lw_m6 61 rfl) rfl
theorem q1504 : (Jvm.Cond.code ({ cls := "MarkHouse$Attributes", name := "name", desc := "()J" } : Jvm.MethodName) prog_2_method_4_code (6 : Nat) (Option.some Jvm.ClassFile.FieldType.long)) ∈ lw_all := lw_g (lw_at lw_m6 62 rfl) rfl
theorem q1505 : (Jvm.Cond.methodLink "MarkHouse$Attributes" (50 : Nat) ({ cls := "MarkHouse$Lexemes", name := "isLetter", desc := "(I)Z" } : Jvm.MethodName)) ∈ lw_all := lw_g (lw_at lw_m6 63 rfl) rfl
theorem q1508 : (Jvm.Cond.methodLink "MarkHouse$Attributes" (56 : Nat) ({ cls := "MarkHouse$Lexemes", name := "isDigit", desc := "(I)Z" } : Jvm.MethodName)) ∈ lw_all := lw_g (lw_at lw_m6 66 rfl) rfl
theorem q1511 : (Jvm.Cond.methodLink "MarkHouse$Attributes" (72 : Nat) ({ cls := "MarkHouse$Marks", name := "add", desc := "(IJI)I" } : Jvm.MethodName)) ∈ lw_all := lw_g (lw_at lw_m6 69 rfl) rfl
theorem q1515 : (Jvm.Cond.methodLink "MarkHouse$Attributes" (76 : Nat) ({ cls := "MarkHouse$Attributes", name := "pair", desc := "(I)V" } : Jvm.MethodName)) ∈ lw_all := lw_g (lw_at lw_m6 73 rfl) rfl
theorem q1516 : (Jvm.Cond.privateMethod ({ cls := "MarkHouse$Attributes", name := "pair", desc := "(I)V" } : Jvm.MethodName)) ∈ lw_tbl := lw_at lw_m6 74 rfl
theorem q1517 : (Jvm.Cond.instanceMethod ({ cls := "MarkHouse$Attributes", name := "pair", desc := "(I)V" } : Jvm.MethodName)) ∈ lw_all := lw_g (lw_at lw_m6 75 rfl) rfl
theorem q1518 : (Jvm.Cond.code ({ cls := "MarkHouse$Attributes", name := "pair", desc := "(I)V" } : Jvm.MethodName) prog_2_method_7_code (8 : Nat) (Option.none : Option Jvm.ClassFile.FieldType)) ∈ lw_all := lw_g (lw_at lw_m6 76 rfl) rfl
theorem q1519 : (Jvm.Cond.methodLink "MarkHouse$Attributes" (80 : Nat) ({ cls := "MarkHouse$Attributes", name := "text", desc := "()J" } : Jvm.MethodName)) ∈ lw_all := lw_g (lw_at lw_m6 77 rfl) rfl
theorem q1520 : (Jvm.Cond.privateMethod ({ cls := "MarkHouse$Attributes", name := "text", desc := "()J" } : Jvm.MethodName)) ∈ lw_tbl := lw_at lw_m6 78 rfl
theorem q1521 : (Jvm.Cond.instanceMethod ({ cls := "MarkHouse$Attributes", name := "text", desc := "()J" } : Jvm.MethodName)) ∈ lw_all := lw_g (lw_at lw_m6 79 rfl) rfl
theorem q1522 : (Jvm.Cond.code ({ cls := "MarkHouse$Attributes", name := "text", desc := "()J" } : Jvm.MethodName) prog_2_method_5_code (6 : Nat) (Option.some Jvm.ClassFile.FieldType.long)) ∈ lw_all := lw_g (lw_at lw_m6 80 rfl) rfl
theorem q1523 : (Jvm.Cond.methodLink "MarkHouse$Attributes" (59 : Nat) ({ cls := "MarkHouse$Lexemes", name := "isSign", desc := "(I)Z" } : Jvm.MethodName)) ∈ lw_all := lw_g (lw_at lw_m6 81 rfl) rfl
theorem q1526 : (Jvm.Cond.methodLink "MarkHouse$Attributes" (83 : Nat) ({ cls := "MarkHouse$Marks", name := "addPair", desc := "(IJIJ)V" } : Jvm.MethodName)) ∈ lw_all := lw_g (lw_at lw_m6 84 rfl) rfl
theorem q1530 : (Jvm.Cond.methodLink "MarkHouse$Attributes" (90 : Nat) ({ cls := "MarkHouse$Marks", name := "copy", desc := "(II)V" } : Jvm.MethodName)) ∈ lw_all := lw_g (lw_at lw_m6 88 rfl) rfl
theorem q1556 : (Jvm.Cond.instanceMethod ({ cls := "MarkHouse$Attributes", name := "write", desc := "(ILMarkHouse$Bytes;)V" } : Jvm.MethodName)) ∈ lw_all := lw_g (lw_at lw_m6 114 rfl) rfl
theorem q1557 : (Jvm.Cond.selects "MarkHouse$Attributes" ({ cls := "MarkHouse$Attributes", name := "write", desc := "(ILMarkHouse$Bytes;)V" } : Jvm.MethodName) ({ cls := "MarkHouse$Attributes", name := "write", desc := "(ILMarkHouse$Bytes;)V" } : Jvm.MethodName)) ∈ lw_all := lw_g (lw_at lw_m6 115 rfl) rfl
theorem q1558 : (Jvm.Cond.code ({ cls := "MarkHouse$Attributes", name := "write", desc := "(ILMarkHouse$Bytes;)V" } : Jvm.MethodName) prog_2_method_11_code (6 : Nat) (Option.none : Option Jvm.ClassFile.FieldType)) ∈ lw_all := lw_g (lw_at lw_m6 116 rfl) rfl
theorem q1559 : (Jvm.Cond.methodLink "MarkHouse$Attributes" (106 : Nat) ({ cls := "MarkHouse$Bytes", name := "clear", desc := "()V" } : Jvm.MethodName)) ∈ lw_all := lw_g (lw_at lw_m6 117 rfl) rfl
theorem q1560 : (Jvm.Cond.methodLink "MarkHouse$Attributes" (100 : Nat) ({ cls := "MarkHouse$Bytes", name := "add", desc := "(I)V" } : Jvm.MethodName)) ∈ lw_all := lw_g (lw_at lw_m6 118 rfl) rfl
theorem q1561 : (Jvm.Cond.methodLink "MarkHouse$Attributes" (113 : Nat) ({ cls := "MarkHouse$Attributes", name := "put", desc := "(LMarkHouse$Bytes;J)V" } : Jvm.MethodName)) ∈ lw_all := lw_g (lw_at lw_m6 119 rfl) rfl
theorem q1562 : (Jvm.Cond.static ({ cls := "MarkHouse$Attributes", name := "put", desc := "(LMarkHouse$Bytes;J)V" } : Jvm.MethodName)) ∈ lw_all := lw_g (lw_at lw_m6 120 rfl) rfl
theorem q1563 : (Jvm.Cond.code ({ cls := "MarkHouse$Attributes", name := "put", desc := "(LMarkHouse$Bytes;J)V" } : Jvm.MethodName) prog_2_method_10_code (3 : Nat) (Option.none : Option Jvm.ClassFile.FieldType)) ∈ lw_all := lw_g (lw_at lw_m6 121 rfl) rfl
theorem q1564 : (Jvm.Cond.methodLink "MarkHouse$Attributes" (96 : Nat) ({ cls := "MarkHouse$Attributes", name := "length", desc := "(J)I" } : Jvm.MethodName)) ∈ lw_all := lw_g (lw_at lw_m6 122 rfl) rfl
theorem q1565 : (Jvm.Cond.static ({ cls := "MarkHouse$Attributes", name := "length", desc := "(J)I" } : Jvm.MethodName)) ∈ lw_all := lw_g (lw_at lw_m6 123 rfl) rfl
theorem q1566 : (Jvm.Cond.code ({ cls := "MarkHouse$Attributes", name := "length", desc := "(J)I" } : Jvm.MethodName) prog_2_method_9_code (3 : Nat) (Option.some Jvm.ClassFile.FieldType.int)) ∈ lw_all := lw_g (lw_at lw_m6 124 rfl) rfl
theorem q1567 : (Jvm.Cond.constantLong "MarkHouse$Attributes" (94 : Nat) (255 : Int64)) ∈ lw_all := lw_g (lw_at lw_m6 125 rfl) rfl
theorem q1568 : (Jvm.Cond.methodLink "MarkHouse$Attributes" (102 : Nat) ({ cls := "MarkHouse$Bytes", name := "addName", desc := "(J)V" } : Jvm.MethodName)) ∈ lw_all := lw_g (lw_at lw_m6 126 rfl) rfl
theorem q1569 : (Jvm.Cond.methodLink "MarkHouse$Attributes" (120 : Nat) ({ cls := "MarkHouse$Marks", name := "isNo", desc := "(I)Z" } : Jvm.MethodName)) ∈ lw_all := lw_g (lw_at lw_m6 127 rfl) rfl
theorem in_X10 : ∀ w ∈ wsX100, w ∈ lw_all := lw_in wsX100 [888, 890, 892, 894, 896] (by decide +kernel) (by decide +kernel)
/-! MarkHouse$Flow -/
set_option maxRecDepth 100000
def RX11 : String := "MarkHouse$Flow"
def TX11 : u_T := fun k => match k with
  | 0 => ("MarkHouse$Flow", "made", "LMarkHouse$Program;", true)
  | 1 => ("MarkHouse$Flow", "passing", "LMarkHouse$Passing;", true)
  | 2 => ("MarkHouse$Flow", "order", "I", false)
  | 3 => ("MarkHouse$Flow", "marks", "[I", true)
  | 4 => ("MarkHouse$Flow", "states", "[B", true)
  | 5 => ("MarkHouse$Flow", "waits", "[Z", true)
  | 6 => ("MarkHouse$Flow", "next", "[B", true)
  | 7 => ("MarkHouse$Flow", "acts", "[I", true)
  | 8 => ("MarkHouse$Flow", "parameters", "[I", true)
  | 9 => ("MarkHouse$Flow", "comes", "[I", true)
  | 10 => ("MarkHouse$Flow", "wanted", "[I", true)
  | 11 => ("MarkHouse$Flow", "errors", "I", false)
  | _ => ("MarkHouse$Flow", "free", "[Z", true)
def tyX11 : Nat → FieldType := fun k => match k with
  | 0 => .object "MarkHouse$Program"
  | 1 => .object "MarkHouse$Passing"
  | 2 => .int
  | 3 => .array .int
  | 4 => .array .byte
  | 5 => .array .boolean
  | 6 => .array .byte
  | 7 => .array .int
  | 8 => .array .int
  | 9 => .array .int
  | 10 => .array .int
  | 11 => .int
  | _ => .array .boolean
abbrev wsX110 : List Cond := u_ws RX11 TX11 13
set_option maxRecDepth 100000 in
theorem nmX11 : ∀ a, a < 13 → ∀ b, b < 13 → a ≠ b → (TX11 a).2.1 ≠ (TX11 b).2.1 := by decide +kernel
set_option maxRecDepth 100000 in
theorem tyX11_ok : ∀ k, k < 13 → parseFieldDescriptor (TX11 k).2.2.1 = some (tyX11 k) := by decide +kernel
abbrev cX11_init : ByteArray := prog_5_method_1_code
def yX11_init : MethodName := ⟨RX11, "<init>", "(LMarkHouse$Program;LMarkHouse$Passing;)V"⟩
abbrev cX11_find : ByteArray := prog_5_method_13_code
def yX11_find : MethodName := ⟨RX11, "find", "(I)I"⟩
abbrev cX11_load : ByteArray := prog_5_method_3_code
def yX11_load : MethodName := ⟨RX11, "load", "(I)V"⟩
abbrev cX11_flowAll : ByteArray := prog_5_method_12_code
def yX11_flowAll : MethodName := ⟨RX11, "flowAll", "()V"⟩
abbrev cX11_isMethod : ByteArray := prog_5_method_2_code
def yX11_isMethod : MethodName := ⟨RX11, "isMethod", "(I)Z"⟩
abbrev cX11_flow : ByteArray := prog_5_method_11_code
def yX11_flow : MethodName := ⟨RX11, "flow", "(I)V"⟩
abbrev cX11_first : ByteArray := prog_5_method_8_code
def yX11_first : MethodName := ⟨RX11, "first", "(I[BI)V"⟩
abbrev cX11_pass : ByteArray := prog_5_method_9_code
def yX11_pass : MethodName := ⟨RX11, "pass", "(I[BI[BZ)V"⟩
abbrev cX11_comes : ByteArray := prog_5_method_10_code
def yX11_comes : MethodName := ⟨RX11, "comes", "(II)V"⟩
abbrev cX11_isReached : ByteArray := prog_5_method_6_code
def yX11_isReached : MethodName := ⟨RX11, "isReached", "(I)Z"⟩
abbrev cX11_look : ByteArray := prog_5_method_14_code
def yX11_look : MethodName := ⟨RX11, "look", "(I)V"⟩
abbrev cX11_asked : ByteArray := prog_5_method_4_code
def yX11_asked : MethodName := ⟨RX11, "asked", "(II)I"⟩
abbrev cX11_valueAt : ByteArray := prog_5_method_7_code
def yX11_valueAt : MethodName := ⟨RX11, "valueAt", "(II)B"⟩
abbrev cX11_below : ByteArray := prog_5_method_5_code
def yX11_below : MethodName := ⟨RX11, "below", "(II)I"⟩
abbrev cX11_least : ByteArray := prog_5_method_15_code
def yX11_least : MethodName := ⟨RX11, "least", "(I)I"⟩
abbrev cX11_raise : ByteArray := prog_5_method_16_code
def yX11_raise : MethodName := ⟨RX11, "raise", "(I)Z"⟩
theorem q257 : (Jvm.Cond.initialized "MarkHouse$Flow") ∈ lw_all := lw_g (lw_at lw_m1 15 rfl) rfl
theorem q466 : (Jvm.Cond.fieldLinkNest "MarkHouse$Flow" (104 : Nat) "MarkHouse$Orders" "bottoms" "[I" "MarkHouse") ∈ lw_tbl := lw_at lw_m1 224 rfl
theorem q547 : (Jvm.Cond.fieldLinkNest "MarkHouse$Flow" (100 : Nat) "MarkHouse$Program" "orders" "LMarkHouse$Orders;" "MarkHouse") ∈ lw_tbl := lw_at lw_m2 65 rfl
theorem q612 : (Jvm.Cond.fieldLinkNest "MarkHouse$Flow" (54 : Nat) "MarkHouse$Program" "classes" "I" "MarkHouse") ∈ lw_tbl := lw_at lw_m2 130 rfl
theorem q638 : (Jvm.Cond.fieldLinkNest "MarkHouse$Flow" (59 : Nat) "MarkHouse$Program" "methods" "[I" "MarkHouse") ∈ lw_tbl := lw_at lw_m2 156 rfl
theorem q647 : (Jvm.Cond.fieldLinkNest "MarkHouse$Flow" (88 : Nat) "MarkHouse$Program" "parameters" "[I" "MarkHouse") ∈ lw_tbl := lw_at lw_m2 165 rfl
theorem q653 : (Jvm.Cond.fieldLinkNest "MarkHouse$Flow" (97 : Nat) "MarkHouse$Program" "locals" "[I" "MarkHouse") ∈ lw_tbl := lw_at lw_m2 171 rfl
theorem q657 : (Jvm.Cond.fieldLinkNest "MarkHouse$Flow" (138 : Nat) "MarkHouse$Program" "acts" "[I" "MarkHouse") ∈ lw_tbl := lw_at lw_m2 175 rfl
theorem q664 : (Jvm.Cond.fieldLinkNest "MarkHouse$Flow" (76 : Nat) "MarkHouse$Program" "does" "[B" "MarkHouse") ∈ lw_tbl := lw_at lw_m2 182 rfl
theorem q669 : (Jvm.Cond.fieldLinkNest "MarkHouse$Flow" (79 : Nat) "MarkHouse$Program" "number" "[I" "MarkHouse") ∈ lw_tbl := lw_at lw_m2 187 rfl
theorem q674 : (Jvm.Cond.fieldLinkNest "MarkHouse$Flow" (128 : Nat) "MarkHouse$Program" "element" "[I" "MarkHouse") ∈ lw_tbl := lw_at lw_m2 192 rfl
theorem q679 : (Jvm.Cond.fieldLinkNest "MarkHouse$Flow" (121 : Nat) "MarkHouse$Program" "told" "[I" "MarkHouse") ∈ lw_tbl := lw_at lw_m2 197 rfl
theorem q685 : (Jvm.Cond.fieldLinkNest "MarkHouse$Flow" (152 : Nat) "MarkHouse$Program" "leads" "[I" "MarkHouse") ∈ lw_tbl := lw_at lw_m2 203 rfl
theorem q713 : (Jvm.Cond.fieldLinkNest "MarkHouse$Flow" (91 : Nat) "MarkHouse$Program" "depths" "[I" "MarkHouse") ∈ lw_tbl := lw_at lw_m2 231 rfl
theorem q848 : (Jvm.Cond.fieldLinkNest "MarkHouse$Flow" (195 : Nat) "MarkHouse$Passing" "found" "[[I" "MarkHouse") ∈ lw_tbl := lw_at lw_m3 126 rfl
theorem q900 : (Jvm.Cond.instantiable "MarkHouse$Flow" (13 : Nat)) ∈ lw_all := lw_g (lw_at lw_m3 178 rfl) rfl
theorem q902 : (Jvm.Cond.instanceMethod ({ cls := "MarkHouse$Flow", name := "<init>", desc := "(LMarkHouse$Program;LMarkHouse$Passing;)V" } : Jvm.MethodName)) ∈ lw_all := lw_g (lw_at lw_m3 180 rfl) rfl
theorem q903 : (Jvm.Cond.code ({ cls := "MarkHouse$Flow", name := "<init>", desc := "(LMarkHouse$Program;LMarkHouse$Passing;)V" } : Jvm.MethodName) prog_5_method_1_code (3 : Nat) (Option.none : Option Jvm.ClassFile.FieldType)) ∈ lw_all := lw_g (lw_at lw_m3 181 rfl) rfl
theorem q904 : (Jvm.Cond.methodLink "MarkHouse$Flow" (3 : Nat) ({ cls := "java/lang/Object", name := "<init>", desc := "()V" } : Jvm.MethodName)) ∈ lw_all := lw_g (lw_at lw_m3 182 rfl) rfl
theorem q905 : (Jvm.Cond.constant "MarkHouse$Flow" (19 : Nat) (61440 : Int32)) ∈ lw_all := lw_g (lw_at lw_m3 183 rfl) rfl
theorem q906 : (Jvm.Cond.fieldLink "MarkHouse$Flow" (46 : Nat) "MarkHouse$Flow" "made" "LMarkHouse$Program;") ∈ lw_all := lw_g (lw_at lw_m3 184 rfl) rfl
theorem q907 : (Jvm.Cond.fieldLink "MarkHouse$Flow" (50 : Nat) "MarkHouse$Flow" "passing" "LMarkHouse$Passing;") ∈ lw_all := lw_g (lw_at lw_m3 185 rfl) rfl
theorem q908 : (Jvm.Cond.fieldLink "MarkHouse$Flow" (9 : Nat) "MarkHouse$Flow" "order" "I") ∈ lw_all := lw_g (lw_at lw_m3 186 rfl) rfl
theorem q910 : (Jvm.Cond.fieldLink "MarkHouse$Flow" (15 : Nat) "MarkHouse$Flow" "marks" "[I") ∈ lw_all := lw_g (lw_at lw_m3 188 rfl) rfl
theorem q911 : (Jvm.Cond.fieldLink "MarkHouse$Flow" (20 : Nat) "MarkHouse$Flow" "states" "[B") ∈ lw_all := lw_g (lw_at lw_m3 189 rfl) rfl
theorem q913 : (Jvm.Cond.fieldLink "MarkHouse$Flow" (24 : Nat) "MarkHouse$Flow" "waits" "[Z") ∈ lw_all := lw_g (lw_at lw_m3 191 rfl) rfl
theorem q914 : (Jvm.Cond.fieldLink "MarkHouse$Flow" (28 : Nat) "MarkHouse$Flow" "next" "[B") ∈ lw_all := lw_g (lw_at lw_m3 192 rfl) rfl
theorem q915 : (Jvm.Cond.fieldLink "MarkHouse$Flow" (31 : Nat) "MarkHouse$Flow" "acts" "[I") ∈ lw_all := lw_g (lw_at lw_m3 193 rfl) rfl
theorem q919 : (Jvm.Cond.fieldLink "MarkHouse$Flow" (34 : Nat) "MarkHouse$Flow" "parameters" "[I") ∈ lw_all := lw_g (lw_at lw_m3 197 rfl) rfl
theorem q923 : (Jvm.Cond.fieldLink "MarkHouse$Flow" (37 : Nat) "MarkHouse$Flow" "comes" "[I") ∈ lw_all := lw_g (lw_at lw_m3 201 rfl) rfl
theorem q925 : (Jvm.Cond.fieldLink "MarkHouse$Flow" (40 : Nat) "MarkHouse$Flow" "wanted" "[I") ∈ lw_all := lw_g (lw_at lw_m3 203 rfl) rfl
theorem q929 : (Jvm.Cond.fieldLink "MarkHouse$Flow" (172 : Nat) "MarkHouse$Flow" "errors" "I") ∈ lw_all := lw_g (lw_at lw_m3 207 rfl) rfl
theorem q931 : (Jvm.Cond.fieldLink "MarkHouse$Flow" (43 : Nat) "MarkHouse$Flow" "free" "[Z") ∈ lw_all := lw_g (lw_at lw_m3 209 rfl) rfl
theorem q932 : (Jvm.Cond.laysFinal "MarkHouse$Flow" "MarkHouse$Flow" "made" "LMarkHouse$Program;") ∈ lw_all := lw_g (lw_at lw_m3 210 rfl) rfl
theorem q933 : (Jvm.Cond.soleField "MarkHouse$Flow" "made") ∈ lw_all := lw_g (lw_at lw_m3 211 rfl) rfl
theorem q934 : (Jvm.Cond.laysFinal "MarkHouse$Flow" "MarkHouse$Flow" "passing" "LMarkHouse$Passing;") ∈ lw_all := lw_g (lw_at lw_m3 212 rfl) rfl
theorem q935 : (Jvm.Cond.soleField "MarkHouse$Flow" "passing") ∈ lw_all := lw_g (lw_at lw_m3 213 rfl) rfl
theorem q936 : (Jvm.Cond.lays "MarkHouse$Flow" "MarkHouse$Flow" "order" "I") ∈ lw_all := lw_g (lw_at lw_m3 214 rfl) rfl
theorem q937 : (Jvm.Cond.soleField "MarkHouse$Flow" "order") ∈ lw_all := lw_g (lw_at lw_m3 215 rfl) rfl
theorem q938 : (Jvm.Cond.laysFinal "MarkHouse$Flow" "MarkHouse$Flow" "marks" "[I") ∈ lw_all := lw_g (lw_at lw_m3 216 rfl) rfl
theorem q939 : (Jvm.Cond.soleField "MarkHouse$Flow" "marks") ∈ lw_all := lw_g (lw_at lw_m3 217 rfl) rfl
theorem q940 : (Jvm.Cond.laysFinal "MarkHouse$Flow" "MarkHouse$Flow" "states" "[B") ∈ lw_all := lw_g (lw_at lw_m3 218 rfl) rfl
theorem q941 : (Jvm.Cond.soleField "MarkHouse$Flow" "states") ∈ lw_all := lw_g (lw_at lw_m3 219 rfl) rfl
theorem q942 : (Jvm.Cond.laysFinal "MarkHouse$Flow" "MarkHouse$Flow" "waits" "[Z") ∈ lw_all := lw_g (lw_at lw_m3 220 rfl) rfl
theorem q943 : (Jvm.Cond.soleField "MarkHouse$Flow" "waits") ∈ lw_all := lw_g (lw_at lw_m3 221 rfl) rfl
theorem q944 : (Jvm.Cond.laysFinal "MarkHouse$Flow" "MarkHouse$Flow" "next" "[B") ∈ lw_all := lw_g (lw_at lw_m3 222 rfl) rfl
theorem q945 : (Jvm.Cond.soleField "MarkHouse$Flow" "next") ∈ lw_all := lw_g (lw_at lw_m3 223 rfl) rfl
theorem q946 : (Jvm.Cond.laysFinal "MarkHouse$Flow" "MarkHouse$Flow" "acts" "[I") ∈ lw_all := lw_g (lw_at lw_m3 224 rfl) rfl
theorem q947 : (Jvm.Cond.soleField "MarkHouse$Flow" "acts") ∈ lw_all := lw_g (lw_at lw_m3 225 rfl) rfl
theorem q948 : (Jvm.Cond.laysFinal "MarkHouse$Flow" "MarkHouse$Flow" "parameters" "[I") ∈ lw_all := lw_g (lw_at lw_m3 226 rfl) rfl
theorem q949 : (Jvm.Cond.soleField "MarkHouse$Flow" "parameters") ∈ lw_all := lw_g (lw_at lw_m3 227 rfl) rfl
theorem q950 : (Jvm.Cond.laysFinal "MarkHouse$Flow" "MarkHouse$Flow" "comes" "[I") ∈ lw_all := lw_g (lw_at lw_m3 228 rfl) rfl
theorem q951 : (Jvm.Cond.soleField "MarkHouse$Flow" "comes") ∈ lw_all := lw_g (lw_at lw_m3 229 rfl) rfl
theorem q952 : (Jvm.Cond.laysFinal "MarkHouse$Flow" "MarkHouse$Flow" "wanted" "[I") ∈ lw_all := lw_g (lw_at lw_m3 230 rfl) rfl
theorem q953 : (Jvm.Cond.soleField "MarkHouse$Flow" "wanted") ∈ lw_all := lw_g (lw_at lw_m3 231 rfl) rfl
theorem q954 : (Jvm.Cond.lays "MarkHouse$Flow" "MarkHouse$Flow" "errors" "I") ∈ lw_all := lw_g (lw_at lw_m3 232 rfl) rfl
theorem q955 : (Jvm.Cond.soleField "MarkHouse$Flow" "errors") ∈ lw_all := lw_g (lw_at lw_m3 233 rfl) rfl
theorem q956 : (Jvm.Cond.laysFinal "MarkHouse$Flow" "MarkHouse$Flow" "free" "[Z") ∈ lw_all := lw_g (lw_at lw_m3 234 rfl) rfl
theorem q957 : (Jvm.Cond.soleField "MarkHouse$Flow" "free") ∈ lw_all := lw_g (lw_at lw_m3 235 rfl) rfl
theorem q958 : (Jvm.Cond.superclass "MarkHouse$Flow" "java/lang/Object") ∈ lw_all := lw_g (lw_at lw_m3 236 rfl) rfl
theorem q1697 : (Jvm.Cond.instanceMethod ({ cls := "MarkHouse$Flow", name := "find", desc := "(I)I" } : Jvm.MethodName)) ∈ lw_all := lw_g (lw_at lw_m7 15 rfl) rfl
theorem q1698 : (Jvm.Cond.selects "MarkHouse$Flow" ({ cls := "MarkHouse$Flow", name := "find", desc := "(I)I" } : Jvm.MethodName) ({ cls := "MarkHouse$Flow", name := "find", desc := "(I)I" } : Jvm.MethodName)) ∈ lw_all := lw_g (lw_at lw_m7 16 rfl) rfl
theorem q1699 : (Jvm.Cond.code ({ cls := "MarkHouse$Flow", name := "find", desc := "(I)I" } : Jvm.MethodName) prog_5_method_13_code (4 : Nat) (Option.some Jvm.ClassFile.FieldType.int)) ∈ lw_all := lw_g (lw_at lw_m7 17 rfl) rfl
theorem q1700 : (Jvm.Cond.methodLink "MarkHouse$Flow" (166 : Nat) ({ cls := "MarkHouse$Flow", name := "load", desc := "(I)V" } : Jvm.MethodName)) ∈ lw_all := lw_g (lw_at lw_m7 18 rfl) rfl
theorem q1701 : (Jvm.Cond.instanceMethod ({ cls := "MarkHouse$Flow", name := "load", desc := "(I)V" } : Jvm.MethodName)) ∈ lw_all := lw_g (lw_at lw_m7 19 rfl) rfl
theorem q1702 : (Jvm.Cond.selects "MarkHouse$Flow" ({ cls := "MarkHouse$Flow", name := "load", desc := "(I)V" } : Jvm.MethodName) ({ cls := "MarkHouse$Flow", name := "load", desc := "(I)V" } : Jvm.MethodName)) ∈ lw_all := lw_g (lw_at lw_m7 20 rfl) rfl
theorem q1703 : (Jvm.Cond.code ({ cls := "MarkHouse$Flow", name := "load", desc := "(I)V" } : Jvm.MethodName) prog_5_method_3_code (3 : Nat) (Option.none : Option Jvm.ClassFile.FieldType)) ∈ lw_all := lw_g (lw_at lw_m7 21 rfl) rfl
theorem q1704 : (Jvm.Cond.methodLink "MarkHouse$Flow" (62 : Nat) ({ cls := "MarkHouse$Program", name := "sort", desc := "(I)I" } : Jvm.MethodName)) ∈ lw_all := lw_g (lw_at lw_m7 22 rfl) rfl
theorem q1705 : (Jvm.Cond.methodLink "MarkHouse$Flow" (66 : Nat) ({ cls := "MarkHouse$Program", name := "isRow", desc := "(I)Z" } : Jvm.MethodName)) ∈ lw_all := lw_g (lw_at lw_m7 23 rfl) rfl
theorem q1709 : (Jvm.Cond.methodLink "MarkHouse$Flow" (70 : Nat) ({ cls := "MarkHouse$Passing", name := "markOf", desc := "(II)I" } : Jvm.MethodName)) ∈ lw_all := lw_g (lw_at lw_m7 27 rfl) rfl
theorem q1710 : (Jvm.Cond.methodLink "MarkHouse$Flow" (169 : Nat) ({ cls := "MarkHouse$Flow", name := "flowAll", desc := "()V" } : Jvm.MethodName)) ∈ lw_all := lw_g (lw_at lw_m7 28 rfl) rfl
theorem q1711 : (Jvm.Cond.privateMethod ({ cls := "MarkHouse$Flow", name := "flowAll", desc := "()V" } : Jvm.MethodName)) ∈ lw_tbl := lw_at lw_m7 29 rfl
theorem q1712 : (Jvm.Cond.instanceMethod ({ cls := "MarkHouse$Flow", name := "flowAll", desc := "()V" } : Jvm.MethodName)) ∈ lw_all := lw_g (lw_at lw_m7 30 rfl) rfl
theorem q1713 : (Jvm.Cond.code ({ cls := "MarkHouse$Flow", name := "flowAll", desc := "()V" } : Jvm.MethodName) prog_5_method_12_code (2 : Nat) (Option.none : Option Jvm.ClassFile.FieldType)) ∈ lw_all := lw_g (lw_at lw_m7 31 rfl) rfl
theorem q1714 : (Jvm.Cond.methodLink "MarkHouse$Flow" (159 : Nat) ({ cls := "MarkHouse$Flow", name := "isMethod", desc := "(I)Z" } : Jvm.MethodName)) ∈ lw_all := lw_g (lw_at lw_m7 32 rfl) rfl
theorem q1715 : (Jvm.Cond.instanceMethod ({ cls := "MarkHouse$Flow", name := "isMethod", desc := "(I)Z" } : Jvm.MethodName)) ∈ lw_all := lw_g (lw_at lw_m7 33 rfl) rfl
theorem q1716 : (Jvm.Cond.selects "MarkHouse$Flow" ({ cls := "MarkHouse$Flow", name := "isMethod", desc := "(I)Z" } : Jvm.MethodName) ({ cls := "MarkHouse$Flow", name := "isMethod", desc := "(I)Z" } : Jvm.MethodName)) ∈ lw_all := lw_g (lw_at lw_m7 34 rfl) rfl
theorem q1717 : (Jvm.Cond.code ({ cls := "MarkHouse$Flow", name := "isMethod", desc := "(I)Z" } : Jvm.MethodName) prog_5_method_2_code (2 : Nat) (Option.some Jvm.ClassFile.FieldType.boolean)) ∈ lw_all := lw_g (lw_at lw_m7 35 rfl) rfl
theorem q1718 : (Jvm.Cond.methodLink "MarkHouse$Flow" (162 : Nat) ({ cls := "MarkHouse$Flow", name := "flow", desc := "(I)V" } : Jvm.MethodName)) ∈ lw_all := lw_g (lw_at lw_m7 36 rfl) rfl
theorem q1719 : (Jvm.Cond.privateMethod ({ cls := "MarkHouse$Flow", name := "flow", desc := "(I)V" } : Jvm.MethodName)) ∈ lw_tbl := lw_at lw_m7 37 rfl
theorem q1720 : (Jvm.Cond.instanceMethod ({ cls := "MarkHouse$Flow", name := "flow", desc := "(I)V" } : Jvm.MethodName)) ∈ lw_all := lw_g (lw_at lw_m7 38 rfl) rfl
theorem q1721 : (Jvm.Cond.code ({ cls := "MarkHouse$Flow", name := "flow", desc := "(I)V" } : Jvm.MethodName) prog_5_method_11_code (6 : Nat) (Option.none : Option Jvm.ClassFile.FieldType)) ∈ lw_all := lw_g (lw_at lw_m7 39 rfl) rfl
theorem q1722 : (Jvm.Cond.methodLink "MarkHouse$Flow" (134 : Nat) ({ cls := "MarkHouse$Flow", name := "first", desc := "(I[BI)V" } : Jvm.MethodName)) ∈ lw_all := lw_g (lw_at lw_m7 40 rfl) rfl
theorem q1723 : (Jvm.Cond.instanceMethod ({ cls := "MarkHouse$Flow", name := "first", desc := "(I[BI)V" } : Jvm.MethodName)) ∈ lw_all := lw_g (lw_at lw_m7 41 rfl) rfl
theorem q1724 : (Jvm.Cond.selects "MarkHouse$Flow" ({ cls := "MarkHouse$Flow", name := "first", desc := "(I[BI)V" } : Jvm.MethodName) ({ cls := "MarkHouse$Flow", name := "first", desc := "(I[BI)V" } : Jvm.MethodName)) ∈ lw_all := lw_g (lw_at lw_m7 42 rfl) rfl
theorem q1725 : (Jvm.Cond.code ({ cls := "MarkHouse$Flow", name := "first", desc := "(I[BI)V" } : Jvm.MethodName) prog_5_method_8_code (5 : Nat) (Option.none : Option Jvm.ClassFile.FieldType)) ∈ lw_all := lw_g (lw_at lw_m7 43 rfl) rfl
theorem q1726 : (Jvm.Cond.methodLink "MarkHouse$Flow" (85 : Nat) ({ cls := "MarkHouse$Program", name := "ofMethod", desc := "(I)I" } : Jvm.MethodName)) ∈ lw_all := lw_g (lw_at lw_m7 44 rfl) rfl
theorem q1727 : (Jvm.Cond.methodLink "MarkHouse$Flow" (139 : Nat) ({ cls := "MarkHouse$Program", name := "falls", desc := "(I)Z" } : Jvm.MethodName)) ∈ lw_all := lw_g (lw_at lw_m7 45 rfl) rfl
theorem q1731 : (Jvm.Cond.methodLink "MarkHouse$Flow" (142 : Nat) ({ cls := "MarkHouse$Flow", name := "pass", desc := "(I[BI[BZ)V" } : Jvm.MethodName)) ∈ lw_all := lw_g (lw_at lw_m7 49 rfl) rfl
theorem q1732 : (Jvm.Cond.instanceMethod ({ cls := "MarkHouse$Flow", name := "pass", desc := "(I[BI[BZ)V" } : Jvm.MethodName)) ∈ lw_all := lw_g (lw_at lw_m7 50 rfl) rfl
theorem q1733 : (Jvm.Cond.selects "MarkHouse$Flow" ({ cls := "MarkHouse$Flow", name := "pass", desc := "(I[BI[BZ)V" } : Jvm.MethodName) ({ cls := "MarkHouse$Flow", name := "pass", desc := "(I[BI[BZ)V" } : Jvm.MethodName)) ∈ lw_all := lw_g (lw_at lw_m7 51 rfl) rfl
theorem q1734 : (Jvm.Cond.code ({ cls := "MarkHouse$Flow", name := "pass", desc := "(I[BI[BZ)V" } : Jvm.MethodName) prog_5_method_9_code (10 : Nat) (Option.none : Option Jvm.ClassFile.FieldType)) ∈ lw_all := lw_g (lw_at lw_m7 52 rfl) rfl
theorem q1735 : (Jvm.Cond.methodLink "MarkHouse$Flow" (109 : Nat) ({ cls := "java/lang/System", name := "arraycopy", desc := "(Ljava/lang/Object;ILjava/lang/Object;II)V" } : Jvm.MethodName)) ∈ lw_all := lw_g (lw_at lw_m7 53 rfl) rfl
theorem q1738 : (Jvm.Cond.methodLink "MarkHouse$Flow" (115 : Nat) ({ cls := "MarkHouse$Program", name := "takes", desc := "(I)I" } : Jvm.MethodName)) ∈ lw_all := lw_g (lw_at lw_m7 56 rfl) rfl
theorem q1742 : (Jvm.Cond.methodLink "MarkHouse$Flow" (118 : Nat) ({ cls := "MarkHouse$Program", name := "gives", desc := "(I)I" } : Jvm.MethodName)) ∈ lw_all := lw_g (lw_at lw_m7 60 rfl) rfl
theorem q1746 : (Jvm.Cond.methodLink "MarkHouse$Flow" (82 : Nat) ({ cls := "MarkHouse$Program", name := "ofField", desc := "(I)I" } : Jvm.MethodName)) ∈ lw_all := lw_g (lw_at lw_m7 64 rfl) rfl
theorem q1747 : (Jvm.Cond.methodLink "MarkHouse$Flow" (124 : Nat) ({ cls := "MarkHouse$Orders", name := "join", desc := "(III)I" } : Jvm.MethodName)) ∈ lw_all := lw_g (lw_at lw_m7 65 rfl) rfl
theorem q1748 : (Jvm.Cond.methodLink "MarkHouse$Flow" (131 : Nat) ({ cls := "MarkHouse$Orders", name := "meet", desc := "(III)I" } : Jvm.MethodName)) ∈ lw_all := lw_g (lw_at lw_m7 66 rfl) rfl
theorem q1749 : (Jvm.Cond.methodLink "MarkHouse$Flow" (146 : Nat) ({ cls := "MarkHouse$Flow", name := "comes", desc := "(II)V" } : Jvm.MethodName)) ∈ lw_all := lw_g (lw_at lw_m7 67 rfl) rfl
theorem q1750 : (Jvm.Cond.privateMethod ({ cls := "MarkHouse$Flow", name := "comes", desc := "(II)V" } : Jvm.MethodName)) ∈ lw_tbl := lw_at lw_m7 68 rfl
theorem q1751 : (Jvm.Cond.instanceMethod ({ cls := "MarkHouse$Flow", name := "comes", desc := "(II)V" } : Jvm.MethodName)) ∈ lw_all := lw_g (lw_at lw_m7 69 rfl) rfl
theorem q1752 : (Jvm.Cond.code ({ cls := "MarkHouse$Flow", name := "comes", desc := "(II)V" } : Jvm.MethodName) prog_5_method_10_code (7 : Nat) (Option.none : Option Jvm.ClassFile.FieldType)) ∈ lw_all := lw_g (lw_at lw_m7 70 rfl) rfl
theorem q1753 : (Jvm.Cond.methodLink "MarkHouse$Flow" (149 : Nat) ({ cls := "MarkHouse$Program", name := "leads", desc := "(I)Z" } : Jvm.MethodName)) ∈ lw_all := lw_g (lw_at lw_m7 71 rfl) rfl
theorem q1754 : (Jvm.Cond.methodLink "MarkHouse$Flow" (154 : Nat) ({ cls := "java/lang/Math", name := "min", desc := "(II)I" } : Jvm.MethodName)) ∈ lw_all := lw_g (lw_at lw_m7 72 rfl) rfl
theorem q1757 : (Jvm.Cond.methodLink "MarkHouse$Flow" (175 : Nat) ({ cls := "MarkHouse$Flow", name := "isReached", desc := "(I)Z" } : Jvm.MethodName)) ∈ lw_all := lw_g (lw_at lw_m7 75 rfl) rfl
theorem q1758 : (Jvm.Cond.instanceMethod ({ cls := "MarkHouse$Flow", name := "isReached", desc := "(I)Z" } : Jvm.MethodName)) ∈ lw_all := lw_g (lw_at lw_m7 76 rfl) rfl
theorem q1759 : (Jvm.Cond.selects "MarkHouse$Flow" ({ cls := "MarkHouse$Flow", name := "isReached", desc := "(I)Z" } : Jvm.MethodName) ({ cls := "MarkHouse$Flow", name := "isReached", desc := "(I)Z" } : Jvm.MethodName)) ∈ lw_all := lw_g (lw_at lw_m7 77 rfl) rfl
theorem q1760 : (Jvm.Cond.code ({ cls := "MarkHouse$Flow", name := "isReached", desc := "(I)Z" } : Jvm.MethodName) prog_5_method_6_code (2 : Nat) (Option.some Jvm.ClassFile.FieldType.boolean)) ∈ lw_all := lw_g (lw_at lw_m7 78 rfl) rfl
theorem q1761 : (Jvm.Cond.methodLink "MarkHouse$Flow" (178 : Nat) ({ cls := "MarkHouse$Flow", name := "look", desc := "(I)V" } : Jvm.MethodName)) ∈ lw_all := lw_g (lw_at lw_m7 79 rfl) rfl
theorem q1762 : (Jvm.Cond.privateMethod ({ cls := "MarkHouse$Flow", name := "look", desc := "(I)V" } : Jvm.MethodName)) ∈ lw_tbl := lw_at lw_m7 80 rfl
theorem q1763 : (Jvm.Cond.instanceMethod ({ cls := "MarkHouse$Flow", name := "look", desc := "(I)V" } : Jvm.MethodName)) ∈ lw_all := lw_g (lw_at lw_m7 81 rfl) rfl
theorem q1764 : (Jvm.Cond.code ({ cls := "MarkHouse$Flow", name := "look", desc := "(I)V" } : Jvm.MethodName) prog_5_method_14_code (5 : Nat) (Option.none : Option Jvm.ClassFile.FieldType)) ∈ lw_all := lw_g (lw_at lw_m7 82 rfl) rfl
theorem q1765 : (Jvm.Cond.methodLink "MarkHouse$Flow" (181 : Nat) ({ cls := "MarkHouse$Flow", name := "asked", desc := "(II)I" } : Jvm.MethodName)) ∈ lw_all := lw_g (lw_at lw_m7 83 rfl) rfl
theorem q1766 : (Jvm.Cond.instanceMethod ({ cls := "MarkHouse$Flow", name := "asked", desc := "(II)I" } : Jvm.MethodName)) ∈ lw_all := lw_g (lw_at lw_m7 84 rfl) rfl
theorem q1767 : (Jvm.Cond.selects "MarkHouse$Flow" ({ cls := "MarkHouse$Flow", name := "asked", desc := "(II)I" } : Jvm.MethodName) ({ cls := "MarkHouse$Flow", name := "asked", desc := "(II)I" } : Jvm.MethodName)) ∈ lw_all := lw_g (lw_at lw_m7 85 rfl) rfl
theorem q1768 : (Jvm.Cond.code ({ cls := "MarkHouse$Flow", name := "asked", desc := "(II)I" } : Jvm.MethodName) prog_5_method_4_code (3 : Nat) (Option.some Jvm.ClassFile.FieldType.int)) ∈ lw_all := lw_g (lw_at lw_m7 86 rfl) rfl
theorem q1769 : (Jvm.Cond.methodLink "MarkHouse$Flow" (184 : Nat) ({ cls := "MarkHouse$Flow", name := "valueAt", desc := "(II)B" } : Jvm.MethodName)) ∈ lw_all := lw_g (lw_at lw_m7 87 rfl) rfl
theorem q1770 : (Jvm.Cond.instanceMethod ({ cls := "MarkHouse$Flow", name := "valueAt", desc := "(II)B" } : Jvm.MethodName)) ∈ lw_all := lw_g (lw_at lw_m7 88 rfl) rfl
theorem q1771 : (Jvm.Cond.selects "MarkHouse$Flow" ({ cls := "MarkHouse$Flow", name := "valueAt", desc := "(II)B" } : Jvm.MethodName) ({ cls := "MarkHouse$Flow", name := "valueAt", desc := "(II)B" } : Jvm.MethodName)) ∈ lw_all := lw_g (lw_at lw_m7 89 rfl) rfl
theorem q1772 : (Jvm.Cond.code ({ cls := "MarkHouse$Flow", name := "valueAt", desc := "(II)B" } : Jvm.MethodName) prog_5_method_7_code (3 : Nat) (Option.some Jvm.ClassFile.FieldType.byte)) ∈ lw_all := lw_g (lw_at lw_m7 90 rfl) rfl
theorem q1773 : (Jvm.Cond.methodLink "MarkHouse$Flow" (94 : Nat) ({ cls := "MarkHouse$Flow", name := "below", desc := "(II)I" } : Jvm.MethodName)) ∈ lw_all := lw_g (lw_at lw_m7 91 rfl) rfl
theorem q1774 : (Jvm.Cond.instanceMethod ({ cls := "MarkHouse$Flow", name := "below", desc := "(II)I" } : Jvm.MethodName)) ∈ lw_all := lw_g (lw_at lw_m7 92 rfl) rfl
theorem q1775 : (Jvm.Cond.selects "MarkHouse$Flow" ({ cls := "MarkHouse$Flow", name := "below", desc := "(II)I" } : Jvm.MethodName) ({ cls := "MarkHouse$Flow", name := "below", desc := "(II)I" } : Jvm.MethodName)) ∈ lw_all := lw_g (lw_at lw_m7 93 rfl) rfl
theorem q1776 : (Jvm.Cond.code ({ cls := "MarkHouse$Flow", name := "below", desc := "(II)I" } : Jvm.MethodName) prog_5_method_5_code (3 : Nat) (Option.some Jvm.ClassFile.FieldType.int)) ∈ lw_all := lw_g (lw_at lw_m7 94 rfl) rfl
theorem q1777 : (Jvm.Cond.methodLink "MarkHouse$Flow" (188 : Nat) ({ cls := "MarkHouse$Orders", name := "isBelow", desc := "(III)Z" } : Jvm.MethodName)) ∈ lw_all := lw_g (lw_at lw_m7 95 rfl) rfl
theorem q1828 : (Jvm.Cond.instanceMethod ({ cls := "MarkHouse$Flow", name := "least", desc := "(I)I" } : Jvm.MethodName)) ∈ lw_all := lw_g (lw_at lw_m7 146 rfl) rfl
theorem q1829 : (Jvm.Cond.selects "MarkHouse$Flow" ({ cls := "MarkHouse$Flow", name := "least", desc := "(I)I" } : Jvm.MethodName) ({ cls := "MarkHouse$Flow", name := "least", desc := "(I)I" } : Jvm.MethodName)) ∈ lw_all := lw_g (lw_at lw_m7 147 rfl) rfl
theorem q1830 : (Jvm.Cond.code ({ cls := "MarkHouse$Flow", name := "least", desc := "(I)I" } : Jvm.MethodName) prog_5_method_15_code (6 : Nat) (Option.some Jvm.ClassFile.FieldType.int)) ∈ lw_all := lw_g (lw_at lw_m7 148 rfl) rfl
theorem q1831 : (Jvm.Cond.methodLink "MarkHouse$Flow" (192 : Nat) ({ cls := "MarkHouse$Passing", name := "find", desc := "(II)I" } : Jvm.MethodName)) ∈ lw_all := lw_g (lw_at lw_m7 149 rfl) rfl
theorem q1832 : (Jvm.Cond.methodLink "MarkHouse$Flow" (199 : Nat) ({ cls := "MarkHouse$Flow", name := "raise", desc := "(I)Z" } : Jvm.MethodName)) ∈ lw_all := lw_g (lw_at lw_m7 150 rfl) rfl
theorem q1833 : (Jvm.Cond.privateMethod ({ cls := "MarkHouse$Flow", name := "raise", desc := "(I)Z" } : Jvm.MethodName)) ∈ lw_tbl := lw_at lw_m7 151 rfl
theorem q1834 : (Jvm.Cond.instanceMethod ({ cls := "MarkHouse$Flow", name := "raise", desc := "(I)Z" } : Jvm.MethodName)) ∈ lw_all := lw_g (lw_at lw_m7 152 rfl) rfl
theorem q1835 : (Jvm.Cond.code ({ cls := "MarkHouse$Flow", name := "raise", desc := "(I)Z" } : Jvm.MethodName) prog_5_method_16_code (6 : Nat) (Option.some Jvm.ClassFile.FieldType.boolean)) ∈ lw_all := lw_g (lw_at lw_m7 153 rfl) rfl
theorem in_X11 : ∀ w ∈ wsX110, w ∈ lw_all := lw_in wsX110 [932, 934, 936, 938, 940, 942, 944, 946, 948, 950, 952, 954, 956] (by decide +kernel) (by decide +kernel)
/-! MarkHouse$Ways -/
set_option maxRecDepth 100000
def RX12 : String := "MarkHouse$Ways"
def TX12 : u_T := fun k => match k with
  | 0 => ("MarkHouse$Ways", "made", "LMarkHouse$Program;", true)
  | 1 => ("MarkHouse$Ways", "flow", "LMarkHouse$Flow;", true)
  | 2 => ("MarkHouse$Ways", "states", "[B", true)
  | 3 => ("MarkHouse$Ways", "acts", "[I", true)
  | 4 => ("MarkHouse$Ways", "froms", "[I", true)
  | 5 => ("MarkHouse$Ways", "count", "I", false)
  | 6 => ("MarkHouse$Ways", "shown", "I", false)
  | 7 => ("MarkHouse$Ways", "length", "I", false)
  | 8 => ("MarkHouse$Ways", "isOpen", "Z", false)
  | 9 => ("MarkHouse$Ways", "next", "[B", true)
  | _ => ("MarkHouse$Ways", "steps", "[I", true)
def tyX12 : Nat → FieldType := fun k => match k with
  | 0 => .object "MarkHouse$Program"
  | 1 => .object "MarkHouse$Flow"
  | 2 => .array .byte
  | 3 => .array .int
  | 4 => .array .int
  | 5 => .int
  | 6 => .int
  | 7 => .int
  | 8 => .boolean
  | 9 => .array .byte
  | _ => .array .int
abbrev wsX120 : List Cond := u_ws RX12 TX12 11
theorem nmX12 : ∀ a, a < 11 → ∀ b, b < 11 → a ≠ b → (TX12 a).2.1 ≠ (TX12 b).2.1 := by decide +kernel
theorem tyX12_ok : ∀ k, k < 11 → parseFieldDescriptor (TX12 k).2.2.1 = some (tyX12 k) := by decide +kernel
abbrev cX12_init : ByteArray := prog_14_method_1_code
def yX12_init : MethodName := ⟨RX12, "<init>", "(LMarkHouse$Program;LMarkHouse$Flow;)V"⟩
abbrev cX12_find : ByteArray := prog_14_method_2_code
def yX12_find : MethodName := ⟨RX12, "find", "(I)I"⟩
abbrev cX12_meet : ByteArray := prog_14_method_5_code
def yX12_meet : MethodName := ⟨RX12, "meet", "(III)V"⟩
abbrev cX12_isSame : ByteArray := prog_14_method_6_code
def yX12_isSame : MethodName := ⟨RX12, "isSame", "(I)Z"⟩
abbrev cX12_go : ByteArray := prog_14_method_3_code
def yX12_go : MethodName := ⟨RX12, "go", "(II)V"⟩
abbrev cX12_leads : ByteArray := prog_14_method_4_code
def yX12_leads : MethodName := ⟨RX12, "leads", "(IIII)V"⟩
theorem q258 : (Jvm.Cond.initialized "MarkHouse$Ways") ∈ lw_all := lw_g (lw_at lw_m1 16 rfl) rfl
theorem q544 : (Jvm.Cond.fieldLinkNest "MarkHouse$Ways" (102 : Nat) "MarkHouse$Program" "orders" "LMarkHouse$Orders;" "MarkHouse") ∈ lw_tbl := lw_at lw_m2 62 rfl
theorem q684 : (Jvm.Cond.fieldLinkNest "MarkHouse$Ways" (74 : Nat) "MarkHouse$Program" "leads" "[I" "MarkHouse") ∈ lw_tbl := lw_at lw_m2 202 rfl
theorem q712 : (Jvm.Cond.fieldLinkNest "MarkHouse$Ways" (92 : Nat) "MarkHouse$Program" "depths" "[I" "MarkHouse") ∈ lw_tbl := lw_at lw_m2 230 rfl
theorem q909 : (Jvm.Cond.fieldLinkNest "MarkHouse$Ways" (106 : Nat) "MarkHouse$Flow" "order" "I" "MarkHouse") ∈ lw_tbl := lw_at lw_m3 187 rfl
theorem q916 : (Jvm.Cond.fieldLinkNest "MarkHouse$Ways" (38 : Nat) "MarkHouse$Flow" "acts" "[I" "MarkHouse") ∈ lw_tbl := lw_at lw_m3 194 rfl
theorem q921 : (Jvm.Cond.fieldLinkNest "MarkHouse$Ways" (95 : Nat) "MarkHouse$Flow" "parameters" "[I" "MarkHouse") ∈ lw_tbl := lw_at lw_m3 199 rfl
theorem q927 : (Jvm.Cond.fieldLinkNest "MarkHouse$Ways" (109 : Nat) "MarkHouse$Flow" "wanted" "[I" "MarkHouse") ∈ lw_tbl := lw_at lw_m3 205 rfl
theorem q960 : (Jvm.Cond.instantiable "MarkHouse$Ways" (11 : Nat)) ∈ lw_all := lw_g (lw_at lw_m3 238 rfl) rfl
theorem q962 : (Jvm.Cond.instanceMethod ({ cls := "MarkHouse$Ways", name := "<init>", desc := "(LMarkHouse$Program;LMarkHouse$Flow;)V" } : Jvm.MethodName)) ∈ lw_all := lw_g (lw_at lw_m4 0 rfl) rfl
theorem q963 : (Jvm.Cond.code ({ cls := "MarkHouse$Ways", name := "<init>", desc := "(LMarkHouse$Program;LMarkHouse$Flow;)V" } : Jvm.MethodName) prog_14_method_1_code (3 : Nat) (Option.none : Option Jvm.ClassFile.FieldType)) ∈ lw_all := lw_g (lw_at lw_m4 1 rfl) rfl
theorem q964 : (Jvm.Cond.methodLink "MarkHouse$Ways" (3 : Nat) ({ cls := "java/lang/Object", name := "<init>", desc := "()V" } : Jvm.MethodName)) ∈ lw_all := lw_g (lw_at lw_m4 2 rfl) rfl
theorem q965 : (Jvm.Cond.fieldLink "MarkHouse$Ways" (30 : Nat) "MarkHouse$Ways" "made" "LMarkHouse$Program;") ∈ lw_all := lw_g (lw_at lw_m4 3 rfl) rfl
theorem q966 : (Jvm.Cond.fieldLink "MarkHouse$Ways" (34 : Nat) "MarkHouse$Ways" "flow" "LMarkHouse$Flow;") ∈ lw_all := lw_g (lw_at lw_m4 4 rfl) rfl
theorem q967 : (Jvm.Cond.fieldLink "MarkHouse$Ways" (13 : Nat) "MarkHouse$Ways" "states" "[B") ∈ lw_all := lw_g (lw_at lw_m4 5 rfl) rfl
theorem q968 : (Jvm.Cond.fieldLink "MarkHouse$Ways" (17 : Nat) "MarkHouse$Ways" "acts" "[I") ∈ lw_all := lw_g (lw_at lw_m4 6 rfl) rfl
theorem q969 : (Jvm.Cond.fieldLink "MarkHouse$Ways" (21 : Nat) "MarkHouse$Ways" "froms" "[I") ∈ lw_all := lw_g (lw_at lw_m4 7 rfl) rfl
theorem q970 : (Jvm.Cond.fieldLink "MarkHouse$Ways" (39 : Nat) "MarkHouse$Ways" "count" "I") ∈ lw_all := lw_g (lw_at lw_m4 8 rfl) rfl
theorem q971 : (Jvm.Cond.fieldLink "MarkHouse$Ways" (43 : Nat) "MarkHouse$Ways" "shown" "I") ∈ lw_all := lw_g (lw_at lw_m4 9 rfl) rfl
theorem q972 : (Jvm.Cond.fieldLink "MarkHouse$Ways" (62 : Nat) "MarkHouse$Ways" "length" "I") ∈ lw_all := lw_g (lw_at lw_m4 10 rfl) rfl
theorem q973 : (Jvm.Cond.fieldLink "MarkHouse$Ways" (46 : Nat) "MarkHouse$Ways" "isOpen" "Z") ∈ lw_all := lw_g (lw_at lw_m4 11 rfl) rfl
theorem q974 : (Jvm.Cond.fieldLink "MarkHouse$Ways" (24 : Nat) "MarkHouse$Ways" "next" "[B") ∈ lw_all := lw_g (lw_at lw_m4 12 rfl) rfl
theorem q975 : (Jvm.Cond.fieldLink "MarkHouse$Ways" (27 : Nat) "MarkHouse$Ways" "steps" "[I") ∈ lw_all := lw_g (lw_at lw_m4 13 rfl) rfl
theorem q977 : (Jvm.Cond.laysFinal "MarkHouse$Ways" "MarkHouse$Ways" "made" "LMarkHouse$Program;") ∈ lw_all := lw_g (lw_at lw_m4 15 rfl) rfl
theorem q978 : (Jvm.Cond.soleField "MarkHouse$Ways" "made") ∈ lw_all := lw_g (lw_at lw_m4 16 rfl) rfl
theorem q979 : (Jvm.Cond.laysFinal "MarkHouse$Ways" "MarkHouse$Ways" "flow" "LMarkHouse$Flow;") ∈ lw_all := lw_g (lw_at lw_m4 17 rfl) rfl
theorem q980 : (Jvm.Cond.soleField "MarkHouse$Ways" "flow") ∈ lw_all := lw_g (lw_at lw_m4 18 rfl) rfl
theorem q981 : (Jvm.Cond.laysFinal "MarkHouse$Ways" "MarkHouse$Ways" "states" "[B") ∈ lw_all := lw_g (lw_at lw_m4 19 rfl) rfl
theorem q982 : (Jvm.Cond.soleField "MarkHouse$Ways" "states") ∈ lw_all := lw_g (lw_at lw_m4 20 rfl) rfl
theorem q983 : (Jvm.Cond.laysFinal "MarkHouse$Ways" "MarkHouse$Ways" "acts" "[I") ∈ lw_all := lw_g (lw_at lw_m4 21 rfl) rfl
theorem q984 : (Jvm.Cond.soleField "MarkHouse$Ways" "acts") ∈ lw_all := lw_g (lw_at lw_m4 22 rfl) rfl
theorem q985 : (Jvm.Cond.laysFinal "MarkHouse$Ways" "MarkHouse$Ways" "froms" "[I") ∈ lw_all := lw_g (lw_at lw_m4 23 rfl) rfl
theorem q986 : (Jvm.Cond.soleField "MarkHouse$Ways" "froms") ∈ lw_all := lw_g (lw_at lw_m4 24 rfl) rfl
theorem q987 : (Jvm.Cond.lays "MarkHouse$Ways" "MarkHouse$Ways" "count" "I") ∈ lw_all := lw_g (lw_at lw_m4 25 rfl) rfl
theorem q988 : (Jvm.Cond.soleField "MarkHouse$Ways" "count") ∈ lw_all := lw_g (lw_at lw_m4 26 rfl) rfl
theorem q989 : (Jvm.Cond.lays "MarkHouse$Ways" "MarkHouse$Ways" "shown" "I") ∈ lw_all := lw_g (lw_at lw_m4 27 rfl) rfl
theorem q990 : (Jvm.Cond.soleField "MarkHouse$Ways" "shown") ∈ lw_all := lw_g (lw_at lw_m4 28 rfl) rfl
theorem q991 : (Jvm.Cond.lays "MarkHouse$Ways" "MarkHouse$Ways" "length" "I") ∈ lw_all := lw_g (lw_at lw_m4 29 rfl) rfl
theorem q992 : (Jvm.Cond.soleField "MarkHouse$Ways" "length") ∈ lw_all := lw_g (lw_at lw_m4 30 rfl) rfl
theorem q993 : (Jvm.Cond.lays "MarkHouse$Ways" "MarkHouse$Ways" "isOpen" "Z") ∈ lw_all := lw_g (lw_at lw_m4 31 rfl) rfl
theorem q994 : (Jvm.Cond.soleField "MarkHouse$Ways" "isOpen") ∈ lw_all := lw_g (lw_at lw_m4 32 rfl) rfl
theorem q995 : (Jvm.Cond.laysFinal "MarkHouse$Ways" "MarkHouse$Ways" "next" "[B") ∈ lw_all := lw_g (lw_at lw_m4 33 rfl) rfl
theorem q996 : (Jvm.Cond.soleField "MarkHouse$Ways" "next") ∈ lw_all := lw_g (lw_at lw_m4 34 rfl) rfl
theorem q997 : (Jvm.Cond.laysFinal "MarkHouse$Ways" "MarkHouse$Ways" "steps" "[I") ∈ lw_all := lw_g (lw_at lw_m4 35 rfl) rfl
theorem q998 : (Jvm.Cond.soleField "MarkHouse$Ways" "steps") ∈ lw_all := lw_g (lw_at lw_m4 36 rfl) rfl
theorem q999 : (Jvm.Cond.superclass "MarkHouse$Ways" "java/lang/Object") ∈ lw_all := lw_g (lw_at lw_m4 37 rfl) rfl
theorem q1788 : (Jvm.Cond.instanceMethod ({ cls := "MarkHouse$Ways", name := "find", desc := "(I)I" } : Jvm.MethodName)) ∈ lw_all := lw_g (lw_at lw_m7 106 rfl) rfl
theorem q1789 : (Jvm.Cond.selects "MarkHouse$Ways" ({ cls := "MarkHouse$Ways", name := "find", desc := "(I)I" } : Jvm.MethodName) ({ cls := "MarkHouse$Ways", name := "find", desc := "(I)I" } : Jvm.MethodName)) ∈ lw_all := lw_g (lw_at lw_m7 107 rfl) rfl
theorem q1790 : (Jvm.Cond.code ({ cls := "MarkHouse$Ways", name := "find", desc := "(I)I" } : Jvm.MethodName) prog_14_method_2_code (5 : Nat) (Option.some Jvm.ClassFile.FieldType.int)) ∈ lw_all := lw_g (lw_at lw_m7 108 rfl) rfl
theorem q1791 : (Jvm.Cond.methodLink "MarkHouse$Ways" (50 : Nat) ({ cls := "MarkHouse$Flow", name := "first", desc := "(I[BI)V" } : Jvm.MethodName)) ∈ lw_all := lw_g (lw_at lw_m7 109 rfl) rfl
theorem q1792 : (Jvm.Cond.methodLink "MarkHouse$Ways" (54 : Nat) ({ cls := "MarkHouse$Ways", name := "meet", desc := "(III)V" } : Jvm.MethodName)) ∈ lw_all := lw_g (lw_at lw_m7 110 rfl) rfl
theorem q1793 : (Jvm.Cond.privateMethod ({ cls := "MarkHouse$Ways", name := "meet", desc := "(III)V" } : Jvm.MethodName)) ∈ lw_tbl := lw_at lw_m7 111 rfl
theorem q1794 : (Jvm.Cond.instanceMethod ({ cls := "MarkHouse$Ways", name := "meet", desc := "(III)V" } : Jvm.MethodName)) ∈ lw_all := lw_g (lw_at lw_m7 112 rfl) rfl
theorem q1795 : (Jvm.Cond.code ({ cls := "MarkHouse$Ways", name := "meet", desc := "(III)V" } : Jvm.MethodName) prog_14_method_5_code (5 : Nat) (Option.none : Option Jvm.ClassFile.FieldType)) ∈ lw_all := lw_g (lw_at lw_m7 113 rfl) rfl
theorem q1796 : (Jvm.Cond.methodLink "MarkHouse$Ways" (83 : Nat) ({ cls := "MarkHouse$Ways", name := "isSame", desc := "(I)Z" } : Jvm.MethodName)) ∈ lw_all := lw_g (lw_at lw_m7 114 rfl) rfl
theorem q1797 : (Jvm.Cond.privateMethod ({ cls := "MarkHouse$Ways", name := "isSame", desc := "(I)Z" } : Jvm.MethodName)) ∈ lw_tbl := lw_at lw_m7 115 rfl
theorem q1798 : (Jvm.Cond.instanceMethod ({ cls := "MarkHouse$Ways", name := "isSame", desc := "(I)Z" } : Jvm.MethodName)) ∈ lw_all := lw_g (lw_at lw_m7 116 rfl) rfl
theorem q1799 : (Jvm.Cond.code ({ cls := "MarkHouse$Ways", name := "isSame", desc := "(I)Z" } : Jvm.MethodName) prog_14_method_6_code (3 : Nat) (Option.some Jvm.ClassFile.FieldType.boolean)) ∈ lw_all := lw_g (lw_at lw_m7 117 rfl) rfl
theorem q1800 : (Jvm.Cond.methodLink "MarkHouse$Ways" (86 : Nat) ({ cls := "java/lang/System", name := "arraycopy", desc := "(Ljava/lang/Object;ILjava/lang/Object;II)V" } : Jvm.MethodName)) ∈ lw_all := lw_g (lw_at lw_m7 118 rfl) rfl
theorem q1801 : (Jvm.Cond.methodLink "MarkHouse$Ways" (98 : Nat) ({ cls := "MarkHouse$Flow", name := "below", desc := "(II)I" } : Jvm.MethodName)) ∈ lw_all := lw_g (lw_at lw_m7 119 rfl) rfl
theorem q1802 : (Jvm.Cond.methodLink "MarkHouse$Ways" (112 : Nat) ({ cls := "MarkHouse$Orders", name := "isBelow", desc := "(III)Z" } : Jvm.MethodName)) ∈ lw_all := lw_g (lw_at lw_m7 120 rfl) rfl
theorem q1803 : (Jvm.Cond.methodLink "MarkHouse$Ways" (58 : Nat) ({ cls := "MarkHouse$Ways", name := "go", desc := "(II)V" } : Jvm.MethodName)) ∈ lw_all := lw_g (lw_at lw_m7 121 rfl) rfl
theorem q1804 : (Jvm.Cond.privateMethod ({ cls := "MarkHouse$Ways", name := "go", desc := "(II)V" } : Jvm.MethodName)) ∈ lw_tbl := lw_at lw_m7 122 rfl
theorem q1805 : (Jvm.Cond.instanceMethod ({ cls := "MarkHouse$Ways", name := "go", desc := "(II)V" } : Jvm.MethodName)) ∈ lw_all := lw_g (lw_at lw_m7 123 rfl) rfl
theorem q1806 : (Jvm.Cond.code ({ cls := "MarkHouse$Ways", name := "go", desc := "(II)V" } : Jvm.MethodName) prog_14_method_3_code (6 : Nat) (Option.none : Option Jvm.ClassFile.FieldType)) ∈ lw_all := lw_g (lw_at lw_m7 124 rfl) rfl
theorem q1807 : (Jvm.Cond.methodLink "MarkHouse$Ways" (65 : Nat) ({ cls := "MarkHouse$Program", name := "leads", desc := "(I)Z" } : Jvm.MethodName)) ∈ lw_all := lw_g (lw_at lw_m7 125 rfl) rfl
theorem q1808 : (Jvm.Cond.methodLink "MarkHouse$Ways" (71 : Nat) ({ cls := "MarkHouse$Program", name := "falls", desc := "(I)Z" } : Jvm.MethodName)) ∈ lw_all := lw_g (lw_at lw_m7 126 rfl) rfl
theorem q1809 : (Jvm.Cond.methodLink "MarkHouse$Ways" (76 : Nat) ({ cls := "MarkHouse$Ways", name := "leads", desc := "(IIII)V" } : Jvm.MethodName)) ∈ lw_all := lw_g (lw_at lw_m7 127 rfl) rfl
theorem q1810 : (Jvm.Cond.privateMethod ({ cls := "MarkHouse$Ways", name := "leads", desc := "(IIII)V" } : Jvm.MethodName)) ∈ lw_tbl := lw_at lw_m7 128 rfl
theorem q1811 : (Jvm.Cond.instanceMethod ({ cls := "MarkHouse$Ways", name := "leads", desc := "(IIII)V" } : Jvm.MethodName)) ∈ lw_all := lw_g (lw_at lw_m7 129 rfl) rfl
theorem q1812 : (Jvm.Cond.code ({ cls := "MarkHouse$Ways", name := "leads", desc := "(IIII)V" } : Jvm.MethodName) prog_14_method_4_code (5 : Nat) (Option.none : Option Jvm.ClassFile.FieldType)) ∈ lw_all := lw_g (lw_at lw_m7 130 rfl) rfl
theorem q1813 : (Jvm.Cond.methodLink "MarkHouse$Ways" (79 : Nat) ({ cls := "MarkHouse$Flow", name := "pass", desc := "(I[BI[BZ)V" } : Jvm.MethodName)) ∈ lw_all := lw_g (lw_at lw_m7 131 rfl) rfl
theorem in_X12 : ∀ w ∈ wsX120, w ∈ lw_all := lw_in wsX120 [977, 979, 981, 983, 985, 987, 989, 991, 993, 995, 997] (by decide +kernel) (by decide +kernel)
/-! MarkHouse$Weaver -/
set_option maxRecDepth 100000
def RX13 : String := "MarkHouse$Weaver"
def TX13 : u_T := fun k => match k with
  | 0 => ("MarkHouse$Weaver", "made", "LMarkHouse$Program;", true)
  | 1 => ("MarkHouse$Weaver", "flow", "LMarkHouse$Flow;", true)
  | _ => ("MarkHouse$Weaver", "checks", "[B", true)
def tyX13 : Nat → FieldType := fun k => match k with
  | 0 => .object "MarkHouse$Program"
  | 1 => .object "MarkHouse$Flow"
  | _ => .array .byte
abbrev wsX130 : List Cond := u_ws RX13 TX13 3
theorem nmX13 : ∀ a, a < 3 → ∀ b, b < 3 → a ≠ b → (TX13 a).2.1 ≠ (TX13 b).2.1 := by decide +kernel
theorem tyX13_ok : ∀ k, k < 3 → parseFieldDescriptor (TX13 k).2.2.1 = some (tyX13 k) := by decide +kernel
abbrev cX13_init : ByteArray := prog_15_method_1_code
def yX13_init : MethodName := ⟨RX13, "<init>", "(LMarkHouse$Program;LMarkHouse$Flow;)V"⟩
abbrev cX13_place : ByteArray := prog_15_method_5_code
def yX13_place : MethodName := ⟨RX13, "place", "(I)I"⟩
abbrev cX13_many : ByteArray := prog_15_method_4_code
def yX13_many : MethodName := ⟨RX13, "many", "(I)I"⟩
abbrev cX13_clear : ByteArray := prog_15_method_2_code
def yX13_clear : MethodName := ⟨RX13, "clear", "()V"⟩
abbrev cX13_weave : ByteArray := prog_15_method_3_code
def yX13_weave : MethodName := ⟨RX13, "weave", "()I"⟩
theorem q259 : (Jvm.Cond.initialized "MarkHouse$Weaver") ∈ lw_all := lw_g (lw_at lw_m1 17 rfl) rfl
theorem q449 : (Jvm.Cond.fieldLinkNest "MarkHouse$Weaver" (33 : Nat) "MarkHouse$Orders" "count" "I" "MarkHouse") ∈ lw_tbl := lw_at lw_m1 207 rfl
theorem q542 : (Jvm.Cond.fieldLinkNest "MarkHouse$Weaver" (27 : Nat) "MarkHouse$Program" "orders" "LMarkHouse$Orders;" "MarkHouse") ∈ lw_tbl := lw_at lw_m2 60 rfl
theorem q917 : (Jvm.Cond.fieldLinkNest "MarkHouse$Weaver" (45 : Nat) "MarkHouse$Flow" "acts" "[I" "MarkHouse") ∈ lw_tbl := lw_at lw_m3 195 rfl
theorem q920 : (Jvm.Cond.fieldLinkNest "MarkHouse$Weaver" (49 : Nat) "MarkHouse$Flow" "parameters" "[I" "MarkHouse") ∈ lw_tbl := lw_at lw_m3 198 rfl
theorem q926 : (Jvm.Cond.fieldLinkNest "MarkHouse$Weaver" (52 : Nat) "MarkHouse$Flow" "wanted" "[I" "MarkHouse") ∈ lw_tbl := lw_at lw_m3 204 rfl
theorem q1001 : (Jvm.Cond.instantiable "MarkHouse$Weaver" (3 : Nat)) ∈ lw_all := lw_g (lw_at lw_m4 39 rfl) rfl
theorem q1003 : (Jvm.Cond.instanceMethod ({ cls := "MarkHouse$Weaver", name := "<init>", desc := "(LMarkHouse$Program;LMarkHouse$Flow;)V" } : Jvm.MethodName)) ∈ lw_all := lw_g (lw_at lw_m4 41 rfl) rfl
theorem q1004 : (Jvm.Cond.code ({ cls := "MarkHouse$Weaver", name := "<init>", desc := "(LMarkHouse$Program;LMarkHouse$Flow;)V" } : Jvm.MethodName) prog_15_method_1_code (3 : Nat) (Option.none : Option Jvm.ClassFile.FieldType)) ∈ lw_all := lw_g (lw_at lw_m4 42 rfl) rfl
theorem q1005 : (Jvm.Cond.methodLink "MarkHouse$Weaver" (3 : Nat) ({ cls := "java/lang/Object", name := "<init>", desc := "()V" } : Jvm.MethodName)) ∈ lw_all := lw_g (lw_at lw_m4 43 rfl) rfl
theorem q1006 : (Jvm.Cond.constant "MarkHouse$Weaver" (9 : Nat) (61440 : Int32)) ∈ lw_all := lw_g (lw_at lw_m4 44 rfl) rfl
theorem q1007 : (Jvm.Cond.fieldLink "MarkHouse$Weaver" (16 : Nat) "MarkHouse$Weaver" "made" "LMarkHouse$Program;") ∈ lw_all := lw_g (lw_at lw_m4 45 rfl) rfl
theorem q1008 : (Jvm.Cond.fieldLink "MarkHouse$Weaver" (20 : Nat) "MarkHouse$Weaver" "flow" "LMarkHouse$Flow;") ∈ lw_all := lw_g (lw_at lw_m4 46 rfl) rfl
theorem q1009 : (Jvm.Cond.fieldLink "MarkHouse$Weaver" (10 : Nat) "MarkHouse$Weaver" "checks" "[B") ∈ lw_all := lw_g (lw_at lw_m4 47 rfl) rfl
theorem q1012 : (Jvm.Cond.laysFinal "MarkHouse$Weaver" "MarkHouse$Weaver" "made" "LMarkHouse$Program;") ∈ lw_all := lw_g (lw_at lw_m4 50 rfl) rfl
theorem q1013 : (Jvm.Cond.soleField "MarkHouse$Weaver" "made") ∈ lw_all := lw_g (lw_at lw_m4 51 rfl) rfl
theorem q1014 : (Jvm.Cond.laysFinal "MarkHouse$Weaver" "MarkHouse$Weaver" "flow" "LMarkHouse$Flow;") ∈ lw_all := lw_g (lw_at lw_m4 52 rfl) rfl
theorem q1015 : (Jvm.Cond.soleField "MarkHouse$Weaver" "flow") ∈ lw_all := lw_g (lw_at lw_m4 53 rfl) rfl
theorem q1016 : (Jvm.Cond.laysFinal "MarkHouse$Weaver" "MarkHouse$Weaver" "checks" "[B") ∈ lw_all := lw_g (lw_at lw_m4 54 rfl) rfl
theorem q1017 : (Jvm.Cond.soleField "MarkHouse$Weaver" "checks") ∈ lw_all := lw_g (lw_at lw_m4 55 rfl) rfl
theorem q1018 : (Jvm.Cond.superclass "MarkHouse$Weaver" "java/lang/Object") ∈ lw_all := lw_g (lw_at lw_m4 56 rfl) rfl
theorem q1427 : (Jvm.Cond.instanceMethod ({ cls := "MarkHouse$Weaver", name := "place", desc := "(I)I" } : Jvm.MethodName)) ∈ lw_all := lw_g (lw_at lw_m5 225 rfl) rfl
theorem q1428 : (Jvm.Cond.selects "MarkHouse$Weaver" ({ cls := "MarkHouse$Weaver", name := "place", desc := "(I)I" } : Jvm.MethodName) ({ cls := "MarkHouse$Weaver", name := "place", desc := "(I)I" } : Jvm.MethodName)) ∈ lw_all := lw_g (lw_at lw_m5 226 rfl) rfl
theorem q1429 : (Jvm.Cond.code ({ cls := "MarkHouse$Weaver", name := "place", desc := "(I)I" } : Jvm.MethodName) prog_15_method_5_code (4 : Nat) (Option.some Jvm.ClassFile.FieldType.int)) ∈ lw_all := lw_g (lw_at lw_m5 227 rfl) rfl
theorem q1430 : (Jvm.Cond.methodLink "MarkHouse$Weaver" (55 : Nat) ({ cls := "MarkHouse$Weaver", name := "many", desc := "(I)I" } : Jvm.MethodName)) ∈ lw_all := lw_g (lw_at lw_m5 228 rfl) rfl
theorem q1431 : (Jvm.Cond.instanceMethod ({ cls := "MarkHouse$Weaver", name := "many", desc := "(I)I" } : Jvm.MethodName)) ∈ lw_all := lw_g (lw_at lw_m5 229 rfl) rfl
theorem q1432 : (Jvm.Cond.selects "MarkHouse$Weaver" ({ cls := "MarkHouse$Weaver", name := "many", desc := "(I)I" } : Jvm.MethodName) ({ cls := "MarkHouse$Weaver", name := "many", desc := "(I)I" } : Jvm.MethodName)) ∈ lw_all := lw_g (lw_at lw_m5 230 rfl) rfl
theorem q1433 : (Jvm.Cond.code ({ cls := "MarkHouse$Weaver", name := "many", desc := "(I)I" } : Jvm.MethodName) prog_15_method_4_code (4 : Nat) (Option.some Jvm.ClassFile.FieldType.int)) ∈ lw_all := lw_g (lw_at lw_m5 231 rfl) rfl
theorem q1540 : (Jvm.Cond.instanceMethod ({ cls := "MarkHouse$Weaver", name := "clear", desc := "()V" } : Jvm.MethodName)) ∈ lw_all := lw_g (lw_at lw_m6 98 rfl) rfl
theorem q1541 : (Jvm.Cond.selects "MarkHouse$Weaver" ({ cls := "MarkHouse$Weaver", name := "clear", desc := "()V" } : Jvm.MethodName) ({ cls := "MarkHouse$Weaver", name := "clear", desc := "()V" } : Jvm.MethodName)) ∈ lw_all := lw_g (lw_at lw_m6 99 rfl) rfl
theorem q1542 : (Jvm.Cond.code ({ cls := "MarkHouse$Weaver", name := "clear", desc := "()V" } : Jvm.MethodName) prog_15_method_2_code (2 : Nat) (Option.none : Option Jvm.ClassFile.FieldType)) ∈ lw_all := lw_g (lw_at lw_m6 100 rfl) rfl
theorem q1849 : (Jvm.Cond.instanceMethod ({ cls := "MarkHouse$Weaver", name := "weave", desc := "()I" } : Jvm.MethodName)) ∈ lw_all := lw_g (lw_at lw_m7 167 rfl) rfl
theorem q1850 : (Jvm.Cond.selects "MarkHouse$Weaver" ({ cls := "MarkHouse$Weaver", name := "weave", desc := "()I" } : Jvm.MethodName) ({ cls := "MarkHouse$Weaver", name := "weave", desc := "()I" } : Jvm.MethodName)) ∈ lw_all := lw_g (lw_at lw_m7 168 rfl) rfl
theorem q1851 : (Jvm.Cond.code ({ cls := "MarkHouse$Weaver", name := "weave", desc := "()I" } : Jvm.MethodName) prog_15_method_3_code (5 : Nat) (Option.some Jvm.ClassFile.FieldType.int)) ∈ lw_all := lw_g (lw_at lw_m7 169 rfl) rfl
theorem q1852 : (Jvm.Cond.methodLink "MarkHouse$Weaver" (24 : Nat) ({ cls := "MarkHouse$Weaver", name := "clear", desc := "()V" } : Jvm.MethodName)) ∈ lw_all := lw_g (lw_at lw_m7 170 rfl) rfl
theorem q1853 : (Jvm.Cond.methodLink "MarkHouse$Weaver" (39 : Nat) ({ cls := "MarkHouse$Flow", name := "find", desc := "(I)I" } : Jvm.MethodName)) ∈ lw_all := lw_g (lw_at lw_m7 171 rfl) rfl
theorem in_X13 : ∀ w ∈ wsX130, w ∈ lw_all := lw_in wsX130 [1012, 1014, 1016] (by decide +kernel) (by decide +kernel)
/-! MarkHouse$Machine -/
set_option maxRecDepth 100000
def RX14 : String := "MarkHouse$Machine"
def TX14 : u_T := fun k => match k with
  | 0 => ("MarkHouse$Machine", "made", "LMarkHouse$Program;", true)
  | 1 => ("MarkHouse$Machine", "flow", "LMarkHouse$Flow;", true)
  | 2 => ("MarkHouse$Machine", "passing", "LMarkHouse$Passing;", true)
  | 3 => ("MarkHouse$Machine", "weaver", "LMarkHouse$Weaver;", true)
  | 4 => ("MarkHouse$Machine", "arguments", "[I", true)
  | 5 => ("MarkHouse$Machine", "inputs", "[I", true)
  | 6 => ("MarkHouse$Machine", "inputCount", "I", false)
  | 7 => ("MarkHouse$Machine", "fields", "[I", true)
  | 8 => ("MarkHouse$Machine", "fieldMarks", "[I", true)
  | 9 => ("MarkHouse$Machine", "cells", "[I", true)
  | 10 => ("MarkHouse$Machine", "cellMarks", "[I", true)
  | 11 => ("MarkHouse$Machine", "acts", "[I", true)
  | 12 => ("MarkHouse$Machine", "depths", "[I", true)
  | 13 => ("MarkHouse$Machine", "frames", "I", false)
  | 14 => ("MarkHouse$Machine", "state", "I", false)
  | 15 => ("MarkHouse$Machine", "value", "I", false)
  | 16 => ("MarkHouse$Machine", "valueMarks", "I", false)
  | 17 => ("MarkHouse$Machine", "done", "I", false)
  | 18 => ("MarkHouse$Machine", "left", "I", false)
  | 19 => ("MarkHouse$Machine", "leftAct", "I", false)
  | 20 => ("MarkHouse$Machine", "leftOrder", "I", false)
  | 21 => ("MarkHouse$Machine", "broken", "I", false)
  | 22 => ("MarkHouse$Machine", "checked", "I", false)
  | 23 => ("MarkHouse$Machine", "lowest", "I", false)
  | 24 => ("MarkHouse$Machine", "woven", "Z", false)
  | _ => ("MarkHouse$Machine", "marks", "[I", true)
def tyX14 : Nat → FieldType := fun k => match k with
  | 0 => .object "MarkHouse$Program"
  | 1 => .object "MarkHouse$Flow"
  | 2 => .object "MarkHouse$Passing"
  | 3 => .object "MarkHouse$Weaver"
  | 4 => .array .int
  | 5 => .array .int
  | 6 => .int
  | 7 => .array .int
  | 8 => .array .int
  | 9 => .array .int
  | 10 => .array .int
  | 11 => .array .int
  | 12 => .array .int
  | 13 => .int
  | 14 => .int
  | 15 => .int
  | 16 => .int
  | 17 => .int
  | 18 => .int
  | 19 => .int
  | 20 => .int
  | 21 => .int
  | 22 => .int
  | 23 => .int
  | 24 => .boolean
  | _ => .array .int
abbrev wsX140 : List Cond := u_ws RX14 TX14 26
set_option maxRecDepth 100000 in
theorem nmX14 : ∀ a, a < 26 → ∀ b, b < 26 → a ≠ b → (TX14 a).2.1 ≠ (TX14 b).2.1 := by decide +kernel
set_option maxRecDepth 100000 in
theorem tyX14_ok : ∀ k, k < 26 → parseFieldDescriptor (TX14 k).2.2.1 = some (tyX14 k) := by decide +kernel
abbrev cX14_init : ByteArray := prog_7_method_1_code
def yX14_init : MethodName := ⟨RX14, "<init>", "(LMarkHouse$Program;LMarkHouse$Flow;LMarkHouse$Passing;LMarkHouse$Weaver;)V"⟩
abbrev cX14_stop : ByteArray := prog_7_method_2_code
def yX14_stop : MethodName := ⟨RX14, "stop", "()V"⟩
abbrev cX14_input : ByteArray := prog_7_method_3_code
def yX14_input : MethodName := ⟨RX14, "input", "(I)Z"⟩
abbrev cX14_told0 : ByteArray := prog_7_method_23_code
def yX14_told0 : MethodName := ⟨RX14, "told0", "(I)I"⟩
abbrev cX14_truth : ByteArray := prog_7_method_24_code
def yX14_truth : MethodName := ⟨RX14, "truth", "(I)I"⟩
abbrev cX14_mark : ByteArray := prog_7_method_11_code
def yX14_mark : MethodName := ⟨RX14, "mark", "(II)I"⟩
abbrev cX14_begin : ByteArray := prog_7_method_4_code
def yX14_begin : MethodName := ⟨RX14, "begin", "(IZ)V"⟩
abbrev cX14_enter : ByteArray := prog_7_method_5_code
def yX14_enter : MethodName := ⟨RX14, "enter", "(I)V"⟩
abbrev cX14_go : ByteArray := prog_7_method_6_code
def yX14_go : MethodName := ⟨RX14, "go", "(I)I"⟩
abbrev cX14_one : ByteArray := prog_7_method_15_code
def yX14_one : MethodName := ⟨RX14, "one", "()Z"⟩
abbrev cX14_holds : ByteArray := prog_7_method_13_code
def yX14_holds : MethodName := ⟨RX14, "holds", "(I)Z"⟩
abbrev cX14_cell : ByteArray := prog_7_method_8_code
def yX14_cell : MethodName := ⟨RX14, "cell", "(I)I"⟩
abbrev cX14_base : ByteArray := prog_7_method_7_code
def yX14_base : MethodName := ⟨RX14, "base", "()I"⟩
abbrev cX14_isBelow : ByteArray := prog_7_method_12_code
def yX14_isBelow : MethodName := ⟨RX14, "isBelow", "(III)Z"⟩
abbrev cX14_look : ByteArray := prog_7_method_14_code
def yX14_look : MethodName := ⟨RX14, "look", "(I)V"⟩
abbrev cX14_call : ByteArray := prog_7_method_16_code
def yX14_call : MethodName := ⟨RX14, "call", "(I)V"⟩
abbrev cX14_drop : ByteArray := prog_7_method_10_code
def yX14_drop : MethodName := ⟨RX14, "drop", "(I)V"⟩
abbrev cX14_back : ByteArray := prog_7_method_17_code
def yX14_back : MethodName := ⟨RX14, "back", "()V"⟩
abbrev cX14_push : ByteArray := prog_7_method_9_code
def yX14_push : MethodName := ⟨RX14, "push", "(II)V"⟩
abbrev cX14_move : ByteArray := prog_7_method_21_code
def yX14_move : MethodName := ⟨RX14, "move", "(II)V"⟩
abbrev cX14_told : ByteArray := prog_7_method_18_code
def yX14_told : MethodName := ⟨RX14, "told", "(I)I"⟩
abbrev cX14_read : ByteArray := prog_7_method_20_code
def yX14_read : MethodName := ⟨RX14, "read", "(I)V"⟩
abbrev cX14_goal : ByteArray := prog_7_method_22_code
def yX14_goal : MethodName := ⟨RX14, "goal", "(I)I"⟩
abbrev cX14_two : ByteArray := prog_7_method_19_code
def yX14_two : MethodName := ⟨RX14, "two", "(I)V"⟩
theorem q260 : (Jvm.Cond.initialized "MarkHouse$Machine") ∈ lw_all := lw_g (lw_at lw_m1 18 rfl) rfl
theorem q450 : (Jvm.Cond.fieldLinkNest "MarkHouse$Machine" (77 : Nat) "MarkHouse$Orders" "count" "I" "MarkHouse") ∈ lw_tbl := lw_at lw_m1 208 rfl
theorem q465 : (Jvm.Cond.fieldLinkNest "MarkHouse$Machine" (99 : Nat) "MarkHouse$Orders" "bottoms" "[I" "MarkHouse") ∈ lw_tbl := lw_at lw_m1 223 rfl
theorem q543 : (Jvm.Cond.fieldLinkNest "MarkHouse$Machine" (71 : Nat) "MarkHouse$Program" "orders" "LMarkHouse$Orders;" "MarkHouse") ∈ lw_tbl := lw_at lw_m2 61 rfl
theorem q643 : (Jvm.Cond.fieldLinkNest "MarkHouse$Machine" (102 : Nat) "MarkHouse$Program" "firsts" "[I" "MarkHouse") ∈ lw_tbl := lw_at lw_m2 161 rfl
theorem q648 : (Jvm.Cond.fieldLinkNest "MarkHouse$Machine" (130 : Nat) "MarkHouse$Program" "parameters" "[I" "MarkHouse") ∈ lw_tbl := lw_at lw_m2 166 rfl
theorem q665 : (Jvm.Cond.fieldLinkNest "MarkHouse$Machine" (167 : Nat) "MarkHouse$Program" "does" "[B" "MarkHouse") ∈ lw_tbl := lw_at lw_m2 183 rfl
theorem q670 : (Jvm.Cond.fieldLinkNest "MarkHouse$Machine" (185 : Nat) "MarkHouse$Program" "number" "[I" "MarkHouse") ∈ lw_tbl := lw_at lw_m2 188 rfl
theorem q676 : (Jvm.Cond.fieldLinkNest "MarkHouse$Machine" (218 : Nat) "MarkHouse$Program" "element" "[I" "MarkHouse") ∈ lw_tbl := lw_at lw_m2 194 rfl
theorem q681 : (Jvm.Cond.fieldLinkNest "MarkHouse$Machine" (197 : Nat) "MarkHouse$Program" "told" "[I" "MarkHouse") ∈ lw_tbl := lw_at lw_m2 199 rfl
theorem q687 : (Jvm.Cond.fieldLinkNest "MarkHouse$Machine" (224 : Nat) "MarkHouse$Program" "leads" "[I" "MarkHouse") ∈ lw_tbl := lw_at lw_m2 205 rfl
theorem q1010 : (Jvm.Cond.fieldLinkNest "MarkHouse$Machine" (151 : Nat) "MarkHouse$Weaver" "checks" "[B" "MarkHouse") ∈ lw_tbl := lw_at lw_m4 48 rfl
theorem q1020 : (Jvm.Cond.instantiable "MarkHouse$Machine" (26 : Nat)) ∈ lw_all := lw_g (lw_at lw_m4 58 rfl) rfl
theorem q1022 : (Jvm.Cond.instanceMethod ({ cls := "MarkHouse$Machine", name := "<init>", desc := "(LMarkHouse$Program;LMarkHouse$Flow;LMarkHouse$Passing;LMarkHouse$Weaver;)V" } : Jvm.MethodName)) ∈ lw_all := lw_g (lw_at lw_m4 60 rfl) rfl
theorem q1023 : (Jvm.Cond.code ({ cls := "MarkHouse$Machine", name := "<init>", desc := "(LMarkHouse$Program;LMarkHouse$Flow;LMarkHouse$Passing;LMarkHouse$Weaver;)V" } : Jvm.MethodName) prog_7_method_1_code (5 : Nat) (Option.none : Option Jvm.ClassFile.FieldType)) ∈ lw_all := lw_g (lw_at lw_m4 61 rfl) rfl
theorem q1024 : (Jvm.Cond.methodLink "MarkHouse$Machine" (3 : Nat) ({ cls := "java/lang/Object", name := "<init>", desc := "()V" } : Jvm.MethodName)) ∈ lw_all := lw_g (lw_at lw_m4 62 rfl) rfl
theorem q1025 : (Jvm.Cond.fieldLink "MarkHouse$Machine" (41 : Nat) "MarkHouse$Machine" "made" "LMarkHouse$Program;") ∈ lw_all := lw_g (lw_at lw_m4 63 rfl) rfl
theorem q1026 : (Jvm.Cond.fieldLink "MarkHouse$Machine" (45 : Nat) "MarkHouse$Machine" "flow" "LMarkHouse$Flow;") ∈ lw_all := lw_g (lw_at lw_m4 64 rfl) rfl
theorem q1027 : (Jvm.Cond.fieldLink "MarkHouse$Machine" (49 : Nat) "MarkHouse$Machine" "passing" "LMarkHouse$Passing;") ∈ lw_all := lw_g (lw_at lw_m4 65 rfl) rfl
theorem q1028 : (Jvm.Cond.fieldLink "MarkHouse$Machine" (53 : Nat) "MarkHouse$Machine" "weaver" "LMarkHouse$Weaver;") ∈ lw_all := lw_g (lw_at lw_m4 66 rfl) rfl
theorem q1029 : (Jvm.Cond.fieldLink "MarkHouse$Machine" (9 : Nat) "MarkHouse$Machine" "arguments" "[I") ∈ lw_all := lw_g (lw_at lw_m4 67 rfl) rfl
theorem q1031 : (Jvm.Cond.fieldLink "MarkHouse$Machine" (15 : Nat) "MarkHouse$Machine" "inputs" "[I") ∈ lw_all := lw_g (lw_at lw_m4 69 rfl) rfl
theorem q1032 : (Jvm.Cond.fieldLink "MarkHouse$Machine" (64 : Nat) "MarkHouse$Machine" "inputCount" "I") ∈ lw_all := lw_g (lw_at lw_m4 70 rfl) rfl
theorem q1034 : (Jvm.Cond.fieldLink "MarkHouse$Machine" (18 : Nat) "MarkHouse$Machine" "fields" "[I") ∈ lw_all := lw_g (lw_at lw_m4 72 rfl) rfl
theorem q1035 : (Jvm.Cond.fieldLink "MarkHouse$Machine" (21 : Nat) "MarkHouse$Machine" "fieldMarks" "[I") ∈ lw_all := lw_g (lw_at lw_m4 73 rfl) rfl
theorem q1036 : (Jvm.Cond.fieldLink "MarkHouse$Machine" (26 : Nat) "MarkHouse$Machine" "cells" "[I") ∈ lw_all := lw_g (lw_at lw_m4 74 rfl) rfl
theorem q1037 : (Jvm.Cond.fieldLink "MarkHouse$Machine" (29 : Nat) "MarkHouse$Machine" "cellMarks" "[I") ∈ lw_all := lw_g (lw_at lw_m4 75 rfl) rfl
theorem q1038 : (Jvm.Cond.fieldLink "MarkHouse$Machine" (32 : Nat) "MarkHouse$Machine" "acts" "[I") ∈ lw_all := lw_g (lw_at lw_m4 76 rfl) rfl
theorem q1039 : (Jvm.Cond.fieldLink "MarkHouse$Machine" (35 : Nat) "MarkHouse$Machine" "depths" "[I") ∈ lw_all := lw_g (lw_at lw_m4 77 rfl) rfl
theorem q1040 : (Jvm.Cond.fieldLink "MarkHouse$Machine" (61 : Nat) "MarkHouse$Machine" "frames" "I") ∈ lw_all := lw_g (lw_at lw_m4 78 rfl) rfl
theorem q1041 : (Jvm.Cond.fieldLink "MarkHouse$Machine" (57 : Nat) "MarkHouse$Machine" "state" "I") ∈ lw_all := lw_g (lw_at lw_m4 79 rfl) rfl
theorem q1043 : (Jvm.Cond.fieldLink "MarkHouse$Machine" (105 : Nat) "MarkHouse$Machine" "value" "I") ∈ lw_all := lw_g (lw_at lw_m4 81 rfl) rfl
theorem q1044 : (Jvm.Cond.fieldLink "MarkHouse$Machine" (191 : Nat) "MarkHouse$Machine" "valueMarks" "I") ∈ lw_all := lw_g (lw_at lw_m4 82 rfl) rfl
theorem q1045 : (Jvm.Cond.fieldLink "MarkHouse$Machine" (108 : Nat) "MarkHouse$Machine" "done" "I") ∈ lw_all := lw_g (lw_at lw_m4 83 rfl) rfl
theorem q1046 : (Jvm.Cond.fieldLink "MarkHouse$Machine" (111 : Nat) "MarkHouse$Machine" "left" "I") ∈ lw_all := lw_g (lw_at lw_m4 84 rfl) rfl
theorem q1047 : (Jvm.Cond.fieldLink "MarkHouse$Machine" (114 : Nat) "MarkHouse$Machine" "leftAct" "I") ∈ lw_all := lw_g (lw_at lw_m4 85 rfl) rfl
theorem q1048 : (Jvm.Cond.fieldLink "MarkHouse$Machine" (117 : Nat) "MarkHouse$Machine" "leftOrder" "I") ∈ lw_all := lw_g (lw_at lw_m4 86 rfl) rfl
theorem q1049 : (Jvm.Cond.fieldLink "MarkHouse$Machine" (120 : Nat) "MarkHouse$Machine" "broken" "I") ∈ lw_all := lw_g (lw_at lw_m4 87 rfl) rfl
theorem q1050 : (Jvm.Cond.fieldLink "MarkHouse$Machine" (123 : Nat) "MarkHouse$Machine" "checked" "I") ∈ lw_all := lw_g (lw_at lw_m4 88 rfl) rfl
theorem q1051 : (Jvm.Cond.fieldLink "MarkHouse$Machine" (96 : Nat) "MarkHouse$Machine" "lowest" "I") ∈ lw_all := lw_g (lw_at lw_m4 89 rfl) rfl
theorem q1052 : (Jvm.Cond.fieldLink "MarkHouse$Machine" (67 : Nat) "MarkHouse$Machine" "woven" "Z") ∈ lw_all := lw_g (lw_at lw_m4 90 rfl) rfl
theorem q1053 : (Jvm.Cond.fieldLink "MarkHouse$Machine" (38 : Nat) "MarkHouse$Machine" "marks" "[I") ∈ lw_all := lw_g (lw_at lw_m4 91 rfl) rfl
theorem q1054 : (Jvm.Cond.laysFinal "MarkHouse$Machine" "MarkHouse$Machine" "made" "LMarkHouse$Program;") ∈ lw_all := lw_g (lw_at lw_m4 92 rfl) rfl
theorem q1055 : (Jvm.Cond.soleField "MarkHouse$Machine" "made") ∈ lw_all := lw_g (lw_at lw_m4 93 rfl) rfl
theorem q1056 : (Jvm.Cond.laysFinal "MarkHouse$Machine" "MarkHouse$Machine" "flow" "LMarkHouse$Flow;") ∈ lw_all := lw_g (lw_at lw_m4 94 rfl) rfl
theorem q1057 : (Jvm.Cond.soleField "MarkHouse$Machine" "flow") ∈ lw_all := lw_g (lw_at lw_m4 95 rfl) rfl
theorem q1058 : (Jvm.Cond.laysFinal "MarkHouse$Machine" "MarkHouse$Machine" "passing" "LMarkHouse$Passing;") ∈ lw_all := lw_g (lw_at lw_m4 96 rfl) rfl
theorem q1059 : (Jvm.Cond.soleField "MarkHouse$Machine" "passing") ∈ lw_all := lw_g (lw_at lw_m4 97 rfl) rfl
theorem q1060 : (Jvm.Cond.laysFinal "MarkHouse$Machine" "MarkHouse$Machine" "weaver" "LMarkHouse$Weaver;") ∈ lw_all := lw_g (lw_at lw_m4 98 rfl) rfl
theorem q1061 : (Jvm.Cond.soleField "MarkHouse$Machine" "weaver") ∈ lw_all := lw_g (lw_at lw_m4 99 rfl) rfl
theorem q1062 : (Jvm.Cond.laysFinal "MarkHouse$Machine" "MarkHouse$Machine" "arguments" "[I") ∈ lw_all := lw_g (lw_at lw_m4 100 rfl) rfl
theorem q1063 : (Jvm.Cond.soleField "MarkHouse$Machine" "arguments") ∈ lw_all := lw_g (lw_at lw_m4 101 rfl) rfl
theorem q1064 : (Jvm.Cond.laysFinal "MarkHouse$Machine" "MarkHouse$Machine" "inputs" "[I") ∈ lw_all := lw_g (lw_at lw_m4 102 rfl) rfl
theorem q1065 : (Jvm.Cond.soleField "MarkHouse$Machine" "inputs") ∈ lw_all := lw_g (lw_at lw_m4 103 rfl) rfl
theorem q1066 : (Jvm.Cond.lays "MarkHouse$Machine" "MarkHouse$Machine" "inputCount" "I") ∈ lw_all := lw_g (lw_at lw_m4 104 rfl) rfl
theorem q1067 : (Jvm.Cond.soleField "MarkHouse$Machine" "inputCount") ∈ lw_all := lw_g (lw_at lw_m4 105 rfl) rfl
theorem q1068 : (Jvm.Cond.laysFinal "MarkHouse$Machine" "MarkHouse$Machine" "fields" "[I") ∈ lw_all := lw_g (lw_at lw_m4 106 rfl) rfl
theorem q1069 : (Jvm.Cond.soleField "MarkHouse$Machine" "fields") ∈ lw_all := lw_g (lw_at lw_m4 107 rfl) rfl
theorem q1070 : (Jvm.Cond.laysFinal "MarkHouse$Machine" "MarkHouse$Machine" "fieldMarks" "[I") ∈ lw_all := lw_g (lw_at lw_m4 108 rfl) rfl
theorem q1071 : (Jvm.Cond.soleField "MarkHouse$Machine" "fieldMarks") ∈ lw_all := lw_g (lw_at lw_m4 109 rfl) rfl
theorem q1072 : (Jvm.Cond.laysFinal "MarkHouse$Machine" "MarkHouse$Machine" "cells" "[I") ∈ lw_all := lw_g (lw_at lw_m4 110 rfl) rfl
theorem q1073 : (Jvm.Cond.soleField "MarkHouse$Machine" "cells") ∈ lw_all := lw_g (lw_at lw_m4 111 rfl) rfl
theorem q1074 : (Jvm.Cond.laysFinal "MarkHouse$Machine" "MarkHouse$Machine" "cellMarks" "[I") ∈ lw_all := lw_g (lw_at lw_m4 112 rfl) rfl
theorem q1075 : (Jvm.Cond.soleField "MarkHouse$Machine" "cellMarks") ∈ lw_all := lw_g (lw_at lw_m4 113 rfl) rfl
theorem q1076 : (Jvm.Cond.laysFinal "MarkHouse$Machine" "MarkHouse$Machine" "acts" "[I") ∈ lw_all := lw_g (lw_at lw_m4 114 rfl) rfl
theorem q1077 : (Jvm.Cond.soleField "MarkHouse$Machine" "acts") ∈ lw_all := lw_g (lw_at lw_m4 115 rfl) rfl
theorem q1078 : (Jvm.Cond.laysFinal "MarkHouse$Machine" "MarkHouse$Machine" "depths" "[I") ∈ lw_all := lw_g (lw_at lw_m4 116 rfl) rfl
theorem q1079 : (Jvm.Cond.soleField "MarkHouse$Machine" "depths") ∈ lw_all := lw_g (lw_at lw_m4 117 rfl) rfl
theorem q1080 : (Jvm.Cond.lays "MarkHouse$Machine" "MarkHouse$Machine" "frames" "I") ∈ lw_all := lw_g (lw_at lw_m4 118 rfl) rfl
theorem q1081 : (Jvm.Cond.soleField "MarkHouse$Machine" "frames") ∈ lw_all := lw_g (lw_at lw_m4 119 rfl) rfl
theorem q1082 : (Jvm.Cond.lays "MarkHouse$Machine" "MarkHouse$Machine" "state" "I") ∈ lw_all := lw_g (lw_at lw_m4 120 rfl) rfl
theorem q1083 : (Jvm.Cond.soleField "MarkHouse$Machine" "state") ∈ lw_all := lw_g (lw_at lw_m4 121 rfl) rfl
theorem q1084 : (Jvm.Cond.lays "MarkHouse$Machine" "MarkHouse$Machine" "value" "I") ∈ lw_all := lw_g (lw_at lw_m4 122 rfl) rfl
theorem q1085 : (Jvm.Cond.soleField "MarkHouse$Machine" "value") ∈ lw_all := lw_g (lw_at lw_m4 123 rfl) rfl
theorem q1086 : (Jvm.Cond.lays "MarkHouse$Machine" "MarkHouse$Machine" "valueMarks" "I") ∈ lw_all := lw_g (lw_at lw_m4 124 rfl) rfl
theorem q1087 : (Jvm.Cond.soleField "MarkHouse$Machine" "valueMarks") ∈ lw_all := lw_g (lw_at lw_m4 125 rfl) rfl
theorem q1088 : (Jvm.Cond.lays "MarkHouse$Machine" "MarkHouse$Machine" "done" "I") ∈ lw_all := lw_g (lw_at lw_m4 126 rfl) rfl
theorem q1089 : (Jvm.Cond.soleField "MarkHouse$Machine" "done") ∈ lw_all := lw_g (lw_at lw_m4 127 rfl) rfl
theorem q1090 : (Jvm.Cond.lays "MarkHouse$Machine" "MarkHouse$Machine" "left" "I") ∈ lw_all := lw_g (lw_at lw_m4 128 rfl) rfl
theorem q1091 : (Jvm.Cond.soleField "MarkHouse$Machine" "left") ∈ lw_all := lw_g (lw_at lw_m4 129 rfl) rfl
theorem q1092 : (Jvm.Cond.lays "MarkHouse$Machine" "MarkHouse$Machine" "leftAct" "I") ∈ lw_all := lw_g (lw_at lw_m4 130 rfl) rfl
theorem q1093 : (Jvm.Cond.soleField "MarkHouse$Machine" "leftAct") ∈ lw_all := lw_g (lw_at lw_m4 131 rfl) rfl
theorem q1094 : (Jvm.Cond.lays "MarkHouse$Machine" "MarkHouse$Machine" "leftOrder" "I") ∈ lw_all := lw_g (lw_at lw_m4 132 rfl) rfl
theorem q1095 : (Jvm.Cond.soleField "MarkHouse$Machine" "leftOrder") ∈ lw_all := lw_g (lw_at lw_m4 133 rfl) rfl
theorem q1096 : (Jvm.Cond.lays "MarkHouse$Machine" "MarkHouse$Machine" "broken" "I") ∈ lw_all := lw_g (lw_at lw_m4 134 rfl) rfl
theorem q1097 : (Jvm.Cond.soleField "MarkHouse$Machine" "broken") ∈ lw_all := lw_g (lw_at lw_m4 135 rfl) rfl
theorem q1098 : (Jvm.Cond.lays "MarkHouse$Machine" "MarkHouse$Machine" "checked" "I") ∈ lw_all := lw_g (lw_at lw_m4 136 rfl) rfl
theorem q1099 : (Jvm.Cond.soleField "MarkHouse$Machine" "checked") ∈ lw_all := lw_g (lw_at lw_m4 137 rfl) rfl
theorem q1100 : (Jvm.Cond.lays "MarkHouse$Machine" "MarkHouse$Machine" "lowest" "I") ∈ lw_all := lw_g (lw_at lw_m4 138 rfl) rfl
theorem q1101 : (Jvm.Cond.soleField "MarkHouse$Machine" "lowest") ∈ lw_all := lw_g (lw_at lw_m4 139 rfl) rfl
theorem q1102 : (Jvm.Cond.lays "MarkHouse$Machine" "MarkHouse$Machine" "woven" "Z") ∈ lw_all := lw_g (lw_at lw_m4 140 rfl) rfl
theorem q1103 : (Jvm.Cond.soleField "MarkHouse$Machine" "woven") ∈ lw_all := lw_g (lw_at lw_m4 141 rfl) rfl
theorem q1104 : (Jvm.Cond.laysFinal "MarkHouse$Machine" "MarkHouse$Machine" "marks" "[I") ∈ lw_all := lw_g (lw_at lw_m4 142 rfl) rfl
theorem q1105 : (Jvm.Cond.soleField "MarkHouse$Machine" "marks") ∈ lw_all := lw_g (lw_at lw_m4 143 rfl) rfl
theorem q1106 : (Jvm.Cond.superclass "MarkHouse$Machine" "java/lang/Object") ∈ lw_all := lw_g (lw_at lw_m4 144 rfl) rfl
theorem q1544 : (Jvm.Cond.instanceMethod ({ cls := "MarkHouse$Machine", name := "stop", desc := "()V" } : Jvm.MethodName)) ∈ lw_all := lw_g (lw_at lw_m6 102 rfl) rfl
theorem q1545 : (Jvm.Cond.selects "MarkHouse$Machine" ({ cls := "MarkHouse$Machine", name := "stop", desc := "()V" } : Jvm.MethodName) ({ cls := "MarkHouse$Machine", name := "stop", desc := "()V" } : Jvm.MethodName)) ∈ lw_all := lw_g (lw_at lw_m6 103 rfl) rfl
theorem q1546 : (Jvm.Cond.code ({ cls := "MarkHouse$Machine", name := "stop", desc := "()V" } : Jvm.MethodName) prog_7_method_2_code (1 : Nat) (Option.none : Option Jvm.ClassFile.FieldType)) ∈ lw_all := lw_g (lw_at lw_m6 104 rfl) rfl
theorem q1873 : (Jvm.Cond.instanceMethod ({ cls := "MarkHouse$Machine", name := "input", desc := "(I)Z" } : Jvm.MethodName)) ∈ lw_all := lw_g (lw_at lw_m7 191 rfl) rfl
theorem q1874 : (Jvm.Cond.selects "MarkHouse$Machine" ({ cls := "MarkHouse$Machine", name := "input", desc := "(I)Z" } : Jvm.MethodName) ({ cls := "MarkHouse$Machine", name := "input", desc := "(I)Z" } : Jvm.MethodName)) ∈ lw_all := lw_g (lw_at lw_m7 192 rfl) rfl
theorem q1875 : (Jvm.Cond.code ({ cls := "MarkHouse$Machine", name := "input", desc := "(I)Z" } : Jvm.MethodName) prog_7_method_3_code (2 : Nat) (Option.some Jvm.ClassFile.FieldType.boolean)) ∈ lw_all := lw_g (lw_at lw_m7 193 rfl) rfl
theorem q1881 : (Jvm.Cond.instanceMethod ({ cls := "MarkHouse$Machine", name := "told0", desc := "(I)I" } : Jvm.MethodName)) ∈ lw_all := lw_g (lw_at lw_m7 199 rfl) rfl
theorem q1882 : (Jvm.Cond.selects "MarkHouse$Machine" ({ cls := "MarkHouse$Machine", name := "told0", desc := "(I)I" } : Jvm.MethodName) ({ cls := "MarkHouse$Machine", name := "told0", desc := "(I)I" } : Jvm.MethodName)) ∈ lw_all := lw_g (lw_at lw_m7 200 rfl) rfl
theorem q1883 : (Jvm.Cond.code ({ cls := "MarkHouse$Machine", name := "told0", desc := "(I)I" } : Jvm.MethodName) prog_7_method_23_code (2 : Nat) (Option.some Jvm.ClassFile.FieldType.int)) ∈ lw_all := lw_g (lw_at lw_m7 201 rfl) rfl
theorem q1884 : (Jvm.Cond.methodLink "MarkHouse$Machine" (227 : Nat) ({ cls := "MarkHouse$Program", name := "ofMethod", desc := "(I)I" } : Jvm.MethodName)) ∈ lw_all := lw_g (lw_at lw_m7 202 rfl) rfl
theorem q1885 : (Jvm.Cond.methodLink "MarkHouse$Machine" (230 : Nat) ({ cls := "MarkHouse$Program", name := "place", desc := "(I)I" } : Jvm.MethodName)) ∈ lw_all := lw_g (lw_at lw_m7 203 rfl) rfl
theorem q1891 : (Jvm.Cond.instanceMethod ({ cls := "MarkHouse$Machine", name := "truth", desc := "(I)I" } : Jvm.MethodName)) ∈ lw_all := lw_g (lw_at lw_m7 209 rfl) rfl
theorem q1892 : (Jvm.Cond.selects "MarkHouse$Machine" ({ cls := "MarkHouse$Machine", name := "truth", desc := "(I)I" } : Jvm.MethodName) ({ cls := "MarkHouse$Machine", name := "truth", desc := "(I)I" } : Jvm.MethodName)) ∈ lw_all := lw_g (lw_at lw_m7 210 rfl) rfl
theorem q1893 : (Jvm.Cond.code ({ cls := "MarkHouse$Machine", name := "truth", desc := "(I)I" } : Jvm.MethodName) prog_7_method_24_code (2 : Nat) (Option.some Jvm.ClassFile.FieldType.int)) ∈ lw_all := lw_g (lw_at lw_m7 211 rfl) rfl
theorem q1894 : (Jvm.Cond.methodLink "MarkHouse$Machine" (144 : Nat) ({ cls := "MarkHouse$Machine", name := "mark", desc := "(II)I" } : Jvm.MethodName)) ∈ lw_all := lw_g (lw_at lw_m7 212 rfl) rfl
theorem q1895 : (Jvm.Cond.privateMethod ({ cls := "MarkHouse$Machine", name := "mark", desc := "(II)I" } : Jvm.MethodName)) ∈ lw_tbl := lw_at lw_m7 213 rfl
theorem q1896 : (Jvm.Cond.instanceMethod ({ cls := "MarkHouse$Machine", name := "mark", desc := "(II)I" } : Jvm.MethodName)) ∈ lw_all := lw_g (lw_at lw_m7 214 rfl) rfl
theorem q1897 : (Jvm.Cond.code ({ cls := "MarkHouse$Machine", name := "mark", desc := "(II)I" } : Jvm.MethodName) prog_7_method_11_code (3 : Nat) (Option.some Jvm.ClassFile.FieldType.int)) ∈ lw_all := lw_g (lw_at lw_m7 215 rfl) rfl
theorem q2418 : (Jvm.Cond.instanceMethod ({ cls := "MarkHouse$Machine", name := "begin", desc := "(IZ)V" } : Jvm.MethodName)) ∈ lw_all := lw_g (lw_at lw_m10 16 rfl) rfl
theorem q2419 : (Jvm.Cond.selects "MarkHouse$Machine" ({ cls := "MarkHouse$Machine", name := "begin", desc := "(IZ)V" } : Jvm.MethodName) ({ cls := "MarkHouse$Machine", name := "begin", desc := "(IZ)V" } : Jvm.MethodName)) ∈ lw_all := lw_g (lw_at lw_m10 17 rfl) rfl
theorem q2420 : (Jvm.Cond.code ({ cls := "MarkHouse$Machine", name := "begin", desc := "(IZ)V" } : Jvm.MethodName) prog_7_method_4_code (5 : Nat) (Option.none : Option Jvm.ClassFile.FieldType)) ∈ lw_all := lw_g (lw_at lw_m10 18 rfl) rfl
theorem q2421 : (Jvm.Cond.methodLink "MarkHouse$Machine" (82 : Nat) ({ cls := "MarkHouse$Program", name := "sort", desc := "(I)I" } : Jvm.MethodName)) ∈ lw_all := lw_g (lw_at lw_m10 19 rfl) rfl
theorem q2422 : (Jvm.Cond.methodLink "MarkHouse$Machine" (86 : Nat) ({ cls := "MarkHouse$Program", name := "isRow", desc := "(I)Z" } : Jvm.MethodName)) ∈ lw_all := lw_g (lw_at lw_m10 20 rfl) rfl
theorem q2423 : (Jvm.Cond.methodLink "MarkHouse$Machine" (90 : Nat) ({ cls := "MarkHouse$Passing", name := "markOf", desc := "(II)I" } : Jvm.MethodName)) ∈ lw_all := lw_g (lw_at lw_m10 21 rfl) rfl
theorem q2424 : (Jvm.Cond.methodLink "MarkHouse$Machine" (126 : Nat) ({ cls := "MarkHouse$Machine", name := "enter", desc := "(I)V" } : Jvm.MethodName)) ∈ lw_all := lw_g (lw_at lw_m10 22 rfl) rfl
theorem q2425 : (Jvm.Cond.privateMethod ({ cls := "MarkHouse$Machine", name := "enter", desc := "(I)V" } : Jvm.MethodName)) ∈ lw_tbl := lw_at lw_m10 23 rfl
theorem q2426 : (Jvm.Cond.instanceMethod ({ cls := "MarkHouse$Machine", name := "enter", desc := "(I)V" } : Jvm.MethodName)) ∈ lw_all := lw_g (lw_at lw_m10 24 rfl) rfl
theorem q2427 : (Jvm.Cond.code ({ cls := "MarkHouse$Machine", name := "enter", desc := "(I)V" } : Jvm.MethodName) prog_7_method_5_code (4 : Nat) (Option.none : Option Jvm.ClassFile.FieldType)) ∈ lw_all := lw_g (lw_at lw_m10 25 rfl) rfl
theorem q2436 : (Jvm.Cond.instanceMethod ({ cls := "MarkHouse$Machine", name := "go", desc := "(I)I" } : Jvm.MethodName)) ∈ lw_all := lw_g (lw_at lw_m10 34 rfl) rfl
theorem q2437 : (Jvm.Cond.selects "MarkHouse$Machine" ({ cls := "MarkHouse$Machine", name := "go", desc := "(I)I" } : Jvm.MethodName) ({ cls := "MarkHouse$Machine", name := "go", desc := "(I)I" } : Jvm.MethodName)) ∈ lw_all := lw_g (lw_at lw_m10 35 rfl) rfl
theorem q2438 : (Jvm.Cond.code ({ cls := "MarkHouse$Machine", name := "go", desc := "(I)I" } : Jvm.MethodName) prog_7_method_6_code (3 : Nat) (Option.some Jvm.ClassFile.FieldType.int)) ∈ lw_all := lw_g (lw_at lw_m10 36 rfl) rfl
theorem q2439 : (Jvm.Cond.methodLink "MarkHouse$Machine" (133 : Nat) ({ cls := "MarkHouse$Machine", name := "one", desc := "()Z" } : Jvm.MethodName)) ∈ lw_all := lw_g (lw_at lw_m10 37 rfl) rfl
theorem q2440 : (Jvm.Cond.privateMethod ({ cls := "MarkHouse$Machine", name := "one", desc := "()Z" } : Jvm.MethodName)) ∈ lw_tbl := lw_at lw_m10 38 rfl
theorem q2441 : (Jvm.Cond.instanceMethod ({ cls := "MarkHouse$Machine", name := "one", desc := "()Z" } : Jvm.MethodName)) ∈ lw_all := lw_g (lw_at lw_m10 39 rfl) rfl
theorem q2442 : (Jvm.Cond.code ({ cls := "MarkHouse$Machine", name := "one", desc := "()Z" } : Jvm.MethodName) prog_7_method_15_code (3 : Nat) (Option.some Jvm.ClassFile.FieldType.boolean)) ∈ lw_all := lw_g (lw_at lw_m10 40 rfl) rfl
theorem q2443 : (Jvm.Cond.methodLink "MarkHouse$Machine" (164 : Nat) ({ cls := "MarkHouse$Machine", name := "holds", desc := "(I)Z" } : Jvm.MethodName)) ∈ lw_all := lw_g (lw_at lw_m10 41 rfl) rfl
theorem q2444 : (Jvm.Cond.privateMethod ({ cls := "MarkHouse$Machine", name := "holds", desc := "(I)Z" } : Jvm.MethodName)) ∈ lw_tbl := lw_at lw_m10 42 rfl
theorem q2445 : (Jvm.Cond.instanceMethod ({ cls := "MarkHouse$Machine", name := "holds", desc := "(I)Z" } : Jvm.MethodName)) ∈ lw_all := lw_g (lw_at lw_m10 43 rfl) rfl
theorem q2446 : (Jvm.Cond.code ({ cls := "MarkHouse$Machine", name := "holds", desc := "(I)Z" } : Jvm.MethodName) prog_7_method_13_code (4 : Nat) (Option.some Jvm.ClassFile.FieldType.boolean)) ∈ lw_all := lw_g (lw_at lw_m10 44 rfl) rfl
theorem q2447 : (Jvm.Cond.methodLink "MarkHouse$Machine" (157 : Nat) ({ cls := "MarkHouse$Flow", name := "below", desc := "(II)I" } : Jvm.MethodName)) ∈ lw_all := lw_g (lw_at lw_m10 45 rfl) rfl
theorem q2448 : (Jvm.Cond.methodLink "MarkHouse$Machine" (141 : Nat) ({ cls := "MarkHouse$Machine", name := "cell", desc := "(I)I" } : Jvm.MethodName)) ∈ lw_all := lw_g (lw_at lw_m10 46 rfl) rfl
theorem q2449 : (Jvm.Cond.privateMethod ({ cls := "MarkHouse$Machine", name := "cell", desc := "(I)I" } : Jvm.MethodName)) ∈ lw_tbl := lw_at lw_m10 47 rfl
theorem q2450 : (Jvm.Cond.instanceMethod ({ cls := "MarkHouse$Machine", name := "cell", desc := "(I)I" } : Jvm.MethodName)) ∈ lw_all := lw_g (lw_at lw_m10 48 rfl) rfl
theorem q2451 : (Jvm.Cond.code ({ cls := "MarkHouse$Machine", name := "cell", desc := "(I)I" } : Jvm.MethodName) prog_7_method_8_code (2 : Nat) (Option.some Jvm.ClassFile.FieldType.int)) ∈ lw_all := lw_g (lw_at lw_m10 49 rfl) rfl
theorem q2452 : (Jvm.Cond.methodLink "MarkHouse$Machine" (137 : Nat) ({ cls := "MarkHouse$Machine", name := "base", desc := "()I" } : Jvm.MethodName)) ∈ lw_all := lw_g (lw_at lw_m10 50 rfl) rfl
theorem q2453 : (Jvm.Cond.privateMethod ({ cls := "MarkHouse$Machine", name := "base", desc := "()I" } : Jvm.MethodName)) ∈ lw_tbl := lw_at lw_m10 51 rfl
theorem q2454 : (Jvm.Cond.instanceMethod ({ cls := "MarkHouse$Machine", name := "base", desc := "()I" } : Jvm.MethodName)) ∈ lw_all := lw_g (lw_at lw_m10 52 rfl) rfl
theorem q2455 : (Jvm.Cond.code ({ cls := "MarkHouse$Machine", name := "base", desc := "()I" } : Jvm.MethodName) prog_7_method_7_code (1 : Nat) (Option.some Jvm.ClassFile.FieldType.int)) ∈ lw_all := lw_g (lw_at lw_m10 53 rfl) rfl
theorem q2456 : (Jvm.Cond.methodLink "MarkHouse$Machine" (160 : Nat) ({ cls := "MarkHouse$Machine", name := "isBelow", desc := "(III)Z" } : Jvm.MethodName)) ∈ lw_all := lw_g (lw_at lw_m10 54 rfl) rfl
theorem q2457 : (Jvm.Cond.privateMethod ({ cls := "MarkHouse$Machine", name := "isBelow", desc := "(III)Z" } : Jvm.MethodName)) ∈ lw_tbl := lw_at lw_m10 55 rfl
theorem q2458 : (Jvm.Cond.instanceMethod ({ cls := "MarkHouse$Machine", name := "isBelow", desc := "(III)Z" } : Jvm.MethodName)) ∈ lw_all := lw_g (lw_at lw_m10 56 rfl) rfl
theorem q2459 : (Jvm.Cond.code ({ cls := "MarkHouse$Machine", name := "isBelow", desc := "(III)Z" } : Jvm.MethodName) prog_7_method_12_code (4 : Nat) (Option.some Jvm.ClassFile.FieldType.boolean)) ∈ lw_all := lw_g (lw_at lw_m10 57 rfl) rfl
theorem q2460 : (Jvm.Cond.methodLink "MarkHouse$Machine" (147 : Nat) ({ cls := "MarkHouse$Orders", name := "isBelow", desc := "(III)Z" } : Jvm.MethodName)) ∈ lw_all := lw_g (lw_at lw_m10 58 rfl) rfl
theorem q2461 : (Jvm.Cond.methodLink "MarkHouse$Machine" (172 : Nat) ({ cls := "MarkHouse$Machine", name := "look", desc := "(I)V" } : Jvm.MethodName)) ∈ lw_all := lw_g (lw_at lw_m10 59 rfl) rfl
theorem q2462 : (Jvm.Cond.privateMethod ({ cls := "MarkHouse$Machine", name := "look", desc := "(I)V" } : Jvm.MethodName)) ∈ lw_tbl := lw_at lw_m10 60 rfl
theorem q2463 : (Jvm.Cond.instanceMethod ({ cls := "MarkHouse$Machine", name := "look", desc := "(I)V" } : Jvm.MethodName)) ∈ lw_all := lw_g (lw_at lw_m10 61 rfl) rfl
theorem q2464 : (Jvm.Cond.code ({ cls := "MarkHouse$Machine", name := "look", desc := "(I)V" } : Jvm.MethodName) prog_7_method_14_code (4 : Nat) (Option.none : Option Jvm.ClassFile.FieldType)) ∈ lw_all := lw_g (lw_at lw_m10 62 rfl) rfl
theorem q2465 : (Jvm.Cond.methodLink "MarkHouse$Machine" (161 : Nat) ({ cls := "MarkHouse$Flow", name := "asked", desc := "(II)I" } : Jvm.MethodName)) ∈ lw_all := lw_g (lw_at lw_m10 63 rfl) rfl
theorem q2466 : (Jvm.Cond.methodLink "MarkHouse$Machine" (175 : Nat) ({ cls := "MarkHouse$Machine", name := "call", desc := "(I)V" } : Jvm.MethodName)) ∈ lw_all := lw_g (lw_at lw_m10 64 rfl) rfl
theorem q2467 : (Jvm.Cond.privateMethod ({ cls := "MarkHouse$Machine", name := "call", desc := "(I)V" } : Jvm.MethodName)) ∈ lw_tbl := lw_at lw_m10 65 rfl
theorem q2468 : (Jvm.Cond.instanceMethod ({ cls := "MarkHouse$Machine", name := "call", desc := "(I)V" } : Jvm.MethodName)) ∈ lw_all := lw_g (lw_at lw_m10 66 rfl) rfl
theorem q2469 : (Jvm.Cond.code ({ cls := "MarkHouse$Machine", name := "call", desc := "(I)V" } : Jvm.MethodName) prog_7_method_16_code (6 : Nat) (Option.none : Option Jvm.ClassFile.FieldType)) ∈ lw_all := lw_g (lw_at lw_m10 67 rfl) rfl
theorem q2470 : (Jvm.Cond.methodLink "MarkHouse$Machine" (188 : Nat) ({ cls := "MarkHouse$Machine", name := "drop", desc := "(I)V" } : Jvm.MethodName)) ∈ lw_all := lw_g (lw_at lw_m10 68 rfl) rfl
theorem q2471 : (Jvm.Cond.privateMethod ({ cls := "MarkHouse$Machine", name := "drop", desc := "(I)V" } : Jvm.MethodName)) ∈ lw_tbl := lw_at lw_m10 69 rfl
theorem q2472 : (Jvm.Cond.instanceMethod ({ cls := "MarkHouse$Machine", name := "drop", desc := "(I)V" } : Jvm.MethodName)) ∈ lw_all := lw_g (lw_at lw_m10 70 rfl) rfl
theorem q2473 : (Jvm.Cond.code ({ cls := "MarkHouse$Machine", name := "drop", desc := "(I)V" } : Jvm.MethodName) prog_7_method_10_code (2 : Nat) (Option.none : Option Jvm.ClassFile.FieldType)) ∈ lw_all := lw_g (lw_at lw_m10 71 rfl) rfl
theorem q2474 : (Jvm.Cond.methodLink "MarkHouse$Machine" (178 : Nat) ({ cls := "MarkHouse$Machine", name := "back", desc := "()V" } : Jvm.MethodName)) ∈ lw_all := lw_g (lw_at lw_m10 72 rfl) rfl
theorem q2475 : (Jvm.Cond.privateMethod ({ cls := "MarkHouse$Machine", name := "back", desc := "()V" } : Jvm.MethodName)) ∈ lw_tbl := lw_at lw_m10 73 rfl
theorem q2476 : (Jvm.Cond.instanceMethod ({ cls := "MarkHouse$Machine", name := "back", desc := "()V" } : Jvm.MethodName)) ∈ lw_all := lw_g (lw_at lw_m10 74 rfl) rfl
theorem q2477 : (Jvm.Cond.code ({ cls := "MarkHouse$Machine", name := "back", desc := "()V" } : Jvm.MethodName) prog_7_method_17_code (3 : Nat) (Option.none : Option Jvm.ClassFile.FieldType)) ∈ lw_all := lw_g (lw_at lw_m10 75 rfl) rfl
theorem q2478 : (Jvm.Cond.methodLink "MarkHouse$Machine" (194 : Nat) ({ cls := "MarkHouse$Machine", name := "push", desc := "(II)V" } : Jvm.MethodName)) ∈ lw_all := lw_g (lw_at lw_m10 76 rfl) rfl
theorem q2479 : (Jvm.Cond.privateMethod ({ cls := "MarkHouse$Machine", name := "push", desc := "(II)V" } : Jvm.MethodName)) ∈ lw_tbl := lw_at lw_m10 77 rfl
theorem q2480 : (Jvm.Cond.instanceMethod ({ cls := "MarkHouse$Machine", name := "push", desc := "(II)V" } : Jvm.MethodName)) ∈ lw_all := lw_g (lw_at lw_m10 78 rfl) rfl
theorem q2481 : (Jvm.Cond.code ({ cls := "MarkHouse$Machine", name := "push", desc := "(II)V" } : Jvm.MethodName) prog_7_method_9_code (3 : Nat) (Option.none : Option Jvm.ClassFile.FieldType)) ∈ lw_all := lw_g (lw_at lw_m10 79 rfl) rfl
theorem q2482 : (Jvm.Cond.methodLink "MarkHouse$Machine" (181 : Nat) ({ cls := "MarkHouse$Machine", name := "move", desc := "(II)V" } : Jvm.MethodName)) ∈ lw_all := lw_g (lw_at lw_m10 80 rfl) rfl
theorem q2483 : (Jvm.Cond.privateMethod ({ cls := "MarkHouse$Machine", name := "move", desc := "(II)V" } : Jvm.MethodName)) ∈ lw_tbl := lw_at lw_m10 81 rfl
theorem q2484 : (Jvm.Cond.instanceMethod ({ cls := "MarkHouse$Machine", name := "move", desc := "(II)V" } : Jvm.MethodName)) ∈ lw_all := lw_g (lw_at lw_m10 82 rfl) rfl
theorem q2485 : (Jvm.Cond.code ({ cls := "MarkHouse$Machine", name := "move", desc := "(II)V" } : Jvm.MethodName) prog_7_method_21_code (6 : Nat) (Option.none : Option Jvm.ClassFile.FieldType)) ∈ lw_all := lw_g (lw_at lw_m10 83 rfl) rfl
theorem q2486 : (Jvm.Cond.methodLink "MarkHouse$Machine" (210 : Nat) ({ cls := "MarkHouse$Machine", name := "told", desc := "(I)I" } : Jvm.MethodName)) ∈ lw_all := lw_g (lw_at lw_m10 84 rfl) rfl
theorem q2487 : (Jvm.Cond.privateMethod ({ cls := "MarkHouse$Machine", name := "told", desc := "(I)I" } : Jvm.MethodName)) ∈ lw_tbl := lw_at lw_m10 85 rfl
theorem q2488 : (Jvm.Cond.instanceMethod ({ cls := "MarkHouse$Machine", name := "told", desc := "(I)I" } : Jvm.MethodName)) ∈ lw_all := lw_g (lw_at lw_m10 86 rfl) rfl
theorem q2489 : (Jvm.Cond.code ({ cls := "MarkHouse$Machine", name := "told", desc := "(I)I" } : Jvm.MethodName) prog_7_method_18_code (5 : Nat) (Option.some Jvm.ClassFile.FieldType.int)) ∈ lw_all := lw_g (lw_at lw_m10 87 rfl) rfl
theorem q2490 : (Jvm.Cond.methodLink "MarkHouse$Machine" (212 : Nat) ({ cls := "MarkHouse$Machine", name := "read", desc := "(I)V" } : Jvm.MethodName)) ∈ lw_all := lw_g (lw_at lw_m10 88 rfl) rfl
theorem q2491 : (Jvm.Cond.privateMethod ({ cls := "MarkHouse$Machine", name := "read", desc := "(I)V" } : Jvm.MethodName)) ∈ lw_tbl := lw_at lw_m10 89 rfl
theorem q2492 : (Jvm.Cond.instanceMethod ({ cls := "MarkHouse$Machine", name := "read", desc := "(I)V" } : Jvm.MethodName)) ∈ lw_all := lw_g (lw_at lw_m10 90 rfl) rfl
theorem q2493 : (Jvm.Cond.code ({ cls := "MarkHouse$Machine", name := "read", desc := "(I)V" } : Jvm.MethodName) prog_7_method_20_code (3 : Nat) (Option.none : Option Jvm.ClassFile.FieldType)) ∈ lw_all := lw_g (lw_at lw_m10 91 rfl) rfl
theorem q2494 : (Jvm.Cond.methodLink "MarkHouse$Machine" (204 : Nat) ({ cls := "java/lang/System", name := "arraycopy", desc := "(Ljava/lang/Object;ILjava/lang/Object;II)V" } : Jvm.MethodName)) ∈ lw_all := lw_g (lw_at lw_m10 92 rfl) rfl
theorem q2495 : (Jvm.Cond.methodLink "MarkHouse$Machine" (215 : Nat) ({ cls := "MarkHouse$Machine", name := "goal", desc := "(I)I" } : Jvm.MethodName)) ∈ lw_all := lw_g (lw_at lw_m10 93 rfl) rfl
theorem q2496 : (Jvm.Cond.privateMethod ({ cls := "MarkHouse$Machine", name := "goal", desc := "(I)I" } : Jvm.MethodName)) ∈ lw_tbl := lw_at lw_m10 94 rfl
theorem q2497 : (Jvm.Cond.instanceMethod ({ cls := "MarkHouse$Machine", name := "goal", desc := "(I)I" } : Jvm.MethodName)) ∈ lw_all := lw_g (lw_at lw_m10 95 rfl) rfl
theorem q2498 : (Jvm.Cond.code ({ cls := "MarkHouse$Machine", name := "goal", desc := "(I)I" } : Jvm.MethodName) prog_7_method_22_code (2 : Nat) (Option.some Jvm.ClassFile.FieldType.int)) ∈ lw_all := lw_g (lw_at lw_m10 96 rfl) rfl
theorem q2499 : (Jvm.Cond.methodLink "MarkHouse$Machine" (221 : Nat) ({ cls := "MarkHouse$Machine", name := "two", desc := "(I)V" } : Jvm.MethodName)) ∈ lw_all := lw_g (lw_at lw_m10 97 rfl) rfl
theorem q2500 : (Jvm.Cond.privateMethod ({ cls := "MarkHouse$Machine", name := "two", desc := "(I)V" } : Jvm.MethodName)) ∈ lw_tbl := lw_at lw_m10 98 rfl
theorem q2501 : (Jvm.Cond.instanceMethod ({ cls := "MarkHouse$Machine", name := "two", desc := "(I)V" } : Jvm.MethodName)) ∈ lw_all := lw_g (lw_at lw_m10 99 rfl) rfl
theorem q2502 : (Jvm.Cond.code ({ cls := "MarkHouse$Machine", name := "two", desc := "(I)V" } : Jvm.MethodName) prog_7_method_19_code (6 : Nat) (Option.none : Option Jvm.ClassFile.FieldType)) ∈ lw_all := lw_g (lw_at lw_m10 100 rfl) rfl
theorem q2503 : (Jvm.Cond.methodLink "MarkHouse$Machine" (200 : Nat) ({ cls := "MarkHouse$Orders", name := "join", desc := "(III)I" } : Jvm.MethodName)) ∈ lw_all := lw_g (lw_at lw_m10 101 rfl) rfl
theorem in_X14 : ∀ w ∈ wsX140, w ∈ lw_all := lw_in wsX140 [1054, 1056, 1058, 1060, 1062, 1064, 1066, 1068, 1070, 1072, 1074, 1076, 1078, 1080, 1082, 1084, 1086, 1088, 1090, 1092, 1094, 1096, 1098, 1100, 1102, 1104] (by decide +kernel) (by decide +kernel)
/-! MarkHouse$Wirer -/
set_option maxRecDepth 100000
def RX15 : String := "MarkHouse$Wirer"
def TX15 : u_T := fun k => match k with
  | 0 => ("MarkHouse$Wirer", "made", "LMarkHouse$Program;", true)
  | 1 => ("MarkHouse$Wirer", "passing", "LMarkHouse$Passing;", true)
  | 2 => ("MarkHouse$Wirer", "parts", "[Z", true)
  | 3 => ("MarkHouse$Wirer", "labels", "[J", true)
  | 4 => ("MarkHouse$Wirer", "states", "[I", true)
  | 5 => ("MarkHouse$Wirer", "order", "[I", true)
  | 6 => ("MarkHouse$Wirer", "count", "I", false)
  | 7 => ("MarkHouse$Wirer", "fault", "I", false)
  | 8 => ("MarkHouse$Wirer", "faultAt", "I", false)
  | 9 => ("MarkHouse$Wirer", "faultOf", "I", false)
  | _ => ("MarkHouse$Wirer", "isThere", "Z", false)
def tyX15 : Nat → FieldType := fun k => match k with
  | 0 => .object "MarkHouse$Program"
  | 1 => .object "MarkHouse$Passing"
  | 2 => .array .boolean
  | 3 => .array .long
  | 4 => .array .int
  | 5 => .array .int
  | 6 => .int
  | 7 => .int
  | 8 => .int
  | 9 => .int
  | _ => .boolean
abbrev wsX150 : List Cond := u_ws RX15 TX15 11
theorem nmX15 : ∀ a, a < 11 → ∀ b, b < 11 → a ≠ b → (TX15 a).2.1 ≠ (TX15 b).2.1 := by decide +kernel
theorem tyX15_ok : ∀ k, k < 11 → parseFieldDescriptor (TX15 k).2.2.1 = some (tyX15 k) := by decide +kernel
abbrev cX15_init : ByteArray := prog_16_method_1_code
def yX15_init : MethodName := ⟨RX15, "<init>", "(LMarkHouse$Program;LMarkHouse$Passing;)V"⟩
abbrev cX15_clear : ByteArray := prog_16_method_2_code
def yX15_clear : MethodName := ⟨RX15, "clear", "()V"⟩
abbrev cX15_wire : ByteArray := prog_16_method_4_code
def yX15_wire : MethodName := ⟨RX15, "wire", "()I"⟩
abbrev cX15_value : ByteArray := prog_16_method_3_code
def yX15_value : MethodName := ⟨RX15, "value", "(IJIJ)J"⟩
abbrev cX15_make : ByteArray := prog_16_method_5_code
def yX15_make : MethodName := ⟨RX15, "make", "(I)V"⟩
abbrev cX15_wants : ByteArray := prog_16_method_6_code
def yX15_wants : MethodName := ⟨RX15, "wants", "(II)V"⟩
abbrev cX15_wants_2 : ByteArray := prog_16_method_7_code
def yX15_wants_2 : MethodName := ⟨RX15, "wants", "(III)V"⟩
abbrev cX15_isOf : ByteArray := prog_16_method_8_code
def yX15_isOf : MethodName := ⟨RX15, "isOf", "(II)Z"⟩
abbrev cX15_tell : ByteArray := prog_16_method_9_code
def yX15_tell : MethodName := ⟨RX15, "tell", "(III)V"⟩
abbrev cX15_told : ByteArray := prog_16_method_10_code
def yX15_told : MethodName := ⟨RX15, "told", "(I)I"⟩
theorem q261 : (Jvm.Cond.initialized "MarkHouse$Wirer") ∈ lw_all := lw_g (lw_at lw_m1 19 rfl) rfl
theorem q614 : (Jvm.Cond.fieldLinkNest "MarkHouse$Wirer" (71 : Nat) "MarkHouse$Program" "classes" "I" "MarkHouse") ∈ lw_tbl := lw_at lw_m2 132 rfl
theorem q629 : (Jvm.Cond.fieldLinkNest "MarkHouse$Wirer" (91 : Nat) "MarkHouse$Program" "parents" "[I" "MarkHouse") ∈ lw_tbl := lw_at lw_m2 147 rfl
theorem q633 : (Jvm.Cond.fieldLinkNest "MarkHouse$Wirer" (94 : Nat) "MarkHouse$Program" "fields" "[I" "MarkHouse") ∈ lw_tbl := lw_at lw_m2 151 rfl
theorem q1108 : (Jvm.Cond.instantiable "MarkHouse$Wirer" (11 : Nat)) ∈ lw_all := lw_g (lw_at lw_m4 146 rfl) rfl
theorem q1110 : (Jvm.Cond.instanceMethod ({ cls := "MarkHouse$Wirer", name := "<init>", desc := "(LMarkHouse$Program;LMarkHouse$Passing;)V" } : Jvm.MethodName)) ∈ lw_all := lw_g (lw_at lw_m4 148 rfl) rfl
theorem q1111 : (Jvm.Cond.code ({ cls := "MarkHouse$Wirer", name := "<init>", desc := "(LMarkHouse$Program;LMarkHouse$Passing;)V" } : Jvm.MethodName) prog_16_method_1_code (3 : Nat) (Option.none : Option Jvm.ClassFile.FieldType)) ∈ lw_all := lw_g (lw_at lw_m4 149 rfl) rfl
theorem q1112 : (Jvm.Cond.methodLink "MarkHouse$Wirer" (3 : Nat) ({ cls := "java/lang/Object", name := "<init>", desc := "()V" } : Jvm.MethodName)) ∈ lw_all := lw_g (lw_at lw_m4 150 rfl) rfl
theorem q1113 : (Jvm.Cond.fieldLink "MarkHouse$Wirer" (26 : Nat) "MarkHouse$Wirer" "made" "LMarkHouse$Program;") ∈ lw_all := lw_g (lw_at lw_m4 151 rfl) rfl
theorem q1114 : (Jvm.Cond.fieldLink "MarkHouse$Wirer" (30 : Nat) "MarkHouse$Wirer" "passing" "LMarkHouse$Passing;") ∈ lw_all := lw_g (lw_at lw_m4 152 rfl) rfl
theorem q1115 : (Jvm.Cond.fieldLink "MarkHouse$Wirer" (9 : Nat) "MarkHouse$Wirer" "parts" "[Z") ∈ lw_all := lw_g (lw_at lw_m4 153 rfl) rfl
theorem q1116 : (Jvm.Cond.fieldLink "MarkHouse$Wirer" (15 : Nat) "MarkHouse$Wirer" "labels" "[J") ∈ lw_all := lw_g (lw_at lw_m4 154 rfl) rfl
theorem q1117 : (Jvm.Cond.fieldLink "MarkHouse$Wirer" (19 : Nat) "MarkHouse$Wirer" "states" "[I") ∈ lw_all := lw_g (lw_at lw_m4 155 rfl) rfl
theorem q1118 : (Jvm.Cond.fieldLink "MarkHouse$Wirer" (23 : Nat) "MarkHouse$Wirer" "order" "[I") ∈ lw_all := lw_g (lw_at lw_m4 156 rfl) rfl
theorem q1119 : (Jvm.Cond.fieldLink "MarkHouse$Wirer" (58 : Nat) "MarkHouse$Wirer" "count" "I") ∈ lw_all := lw_g (lw_at lw_m4 157 rfl) rfl
theorem q1120 : (Jvm.Cond.fieldLink "MarkHouse$Wirer" (62 : Nat) "MarkHouse$Wirer" "fault" "I") ∈ lw_all := lw_g (lw_at lw_m4 158 rfl) rfl
theorem q1121 : (Jvm.Cond.fieldLink "MarkHouse$Wirer" (122 : Nat) "MarkHouse$Wirer" "faultAt" "I") ∈ lw_all := lw_g (lw_at lw_m4 159 rfl) rfl
theorem q1122 : (Jvm.Cond.fieldLink "MarkHouse$Wirer" (116 : Nat) "MarkHouse$Wirer" "faultOf" "I") ∈ lw_all := lw_g (lw_at lw_m4 160 rfl) rfl
theorem q1123 : (Jvm.Cond.fieldLink "MarkHouse$Wirer" (34 : Nat) "MarkHouse$Wirer" "isThere" "Z") ∈ lw_all := lw_g (lw_at lw_m4 161 rfl) rfl
theorem q1124 : (Jvm.Cond.laysFinal "MarkHouse$Wirer" "MarkHouse$Wirer" "made" "LMarkHouse$Program;") ∈ lw_all := lw_g (lw_at lw_m4 162 rfl) rfl
theorem q1125 : (Jvm.Cond.soleField "MarkHouse$Wirer" "made") ∈ lw_all := lw_g (lw_at lw_m4 163 rfl) rfl
theorem q1126 : (Jvm.Cond.laysFinal "MarkHouse$Wirer" "MarkHouse$Wirer" "passing" "LMarkHouse$Passing;") ∈ lw_all := lw_g (lw_at lw_m4 164 rfl) rfl
theorem q1127 : (Jvm.Cond.soleField "MarkHouse$Wirer" "passing") ∈ lw_all := lw_g (lw_at lw_m4 165 rfl) rfl
theorem q1128 : (Jvm.Cond.laysFinal "MarkHouse$Wirer" "MarkHouse$Wirer" "parts" "[Z") ∈ lw_all := lw_g (lw_at lw_m4 166 rfl) rfl
theorem q1129 : (Jvm.Cond.soleField "MarkHouse$Wirer" "parts") ∈ lw_all := lw_g (lw_at lw_m4 167 rfl) rfl
theorem q1130 : (Jvm.Cond.laysFinal "MarkHouse$Wirer" "MarkHouse$Wirer" "labels" "[J") ∈ lw_all := lw_g (lw_at lw_m4 168 rfl) rfl
theorem q1131 : (Jvm.Cond.soleField "MarkHouse$Wirer" "labels") ∈ lw_all := lw_g (lw_at lw_m4 169 rfl) rfl
theorem q1132 : (Jvm.Cond.laysFinal "MarkHouse$Wirer" "MarkHouse$Wirer" "states" "[I") ∈ lw_all := lw_g (lw_at lw_m4 170 rfl) rfl
theorem q1133 : (Jvm.Cond.soleField "MarkHouse$Wirer" "states") ∈ lw_all := lw_g (lw_at lw_m4 171 rfl) rfl
theorem q1134 : (Jvm.Cond.laysFinal "MarkHouse$Wirer" "MarkHouse$Wirer" "order" "[I") ∈ lw_all := lw_g (lw_at lw_m4 172 rfl) rfl
theorem q1135 : (Jvm.Cond.soleField "MarkHouse$Wirer" "order") ∈ lw_all := lw_g (lw_at lw_m4 173 rfl) rfl
theorem q1136 : (Jvm.Cond.lays "MarkHouse$Wirer" "MarkHouse$Wirer" "count" "I") ∈ lw_all := lw_g (lw_at lw_m4 174 rfl) rfl
theorem q1137 : (Jvm.Cond.soleField "MarkHouse$Wirer" "count") ∈ lw_all := lw_g (lw_at lw_m4 175 rfl) rfl
theorem q1138 : (Jvm.Cond.lays "MarkHouse$Wirer" "MarkHouse$Wirer" "fault" "I") ∈ lw_all := lw_g (lw_at lw_m4 176 rfl) rfl
theorem q1139 : (Jvm.Cond.soleField "MarkHouse$Wirer" "fault") ∈ lw_all := lw_g (lw_at lw_m4 177 rfl) rfl
theorem q1140 : (Jvm.Cond.lays "MarkHouse$Wirer" "MarkHouse$Wirer" "faultAt" "I") ∈ lw_all := lw_g (lw_at lw_m4 178 rfl) rfl
theorem q1141 : (Jvm.Cond.soleField "MarkHouse$Wirer" "faultAt") ∈ lw_all := lw_g (lw_at lw_m4 179 rfl) rfl
theorem q1142 : (Jvm.Cond.lays "MarkHouse$Wirer" "MarkHouse$Wirer" "faultOf" "I") ∈ lw_all := lw_g (lw_at lw_m4 180 rfl) rfl
theorem q1143 : (Jvm.Cond.soleField "MarkHouse$Wirer" "faultOf") ∈ lw_all := lw_g (lw_at lw_m4 181 rfl) rfl
theorem q1144 : (Jvm.Cond.lays "MarkHouse$Wirer" "MarkHouse$Wirer" "isThere" "Z") ∈ lw_all := lw_g (lw_at lw_m4 182 rfl) rfl
theorem q1145 : (Jvm.Cond.soleField "MarkHouse$Wirer" "isThere") ∈ lw_all := lw_g (lw_at lw_m4 183 rfl) rfl
theorem q1146 : (Jvm.Cond.superclass "MarkHouse$Wirer" "java/lang/Object") ∈ lw_all := lw_g (lw_at lw_m4 184 rfl) rfl
theorem q1548 : (Jvm.Cond.instanceMethod ({ cls := "MarkHouse$Wirer", name := "clear", desc := "()V" } : Jvm.MethodName)) ∈ lw_all := lw_g (lw_at lw_m6 106 rfl) rfl
theorem q1549 : (Jvm.Cond.selects "MarkHouse$Wirer" ({ cls := "MarkHouse$Wirer", name := "clear", desc := "()V" } : Jvm.MethodName) ({ cls := "MarkHouse$Wirer", name := "clear", desc := "()V" } : Jvm.MethodName)) ∈ lw_all := lw_g (lw_at lw_m6 107 rfl) rfl
theorem q1550 : (Jvm.Cond.code ({ cls := "MarkHouse$Wirer", name := "clear", desc := "()V" } : Jvm.MethodName) prog_16_method_2_code (1 : Nat) (Option.none : Option Jvm.ClassFile.FieldType)) ∈ lw_all := lw_g (lw_at lw_m6 108 rfl) rfl
theorem q1903 : (Jvm.Cond.instanceMethod ({ cls := "MarkHouse$Wirer", name := "wire", desc := "()I" } : Jvm.MethodName)) ∈ lw_all := lw_g (lw_at lw_m7 221 rfl) rfl
theorem q1904 : (Jvm.Cond.selects "MarkHouse$Wirer" ({ cls := "MarkHouse$Wirer", name := "wire", desc := "()I" } : Jvm.MethodName) ({ cls := "MarkHouse$Wirer", name := "wire", desc := "()I" } : Jvm.MethodName)) ∈ lw_all := lw_g (lw_at lw_m7 222 rfl) rfl
theorem q1905 : (Jvm.Cond.code ({ cls := "MarkHouse$Wirer", name := "wire", desc := "()I" } : Jvm.MethodName) prog_16_method_4_code (3 : Nat) (Option.some Jvm.ClassFile.FieldType.int)) ∈ lw_all := lw_g (lw_at lw_m7 223 rfl) rfl
theorem q1906 : (Jvm.Cond.constantLong "MarkHouse$Wirer" (65 : Nat) (8097879447530635264 : Int64)) ∈ lw_all := lw_g (lw_at lw_m7 224 rfl) rfl
theorem q1907 : (Jvm.Cond.methodLink "MarkHouse$Wirer" (67 : Nat) ({ cls := "MarkHouse$Program", name := "kind", desc := "(J)I" } : Jvm.MethodName)) ∈ lw_all := lw_g (lw_at lw_m7 225 rfl) rfl
theorem q1908 : (Jvm.Cond.methodLink "MarkHouse$Wirer" (74 : Nat) ({ cls := "MarkHouse$Passing", name := "find", desc := "(II)I" } : Jvm.MethodName)) ∈ lw_all := lw_g (lw_at lw_m7 226 rfl) rfl
theorem q1909 : (Jvm.Cond.constantLong "MarkHouse$Wirer" (78 : Nat) (7809631416580308992 : Int64)) ∈ lw_all := lw_g (lw_at lw_m7 227 rfl) rfl
theorem q1910 : (Jvm.Cond.methodLink "MarkHouse$Wirer" (80 : Nat) ({ cls := "MarkHouse$Wirer", name := "value", desc := "(IJIJ)J" } : Jvm.MethodName)) ∈ lw_all := lw_g (lw_at lw_m7 228 rfl) rfl
theorem q1911 : (Jvm.Cond.privateMethod ({ cls := "MarkHouse$Wirer", name := "value", desc := "(IJIJ)J" } : Jvm.MethodName)) ∈ lw_tbl := lw_at lw_m7 229 rfl
theorem q1912 : (Jvm.Cond.instanceMethod ({ cls := "MarkHouse$Wirer", name := "value", desc := "(IJIJ)J" } : Jvm.MethodName)) ∈ lw_all := lw_g (lw_at lw_m7 230 rfl) rfl
theorem q1913 : (Jvm.Cond.code ({ cls := "MarkHouse$Wirer", name := "value", desc := "(IJIJ)J" } : Jvm.MethodName) prog_16_method_3_code (9 : Nat) (Option.some Jvm.ClassFile.FieldType.long)) ∈ lw_all := lw_g (lw_at lw_m7 231 rfl) rfl
theorem q1914 : (Jvm.Cond.methodLink "MarkHouse$Wirer" (38 : Nat) ({ cls := "MarkHouse$Program", name := "member", desc := "(IJ)I" } : Jvm.MethodName)) ∈ lw_all := lw_g (lw_at lw_m7 232 rfl) rfl
theorem q1918 : (Jvm.Cond.methodLink "MarkHouse$Wirer" (44 : Nat) ({ cls := "MarkHouse$Passing", name := "mark", desc := "(I)I" } : Jvm.MethodName)) ∈ lw_all := lw_g (lw_at lw_m7 236 rfl) rfl
theorem q1919 : (Jvm.Cond.methodLink "MarkHouse$Wirer" (50 : Nat) ({ cls := "MarkHouse$Passing", name := "sort", desc := "(III)I" } : Jvm.MethodName)) ∈ lw_all := lw_g (lw_at lw_m7 237 rfl) rfl
theorem q1920 : (Jvm.Cond.methodLink "MarkHouse$Wirer" (54 : Nat) ({ cls := "MarkHouse$Passing", name := "value", desc := "(III)J" } : Jvm.MethodName)) ∈ lw_all := lw_g (lw_at lw_m7 238 rfl) rfl
theorem q1921 : (Jvm.Cond.methodLink "MarkHouse$Wirer" (83 : Nat) ({ cls := "MarkHouse$Wirer", name := "make", desc := "(I)V" } : Jvm.MethodName)) ∈ lw_all := lw_g (lw_at lw_m7 239 rfl) rfl
theorem q1922 : (Jvm.Cond.privateMethod ({ cls := "MarkHouse$Wirer", name := "make", desc := "(I)V" } : Jvm.MethodName)) ∈ lw_tbl := lw_at lw_m8 0 rfl
theorem q1923 : (Jvm.Cond.instanceMethod ({ cls := "MarkHouse$Wirer", name := "make", desc := "(I)V" } : Jvm.MethodName)) ∈ lw_all := lw_g (lw_at lw_m8 1 rfl) rfl
theorem q1924 : (Jvm.Cond.code ({ cls := "MarkHouse$Wirer", name := "make", desc := "(I)V" } : Jvm.MethodName) prog_16_method_5_code (2 : Nat) (Option.none : Option Jvm.ClassFile.FieldType)) ∈ lw_all := lw_g (lw_at lw_m8 2 rfl) rfl
theorem q1925 : (Jvm.Cond.methodLink "MarkHouse$Wirer" (87 : Nat) ({ cls := "MarkHouse$Wirer", name := "wants", desc := "(II)V" } : Jvm.MethodName)) ∈ lw_all := lw_g (lw_at lw_m8 3 rfl) rfl
theorem q1926 : (Jvm.Cond.privateMethod ({ cls := "MarkHouse$Wirer", name := "wants", desc := "(II)V" } : Jvm.MethodName)) ∈ lw_tbl := lw_at lw_m8 4 rfl
theorem q1927 : (Jvm.Cond.instanceMethod ({ cls := "MarkHouse$Wirer", name := "wants", desc := "(II)V" } : Jvm.MethodName)) ∈ lw_all := lw_g (lw_at lw_m8 5 rfl) rfl
theorem q1928 : (Jvm.Cond.code ({ cls := "MarkHouse$Wirer", name := "wants", desc := "(II)V" } : Jvm.MethodName) prog_16_method_6_code (4 : Nat) (Option.none : Option Jvm.ClassFile.FieldType)) ∈ lw_all := lw_g (lw_at lw_m8 6 rfl) rfl
theorem q1929 : (Jvm.Cond.constantLong "MarkHouse$Wirer" (97 : Nat) (8602278207749619712 : Int64)) ∈ lw_all := lw_g (lw_at lw_m8 7 rfl) rfl
theorem q1930 : (Jvm.Cond.methodLink "MarkHouse$Wirer" (99 : Nat) ({ cls := "MarkHouse$Wirer", name := "wants", desc := "(III)V" } : Jvm.MethodName)) ∈ lw_all := lw_g (lw_at lw_m8 8 rfl) rfl
theorem q1931 : (Jvm.Cond.privateMethod ({ cls := "MarkHouse$Wirer", name := "wants", desc := "(III)V" } : Jvm.MethodName)) ∈ lw_tbl := lw_at lw_m8 9 rfl
theorem q1932 : (Jvm.Cond.instanceMethod ({ cls := "MarkHouse$Wirer", name := "wants", desc := "(III)V" } : Jvm.MethodName)) ∈ lw_all := lw_g (lw_at lw_m8 10 rfl) rfl
theorem q1933 : (Jvm.Cond.code ({ cls := "MarkHouse$Wirer", name := "wants", desc := "(III)V" } : Jvm.MethodName) prog_16_method_7_code (13 : Nat) (Option.none : Option Jvm.ClassFile.FieldType)) ∈ lw_all := lw_g (lw_at lw_m8 11 rfl) rfl
theorem q1934 : (Jvm.Cond.constantLong "MarkHouse$Wirer" (102 : Nat) (8027103385834487808 : Int64)) ∈ lw_all := lw_g (lw_at lw_m8 12 rfl) rfl
theorem q1935 : (Jvm.Cond.constantLong "MarkHouse$Wirer" (104 : Nat) (7809651205977669632 : Int64)) ∈ lw_all := lw_g (lw_at lw_m8 13 rfl) rfl
theorem q1936 : (Jvm.Cond.methodLink "MarkHouse$Wirer" (106 : Nat) ({ cls := "MarkHouse$Program", name := "cls", desc := "(J)I" } : Jvm.MethodName)) ∈ lw_all := lw_g (lw_at lw_m8 14 rfl) rfl
theorem q1940 : (Jvm.Cond.methodLink "MarkHouse$Wirer" (109 : Nat) ({ cls := "MarkHouse$Wirer", name := "isOf", desc := "(II)Z" } : Jvm.MethodName)) ∈ lw_all := lw_g (lw_at lw_m8 18 rfl) rfl
theorem q1941 : (Jvm.Cond.privateMethod ({ cls := "MarkHouse$Wirer", name := "isOf", desc := "(II)Z" } : Jvm.MethodName)) ∈ lw_tbl := lw_at lw_m8 19 rfl
theorem q1942 : (Jvm.Cond.instanceMethod ({ cls := "MarkHouse$Wirer", name := "isOf", desc := "(II)Z" } : Jvm.MethodName)) ∈ lw_all := lw_g (lw_at lw_m8 20 rfl) rfl
theorem q1943 : (Jvm.Cond.code ({ cls := "MarkHouse$Wirer", name := "isOf", desc := "(II)Z" } : Jvm.MethodName) prog_16_method_8_code (4 : Nat) (Option.some Jvm.ClassFile.FieldType.boolean)) ∈ lw_all := lw_g (lw_at lw_m8 21 rfl) rfl
theorem q1944 : (Jvm.Cond.methodLink "MarkHouse$Wirer" (113 : Nat) ({ cls := "MarkHouse$Wirer", name := "tell", desc := "(III)V" } : Jvm.MethodName)) ∈ lw_all := lw_g (lw_at lw_m8 22 rfl) rfl
theorem q1945 : (Jvm.Cond.privateMethod ({ cls := "MarkHouse$Wirer", name := "tell", desc := "(III)V" } : Jvm.MethodName)) ∈ lw_tbl := lw_at lw_m8 23 rfl
theorem q1946 : (Jvm.Cond.instanceMethod ({ cls := "MarkHouse$Wirer", name := "tell", desc := "(III)V" } : Jvm.MethodName)) ∈ lw_all := lw_g (lw_at lw_m8 24 rfl) rfl
theorem q1947 : (Jvm.Cond.code ({ cls := "MarkHouse$Wirer", name := "tell", desc := "(III)V" } : Jvm.MethodName) prog_16_method_9_code (4 : Nat) (Option.none : Option Jvm.ClassFile.FieldType)) ∈ lw_all := lw_g (lw_at lw_m8 25 rfl) rfl
theorem q1948 : (Jvm.Cond.methodLink "MarkHouse$Wirer" (119 : Nat) ({ cls := "MarkHouse$Program", name := "place", desc := "(I)I" } : Jvm.MethodName)) ∈ lw_all := lw_g (lw_at lw_m8 26 rfl) rfl
theorem q1954 : (Jvm.Cond.instanceMethod ({ cls := "MarkHouse$Wirer", name := "told", desc := "(I)I" } : Jvm.MethodName)) ∈ lw_all := lw_g (lw_at lw_m8 32 rfl) rfl
theorem q1955 : (Jvm.Cond.selects "MarkHouse$Wirer" ({ cls := "MarkHouse$Wirer", name := "told", desc := "(I)I" } : Jvm.MethodName) ({ cls := "MarkHouse$Wirer", name := "told", desc := "(I)I" } : Jvm.MethodName)) ∈ lw_all := lw_g (lw_at lw_m8 33 rfl) rfl
theorem q1956 : (Jvm.Cond.code ({ cls := "MarkHouse$Wirer", name := "told", desc := "(I)I" } : Jvm.MethodName) prog_16_method_10_code (2 : Nat) (Option.some Jvm.ClassFile.FieldType.int)) ∈ lw_all := lw_g (lw_at lw_m8 34 rfl) rfl
theorem in_X15 : ∀ w ∈ wsX150, w ∈ lw_all := lw_in wsX150 [1124, 1126, 1128, 1130, 1132, 1134, 1136, 1138, 1140, 1142, 1144] (by decide +kernel) (by decide +kernel)
/-! MarkHouse$Teller -/
set_option maxRecDepth 100000
def RX16 : String := "MarkHouse$Teller"
def TX16 : u_T := fun k => match k with
  | 0 => ("MarkHouse$Teller", "lexemes", "LMarkHouse$Lexemes;", true)
  | 1 => ("MarkHouse$Teller", "made", "LMarkHouse$Program;", true)
  | 2 => ("MarkHouse$Teller", "passing", "LMarkHouse$Passing;", true)
  | 3 => ("MarkHouse$Teller", "weaver", "LMarkHouse$Weaver;", true)
  | 4 => ("MarkHouse$Teller", "flow", "LMarkHouse$Flow;", true)
  | _ => ("MarkHouse$Teller", "out", "LMarkHouse$Bytes;", true)
def tyX16 : Nat → FieldType := fun k => match k with
  | 0 => .object "MarkHouse$Lexemes"
  | 1 => .object "MarkHouse$Program"
  | 2 => .object "MarkHouse$Passing"
  | 3 => .object "MarkHouse$Weaver"
  | 4 => .object "MarkHouse$Flow"
  | _ => .object "MarkHouse$Bytes"
abbrev wsX160 : List Cond := u_ws RX16 TX16 6
theorem nmX16 : ∀ a, a < 6 → ∀ b, b < 6 → a ≠ b → (TX16 a).2.1 ≠ (TX16 b).2.1 := by decide +kernel
theorem tyX16_ok : ∀ k, k < 6 → parseFieldDescriptor (TX16 k).2.2.1 = some (tyX16 k) := by decide +kernel
abbrev cX16_init : ByteArray := prog_13_method_1_code
def yX16_init : MethodName := ⟨RX16, "<init>", "(LMarkHouse$Lexemes;LMarkHouse$Program;LMarkHouse$Passing;LMarkHouse$Weaver;LMarkHouse$Flow;LMarkHouse$Bytes;)V"⟩
abbrev cX16_tell : ByteArray := prog_13_method_8_code
def yX16_tell : MethodName := ⟨RX16, "tell", "()V"⟩
abbrev cX16_order : ByteArray := prog_13_method_9_code
def yX16_order : MethodName := ⟨RX16, "order", "(I)V"⟩
abbrev cX16_word : ByteArray := prog_13_method_5_code
def yX16_word : MethodName := ⟨RX16, "word", "(I)V"⟩
abbrev cX16_blank : ByteArray := prog_13_method_2_code
def yX16_blank : MethodName := ⟨RX16, "blank", "()V"⟩
abbrev cX16_name : ByteArray := prog_13_method_3_code
def yX16_name : MethodName := ⟨RX16, "name", "(J)V"⟩
abbrev cX16_sign : ByteArray := prog_13_method_4_code
def yX16_sign : MethodName := ⟨RX16, "sign", "(I)V"⟩
abbrev cX16_kind : ByteArray := prog_13_method_10_code
def yX16_kind : MethodName := ⟨RX16, "kind", "(I)V"⟩
abbrev cX16_value : ByteArray := prog_13_method_7_code
def yX16_value : MethodName := ⟨RX16, "value", "(IJ)V"⟩
abbrev cX16_number : ByteArray := prog_13_method_6_code
def yX16_number : MethodName := ⟨RX16, "number", "(I)V"⟩
abbrev cX16_marks : ByteArray := prog_13_method_12_code
def yX16_marks : MethodName := ⟨RX16, "marks", "(I)V"⟩
abbrev cX16_isTold : ByteArray := prog_13_method_11_code
def yX16_isTold : MethodName := ⟨RX16, "isTold", "(II)Z"⟩
abbrev cX16_pairs : ByteArray := prog_13_method_13_code
def yX16_pairs : MethodName := ⟨RX16, "pairs", "(II)V"⟩
abbrev cX16_cls : ByteArray := prog_13_method_14_code
def yX16_cls : MethodName := ⟨RX16, "cls", "(I)V"⟩
abbrev cX16_method : ByteArray := prog_13_method_15_code
def yX16_method : MethodName := ⟨RX16, "method", "(I)V"⟩
abbrev cX16_act : ByteArray := prog_13_method_18_code
def yX16_act : MethodName := ⟨RX16, "act", "(IZZ)V"⟩
abbrev cX16_elements : ByteArray := prog_13_method_16_code
def yX16_elements : MethodName := ⟨RX16, "elements", "(I)V"⟩
abbrev cX16_element : ByteArray := prog_13_method_17_code
def yX16_element : MethodName := ⟨RX16, "element", "(III)V"⟩
abbrev cX16_code : ByteArray := prog_13_method_19_code
def yX16_code : MethodName := ⟨RX16, "code", "(IZ)V"⟩
theorem q262 : (Jvm.Cond.initialized "MarkHouse$Teller") ∈ lw_all := lw_g (lw_at lw_m1 20 rfl) rfl
theorem q399 : (Jvm.Cond.fieldLinkNest "MarkHouse$Teller" (52 : Nat) "MarkHouse$Lexemes" "words" "[Ljava/lang/String;" "MarkHouse") ∈ lw_tbl := lw_at lw_m1 157 rfl
theorem q452 : (Jvm.Cond.fieldLinkNest "MarkHouse$Teller" (80 : Nat) "MarkHouse$Orders" "count" "I" "MarkHouse") ∈ lw_tbl := lw_at lw_m1 210 rfl
theorem q456 : (Jvm.Cond.fieldLinkNest "MarkHouse$Teller" (124 : Nat) "MarkHouse$Orders" "names" "[J" "MarkHouse") ∈ lw_tbl := lw_at lw_m1 214 rfl
theorem q459 : (Jvm.Cond.fieldLinkNest "MarkHouse$Teller" (127 : Nat) "MarkHouse$Orders" "sizes" "[I" "MarkHouse") ∈ lw_tbl := lw_at lw_m1 217 rfl
theorem q468 : (Jvm.Cond.fieldLinkNest "MarkHouse$Teller" (130 : Nat) "MarkHouse$Orders" "elements" "[J" "MarkHouse") ∈ lw_tbl := lw_at lw_m1 226 rfl
theorem q505 : (Jvm.Cond.fieldLinkNest "MarkHouse$Teller" (169 : Nat) "MarkHouse$Marks" "counts" "[I" "MarkHouse") ∈ lw_tbl := lw_at lw_m2 23 rfl
theorem q510 : (Jvm.Cond.fieldLinkNest "MarkHouse$Teller" (179 : Nat) "MarkHouse$Marks" "names" "[J" "MarkHouse") ∈ lw_tbl := lw_at lw_m2 28 rfl
theorem q521 : (Jvm.Cond.fieldLinkNest "MarkHouse$Teller" (203 : Nat) "MarkHouse$Marks" "values" "[J" "MarkHouse") ∈ lw_tbl := lw_at lw_m2 39 rfl
theorem q546 : (Jvm.Cond.fieldLinkNest "MarkHouse$Teller" (74 : Nat) "MarkHouse$Program" "orders" "LMarkHouse$Orders;" "MarkHouse") ∈ lw_tbl := lw_at lw_m2 64 rfl
theorem q552 : (Jvm.Cond.fieldLinkNest "MarkHouse$Teller" (166 : Nat) "MarkHouse$Program" "marks" "LMarkHouse$Marks;" "MarkHouse") ∈ lw_tbl := lw_at lw_m2 70 rfl
theorem q560 : (Jvm.Cond.fieldLinkNest "MarkHouse$Teller" (89 : Nat) "MarkHouse$Program" "kinds" "I" "MarkHouse") ∈ lw_tbl := lw_at lw_m2 78 rfl
theorem q565 : (Jvm.Cond.fieldLinkNest "MarkHouse$Teller" (108 : Nat) "MarkHouse$Program" "kindNames" "[J" "MarkHouse") ∈ lw_tbl := lw_at lw_m2 83 rfl
theorem q568 : (Jvm.Cond.fieldLinkNest "MarkHouse$Teller" (140 : Nat) "MarkHouse$Program" "memberNames" "[J" "MarkHouse") ∈ lw_tbl := lw_at lw_m2 86 rfl
theorem q572 : (Jvm.Cond.fieldLinkNest "MarkHouse$Teller" (150 : Nat) "MarkHouse$Program" "defaults" "[J" "MarkHouse") ∈ lw_tbl := lw_at lw_m2 90 rfl
theorem q576 : (Jvm.Cond.fieldLinkNest "MarkHouse$Teller" (137 : Nat) "MarkHouse$Program" "members" "[I" "MarkHouse") ∈ lw_tbl := lw_at lw_m2 94 rfl
theorem q581 : (Jvm.Cond.fieldLinkNest "MarkHouse$Teller" (143 : Nat) "MarkHouse$Program" "sorts" "[I" "MarkHouse") ∈ lw_tbl := lw_at lw_m2 99 rfl
theorem q586 : (Jvm.Cond.fieldLinkNest "MarkHouse$Teller" (157 : Nat) "MarkHouse$Program" "where" "[I" "MarkHouse") ∈ lw_tbl := lw_at lw_m2 104 rfl
theorem q589 : (Jvm.Cond.fieldLinkNest "MarkHouse$Teller" (146 : Nat) "MarkHouse$Program" "hasDefault" "[Z" "MarkHouse") ∈ lw_tbl := lw_at lw_m2 107 rfl
theorem q594 : (Jvm.Cond.fieldLinkNest "MarkHouse$Teller" (160 : Nat) "MarkHouse$Program" "heirs" "[Z" "MarkHouse") ∈ lw_tbl := lw_at lw_m2 112 rfl
theorem q598 : (Jvm.Cond.fieldLinkNest "MarkHouse$Teller" (163 : Nat) "MarkHouse$Program" "several" "[Z" "MarkHouse") ∈ lw_tbl := lw_at lw_m2 116 rfl
theorem q601 : (Jvm.Cond.fieldLinkNest "MarkHouse$Teller" (95 : Nat) "MarkHouse$Program" "makers" "I" "MarkHouse") ∈ lw_tbl := lw_at lw_m2 119 rfl
theorem q606 : (Jvm.Cond.fieldLinkNest "MarkHouse$Teller" (101 : Nat) "MarkHouse$Program" "makerNames" "[J" "MarkHouse") ∈ lw_tbl := lw_at lw_m2 124 rfl
theorem q609 : (Jvm.Cond.fieldLinkNest "MarkHouse$Teller" (111 : Nat) "MarkHouse$Program" "makerKinds" "[I" "MarkHouse") ∈ lw_tbl := lw_at lw_m2 127 rfl
theorem q616 : (Jvm.Cond.fieldLinkNest "MarkHouse$Teller" (118 : Nat) "MarkHouse$Program" "classes" "I" "MarkHouse") ∈ lw_tbl := lw_at lw_m2 134 rfl
theorem q620 : (Jvm.Cond.fieldLinkNest "MarkHouse$Teller" (212 : Nat) "MarkHouse$Program" "classNames" "[J" "MarkHouse") ∈ lw_tbl := lw_at lw_m2 138 rfl
theorem q623 : (Jvm.Cond.fieldLinkNest "MarkHouse$Teller" (221 : Nat) "MarkHouse$Program" "fieldNames" "[J" "MarkHouse") ∈ lw_tbl := lw_at lw_m2 141 rfl
theorem q626 : (Jvm.Cond.fieldLinkNest "MarkHouse$Teller" (237 : Nat) "MarkHouse$Program" "methodNames" "[J" "MarkHouse") ∈ lw_tbl := lw_at lw_m2 144 rfl
theorem q630 : (Jvm.Cond.fieldLinkNest "MarkHouse$Teller" (215 : Nat) "MarkHouse$Program" "parents" "[I" "MarkHouse") ∈ lw_tbl := lw_at lw_m2 148 rfl
theorem q635 : (Jvm.Cond.fieldLinkNest "MarkHouse$Teller" (218 : Nat) "MarkHouse$Program" "fields" "[I" "MarkHouse") ∈ lw_tbl := lw_at lw_m2 153 rfl
theorem q641 : (Jvm.Cond.fieldLinkNest "MarkHouse$Teller" (231 : Nat) "MarkHouse$Program" "methods" "[I" "MarkHouse") ∈ lw_tbl := lw_at lw_m2 159 rfl
theorem q644 : (Jvm.Cond.fieldLinkNest "MarkHouse$Teller" (228 : Nat) "MarkHouse$Program" "firsts" "[I" "MarkHouse") ∈ lw_tbl := lw_at lw_m2 162 rfl
theorem q650 : (Jvm.Cond.fieldLinkNest "MarkHouse$Teller" (240 : Nat) "MarkHouse$Program" "parameters" "[I" "MarkHouse") ∈ lw_tbl := lw_at lw_m2 168 rfl
theorem q658 : (Jvm.Cond.fieldLinkNest "MarkHouse$Teller" (249 : Nat) "MarkHouse$Program" "acts" "[I" "MarkHouse") ∈ lw_tbl := lw_at lw_m2 176 rfl
theorem q661 : (Jvm.Cond.fieldLinkNest "MarkHouse$Teller" (243 : Nat) "MarkHouse$Program" "localNames" "[J" "MarkHouse") ∈ lw_tbl := lw_at lw_m2 179 rfl
theorem q666 : (Jvm.Cond.fieldLinkNest "MarkHouse$Teller" (265 : Nat) "MarkHouse$Program" "does" "[B" "MarkHouse") ∈ lw_tbl := lw_at lw_m2 184 rfl
theorem q671 : (Jvm.Cond.fieldLinkNest "MarkHouse$Teller" (269 : Nat) "MarkHouse$Program" "number" "[I" "MarkHouse") ∈ lw_tbl := lw_at lw_m2 189 rfl
theorem q675 : (Jvm.Cond.fieldLinkNest "MarkHouse$Teller" (279 : Nat) "MarkHouse$Program" "element" "[I" "MarkHouse") ∈ lw_tbl := lw_at lw_m2 193 rfl
theorem q680 : (Jvm.Cond.fieldLinkNest "MarkHouse$Teller" (259 : Nat) "MarkHouse$Program" "told" "[I" "MarkHouse") ∈ lw_tbl := lw_at lw_m2 198 rfl
theorem q686 : (Jvm.Cond.fieldLinkNest "MarkHouse$Teller" (284 : Nat) "MarkHouse$Program" "leads" "[I" "MarkHouse") ∈ lw_tbl := lw_at lw_m2 204 rfl
theorem q692 : (Jvm.Cond.fieldLinkNest "MarkHouse$Teller" (252 : Nat) "MarkHouse$Program" "labels" "[J" "MarkHouse") ∈ lw_tbl := lw_at lw_m2 210 rfl
theorem q695 : (Jvm.Cond.fieldLinkNest "MarkHouse$Teller" (291 : Nat) "MarkHouse$Program" "goals" "[J" "MarkHouse") ∈ lw_tbl := lw_at lw_m2 213 rfl
theorem q706 : (Jvm.Cond.fieldLinkNest "MarkHouse$Teller" (273 : Nat) "MarkHouse$Program" "classNamed" "[J" "MarkHouse") ∈ lw_tbl := lw_at lw_m2 224 rfl
theorem q709 : (Jvm.Cond.fieldLinkNest "MarkHouse$Teller" (276 : Nat) "MarkHouse$Program" "memberNamed" "[J" "MarkHouse") ∈ lw_tbl := lw_at lw_m2 227 rfl
theorem q1011 : (Jvm.Cond.fieldLinkNest "MarkHouse$Teller" (294 : Nat) "MarkHouse$Weaver" "checks" "[B" "MarkHouse") ∈ lw_tbl := lw_at lw_m4 49 rfl
theorem q1148 : (Jvm.Cond.instantiable "MarkHouse$Teller" (6 : Nat)) ∈ lw_all := lw_g (lw_at lw_m4 186 rfl) rfl
theorem q1150 : (Jvm.Cond.instanceMethod ({ cls := "MarkHouse$Teller", name := "<init>", desc := "(LMarkHouse$Lexemes;LMarkHouse$Program;LMarkHouse$Passing;LMarkHouse$Weaver;LMarkHouse$Flow;LMarkHouse$Bytes;)V" } : Jvm.MethodName)) ∈ lw_all := lw_g (lw_at lw_m4 188 rfl) rfl
theorem q1151 : (Jvm.Cond.code ({ cls := "MarkHouse$Teller", name := "<init>", desc := "(LMarkHouse$Lexemes;LMarkHouse$Program;LMarkHouse$Passing;LMarkHouse$Weaver;LMarkHouse$Flow;LMarkHouse$Bytes;)V" } : Jvm.MethodName) prog_13_method_1_code (7 : Nat) (Option.none : Option Jvm.ClassFile.FieldType)) ∈ lw_all := lw_g (lw_at lw_m4 189 rfl) rfl
theorem q1152 : (Jvm.Cond.methodLink "MarkHouse$Teller" (3 : Nat) ({ cls := "java/lang/Object", name := "<init>", desc := "()V" } : Jvm.MethodName)) ∈ lw_all := lw_g (lw_at lw_m4 190 rfl) rfl
theorem q1153 : (Jvm.Cond.fieldLink "MarkHouse$Teller" (9 : Nat) "MarkHouse$Teller" "lexemes" "LMarkHouse$Lexemes;") ∈ lw_all := lw_g (lw_at lw_m4 191 rfl) rfl
theorem q1154 : (Jvm.Cond.fieldLink "MarkHouse$Teller" (15 : Nat) "MarkHouse$Teller" "made" "LMarkHouse$Program;") ∈ lw_all := lw_g (lw_at lw_m4 192 rfl) rfl
theorem q1155 : (Jvm.Cond.fieldLink "MarkHouse$Teller" (19 : Nat) "MarkHouse$Teller" "passing" "LMarkHouse$Passing;") ∈ lw_all := lw_g (lw_at lw_m4 193 rfl) rfl
theorem q1156 : (Jvm.Cond.fieldLink "MarkHouse$Teller" (23 : Nat) "MarkHouse$Teller" "weaver" "LMarkHouse$Weaver;") ∈ lw_all := lw_g (lw_at lw_m4 194 rfl) rfl
theorem q1157 : (Jvm.Cond.fieldLink "MarkHouse$Teller" (27 : Nat) "MarkHouse$Teller" "flow" "LMarkHouse$Flow;") ∈ lw_all := lw_g (lw_at lw_m4 195 rfl) rfl
theorem q1158 : (Jvm.Cond.fieldLink "MarkHouse$Teller" (31 : Nat) "MarkHouse$Teller" "out" "LMarkHouse$Bytes;") ∈ lw_all := lw_g (lw_at lw_m4 196 rfl) rfl
theorem q1159 : (Jvm.Cond.laysFinal "MarkHouse$Teller" "MarkHouse$Teller" "lexemes" "LMarkHouse$Lexemes;") ∈ lw_all := lw_g (lw_at lw_m4 197 rfl) rfl
theorem q1160 : (Jvm.Cond.soleField "MarkHouse$Teller" "lexemes") ∈ lw_all := lw_g (lw_at lw_m4 198 rfl) rfl
theorem q1161 : (Jvm.Cond.laysFinal "MarkHouse$Teller" "MarkHouse$Teller" "made" "LMarkHouse$Program;") ∈ lw_all := lw_g (lw_at lw_m4 199 rfl) rfl
theorem q1162 : (Jvm.Cond.soleField "MarkHouse$Teller" "made") ∈ lw_all := lw_g (lw_at lw_m4 200 rfl) rfl
theorem q1163 : (Jvm.Cond.laysFinal "MarkHouse$Teller" "MarkHouse$Teller" "passing" "LMarkHouse$Passing;") ∈ lw_all := lw_g (lw_at lw_m4 201 rfl) rfl
theorem q1164 : (Jvm.Cond.soleField "MarkHouse$Teller" "passing") ∈ lw_all := lw_g (lw_at lw_m4 202 rfl) rfl
theorem q1165 : (Jvm.Cond.laysFinal "MarkHouse$Teller" "MarkHouse$Teller" "weaver" "LMarkHouse$Weaver;") ∈ lw_all := lw_g (lw_at lw_m4 203 rfl) rfl
theorem q1166 : (Jvm.Cond.soleField "MarkHouse$Teller" "weaver") ∈ lw_all := lw_g (lw_at lw_m4 204 rfl) rfl
theorem q1167 : (Jvm.Cond.laysFinal "MarkHouse$Teller" "MarkHouse$Teller" "flow" "LMarkHouse$Flow;") ∈ lw_all := lw_g (lw_at lw_m4 205 rfl) rfl
theorem q1168 : (Jvm.Cond.soleField "MarkHouse$Teller" "flow") ∈ lw_all := lw_g (lw_at lw_m4 206 rfl) rfl
theorem q1169 : (Jvm.Cond.laysFinal "MarkHouse$Teller" "MarkHouse$Teller" "out" "LMarkHouse$Bytes;") ∈ lw_all := lw_g (lw_at lw_m4 207 rfl) rfl
theorem q1170 : (Jvm.Cond.soleField "MarkHouse$Teller" "out") ∈ lw_all := lw_g (lw_at lw_m4 208 rfl) rfl
theorem q1171 : (Jvm.Cond.superclass "MarkHouse$Teller" "java/lang/Object") ∈ lw_all := lw_g (lw_at lw_m4 209 rfl) rfl
theorem q1265 : (Jvm.Cond.instanceMethod ({ cls := "MarkHouse$Teller", name := "tell", desc := "()V" } : Jvm.MethodName)) ∈ lw_all := lw_g (lw_at lw_m5 63 rfl) rfl
theorem q1266 : (Jvm.Cond.selects "MarkHouse$Teller" ({ cls := "MarkHouse$Teller", name := "tell", desc := "()V" } : Jvm.MethodName) ({ cls := "MarkHouse$Teller", name := "tell", desc := "()V" } : Jvm.MethodName)) ∈ lw_all := lw_g (lw_at lw_m5 64 rfl) rfl
theorem q1267 : (Jvm.Cond.code ({ cls := "MarkHouse$Teller", name := "tell", desc := "()V" } : Jvm.MethodName) prog_13_method_8_code (2 : Nat) (Option.none : Option Jvm.ClassFile.FieldType)) ∈ lw_all := lw_g (lw_at lw_m5 65 rfl) rfl
theorem q1268 : (Jvm.Cond.methodLink "MarkHouse$Teller" (71 : Nat) ({ cls := "MarkHouse$Bytes", name := "clear", desc := "()V" } : Jvm.MethodName)) ∈ lw_all := lw_g (lw_at lw_m5 66 rfl) rfl
theorem q1272 : (Jvm.Cond.methodLink "MarkHouse$Teller" (86 : Nat) ({ cls := "MarkHouse$Teller", name := "order", desc := "(I)V" } : Jvm.MethodName)) ∈ lw_all := lw_g (lw_at lw_m5 70 rfl) rfl
theorem q1273 : (Jvm.Cond.privateMethod ({ cls := "MarkHouse$Teller", name := "order", desc := "(I)V" } : Jvm.MethodName)) ∈ lw_tbl := lw_at lw_m5 71 rfl
theorem q1274 : (Jvm.Cond.instanceMethod ({ cls := "MarkHouse$Teller", name := "order", desc := "(I)V" } : Jvm.MethodName)) ∈ lw_all := lw_g (lw_at lw_m5 72 rfl) rfl
theorem q1275 : (Jvm.Cond.code ({ cls := "MarkHouse$Teller", name := "order", desc := "(I)V" } : Jvm.MethodName) prog_13_method_9_code (5 : Nat) (Option.none : Option Jvm.ClassFile.FieldType)) ∈ lw_all := lw_g (lw_at lw_m5 73 rfl) rfl
theorem q1276 : (Jvm.Cond.methodLink "MarkHouse$Teller" (98 : Nat) ({ cls := "MarkHouse$Teller", name := "word", desc := "(I)V" } : Jvm.MethodName)) ∈ lw_all := lw_g (lw_at lw_m5 74 rfl) rfl
theorem q1277 : (Jvm.Cond.privateMethod ({ cls := "MarkHouse$Teller", name := "word", desc := "(I)V" } : Jvm.MethodName)) ∈ lw_tbl := lw_at lw_m5 75 rfl
theorem q1278 : (Jvm.Cond.instanceMethod ({ cls := "MarkHouse$Teller", name := "word", desc := "(I)V" } : Jvm.MethodName)) ∈ lw_all := lw_g (lw_at lw_m5 76 rfl) rfl
theorem q1279 : (Jvm.Cond.code ({ cls := "MarkHouse$Teller", name := "word", desc := "(I)V" } : Jvm.MethodName) prog_13_method_5_code (2 : Nat) (Option.none : Option Jvm.ClassFile.FieldType)) ∈ lw_all := lw_g (lw_at lw_m5 77 rfl) rfl
theorem q1280 : (Jvm.Cond.methodLink "MarkHouse$Teller" (45 : Nat) ({ cls := "MarkHouse$Teller", name := "blank", desc := "()V" } : Jvm.MethodName)) ∈ lw_all := lw_g (lw_at lw_m5 78 rfl) rfl
theorem q1281 : (Jvm.Cond.privateMethod ({ cls := "MarkHouse$Teller", name := "blank", desc := "()V" } : Jvm.MethodName)) ∈ lw_tbl := lw_at lw_m5 79 rfl
theorem q1282 : (Jvm.Cond.instanceMethod ({ cls := "MarkHouse$Teller", name := "blank", desc := "()V" } : Jvm.MethodName)) ∈ lw_all := lw_g (lw_at lw_m5 80 rfl) rfl
theorem q1283 : (Jvm.Cond.code ({ cls := "MarkHouse$Teller", name := "blank", desc := "()V" } : Jvm.MethodName) prog_13_method_2_code (1 : Nat) (Option.none : Option Jvm.ClassFile.FieldType)) ∈ lw_all := lw_g (lw_at lw_m5 81 rfl) rfl
theorem q1284 : (Jvm.Cond.methodLink "MarkHouse$Teller" (35 : Nat) ({ cls := "MarkHouse$Bytes", name := "size", desc := "()I" } : Jvm.MethodName)) ∈ lw_all := lw_g (lw_at lw_m5 82 rfl) rfl
theorem q1285 : (Jvm.Cond.methodLink "MarkHouse$Teller" (41 : Nat) ({ cls := "MarkHouse$Bytes", name := "add", desc := "(I)V" } : Jvm.MethodName)) ∈ lw_all := lw_g (lw_at lw_m5 83 rfl) rfl
theorem q1286 : (Jvm.Cond.methodLink "MarkHouse$Teller" (58 : Nat) ({ cls := "MarkHouse$Bytes", name := "addWord", desc := "(Ljava/lang/String;)V" } : Jvm.MethodName)) ∈ lw_all := lw_g (lw_at lw_m5 84 rfl) rfl
theorem q1293 : (Jvm.Cond.methodLink "MarkHouse$Teller" (105 : Nat) ({ cls := "MarkHouse$Teller", name := "name", desc := "(J)V" } : Jvm.MethodName)) ∈ lw_all := lw_g (lw_at lw_m5 91 rfl) rfl
theorem q1294 : (Jvm.Cond.privateMethod ({ cls := "MarkHouse$Teller", name := "name", desc := "(J)V" } : Jvm.MethodName)) ∈ lw_tbl := lw_at lw_m5 92 rfl
theorem q1295 : (Jvm.Cond.instanceMethod ({ cls := "MarkHouse$Teller", name := "name", desc := "(J)V" } : Jvm.MethodName)) ∈ lw_all := lw_g (lw_at lw_m5 93 rfl) rfl
theorem q1296 : (Jvm.Cond.code ({ cls := "MarkHouse$Teller", name := "name", desc := "(J)V" } : Jvm.MethodName) prog_13_method_3_code (3 : Nat) (Option.none : Option Jvm.ClassFile.FieldType)) ∈ lw_all := lw_g (lw_at lw_m5 94 rfl) rfl
theorem q1297 : (Jvm.Cond.methodLink "MarkHouse$Teller" (48 : Nat) ({ cls := "MarkHouse$Bytes", name := "addName", desc := "(J)V" } : Jvm.MethodName)) ∈ lw_all := lw_g (lw_at lw_m5 95 rfl) rfl
theorem q1302 : (Jvm.Cond.methodLink "MarkHouse$Teller" (62 : Nat) ({ cls := "MarkHouse$Teller", name := "sign", desc := "(I)V" } : Jvm.MethodName)) ∈ lw_all := lw_g (lw_at lw_m5 100 rfl) rfl
theorem q1303 : (Jvm.Cond.privateMethod ({ cls := "MarkHouse$Teller", name := "sign", desc := "(I)V" } : Jvm.MethodName)) ∈ lw_tbl := lw_at lw_m5 101 rfl
theorem q1304 : (Jvm.Cond.instanceMethod ({ cls := "MarkHouse$Teller", name := "sign", desc := "(I)V" } : Jvm.MethodName)) ∈ lw_all := lw_g (lw_at lw_m5 102 rfl) rfl
theorem q1305 : (Jvm.Cond.code ({ cls := "MarkHouse$Teller", name := "sign", desc := "(I)V" } : Jvm.MethodName) prog_13_method_4_code (2 : Nat) (Option.none : Option Jvm.ClassFile.FieldType)) ∈ lw_all := lw_g (lw_at lw_m5 103 rfl) rfl
theorem q1306 : (Jvm.Cond.methodLink "MarkHouse$Teller" (133 : Nat) ({ cls := "MarkHouse$Orders", name := "isNext", desc := "(III)Z" } : Jvm.MethodName)) ∈ lw_all := lw_g (lw_at lw_m5 104 rfl) rfl
theorem q1317 : (Jvm.Cond.methodLink "MarkHouse$Teller" (92 : Nat) ({ cls := "MarkHouse$Teller", name := "kind", desc := "(I)V" } : Jvm.MethodName)) ∈ lw_all := lw_g (lw_at lw_m5 115 rfl) rfl
theorem q1318 : (Jvm.Cond.privateMethod ({ cls := "MarkHouse$Teller", name := "kind", desc := "(I)V" } : Jvm.MethodName)) ∈ lw_tbl := lw_at lw_m5 116 rfl
theorem q1319 : (Jvm.Cond.instanceMethod ({ cls := "MarkHouse$Teller", name := "kind", desc := "(I)V" } : Jvm.MethodName)) ∈ lw_all := lw_g (lw_at lw_m5 117 rfl) rfl
theorem q1320 : (Jvm.Cond.code ({ cls := "MarkHouse$Teller", name := "kind", desc := "(I)V" } : Jvm.MethodName) prog_13_method_10_code (4 : Nat) (Option.none : Option Jvm.ClassFile.FieldType)) ∈ lw_all := lw_g (lw_at lw_m5 118 rfl) rfl
theorem q1321 : (Jvm.Cond.methodLink "MarkHouse$Teller" (153 : Nat) ({ cls := "MarkHouse$Teller", name := "value", desc := "(IJ)V" } : Jvm.MethodName)) ∈ lw_all := lw_g (lw_at lw_m5 119 rfl) rfl
theorem q1322 : (Jvm.Cond.privateMethod ({ cls := "MarkHouse$Teller", name := "value", desc := "(IJ)V" } : Jvm.MethodName)) ∈ lw_tbl := lw_at lw_m5 120 rfl
theorem q1323 : (Jvm.Cond.instanceMethod ({ cls := "MarkHouse$Teller", name := "value", desc := "(IJ)V" } : Jvm.MethodName)) ∈ lw_all := lw_g (lw_at lw_m5 121 rfl) rfl
theorem q1324 : (Jvm.Cond.code ({ cls := "MarkHouse$Teller", name := "value", desc := "(IJ)V" } : Jvm.MethodName) prog_13_method_7_code (4 : Nat) (Option.none : Option Jvm.ClassFile.FieldType)) ∈ lw_all := lw_g (lw_at lw_m5 122 rfl) rfl
theorem q1325 : (Jvm.Cond.methodLink "MarkHouse$Teller" (68 : Nat) ({ cls := "MarkHouse$Teller", name := "number", desc := "(I)V" } : Jvm.MethodName)) ∈ lw_all := lw_g (lw_at lw_m5 123 rfl) rfl
theorem q1326 : (Jvm.Cond.privateMethod ({ cls := "MarkHouse$Teller", name := "number", desc := "(I)V" } : Jvm.MethodName)) ∈ lw_tbl := lw_at lw_m5 124 rfl
theorem q1327 : (Jvm.Cond.instanceMethod ({ cls := "MarkHouse$Teller", name := "number", desc := "(I)V" } : Jvm.MethodName)) ∈ lw_all := lw_g (lw_at lw_m5 125 rfl) rfl
theorem q1328 : (Jvm.Cond.code ({ cls := "MarkHouse$Teller", name := "number", desc := "(I)V" } : Jvm.MethodName) prog_13_method_6_code (2 : Nat) (Option.none : Option Jvm.ClassFile.FieldType)) ∈ lw_all := lw_g (lw_at lw_m5 126 rfl) rfl
theorem q1329 : (Jvm.Cond.methodLink "MarkHouse$Teller" (65 : Nat) ({ cls := "MarkHouse$Bytes", name := "addDigits", desc := "(J)V" } : Jvm.MethodName)) ∈ lw_all := lw_g (lw_at lw_m5 127 rfl) rfl
theorem q1336 : (Jvm.Cond.methodLink "MarkHouse$Teller" (115 : Nat) ({ cls := "MarkHouse$Teller", name := "marks", desc := "(I)V" } : Jvm.MethodName)) ∈ lw_all := lw_g (lw_at lw_m5 134 rfl) rfl
theorem q1337 : (Jvm.Cond.privateMethod ({ cls := "MarkHouse$Teller", name := "marks", desc := "(I)V" } : Jvm.MethodName)) ∈ lw_tbl := lw_at lw_m5 135 rfl
theorem q1338 : (Jvm.Cond.instanceMethod ({ cls := "MarkHouse$Teller", name := "marks", desc := "(I)V" } : Jvm.MethodName)) ∈ lw_all := lw_g (lw_at lw_m5 136 rfl) rfl
theorem q1339 : (Jvm.Cond.code ({ cls := "MarkHouse$Teller", name := "marks", desc := "(I)V" } : Jvm.MethodName) prog_13_method_12_code (4 : Nat) (Option.none : Option Jvm.ClassFile.FieldType)) ∈ lw_all := lw_g (lw_at lw_m5 137 rfl) rfl
theorem q1340 : (Jvm.Cond.methodLink "MarkHouse$Teller" (196 : Nat) ({ cls := "MarkHouse$Teller", name := "isTold", desc := "(II)Z" } : Jvm.MethodName)) ∈ lw_all := lw_g (lw_at lw_m5 138 rfl) rfl
theorem q1341 : (Jvm.Cond.privateMethod ({ cls := "MarkHouse$Teller", name := "isTold", desc := "(II)Z" } : Jvm.MethodName)) ∈ lw_tbl := lw_at lw_m5 139 rfl
theorem q1342 : (Jvm.Cond.instanceMethod ({ cls := "MarkHouse$Teller", name := "isTold", desc := "(II)Z" } : Jvm.MethodName)) ∈ lw_all := lw_g (lw_at lw_m5 140 rfl) rfl
theorem q1343 : (Jvm.Cond.code ({ cls := "MarkHouse$Teller", name := "isTold", desc := "(II)Z" } : Jvm.MethodName) prog_13_method_11_code (5 : Nat) (Option.some Jvm.ClassFile.FieldType.boolean)) ∈ lw_all := lw_g (lw_at lw_m5 141 rfl) rfl
theorem q1344 : (Jvm.Cond.methodLink "MarkHouse$Teller" (174 : Nat) ({ cls := "MarkHouse$Passing", name := "counts", desc := "(II)Z" } : Jvm.MethodName)) ∈ lw_all := lw_g (lw_at lw_m5 142 rfl) rfl
theorem q1367 : (Jvm.Cond.methodLink "MarkHouse$Teller" (180 : Nat) ({ cls := "MarkHouse$Passing", name := "kindOf", desc := "(J)I" } : Jvm.MethodName)) ∈ lw_all := lw_g (lw_at lw_m5 165 rfl) rfl
theorem q1368 : (Jvm.Cond.methodLink "MarkHouse$Teller" (184 : Nat) ({ cls := "MarkHouse$Marks", name := "isNo", desc := "(I)Z" } : Jvm.MethodName)) ∈ lw_all := lw_g (lw_at lw_m5 166 rfl) rfl
theorem q1372 : (Jvm.Cond.methodLink "MarkHouse$Teller" (188 : Nat) ({ cls := "MarkHouse$Passing", name := "element", desc := "(II)I" } : Jvm.MethodName)) ∈ lw_all := lw_g (lw_at lw_m5 170 rfl) rfl
theorem q1386 : (Jvm.Cond.methodLink "MarkHouse$Teller" (192 : Nat) ({ cls := "MarkHouse$Passing", name := "sort", desc := "(III)I" } : Jvm.MethodName)) ∈ lw_all := lw_g (lw_at lw_m5 184 rfl) rfl
theorem q1390 : (Jvm.Cond.methodLink "MarkHouse$Teller" (199 : Nat) ({ cls := "MarkHouse$Teller", name := "pairs", desc := "(II)V" } : Jvm.MethodName)) ∈ lw_all := lw_g (lw_at lw_m5 188 rfl) rfl
theorem q1391 : (Jvm.Cond.privateMethod ({ cls := "MarkHouse$Teller", name := "pairs", desc := "(II)V" } : Jvm.MethodName)) ∈ lw_tbl := lw_at lw_m5 189 rfl
theorem q1392 : (Jvm.Cond.instanceMethod ({ cls := "MarkHouse$Teller", name := "pairs", desc := "(II)V" } : Jvm.MethodName)) ∈ lw_all := lw_g (lw_at lw_m5 190 rfl) rfl
theorem q1393 : (Jvm.Cond.code ({ cls := "MarkHouse$Teller", name := "pairs", desc := "(II)V" } : Jvm.MethodName) prog_13_method_13_code (7 : Nat) (Option.none : Option Jvm.ClassFile.FieldType)) ∈ lw_all := lw_g (lw_at lw_m5 191 rfl) rfl
theorem q1394 : (Jvm.Cond.methodLink "MarkHouse$Teller" (208 : Nat) ({ cls := "MarkHouse$Marks", name := "pair", desc := "(IJ)I" } : Jvm.MethodName)) ∈ lw_all := lw_g (lw_at lw_m5 192 rfl) rfl
theorem q1395 : (Jvm.Cond.constantLong "MarkHouse$Teller" (206 : Nat) (7022237718977445888 : Int64)) ∈ lw_all := lw_g (lw_at lw_m5 193 rfl) rfl
theorem q1396 : (Jvm.Cond.methodLink "MarkHouse$Teller" (121 : Nat) ({ cls := "MarkHouse$Teller", name := "cls", desc := "(I)V" } : Jvm.MethodName)) ∈ lw_all := lw_g (lw_at lw_m5 194 rfl) rfl
theorem q1397 : (Jvm.Cond.privateMethod ({ cls := "MarkHouse$Teller", name := "cls", desc := "(I)V" } : Jvm.MethodName)) ∈ lw_tbl := lw_at lw_m5 195 rfl
theorem q1398 : (Jvm.Cond.instanceMethod ({ cls := "MarkHouse$Teller", name := "cls", desc := "(I)V" } : Jvm.MethodName)) ∈ lw_all := lw_g (lw_at lw_m5 196 rfl) rfl
theorem q1399 : (Jvm.Cond.code ({ cls := "MarkHouse$Teller", name := "cls", desc := "(I)V" } : Jvm.MethodName) prog_13_method_14_code (3 : Nat) (Option.none : Option Jvm.ClassFile.FieldType)) ∈ lw_all := lw_g (lw_at lw_m5 197 rfl) rfl
theorem q1400 : (Jvm.Cond.methodLink "MarkHouse$Teller" (224 : Nat) ({ cls := "MarkHouse$Program", name := "ofField", desc := "(I)I" } : Jvm.MethodName)) ∈ lw_all := lw_g (lw_at lw_m5 198 rfl) rfl
theorem q1403 : (Jvm.Cond.methodLink "MarkHouse$Teller" (234 : Nat) ({ cls := "MarkHouse$Teller", name := "method", desc := "(I)V" } : Jvm.MethodName)) ∈ lw_all := lw_g (lw_at lw_m5 201 rfl) rfl
theorem q1404 : (Jvm.Cond.privateMethod ({ cls := "MarkHouse$Teller", name := "method", desc := "(I)V" } : Jvm.MethodName)) ∈ lw_tbl := lw_at lw_m5 202 rfl
theorem q1405 : (Jvm.Cond.instanceMethod ({ cls := "MarkHouse$Teller", name := "method", desc := "(I)V" } : Jvm.MethodName)) ∈ lw_all := lw_g (lw_at lw_m5 203 rfl) rfl
theorem q1406 : (Jvm.Cond.code ({ cls := "MarkHouse$Teller", name := "method", desc := "(I)V" } : Jvm.MethodName) prog_13_method_15_code (3 : Nat) (Option.none : Option Jvm.ClassFile.FieldType)) ∈ lw_all := lw_g (lw_at lw_m5 204 rfl) rfl
theorem q1407 : (Jvm.Cond.methodLink "MarkHouse$Teller" (246 : Nat) ({ cls := "MarkHouse$Program", name := "ofMethod", desc := "(I)I" } : Jvm.MethodName)) ∈ lw_all := lw_g (lw_at lw_m5 205 rfl) rfl
theorem q1410 : (Jvm.Cond.methodLink "MarkHouse$Teller" (255 : Nat) ({ cls := "MarkHouse$Teller", name := "act", desc := "(IZZ)V" } : Jvm.MethodName)) ∈ lw_all := lw_g (lw_at lw_m5 208 rfl) rfl
theorem q1411 : (Jvm.Cond.privateMethod ({ cls := "MarkHouse$Teller", name := "act", desc := "(IZZ)V" } : Jvm.MethodName)) ∈ lw_tbl := lw_at lw_m5 209 rfl
theorem q1412 : (Jvm.Cond.instanceMethod ({ cls := "MarkHouse$Teller", name := "act", desc := "(IZZ)V" } : Jvm.MethodName)) ∈ lw_all := lw_g (lw_at lw_m5 210 rfl) rfl
theorem q1413 : (Jvm.Cond.code ({ cls := "MarkHouse$Teller", name := "act", desc := "(IZZ)V" } : Jvm.MethodName) prog_13_method_18_code (6 : Nat) (Option.none : Option Jvm.ClassFile.FieldType)) ∈ lw_all := lw_g (lw_at lw_m5 211 rfl) rfl
theorem q1414 : (Jvm.Cond.methodLink "MarkHouse$Teller" (271 : Nat) ({ cls := "MarkHouse$Teller", name := "elements", desc := "(I)V" } : Jvm.MethodName)) ∈ lw_all := lw_g (lw_at lw_m5 212 rfl) rfl
theorem q1415 : (Jvm.Cond.privateMethod ({ cls := "MarkHouse$Teller", name := "elements", desc := "(I)V" } : Jvm.MethodName)) ∈ lw_tbl := lw_at lw_m5 213 rfl
theorem q1416 : (Jvm.Cond.instanceMethod ({ cls := "MarkHouse$Teller", name := "elements", desc := "(I)V" } : Jvm.MethodName)) ∈ lw_all := lw_g (lw_at lw_m5 214 rfl) rfl
theorem q1417 : (Jvm.Cond.code ({ cls := "MarkHouse$Teller", name := "elements", desc := "(I)V" } : Jvm.MethodName) prog_13_method_16_code (4 : Nat) (Option.none : Option Jvm.ClassFile.FieldType)) ∈ lw_all := lw_g (lw_at lw_m5 215 rfl) rfl
theorem q1418 : (Jvm.Cond.methodLink "MarkHouse$Teller" (262 : Nat) ({ cls := "MarkHouse$Teller", name := "element", desc := "(III)V" } : Jvm.MethodName)) ∈ lw_all := lw_g (lw_at lw_m5 216 rfl) rfl
theorem q1419 : (Jvm.Cond.privateMethod ({ cls := "MarkHouse$Teller", name := "element", desc := "(III)V" } : Jvm.MethodName)) ∈ lw_tbl := lw_at lw_m5 217 rfl
theorem q1420 : (Jvm.Cond.instanceMethod ({ cls := "MarkHouse$Teller", name := "element", desc := "(III)V" } : Jvm.MethodName)) ∈ lw_all := lw_g (lw_at lw_m5 218 rfl) rfl
theorem q1421 : (Jvm.Cond.code ({ cls := "MarkHouse$Teller", name := "element", desc := "(III)V" } : Jvm.MethodName) prog_13_method_17_code (4 : Nat) (Option.none : Option Jvm.ClassFile.FieldType)) ∈ lw_all := lw_g (lw_at lw_m5 219 rfl) rfl
theorem q1422 : (Jvm.Cond.methodLink "MarkHouse$Teller" (281 : Nat) ({ cls := "MarkHouse$Program", name := "leads", desc := "(I)Z" } : Jvm.MethodName)) ∈ lw_all := lw_g (lw_at lw_m5 220 rfl) rfl
theorem q1426 : (Jvm.Cond.methodLink "MarkHouse$Teller" (286 : Nat) ({ cls := "MarkHouse$Weaver", name := "place", desc := "(I)I" } : Jvm.MethodName)) ∈ lw_all := lw_g (lw_at lw_m5 224 rfl) rfl
theorem q1859 : (Jvm.Cond.instanceMethod ({ cls := "MarkHouse$Teller", name := "code", desc := "(IZ)V" } : Jvm.MethodName)) ∈ lw_all := lw_g (lw_at lw_m7 177 rfl) rfl
theorem q1860 : (Jvm.Cond.selects "MarkHouse$Teller" ({ cls := "MarkHouse$Teller", name := "code", desc := "(IZ)V" } : Jvm.MethodName) ({ cls := "MarkHouse$Teller", name := "code", desc := "(IZ)V" } : Jvm.MethodName)) ∈ lw_all := lw_g (lw_at lw_m7 178 rfl) rfl
theorem q1861 : (Jvm.Cond.code ({ cls := "MarkHouse$Teller", name := "code", desc := "(IZ)V" } : Jvm.MethodName) prog_13_method_19_code (5 : Nat) (Option.none : Option Jvm.ClassFile.FieldType)) ∈ lw_all := lw_g (lw_at lw_m7 179 rfl) rfl
theorem q1862 : (Jvm.Cond.stringRef "MarkHouse$Teller" (297 : Nat) "check") ∈ lw_tbl := lw_at lw_m7 180 rfl
theorem q1863 : (Jvm.Cond.methodLink "MarkHouse$Teller" (299 : Nat) ({ cls := "MarkHouse$Flow", name := "below", desc := "(II)I" } : Jvm.MethodName)) ∈ lw_all := lw_g (lw_at lw_m7 181 rfl) rfl
theorem in_X16 : ∀ w ∈ wsX160, w ∈ lw_all := lw_in wsX160 [1159, 1161, 1163, 1165, 1167, 1169] (by decide +kernel) (by decide +kernel)
/-! MarkHouseModel -/
set_option maxRecDepth 100000
def RX17 : String := "MarkHouseModel"
def TX17 : u_T := fun k => match k with
  | 0 => ("MarkHouseModel", "thrown", "I", false)
  | 1 => ("MarkHouseModel", "tape", "[I", true)
  | 2 => ("MarkHouseModel", "taped", "I", false)
  | 3 => ("MarkHouseModel", "out", "[I", true)
  | 4 => ("MarkHouseModel", "outs", "I", false)
  | 5 => ("MarkHouseModel", "some", "Z", false)
  | 6 => ("MarkHouseModel", "words", "[Ljava/lang/String;", true)
  | 7 => ("MarkHouseModel", "lexemes", "I", false)
  | 8 => ("MarkHouseModel", "sort", "[I", true)
  | 9 => ("MarkHouseModel", "at", "[I", true)
  | 10 => ("MarkHouseModel", "what", "[J", true)
  | 11 => ("MarkHouseModel", "faultKind", "I", false)
  | 12 => ("MarkHouseModel", "faultPlace", "I", false)
  | 13 => ("MarkHouseModel", "wrong", "Z", false)
  | 14 => ("MarkHouseModel", "there", "Z", false)
  | 15 => ("MarkHouseModel", "orders", "I", false)
  | 16 => ("MarkHouseModel", "oName", "[J", true)
  | 17 => ("MarkHouseModel", "oMany", "[I", true)
  | 18 => ("MarkHouseModel", "oElement", "[J", true)
  | 19 => ("MarkHouseModel", "isBelow", "[Z", true)
  | 20 => ("MarkHouseModel", "oJoin", "[I", true)
  | 21 => ("MarkHouseModel", "oMeet", "[I", true)
  | 22 => ("MarkHouseModel", "oTop", "[I", true)
  | 23 => ("MarkHouseModel", "oBottom", "[I", true)
  | 24 => ("MarkHouseModel", "kinds", "I", false)
  | 25 => ("MarkHouseModel", "kName", "[J", true)
  | 26 => ("MarkHouseModel", "kMembers", "[I", true)
  | 27 => ("MarkHouseModel", "memberName", "[J", true)
  | 28 => ("MarkHouseModel", "memberText", "[Z", true)
  | 29 => ("MarkHouseModel", "hasDefault", "[Z", true)
  | 30 => ("MarkHouseModel", "memberDefault", "[J", true)
  | 31 => ("MarkHouseModel", "kWhere", "[I", true)
  | 32 => ("MarkHouseModel", "kHeirs", "[Z", true)
  | 33 => ("MarkHouseModel", "kMany", "[Z", true)
  | 34 => ("MarkHouseModel", "makers", "I", false)
  | 35 => ("MarkHouseModel", "makerName", "[J", true)
  | 36 => ("MarkHouseModel", "makerKind", "[I", true)
  | 37 => ("MarkHouseModel", "classes", "I", false)
  | 38 => ("MarkHouseModel", "cName", "[J", true)
  | 39 => ("MarkHouseModel", "cParent", "[I", true)
  | 40 => ("MarkHouseModel", "cFields", "[I", true)
  | 41 => ("MarkHouseModel", "cMethods", "[I", true)
  | 42 => ("MarkHouseModel", "fName", "[J", true)
  | 43 => ("MarkHouseModel", "fValue", "[I", true)
  | 44 => ("MarkHouseModel", "mName", "[J", true)
  | 45 => ("MarkHouseModel", "mParameters", "[I", true)
  | 46 => ("MarkHouseModel", "mLocals", "[I", true)
  | 47 => ("MarkHouseModel", "local", "[J", true)
  | 48 => ("MarkHouseModel", "mActs", "[I", true)
  | 49 => ("MarkHouseModel", "op", "[I", true)
  | 50 => ("MarkHouseModel", "label", "[J", true)
  | 51 => ("MarkHouseModel", "act", "[I", true)
  | 52 => ("MarkHouseModel", "x", "[I", true)
  | 53 => ("MarkHouseModel", "y", "[I", true)
  | 54 => ("MarkHouseModel", "to", "[I", true)
  | 55 => ("MarkHouseModel", "nameAt", "[I", true)
  | 56 => ("MarkHouseModel", "labelAt", "[I", true)
  | 57 => ("MarkHouseModel", "told", "[I", true)
  | 58 => ("MarkHouseModel", "toldOrder", "[I", true)
  | 59 => ("MarkHouseModel", "toldElement", "[I", true)
  | 60 => ("MarkHouseModel", "marks", "[I", true)
  | 61 => ("MarkHouseModel", "markName", "[J", true)
  | 62 => ("MarkHouseModel", "isNo", "[Z", true)
  | 63 => ("MarkHouseModel", "pairs", "[I", true)
  | 64 => ("MarkHouseModel", "pairName", "[J", true)
  | 65 => ("MarkHouseModel", "pairSort", "[I", true)
  | 66 => ("MarkHouseModel", "pairValue", "[J", true)
  | 67 => ("MarkHouseModel", "here", "I", false)
  | 68 => ("MarkHouseModel", "value", "J", false)
  | 69 => ("MarkHouseModel", "named", "[I", true)
  | 70 => ("MarkHouseModel", "depth", "[I", true)
  | 71 => ("MarkHouseModel", "isOver", "[Z", true)
  | 72 => ("MarkHouseModel", "gives", "[I", true)
  | 73 => ("MarkHouseModel", "givesName", "J", false)
  | 74 => ("MarkHouseModel", "eMany", "I", false)
  | 75 => ("MarkHouseModel", "eMark", "[I", true)
  | 76 => ("MarkHouseModel", "ePlace", "I", false)
  | 77 => ("MarkHouseModel", "eSteps", "I", false)
  | 78 => ("MarkHouseModel", "eGiven", "Z", false)
  | 79 => ("MarkHouseModel", "mValue", "J", false)
  | 80 => ("MarkHouseModel", "fAt", "I", false)
  | 81 => ("MarkHouseModel", "fEnd", "I", false)
  | 82 => ("MarkHouseModel", "bad", "Z", false)
  | 83 => ("MarkHouseModel", "had", "[Z", true)
  | 84 => ("MarkHouseModel", "found", "[I", true)
  | 85 => ("MarkHouseModel", "mk", "[I", true)
  | 86 => ("MarkHouseModel", "isEffective", "[Z", true)
  | 87 => ("MarkHouseModel", "st", "[I", true)
  | 88 => ("MarkHouseModel", "come", "[Z", true)
  | 89 => ("MarkHouseModel", "now", "[I", true)
  | 90 => ("MarkHouseModel", "moved", "Z", false)
  | 91 => ("MarkHouseModel", "errors", "I", false)
  | 92 => ("MarkHouseModel", "eMethod", "[I", true)
  | 93 => ("MarkHouseModel", "eAct", "[I", true)
  | 94 => ("MarkHouseModel", "eParameter", "[I", true)
  | 95 => ("MarkHouseModel", "eComes", "[I", true)
  | 96 => ("MarkHouseModel", "eWanted", "[I", true)
  | 97 => ("MarkHouseModel", "flowing", "I", false)
  | 98 => ("MarkHouseModel", "sAct", "[I", true)
  | 99 => ("MarkHouseModel", "sFrom", "[I", true)
  | 100 => ("MarkHouseModel", "sState", "[I", true)
  | 101 => ("MarkHouseModel", "situations", "I", false)
  | 102 => ("MarkHouseModel", "ways", "I", false)
  | 103 => ("MarkHouseModel", "wayAct", "[I", true)
  | 104 => ("MarkHouseModel", "isOpen", "Z", false)
  | 105 => ("MarkHouseModel", "hit", "I", false)
  | 106 => ("MarkHouseModel", "isWoven", "Z", false)
  | 107 => ("MarkHouseModel", "check", "[I", true)
  | 108 => ("MarkHouseModel", "argument", "[I", true)
  | 109 => ("MarkHouseModel", "input", "[I", true)
  | 110 => ("MarkHouseModel", "inputs", "I", false)
  | 111 => ("MarkHouseModel", "running", "I", false)
  | 112 => ("MarkHouseModel", "byChecks", "Z", false)
  | 113 => ("MarkHouseModel", "frames", "I", false)
  | 114 => ("MarkHouseModel", "frMethod", "[I", true)
  | 115 => ("MarkHouseModel", "frAct", "[I", true)
  | 116 => ("MarkHouseModel", "frTop", "[I", true)
  | 117 => ("MarkHouseModel", "val", "[I", true)
  | 118 => ("MarkHouseModel", "el", "[I", true)
  | 119 => ("MarkHouseModel", "fieldNow", "[I", true)
  | 120 => ("MarkHouseModel", "fieldEl", "[I", true)
  | 121 => ("MarkHouseModel", "result", "I", false)
  | 122 => ("MarkHouseModel", "resultEl", "[I", true)
  | 123 => ("MarkHouseModel", "acts", "I", false)
  | 124 => ("MarkHouseModel", "lefts", "I", false)
  | 125 => ("MarkHouseModel", "leftMethod", "I", false)
  | 126 => ("MarkHouseModel", "leftAct", "I", false)
  | 127 => ("MarkHouseModel", "leftOrder", "I", false)
  | 128 => ("MarkHouseModel", "brokens", "I", false)
  | 129 => ("MarkHouseModel", "checksDone", "I", false)
  | 130 => ("MarkHouseModel", "isWired", "Z", false)
  | 131 => ("MarkHouseModel", "wireKind", "I", false)
  | 132 => ("MarkHouseModel", "wireField", "I", false)
  | 133 => ("MarkHouseModel", "wireClass", "I", false)
  | 134 => ("MarkHouseModel", "made", "I", false)
  | 135 => ("MarkHouseModel", "madeClass", "[I", true)
  | 136 => ("MarkHouseModel", "isMade", "[Z", true)
  | 137 => ("MarkHouseModel", "isMaking", "[Z", true)
  | 138 => ("MarkHouseModel", "isPart", "[Z", true)
  | _ => ("MarkHouseModel", "partLabel", "[J", true)
def tyX17 : Nat → FieldType := fun k => match k with
  | 0 => .int
  | 1 => .array .int
  | 2 => .int
  | 3 => .array .int
  | 4 => .int
  | 5 => .boolean
  | 6 => .array (.object "java/lang/String")
  | 7 => .int
  | 8 => .array .int
  | 9 => .array .int
  | 10 => .array .long
  | 11 => .int
  | 12 => .int
  | 13 => .boolean
  | 14 => .boolean
  | 15 => .int
  | 16 => .array .long
  | 17 => .array .int
  | 18 => .array .long
  | 19 => .array .boolean
  | 20 => .array .int
  | 21 => .array .int
  | 22 => .array .int
  | 23 => .array .int
  | 24 => .int
  | 25 => .array .long
  | 26 => .array .int
  | 27 => .array .long
  | 28 => .array .boolean
  | 29 => .array .boolean
  | 30 => .array .long
  | 31 => .array .int
  | 32 => .array .boolean
  | 33 => .array .boolean
  | 34 => .int
  | 35 => .array .long
  | 36 => .array .int
  | 37 => .int
  | 38 => .array .long
  | 39 => .array .int
  | 40 => .array .int
  | 41 => .array .int
  | 42 => .array .long
  | 43 => .array .int
  | 44 => .array .long
  | 45 => .array .int
  | 46 => .array .int
  | 47 => .array .long
  | 48 => .array .int
  | 49 => .array .int
  | 50 => .array .long
  | 51 => .array .int
  | 52 => .array .int
  | 53 => .array .int
  | 54 => .array .int
  | 55 => .array .int
  | 56 => .array .int
  | 57 => .array .int
  | 58 => .array .int
  | 59 => .array .int
  | 60 => .array .int
  | 61 => .array .long
  | 62 => .array .boolean
  | 63 => .array .int
  | 64 => .array .long
  | 65 => .array .int
  | 66 => .array .long
  | 67 => .int
  | 68 => .long
  | 69 => .array .int
  | 70 => .array .int
  | 71 => .array .boolean
  | 72 => .array .int
  | 73 => .long
  | 74 => .int
  | 75 => .array .int
  | 76 => .int
  | 77 => .int
  | 78 => .boolean
  | 79 => .long
  | 80 => .int
  | 81 => .int
  | 82 => .boolean
  | 83 => .array .boolean
  | 84 => .array .int
  | 85 => .array .int
  | 86 => .array .boolean
  | 87 => .array .int
  | 88 => .array .boolean
  | 89 => .array .int
  | 90 => .boolean
  | 91 => .int
  | 92 => .array .int
  | 93 => .array .int
  | 94 => .array .int
  | 95 => .array .int
  | 96 => .array .int
  | 97 => .int
  | 98 => .array .int
  | 99 => .array .int
  | 100 => .array .int
  | 101 => .int
  | 102 => .int
  | 103 => .array .int
  | 104 => .boolean
  | 105 => .int
  | 106 => .boolean
  | 107 => .array .int
  | 108 => .array .int
  | 109 => .array .int
  | 110 => .int
  | 111 => .int
  | 112 => .boolean
  | 113 => .int
  | 114 => .array .int
  | 115 => .array .int
  | 116 => .array .int
  | 117 => .array .int
  | 118 => .array .int
  | 119 => .array .int
  | 120 => .array .int
  | 121 => .int
  | 122 => .array .int
  | 123 => .int
  | 124 => .int
  | 125 => .int
  | 126 => .int
  | 127 => .int
  | 128 => .int
  | 129 => .int
  | 130 => .boolean
  | 131 => .int
  | 132 => .int
  | 133 => .int
  | 134 => .int
  | 135 => .array .int
  | 136 => .array .boolean
  | 137 => .array .boolean
  | 138 => .array .boolean
  | _ => .array .long
abbrev wsX170 : List Cond := u_ws RX17 TX17 140
set_option maxRecDepth 100000 in
theorem nmX17 : ∀ a, a < 140 → ∀ b, b < 140 → a ≠ b → (TX17 a).2.1 ≠ (TX17 b).2.1 := by decide +kernel
set_option maxRecDepth 100000 in
theorem tyX17_ok : ∀ k, k < 140 → parseFieldDescriptor (TX17 k).2.2.1 = some (tyX17 k) := by decide +kernel
abbrev cX17_init : ByteArray := prog_18_method_1_code
def yX17_init : MethodName := ⟨RX17, "<init>", "()V"⟩
abbrev cX17_thrown : ByteArray := prog_18_method_2_code
def yX17_thrown : MethodName := ⟨RX17, "thrown", "()I"⟩
abbrev cX17_feed : ByteArray := prog_18_method_3_code
def yX17_feed : MethodName := ⟨RX17, "feed", "(IIIII)I"⟩
abbrev cX17_four : ByteArray := prog_18_method_4_code
def yX17_four : MethodName := ⟨RX17, "four", "(I)V"⟩
abbrev cX17_end : ByteArray := prog_18_method_5_code
def yX17_end : MethodName := ⟨RX17, "end", "(I)I"⟩
abbrev cX17_out : ByteArray := prog_18_method_6_code
def yX17_out : MethodName := ⟨RX17, "out", "(I)I"⟩
abbrev cX17_compile : ByteArray := prog_18_method_80_code
def yX17_compile : MethodName := ⟨RX17, "compile", "()I"⟩
abbrev cX17_changed : ByteArray := prog_18_method_149_code
def yX17_changed : MethodName := ⟨RX17, "changed", "()V"⟩
abbrev cX17_cut : ByteArray := prog_18_method_24_code
def yX17_cut : MethodName := ⟨RX17, "cut", "(I)V"⟩
abbrev cX17_isLetter : ByteArray := prog_18_method_17_code
def yX17_isLetter : MethodName := ⟨RX17, "isLetter", "(I)Z"⟩
abbrev cX17_isDigit : ByteArray := prog_18_method_18_code
def yX17_isDigit : MethodName := ⟨RX17, "isDigit", "(I)Z"⟩
abbrev cX17_fault : ByteArray := prog_18_method_20_code
def yX17_fault : MethodName := ⟨RX17, "fault", "(II)V"⟩
abbrev cX17_wordOf : ByteArray := prog_18_method_23_code
def yX17_wordOf : MethodName := ⟨RX17, "wordOf", "(J)I"⟩
abbrev cX17_packed : ByteArray := prog_18_method_22_code
def yX17_packed : MethodName := ⟨RX17, "packed", "(Ljava/lang/String;)J"⟩
abbrev cX17_lexeme : ByteArray := prog_18_method_21_code
def yX17_lexeme : MethodName := ⟨RX17, "lexeme", "(IIJ)V"⟩
abbrev cX17_isSign : ByteArray := prog_18_method_19_code
def yX17_isSign : MethodName := ⟨RX17, "isSign", "(I)Z"⟩
abbrev cX17_readProgram : ByteArray := prog_18_method_40_code
def yX17_readProgram : MethodName := ⟨RX17, "readProgram", "()V"⟩
abbrev cX17_mayWord : ByteArray := prog_18_method_34_code
def yX17_mayWord : MethodName := ⟨RX17, "mayWord", "(I)Z"⟩
abbrev cX17_isWord : ByteArray := prog_18_method_32_code
def yX17_isWord : MethodName := ⟨RX17, "isWord", "(I)Z"⟩
abbrev cX17_readOrder : ByteArray := prog_18_method_44_code
def yX17_readOrder : MethodName := ⟨RX17, "readOrder", "()V"⟩
abbrev cX17_newName : ByteArray := prog_18_method_41_code
def yX17_newName : MethodName := ⟨RX17, "newName", "(II)J"⟩
abbrev cX17_wantName : ByteArray := prog_18_method_38_code
def yX17_wantName : MethodName := ⟨RX17, "wantName", "()J"⟩
abbrev cX17_cant : ByteArray := prog_18_method_36_code
def yX17_cant : MethodName := ⟨RX17, "cant", "()V"⟩
abbrev cX17_isTaken : ByteArray := prog_18_method_29_code
def yX17_isTaken : MethodName := ⟨RX17, "isTaken", "(J)Z"⟩
abbrev cX17_orderOf : ByteArray := prog_18_method_25_code
def yX17_orderOf : MethodName := ⟨RX17, "orderOf", "(J)I"⟩
abbrev cX17_kindOf : ByteArray := prog_18_method_26_code
def yX17_kindOf : MethodName := ⟨RX17, "kindOf", "(J)I"⟩
abbrev cX17_makerOf : ByteArray := prog_18_method_27_code
def yX17_makerOf : MethodName := ⟨RX17, "makerOf", "(J)I"⟩
abbrev cX17_classOf : ByteArray := prog_18_method_28_code
def yX17_classOf : MethodName := ⟨RX17, "classOf", "(J)I"⟩
abbrev cX17_wantSign : ByteArray := prog_18_method_37_code
def yX17_wantSign : MethodName := ⟨RX17, "wantSign", "(I)V"⟩
abbrev cX17_isSignHere : ByteArray := prog_18_method_33_code
def yX17_isSignHere : MethodName := ⟨RX17, "isSignHere", "(I)Z"⟩
abbrev cX17_cell : ByteArray := prog_18_method_43_code
def yX17_cell : MethodName := ⟨RX17, "cell", "(III)I"⟩
abbrev cX17_element : ByteArray := prog_18_method_42_code
def yX17_element : MethodName := ⟨RX17, "element", "(I)I"⟩
abbrev cX17_elementOf : ByteArray := prog_18_method_30_code
def yX17_elementOf : MethodName := ⟨RX17, "elementOf", "(IJ)I"⟩
abbrev cX17_maySign : ByteArray := prog_18_method_35_code
def yX17_maySign : MethodName := ⟨RX17, "maySign", "(I)Z"⟩
abbrev cX17_isLattice : ByteArray := prog_18_method_47_code
def yX17_isLattice : MethodName := ⟨RX17, "isLattice", "(I)Z"⟩
abbrev cX17_below : ByteArray := prog_18_method_45_code
def yX17_below : MethodName := ⟨RX17, "below", "(III)Z"⟩
abbrev cX17_least : ByteArray := prog_18_method_46_code
def yX17_least : MethodName := ⟨RX17, "least", "(IIIZ)I"⟩
abbrev cX17_readKind : ByteArray := prog_18_method_58_code
def yX17_readKind : MethodName := ⟨RX17, "readKind", "()V"⟩
abbrev cX17_readMember : ByteArray := prog_18_method_59_code
def yX17_readMember : MethodName := ⟨RX17, "readMember", "(I)V"⟩
abbrev cX17_memberOf : ByteArray := prog_18_method_31_code
def yX17_memberOf : MethodName := ⟨RX17, "memberOf", "(IJ)I"⟩
abbrev cX17_wantValue : ByteArray := prog_18_method_39_code
def yX17_wantValue : MethodName := ⟨RX17, "wantValue", "(ZZ)V"⟩
abbrev cX17_sortBit : ByteArray := prog_18_method_57_code
def yX17_sortBit : MethodName := ⟨RX17, "sortBit", "(I)I"⟩
abbrev cX17_readMarks : ByteArray := prog_18_method_54_code
def yX17_readMarks : MethodName := ⟨RX17, "readMarks", "(IIZZ)V"⟩
abbrev cX17_readMark : ByteArray := prog_18_method_55_code
def yX17_readMark : MethodName := ⟨RX17, "readMark", "(IIZ)V"⟩
abbrev cX17_hasName : ByteArray := prog_18_method_53_code
def yX17_hasName : MethodName := ⟨RX17, "hasName", "(IIJ)Z"⟩
abbrev cX17_place : ByteArray := prog_18_method_50_code
def yX17_place : MethodName := ⟨RX17, "place", "(II)I"⟩
abbrev cX17_newMark : ByteArray := prog_18_method_51_code
def yX17_newMark : MethodName := ⟨RX17, "newMark", "(IJZ)V"⟩
abbrev cX17_newPair : ByteArray := prog_18_method_52_code
def yX17_newPair : MethodName := ⟨RX17, "newPair", "(IJIJ)V"⟩
abbrev cX17_readPairs : ByteArray := prog_18_method_56_code
def yX17_readPairs : MethodName := ⟨RX17, "readPairs", "(II)V"⟩
abbrev cX17_readMaker : ByteArray := prog_18_method_60_code
def yX17_readMaker : MethodName := ⟨RX17, "readMaker", "()V"⟩
abbrev cX17_readClass : ByteArray := prog_18_method_61_code
def yX17_readClass : MethodName := ⟨RX17, "readClass", "()V"⟩
abbrev cX17_readField : ByteArray := prog_18_method_62_code
def yX17_readField : MethodName := ⟨RX17, "readField", "(I)V"⟩
abbrev cX17_readMethod : ByteArray := prog_18_method_63_code
def yX17_readMethod : MethodName := ⟨RX17, "readMethod", "(I)V"⟩
abbrev cX17_readParameter : ByteArray := prog_18_method_64_code
def yX17_readParameter : MethodName := ⟨RX17, "readParameter", "(II)V"⟩
abbrev cX17_readAct : ByteArray := prog_18_method_66_code
def yX17_readAct : MethodName := ⟨RX17, "readAct", "(I)V"⟩
abbrev cX17_parts : ByteArray := prog_18_method_67_code
def yX17_parts : MethodName := ⟨RX17, "parts", "(II)V"⟩
abbrev cX17_toldMarks : ByteArray := prog_18_method_69_code
def yX17_toldMarks : MethodName := ⟨RX17, "toldMarks", "(I)V"⟩
abbrev cX17_slot : ByteArray := prog_18_method_70_code
def yX17_slot : MethodName := ⟨RX17, "slot", "(II)V"⟩
abbrev cX17_localOf : ByteArray := prog_18_method_65_code
def yX17_localOf : MethodName := ⟨RX17, "localOf", "(IJ)I"⟩
abbrev cX17_elementOfAct : ByteArray := prog_18_method_68_code
def yX17_elementOfAct : MethodName := ⟨RX17, "elementOfAct", "(I)V"⟩
abbrev cX17_findNames : ByteArray := prog_18_method_73_code
def yX17_findNames : MethodName := ⟨RX17, "findNames", "()V"⟩
abbrev cX17_isMethod : ByteArray := prog_18_method_74_code
def yX17_isMethod : MethodName := ⟨RX17, "isMethod", "(I)Z"⟩
abbrev cX17_findName : ByteArray := prog_18_method_75_code
def yX17_findName : MethodName := ⟨RX17, "findName", "(II)V"⟩
abbrev cX17_methodOf : ByteArray := prog_18_method_72_code
def yX17_methodOf : MethodName := ⟨RX17, "methodOf", "(IJ)I"⟩
abbrev cX17_fieldOf : ByteArray := prog_18_method_71_code
def yX17_fieldOf : MethodName := ⟨RX17, "fieldOf", "(IJ)I"⟩
abbrev cX17_findDepths : ByteArray := prog_18_method_78_code
def yX17_findDepths : MethodName := ⟨RX17, "findDepths", "(I)V"⟩
abbrev cX17_takes : ByteArray := prog_18_method_76_code
def yX17_takes : MethodName := ⟨RX17, "takes", "(I)I"⟩
abbrev cX17_gives : ByteArray := prog_18_method_77_code
def yX17_gives : MethodName := ⟨RX17, "gives", "(I)I"⟩
abbrev cX17_leads : ByteArray := prog_18_method_79_code
def yX17_leads : MethodName := ⟨RX17, "leads", "(II)V"⟩
abbrev cX17_fault_2 : ByteArray := prog_18_method_81_code
def yX17_fault_2 : MethodName := ⟨RX17, "fault", "(I)I"⟩
abbrev cX17_effective : ByteArray := prog_18_method_100_code
def yX17_effective : MethodName := ⟨RX17, "effective", "(II)I"⟩
abbrev cX17_isPlace : ByteArray := prog_18_method_83_code
def yX17_isPlace : MethodName := ⟨RX17, "isPlace", "(I)Z"⟩
abbrev cX17_isKey : ByteArray := prog_18_method_90_code
def yX17_isKey : MethodName := ⟨RX17, "isKey", "(I)Z"⟩
abbrev cX17_effect : ByteArray := prog_18_method_95_code
def yX17_effect : MethodName := ⟨RX17, "effect", "(II)V"⟩
abbrev cX17_nameOfKey : ByteArray := prog_18_method_91_code
def yX17_nameOfKey : MethodName := ⟨RX17, "nameOfKey", "(I)J"⟩
abbrev cX17_doesCount : ByteArray := prog_18_method_92_code
def yX17_doesCount : MethodName := ⟨RX17, "doesCount", "(II)Z"⟩
abbrev cX17_sortOf : ByteArray := prog_18_method_84_code
def yX17_sortOf : MethodName := ⟨RX17, "sortOf", "(I)I"⟩
abbrev cX17_givenBy : ByteArray := prog_18_method_94_code
def yX17_givenBy : MethodName := ⟨RX17, "givenBy", "(IIJ)I"⟩
abbrev cX17_findGiven : ByteArray := prog_18_method_93_code
def yX17_findGiven : MethodName := ⟨RX17, "findGiven", "(J)V"⟩
abbrev cX17_above : ByteArray := prog_18_method_89_code
def yX17_above : MethodName := ⟨RX17, "above", "(I)I"⟩
abbrev cX17_methodAt : ByteArray := prog_18_method_85_code
def yX17_methodAt : MethodName := ⟨RX17, "methodAt", "(I)I"⟩
abbrev cX17_placeOf : ByteArray := prog_18_method_86_code
def yX17_placeOf : MethodName := ⟨RX17, "placeOf", "(I)I"⟩
abbrev cX17_whence : ByteArray := prog_18_method_101_code
def yX17_whence : MethodName := ⟨RX17, "whence", "(III)I"⟩
abbrev cX17_isSame : ByteArray := prog_18_method_99_code
def yX17_isSame : MethodName := ⟨RX17, "isSame", "(III)Z"⟩
abbrev cX17_elementThatCounts : ByteArray := prog_18_method_98_code
def yX17_elementThatCounts : MethodName := ⟨RX17, "elementThatCounts", "(II)I"⟩
abbrev cX17_elementIn : ByteArray := prog_18_method_97_code
def yX17_elementIn : MethodName := ⟨RX17, "elementIn", "(II)I"⟩
abbrev cX17_member : ByteArray := prog_18_method_96_code
def yX17_member : MethodName := ⟨RX17, "member", "(III)I"⟩
abbrev cX17_ask : ByteArray := prog_18_method_102_code
def yX17_ask : MethodName := ⟨RX17, "ask", "(IIII)I"⟩
abbrev cX17_sayPacked : ByteArray := prog_18_method_8_code
def yX17_sayPacked : MethodName := ⟨RX17, "sayPacked", "(J)V"⟩
abbrev cX17_say : ByteArray := prog_18_method_7_code
def yX17_say : MethodName := ⟨RX17, "say", "(I)V"⟩
abbrev cX17_sayNumber : ByteArray := prog_18_method_10_code
def yX17_sayNumber : MethodName := ⟨RX17, "sayNumber", "(J)V"⟩
abbrev cX17_mark : ByteArray := prog_18_method_103_code
def yX17_mark : MethodName := ⟨RX17, "mark", "(III)I"⟩
abbrev cX17_size : ByteArray := prog_18_method_104_code
def yX17_size : MethodName := ⟨RX17, "size", "(II)I"⟩
abbrev cX17_isClass : ByteArray := prog_18_method_82_code
def yX17_isClass : MethodName := ⟨RX17, "isClass", "(I)Z"⟩
abbrev cX17_isMethodPlace : ByteArray := prog_18_method_87_code
def yX17_isMethodPlace : MethodName := ⟨RX17, "isMethodPlace", "(I)Z"⟩
abbrev cX17_order : ByteArray := prog_18_method_106_code
def yX17_order : MethodName := ⟨RX17, "order", "(IIII)I"⟩
abbrev cX17_isOrder : ByteArray := prog_18_method_105_code
def yX17_isOrder : MethodName := ⟨RX17, "isOrder", "(I)Z"⟩
abbrev cX17_join : ByteArray := prog_18_method_48_code
def yX17_join : MethodName := ⟨RX17, "join", "(III)I"⟩
abbrev cX17_meet : ByteArray := prog_18_method_49_code
def yX17_meet : MethodName := ⟨RX17, "meet", "(III)I"⟩
abbrev cX17_give : ByteArray := prog_18_method_111_code
def yX17_give : MethodName := ⟨RX17, "give", "(I)I"⟩
abbrev cX17_byteHere : ByteArray := prog_18_method_107_code
def yX17_byteHere : MethodName := ⟨RX17, "byteHere", "(II)I"⟩
abbrev cX17_fileName : ByteArray := prog_18_method_108_code
def yX17_fileName : MethodName := ⟨RX17, "fileName", "()J"⟩
abbrev cX17_filePair : ByteArray := prog_18_method_110_code
def yX17_filePair : MethodName := ⟨RX17, "filePair", "(I)V"⟩
abbrev cX17_fileText : ByteArray := prog_18_method_109_code
def yX17_fileText : MethodName := ⟨RX17, "fileText", "()J"⟩
abbrev cX17_copyMark : ByteArray := prog_18_method_112_code
def yX17_copyMark : MethodName := ⟨RX17, "copyMark", "(II)V"⟩
abbrev cX17_file : ByteArray := prog_18_method_114_code
def yX17_file : MethodName := ⟨RX17, "file", "(I)I"⟩
abbrev cX17_sayFileName : ByteArray := prog_18_method_113_code
def yX17_sayFileName : MethodName := ⟨RX17, "sayFileName", "(J)V"⟩
abbrev cX17_sizeOf : ByteArray := prog_18_method_9_code
def yX17_sizeOf : MethodName := ⟨RX17, "sizeOf", "(J)I"⟩
abbrev cX17_tell : ByteArray := prog_18_method_125_code
def yX17_tell : MethodName := ⟨RX17, "tell", "()I"⟩
abbrev cX17_tellOrder : ByteArray := prog_18_method_120_code
def yX17_tellOrder : MethodName := ⟨RX17, "tellOrder", "(I)V"⟩
abbrev cX17_sayWord : ByteArray := prog_18_method_12_code
def yX17_sayWord : MethodName := ⟨RX17, "sayWord", "(Ljava/lang/String;)V"⟩
abbrev cX17_gap : ByteArray := prog_18_method_11_code
def yX17_gap : MethodName := ⟨RX17, "gap", "()V"⟩
abbrev cX17_sayName : ByteArray := prog_18_method_13_code
def yX17_sayName : MethodName := ⟨RX17, "sayName", "(J)V"⟩
abbrev cX17_isNext : ByteArray := prog_18_method_119_code
def yX17_isNext : MethodName := ⟨RX17, "isNext", "(III)Z"⟩
abbrev cX17_tellKind : ByteArray := prog_18_method_121_code
def yX17_tellKind : MethodName := ⟨RX17, "tellKind", "(I)V"⟩
abbrev cX17_sayText : ByteArray := prog_18_method_16_code
def yX17_sayText : MethodName := ⟨RX17, "sayText", "(J)V"⟩
abbrev cX17_sayInt : ByteArray := prog_18_method_15_code
def yX17_sayInt : MethodName := ⟨RX17, "sayInt", "(I)V"⟩
abbrev cX17_sayWhole : ByteArray := prog_18_method_14_code
def yX17_sayWhole : MethodName := ⟨RX17, "sayWhole", "(J)V"⟩
abbrev cX17_sayMarks : ByteArray := prog_18_method_118_code
def yX17_sayMarks : MethodName := ⟨RX17, "sayMarks", "(I)V"⟩
abbrev cX17_isSound : ByteArray := prog_18_method_117_code
def yX17_isSound : MethodName := ⟨RX17, "isSound", "(I)Z"⟩
abbrev cX17_sayMark : ByteArray := prog_18_method_115_code
def yX17_sayMark : MethodName := ⟨RX17, "sayMark", "(I)V"⟩
abbrev cX17_hasPair : ByteArray := prog_18_method_116_code
def yX17_hasPair : MethodName := ⟨RX17, "hasPair", "(IJ)Z"⟩
abbrev cX17_tellClass : ByteArray := prog_18_method_122_code
def yX17_tellClass : MethodName := ⟨RX17, "tellClass", "(I)V"⟩
abbrev cX17_sayAct : ByteArray := prog_18_method_123_code
def yX17_sayAct : MethodName := ⟨RX17, "sayAct", "(IIZZ)V"⟩
abbrev cX17_sayElement : ByteArray := prog_18_method_124_code
def yX17_sayElement : MethodName := ⟨RX17, "sayElement", "(II)V"⟩
abbrev cX17_numberOf : ByteArray := prog_18_method_153_code
def yX17_numberOf : MethodName := ⟨RX17, "numberOf", "(IIZ)I"⟩
abbrev cX17_checksOf : ByteArray := prog_18_method_152_code
def yX17_checksOf : MethodName := ⟨RX17, "checksOf", "(I)I"⟩
abbrev cX17_rounds : ByteArray := prog_18_method_126_code
def yX17_rounds : MethodName := ⟨RX17, "rounds", "()I"⟩
abbrev cX17_markOf : ByteArray := prog_18_method_128_code
def yX17_markOf : MethodName := ⟨RX17, "markOf", "(II)I"⟩
abbrev cX17_isFlowing : ByteArray := prog_18_method_88_code
def yX17_isFlowing : MethodName := ⟨RX17, "isFlowing", "(I)Z"⟩
abbrev cX17_markNow : ByteArray := prog_18_method_127_code
def yX17_markNow : MethodName := ⟨RX17, "markNow", "(II)I"⟩
abbrev cX17_flow : ByteArray := prog_18_method_140_code
def yX17_flow : MethodName := ⟨RX17, "flow", "(I)I"⟩
abbrev cX17_flowAll : ByteArray := prog_18_method_139_code
def yX17_flowAll : MethodName := ⟨RX17, "flowAll", "(I)V"⟩
abbrev cX17_findMarks : ByteArray := prog_18_method_129_code
def yX17_findMarks : MethodName := ⟨RX17, "findMarks", "(I)V"⟩
abbrev cX17_flowOf : ByteArray := prog_18_method_135_code
def yX17_flowOf : MethodName := ⟨RX17, "flowOf", "(II)V"⟩
abbrev cX17_first : ByteArray := prog_18_method_131_code
def yX17_first : MethodName := ⟨RX17, "first", "(II)V"⟩
abbrev cX17_comes : ByteArray := prog_18_method_134_code
def yX17_comes : MethodName := ⟨RX17, "comes", "(II)V"⟩
abbrev cX17_does : ByteArray := prog_18_method_133_code
def yX17_does : MethodName := ⟨RX17, "does", "(II)V"⟩
abbrev cX17_toldOf : ByteArray := prog_18_method_132_code
def yX17_toldOf : MethodName := ⟨RX17, "toldOf", "(II)I"⟩
abbrev cX17_fieldPlace : ByteArray := prog_18_method_130_code
def yX17_fieldPlace : MethodName := ⟨RX17, "fieldPlace", "(II)I"⟩
abbrev cX17_wants : ByteArray := prog_18_method_136_code
def yX17_wants : MethodName := ⟨RX17, "wants", "(I)I"⟩
abbrev cX17_fromTop : ByteArray := prog_18_method_138_code
def yX17_fromTop : MethodName := ⟨RX17, "fromTop", "(II)I"⟩
abbrev cX17_wantedAt : ByteArray := prog_18_method_137_code
def yX17_wantedAt : MethodName := ⟨RX17, "wantedAt", "(III)I"⟩
abbrev cX17_error : ByteArray := prog_18_method_141_code
def yX17_error : MethodName := ⟨RX17, "error", "(II)I"⟩
abbrev cX17_state : ByteArray := prog_18_method_142_code
def yX17_state : MethodName := ⟨RX17, "state", "(III)I"⟩
abbrev cX17_way : ByteArray := prog_18_method_144_code
def yX17_way : MethodName := ⟨RX17, "way", "(I)I"⟩
abbrev cX17_meets : ByteArray := prog_18_method_143_code
def yX17_meets : MethodName := ⟨RX17, "meets", "(IIII)V"⟩
abbrev cX17_goes : ByteArray := prog_18_method_145_code
def yX17_goes : MethodName := ⟨RX17, "goes", "(IIIZ)V"⟩
abbrev cX17_step : ByteArray := prog_18_method_146_code
def yX17_step : MethodName := ⟨RX17, "step", "(I)I"⟩
abbrev cX17_find : ByteArray := prog_18_method_147_code
def yX17_find : MethodName := ⟨RX17, "find", "(I)I"⟩
abbrev cX17_plain : ByteArray := prog_18_method_148_code
def yX17_plain : MethodName := ⟨RX17, "plain", "(I)Z"⟩
abbrev cX17_weave : ByteArray := prog_18_method_151_code
def yX17_weave : MethodName := ⟨RX17, "weave", "()I"⟩
abbrev cX17_checkAt : ByteArray := prog_18_method_150_code
def yX17_checkAt : MethodName := ⟨RX17, "checkAt", "(III)I"⟩
abbrev cX17_code : ByteArray := prog_18_method_154_code
def yX17_code : MethodName := ⟨RX17, "code", "(IZ)I"⟩
abbrev cX17_argument : ByteArray := prog_18_method_155_code
def yX17_argument : MethodName := ⟨RX17, "argument", "(II)Z"⟩
abbrev cX17_input : ByteArray := prog_18_method_156_code
def yX17_input : MethodName := ⟨RX17, "input", "(I)I"⟩
abbrev cX17_begin : ByteArray := prog_18_method_160_code
def yX17_begin : MethodName := ⟨RX17, "begin", "(IZ)V"⟩
abbrev cX17_frame : ByteArray := prog_18_method_157_code
def yX17_frame : MethodName := ⟨RX17, "frame", "(I)V"⟩
abbrev cX17_plain_2 : ByteArray := prog_18_method_158_code
def yX17_plain_2 : MethodName := ⟨RX17, "plain", "(II)V"⟩
abbrev cX17_go : ByteArray := prog_18_method_161_code
def yX17_go : MethodName := ⟨RX17, "go", "(I)I"⟩
abbrev cX17_passes : ByteArray := prog_18_method_162_code
def yX17_passes : MethodName := ⟨RX17, "passes", "(II)Z"⟩
abbrev cX17_leaves : ByteArray := prog_18_method_163_code
def yX17_leaves : MethodName := ⟨RX17, "leaves", "(II)V"⟩
abbrev cX17_perform : ByteArray := prog_18_method_164_code
def yX17_perform : MethodName := ⟨RX17, "perform", "(II)V"⟩
abbrev cX17_nextInput : ByteArray := prog_18_method_165_code
def yX17_nextInput : MethodName := ⟨RX17, "nextInput", "()I"⟩
abbrev cX17_copy : ByteArray := prog_18_method_159_code
def yX17_copy : MethodName := ⟨RX17, "copy", "(II)V"⟩
abbrev cX17_calls : ByteArray := prog_18_method_166_code
def yX17_calls : MethodName := ⟨RX17, "calls", "(II)V"⟩
abbrev cX17_gives_2 : ByteArray := prog_18_method_167_code
def yX17_gives_2 : MethodName := ⟨RX17, "gives", "(II)V"⟩
abbrev cX17_run : ByteArray := prog_18_method_168_code
def yX17_run : MethodName := ⟨RX17, "run", "(I)I"⟩
abbrev cX17_truth : ByteArray := prog_18_method_169_code
def yX17_truth : MethodName := ⟨RX17, "truth", "(I)I"⟩
abbrev cX17_wire : ByteArray := prog_18_method_174_code
def yX17_wire : MethodName := ⟨RX17, "wire", "()I"⟩
abbrev cX17_textOf : ByteArray := prog_18_method_170_code
def yX17_textOf : MethodName := ⟨RX17, "textOf", "(IIJ)J"⟩
abbrev cX17_make : ByteArray := prog_18_method_175_code
def yX17_make : MethodName := ⟨RX17, "make", "(I)V"⟩
abbrev cX17_wantsOf : ByteArray := prog_18_method_176_code
def yX17_wantsOf : MethodName := ⟨RX17, "wantsOf", "(II)V"⟩
abbrev cX17_wantsOne : ByteArray := prog_18_method_177_code
def yX17_wantsOne : MethodName := ⟨RX17, "wantsOne", "(IIII)V"⟩
abbrev cX17_hasText : ByteArray := prog_18_method_171_code
def yX17_hasText : MethodName := ⟨RX17, "hasText", "(IIJ)Z"⟩
abbrev cX17_isUnder : ByteArray := prog_18_method_172_code
def yX17_isUnder : MethodName := ⟨RX17, "isUnder", "(II)Z"⟩
abbrev cX17_wires : ByteArray := prog_18_method_173_code
def yX17_wires : MethodName := ⟨RX17, "wires", "(III)V"⟩
abbrev cX17_wired : ByteArray := prog_18_method_178_code
def yX17_wired : MethodName := ⟨RX17, "wired", "(I)I"⟩
theorem q263 : (Jvm.Cond.initialized "MarkHouseModel") ∈ lw_all := lw_g (lw_at lw_m1 21 rfl) rfl
theorem q2505 : (Jvm.Cond.instantiable "MarkHouseModel" (140 : Nat)) ∈ lw_all := lw_g (lw_at lw_m10 103 rfl) rfl
theorem q2507 : (Jvm.Cond.instanceMethod ({ cls := "MarkHouseModel", name := "<init>", desc := "()V" } : Jvm.MethodName)) ∈ lw_all := lw_g (lw_at lw_m10 105 rfl) rfl
theorem q2508 : (Jvm.Cond.code ({ cls := "MarkHouseModel", name := "<init>", desc := "()V" } : Jvm.MethodName) prog_18_method_1_code (1 : Nat) (Option.none : Option Jvm.ClassFile.FieldType)) ∈ lw_all := lw_g (lw_at lw_m10 106 rfl) rfl
theorem q2509 : (Jvm.Cond.methodLink "MarkHouseModel" (3 : Nat) ({ cls := "java/lang/Object", name := "<init>", desc := "()V" } : Jvm.MethodName)) ∈ lw_all := lw_g (lw_at lw_m10 107 rfl) rfl
theorem q2510 : (Jvm.Cond.classLink "MarkHouseModel" (16 : Nat) "java/lang/String") ∈ lw_all := lw_g (lw_at lw_m10 108 rfl) rfl
theorem q2511 : (Jvm.Cond.stringRef "MarkHouseModel" (18 : Nat) "order") ∈ lw_tbl := lw_at lw_m10 109 rfl
theorem q2512 : (Jvm.Cond.stringRef "MarkHouseModel" (20 : Nat) "kind") ∈ lw_tbl := lw_at lw_m10 110 rfl
theorem q2513 : (Jvm.Cond.stringRef "MarkHouseModel" (22 : Nat) "class") ∈ lw_tbl := lw_at lw_m10 111 rfl
theorem q2514 : (Jvm.Cond.stringRef "MarkHouseModel" (24 : Nat) "field") ∈ lw_tbl := lw_at lw_m10 112 rfl
theorem q2515 : (Jvm.Cond.stringRef "MarkHouseModel" (26 : Nat) "method") ∈ lw_tbl := lw_at lw_m10 113 rfl
theorem q2516 : (Jvm.Cond.stringRef "MarkHouseModel" (28 : Nat) "param") ∈ lw_tbl := lw_at lw_m10 114 rfl
theorem q2517 : (Jvm.Cond.stringRef "MarkHouseModel" (30 : Nat) "maker") ∈ lw_tbl := lw_at lw_m10 115 rfl
theorem q2518 : (Jvm.Cond.stringRef "MarkHouseModel" (32 : Nat) "adds") ∈ lw_tbl := lw_at lw_m10 116 rfl
theorem q2519 : (Jvm.Cond.stringRef "MarkHouseModel" (34 : Nat) "on") ∈ lw_tbl := lw_at lw_m10 117 rfl
theorem q2520 : (Jvm.Cond.stringRef "MarkHouseModel" (36 : Nat) "heirs") ∈ lw_tbl := lw_at lw_m10 118 rfl
theorem q2521 : (Jvm.Cond.stringRef "MarkHouseModel" (38 : Nat) "many") ∈ lw_tbl := lw_at lw_m10 119 rfl
theorem q2522 : (Jvm.Cond.stringRef "MarkHouseModel" (40 : Nat) "no") ∈ lw_tbl := lw_at lw_m10 120 rfl
theorem q2523 : (Jvm.Cond.stringRef "MarkHouseModel" (42 : Nat) "int") ∈ lw_tbl := lw_at lw_m10 121 rfl
theorem q2524 : (Jvm.Cond.stringRef "MarkHouseModel" (44 : Nat) "text") ∈ lw_tbl := lw_at lw_m10 122 rfl
theorem q2525 : (Jvm.Cond.stringRef "MarkHouseModel" (46 : Nat) "push") ∈ lw_tbl := lw_at lw_m10 123 rfl
theorem q2526 : (Jvm.Cond.stringRef "MarkHouseModel" (48 : Nat) "read") ∈ lw_tbl := lw_at lw_m10 124 rfl
theorem q2527 : (Jvm.Cond.stringRef "MarkHouseModel" (50 : Nat) "load") ∈ lw_tbl := lw_at lw_m10 125 rfl
theorem q2528 : (Jvm.Cond.stringRef "MarkHouseModel" (52 : Nat) "store") ∈ lw_tbl := lw_at lw_m10 126 rfl
theorem q2529 : (Jvm.Cond.stringRef "MarkHouseModel" (54 : Nat) "get") ∈ lw_tbl := lw_at lw_m10 127 rfl
theorem q2530 : (Jvm.Cond.stringRef "MarkHouseModel" (56 : Nat) "set") ∈ lw_tbl := lw_at lw_m10 128 rfl
theorem q2531 : (Jvm.Cond.stringRef "MarkHouseModel" (58 : Nat) "call") ∈ lw_tbl := lw_at lw_m10 129 rfl
theorem q2532 : (Jvm.Cond.stringRef "MarkHouseModel" (60 : Nat) "ret") ∈ lw_tbl := lw_at lw_m10 130 rfl
theorem q2533 : (Jvm.Cond.stringRef "MarkHouseModel" (62 : Nat) "add") ∈ lw_tbl := lw_at lw_m10 131 rfl
theorem q2534 : (Jvm.Cond.stringRef "MarkHouseModel" (64 : Nat) "sub") ∈ lw_tbl := lw_at lw_m10 132 rfl
theorem q2535 : (Jvm.Cond.stringRef "MarkHouseModel" (66 : Nat) "mul") ∈ lw_tbl := lw_at lw_m10 133 rfl
theorem q2536 : (Jvm.Cond.stringRef "MarkHouseModel" (68 : Nat) "dup") ∈ lw_tbl := lw_at lw_m10 134 rfl
theorem q2537 : (Jvm.Cond.stringRef "MarkHouseModel" (70 : Nat) "pop") ∈ lw_tbl := lw_at lw_m10 135 rfl
theorem q2538 : (Jvm.Cond.stringRef "MarkHouseModel" (72 : Nat) "jump") ∈ lw_tbl := lw_at lw_m10 136 rfl
theorem q2539 : (Jvm.Cond.stringRef "MarkHouseModel" (74 : Nat) "zero") ∈ lw_tbl := lw_at lw_m10 137 rfl
theorem q2540 : (Jvm.Cond.stringRef "MarkHouseModel" (76 : Nat) "is") ∈ lw_tbl := lw_at lw_m10 138 rfl
theorem q2541 : (Jvm.Cond.stringRef "MarkHouseModel" (78 : Nat) "as") ∈ lw_tbl := lw_at lw_m10 139 rfl
theorem q2542 : (Jvm.Cond.constant "MarkHouseModel" (230 : Nat) (97520 : Int32)) ∈ lw_all := lw_g (lw_at lw_m10 140 rfl) rfl
theorem q2543 : (Jvm.Cond.constant "MarkHouseModel" (267 : Nat) (61440 : Int32)) ∈ lw_all := lw_g (lw_at lw_m10 141 rfl) rfl
theorem q2544 : (Jvm.Cond.fieldLink "MarkHouseModel" (356 : Nat) "MarkHouseModel" "thrown" "I") ∈ lw_all := lw_g (lw_at lw_m10 142 rfl) rfl
theorem q2545 : (Jvm.Cond.fieldLink "MarkHouseModel" (9 : Nat) "MarkHouseModel" "tape" "[I") ∈ lw_all := lw_g (lw_at lw_m10 143 rfl) rfl
theorem q2546 : (Jvm.Cond.fieldLink "MarkHouseModel" (359 : Nat) "MarkHouseModel" "taped" "I") ∈ lw_all := lw_g (lw_at lw_m10 144 rfl) rfl
theorem q2547 : (Jvm.Cond.fieldLink "MarkHouseModel" (13 : Nat) "MarkHouseModel" "out" "[I") ∈ lw_all := lw_g (lw_at lw_m10 145 rfl) rfl
theorem q2548 : (Jvm.Cond.fieldLink "MarkHouseModel" (366 : Nat) "MarkHouseModel" "outs" "I") ∈ lw_all := lw_g (lw_at lw_m10 146 rfl) rfl
theorem q2549 : (Jvm.Cond.fieldLink "MarkHouseModel" (378 : Nat) "MarkHouseModel" "some" "Z") ∈ lw_all := lw_g (lw_at lw_m10 147 rfl) rfl
theorem q2550 : (Jvm.Cond.fieldLink "MarkHouseModel" (80 : Nat) "MarkHouseModel" "words" "[Ljava/lang/String;") ∈ lw_all := lw_g (lw_at lw_m10 148 rfl) rfl
theorem q2551 : (Jvm.Cond.fieldLink "MarkHouseModel" (418 : Nat) "MarkHouseModel" "lexemes" "I") ∈ lw_all := lw_g (lw_at lw_m10 149 rfl) rfl
theorem q2552 : (Jvm.Cond.fieldLink "MarkHouseModel" (84 : Nat) "MarkHouseModel" "sort" "[I") ∈ lw_all := lw_g (lw_at lw_m10 150 rfl) rfl
theorem q2553 : (Jvm.Cond.fieldLink "MarkHouseModel" (87 : Nat) "MarkHouseModel" "at" "[I") ∈ lw_all := lw_g (lw_at lw_m10 151 rfl) rfl
theorem q2554 : (Jvm.Cond.fieldLink "MarkHouseModel" (90 : Nat) "MarkHouseModel" "what" "[J") ∈ lw_all := lw_g (lw_at lw_m10 152 rfl) rfl
theorem q2555 : (Jvm.Cond.fieldLink "MarkHouseModel" (412 : Nat) "MarkHouseModel" "faultKind" "I") ∈ lw_all := lw_g (lw_at lw_m10 153 rfl) rfl
theorem q2556 : (Jvm.Cond.fieldLink "MarkHouseModel" (415 : Nat) "MarkHouseModel" "faultPlace" "I") ∈ lw_all := lw_g (lw_at lw_m10 154 rfl) rfl
theorem q2557 : (Jvm.Cond.fieldLink "MarkHouseModel" (409 : Nat) "MarkHouseModel" "wrong" "Z") ∈ lw_all := lw_g (lw_at lw_m10 155 rfl) rfl
theorem q2558 : (Jvm.Cond.fieldLink "MarkHouseModel" (634 : Nat) "MarkHouseModel" "there" "Z") ∈ lw_all := lw_g (lw_at lw_m10 156 rfl) rfl
theorem q2559 : (Jvm.Cond.fieldLink "MarkHouseModel" (447 : Nat) "MarkHouseModel" "orders" "I") ∈ lw_all := lw_g (lw_at lw_m10 157 rfl) rfl
theorem q2560 : (Jvm.Cond.fieldLink "MarkHouseModel" (94 : Nat) "MarkHouseModel" "oName" "[J") ∈ lw_all := lw_g (lw_at lw_m10 158 rfl) rfl
theorem q2561 : (Jvm.Cond.fieldLink "MarkHouseModel" (97 : Nat) "MarkHouseModel" "oMany" "[I") ∈ lw_all := lw_g (lw_at lw_m10 159 rfl) rfl
theorem q2562 : (Jvm.Cond.fieldLink "MarkHouseModel" (100 : Nat) "MarkHouseModel" "oElement" "[J") ∈ lw_all := lw_g (lw_at lw_m10 160 rfl) rfl
theorem q2563 : (Jvm.Cond.fieldLink "MarkHouseModel" (103 : Nat) "MarkHouseModel" "isBelow" "[Z") ∈ lw_all := lw_g (lw_at lw_m10 161 rfl) rfl
theorem q2564 : (Jvm.Cond.fieldLink "MarkHouseModel" (107 : Nat) "MarkHouseModel" "oJoin" "[I") ∈ lw_all := lw_g (lw_at lw_m10 162 rfl) rfl
theorem q2565 : (Jvm.Cond.fieldLink "MarkHouseModel" (110 : Nat) "MarkHouseModel" "oMeet" "[I") ∈ lw_all := lw_g (lw_at lw_m10 163 rfl) rfl
theorem q2566 : (Jvm.Cond.fieldLink "MarkHouseModel" (113 : Nat) "MarkHouseModel" "oTop" "[I") ∈ lw_all := lw_g (lw_at lw_m10 164 rfl) rfl
theorem q2567 : (Jvm.Cond.fieldLink "MarkHouseModel" (116 : Nat) "MarkHouseModel" "oBottom" "[I") ∈ lw_all := lw_g (lw_at lw_m10 165 rfl) rfl
theorem q2568 : (Jvm.Cond.fieldLink "MarkHouseModel" (450 : Nat) "MarkHouseModel" "kinds" "I") ∈ lw_all := lw_g (lw_at lw_m10 166 rfl) rfl
theorem q2569 : (Jvm.Cond.fieldLink "MarkHouseModel" (119 : Nat) "MarkHouseModel" "kName" "[J") ∈ lw_all := lw_g (lw_at lw_m10 167 rfl) rfl
theorem q2570 : (Jvm.Cond.fieldLink "MarkHouseModel" (122 : Nat) "MarkHouseModel" "kMembers" "[I") ∈ lw_all := lw_g (lw_at lw_m10 168 rfl) rfl
theorem q2571 : (Jvm.Cond.fieldLink "MarkHouseModel" (125 : Nat) "MarkHouseModel" "memberName" "[J") ∈ lw_all := lw_g (lw_at lw_m10 169 rfl) rfl
theorem q2572 : (Jvm.Cond.fieldLink "MarkHouseModel" (128 : Nat) "MarkHouseModel" "memberText" "[Z") ∈ lw_all := lw_g (lw_at lw_m10 170 rfl) rfl
theorem q2573 : (Jvm.Cond.fieldLink "MarkHouseModel" (131 : Nat) "MarkHouseModel" "hasDefault" "[Z") ∈ lw_all := lw_g (lw_at lw_m10 171 rfl) rfl
theorem q2574 : (Jvm.Cond.fieldLink "MarkHouseModel" (134 : Nat) "MarkHouseModel" "memberDefault" "[J") ∈ lw_all := lw_g (lw_at lw_m10 172 rfl) rfl
theorem q2575 : (Jvm.Cond.fieldLink "MarkHouseModel" (137 : Nat) "MarkHouseModel" "kWhere" "[I") ∈ lw_all := lw_g (lw_at lw_m10 173 rfl) rfl
theorem q2576 : (Jvm.Cond.fieldLink "MarkHouseModel" (140 : Nat) "MarkHouseModel" "kHeirs" "[Z") ∈ lw_all := lw_g (lw_at lw_m10 174 rfl) rfl
theorem q2577 : (Jvm.Cond.fieldLink "MarkHouseModel" (143 : Nat) "MarkHouseModel" "kMany" "[Z") ∈ lw_all := lw_g (lw_at lw_m10 175 rfl) rfl
theorem q2578 : (Jvm.Cond.fieldLink "MarkHouseModel" (453 : Nat) "MarkHouseModel" "makers" "I") ∈ lw_all := lw_g (lw_at lw_m10 176 rfl) rfl
theorem q2579 : (Jvm.Cond.fieldLink "MarkHouseModel" (146 : Nat) "MarkHouseModel" "makerName" "[J") ∈ lw_all := lw_g (lw_at lw_m10 177 rfl) rfl
theorem q2580 : (Jvm.Cond.fieldLink "MarkHouseModel" (149 : Nat) "MarkHouseModel" "makerKind" "[I") ∈ lw_all := lw_g (lw_at lw_m10 178 rfl) rfl
theorem q2581 : (Jvm.Cond.fieldLink "MarkHouseModel" (456 : Nat) "MarkHouseModel" "classes" "I") ∈ lw_all := lw_g (lw_at lw_m10 179 rfl) rfl
theorem q2582 : (Jvm.Cond.fieldLink "MarkHouseModel" (152 : Nat) "MarkHouseModel" "cName" "[J") ∈ lw_all := lw_g (lw_at lw_m10 180 rfl) rfl
theorem q2583 : (Jvm.Cond.fieldLink "MarkHouseModel" (155 : Nat) "MarkHouseModel" "cParent" "[I") ∈ lw_all := lw_g (lw_at lw_m10 181 rfl) rfl
theorem q2584 : (Jvm.Cond.fieldLink "MarkHouseModel" (158 : Nat) "MarkHouseModel" "cFields" "[I") ∈ lw_all := lw_g (lw_at lw_m10 182 rfl) rfl
theorem q2585 : (Jvm.Cond.fieldLink "MarkHouseModel" (161 : Nat) "MarkHouseModel" "cMethods" "[I") ∈ lw_all := lw_g (lw_at lw_m10 183 rfl) rfl
theorem q2586 : (Jvm.Cond.fieldLink "MarkHouseModel" (164 : Nat) "MarkHouseModel" "fName" "[J") ∈ lw_all := lw_g (lw_at lw_m10 184 rfl) rfl
theorem q2587 : (Jvm.Cond.fieldLink "MarkHouseModel" (167 : Nat) "MarkHouseModel" "fValue" "[I") ∈ lw_all := lw_g (lw_at lw_m10 185 rfl) rfl
theorem q2588 : (Jvm.Cond.fieldLink "MarkHouseModel" (170 : Nat) "MarkHouseModel" "mName" "[J") ∈ lw_all := lw_g (lw_at lw_m10 186 rfl) rfl
theorem q2589 : (Jvm.Cond.fieldLink "MarkHouseModel" (173 : Nat) "MarkHouseModel" "mParameters" "[I") ∈ lw_all := lw_g (lw_at lw_m10 187 rfl) rfl
theorem q2590 : (Jvm.Cond.fieldLink "MarkHouseModel" (176 : Nat) "MarkHouseModel" "mLocals" "[I") ∈ lw_all := lw_g (lw_at lw_m10 188 rfl) rfl
theorem q2591 : (Jvm.Cond.fieldLink "MarkHouseModel" (179 : Nat) "MarkHouseModel" "local" "[J") ∈ lw_all := lw_g (lw_at lw_m10 189 rfl) rfl
theorem q2592 : (Jvm.Cond.fieldLink "MarkHouseModel" (182 : Nat) "MarkHouseModel" "mActs" "[I") ∈ lw_all := lw_g (lw_at lw_m10 190 rfl) rfl
theorem q2593 : (Jvm.Cond.fieldLink "MarkHouseModel" (185 : Nat) "MarkHouseModel" "op" "[I") ∈ lw_all := lw_g (lw_at lw_m10 191 rfl) rfl
theorem q2594 : (Jvm.Cond.fieldLink "MarkHouseModel" (188 : Nat) "MarkHouseModel" "label" "[J") ∈ lw_all := lw_g (lw_at lw_m10 192 rfl) rfl
theorem q2595 : (Jvm.Cond.fieldLink "MarkHouseModel" (191 : Nat) "MarkHouseModel" "act" "[I") ∈ lw_all := lw_g (lw_at lw_m10 193 rfl) rfl
theorem q2596 : (Jvm.Cond.fieldLink "MarkHouseModel" (194 : Nat) "MarkHouseModel" "x" "[I") ∈ lw_all := lw_g (lw_at lw_m10 194 rfl) rfl
theorem q2597 : (Jvm.Cond.fieldLink "MarkHouseModel" (197 : Nat) "MarkHouseModel" "y" "[I") ∈ lw_all := lw_g (lw_at lw_m10 195 rfl) rfl
theorem q2598 : (Jvm.Cond.fieldLink "MarkHouseModel" (200 : Nat) "MarkHouseModel" "to" "[I") ∈ lw_all := lw_g (lw_at lw_m10 196 rfl) rfl
theorem q2599 : (Jvm.Cond.fieldLink "MarkHouseModel" (203 : Nat) "MarkHouseModel" "nameAt" "[I") ∈ lw_all := lw_g (lw_at lw_m10 197 rfl) rfl
theorem q2600 : (Jvm.Cond.fieldLink "MarkHouseModel" (206 : Nat) "MarkHouseModel" "labelAt" "[I") ∈ lw_all := lw_g (lw_at lw_m10 198 rfl) rfl
theorem q2601 : (Jvm.Cond.fieldLink "MarkHouseModel" (209 : Nat) "MarkHouseModel" "told" "[I") ∈ lw_all := lw_g (lw_at lw_m10 199 rfl) rfl
theorem q2602 : (Jvm.Cond.fieldLink "MarkHouseModel" (212 : Nat) "MarkHouseModel" "toldOrder" "[I") ∈ lw_all := lw_g (lw_at lw_m10 200 rfl) rfl
theorem q2603 : (Jvm.Cond.fieldLink "MarkHouseModel" (215 : Nat) "MarkHouseModel" "toldElement" "[I") ∈ lw_all := lw_g (lw_at lw_m10 201 rfl) rfl
theorem q2604 : (Jvm.Cond.fieldLink "MarkHouseModel" (218 : Nat) "MarkHouseModel" "marks" "[I") ∈ lw_all := lw_g (lw_at lw_m10 202 rfl) rfl
theorem q2605 : (Jvm.Cond.fieldLink "MarkHouseModel" (221 : Nat) "MarkHouseModel" "markName" "[J") ∈ lw_all := lw_g (lw_at lw_m10 203 rfl) rfl
theorem q2606 : (Jvm.Cond.fieldLink "MarkHouseModel" (224 : Nat) "MarkHouseModel" "isNo" "[Z") ∈ lw_all := lw_g (lw_at lw_m10 204 rfl) rfl
theorem q2607 : (Jvm.Cond.fieldLink "MarkHouseModel" (227 : Nat) "MarkHouseModel" "pairs" "[I") ∈ lw_all := lw_g (lw_at lw_m10 205 rfl) rfl
theorem q2608 : (Jvm.Cond.fieldLink "MarkHouseModel" (231 : Nat) "MarkHouseModel" "pairName" "[J") ∈ lw_all := lw_g (lw_at lw_m10 206 rfl) rfl
theorem q2609 : (Jvm.Cond.fieldLink "MarkHouseModel" (234 : Nat) "MarkHouseModel" "pairSort" "[I") ∈ lw_all := lw_g (lw_at lw_m10 207 rfl) rfl
theorem q2610 : (Jvm.Cond.fieldLink "MarkHouseModel" (237 : Nat) "MarkHouseModel" "pairValue" "[J") ∈ lw_all := lw_g (lw_at lw_m10 208 rfl) rfl
theorem q2611 : (Jvm.Cond.fieldLink "MarkHouseModel" (471 : Nat) "MarkHouseModel" "here" "I") ∈ lw_all := lw_g (lw_at lw_m10 209 rfl) rfl
theorem q2612 : (Jvm.Cond.fieldLink "MarkHouseModel" (486 : Nat) "MarkHouseModel" "value" "J") ∈ lw_all := lw_g (lw_at lw_m10 210 rfl) rfl
theorem q2613 : (Jvm.Cond.fieldLink "MarkHouseModel" (240 : Nat) "MarkHouseModel" "named" "[I") ∈ lw_all := lw_g (lw_at lw_m10 211 rfl) rfl
theorem q2614 : (Jvm.Cond.fieldLink "MarkHouseModel" (243 : Nat) "MarkHouseModel" "depth" "[I") ∈ lw_all := lw_g (lw_at lw_m10 212 rfl) rfl
theorem q2615 : (Jvm.Cond.fieldLink "MarkHouseModel" (246 : Nat) "MarkHouseModel" "isOver" "[Z") ∈ lw_all := lw_g (lw_at lw_m10 213 rfl) rfl
theorem q2616 : (Jvm.Cond.fieldLink "MarkHouseModel" (249 : Nat) "MarkHouseModel" "gives" "[I") ∈ lw_all := lw_g (lw_at lw_m10 214 rfl) rfl
theorem q2617 : (Jvm.Cond.fieldLink "MarkHouseModel" (664 : Nat) "MarkHouseModel" "givesName" "J") ∈ lw_all := lw_g (lw_at lw_m10 215 rfl) rfl
theorem q2618 : (Jvm.Cond.fieldLink "MarkHouseModel" (678 : Nat) "MarkHouseModel" "eMany" "I") ∈ lw_all := lw_g (lw_at lw_m10 216 rfl) rfl
theorem q2619 : (Jvm.Cond.fieldLink "MarkHouseModel" (252 : Nat) "MarkHouseModel" "eMark" "[I") ∈ lw_all := lw_g (lw_at lw_m10 217 rfl) rfl
theorem q2620 : (Jvm.Cond.fieldLink "MarkHouseModel" (687 : Nat) "MarkHouseModel" "ePlace" "I") ∈ lw_all := lw_g (lw_at lw_m10 218 rfl) rfl
theorem q2621 : (Jvm.Cond.fieldLink "MarkHouseModel" (681 : Nat) "MarkHouseModel" "eSteps" "I") ∈ lw_all := lw_g (lw_at lw_m10 219 rfl) rfl
theorem q2622 : (Jvm.Cond.fieldLink "MarkHouseModel" (684 : Nat) "MarkHouseModel" "eGiven" "Z") ∈ lw_all := lw_g (lw_at lw_m10 220 rfl) rfl
theorem q2623 : (Jvm.Cond.fieldLink "MarkHouseModel" (697 : Nat) "MarkHouseModel" "mValue" "J") ∈ lw_all := lw_g (lw_at lw_m10 221 rfl) rfl
theorem q2624 : (Jvm.Cond.fieldLink "MarkHouseModel" (736 : Nat) "MarkHouseModel" "fAt" "I") ∈ lw_all := lw_g (lw_at lw_m10 222 rfl) rfl
theorem q2625 : (Jvm.Cond.fieldLink "MarkHouseModel" (739 : Nat) "MarkHouseModel" "fEnd" "I") ∈ lw_all := lw_g (lw_at lw_m10 223 rfl) rfl
theorem q2626 : (Jvm.Cond.fieldLink "MarkHouseModel" (733 : Nat) "MarkHouseModel" "bad" "Z") ∈ lw_all := lw_g (lw_at lw_m10 224 rfl) rfl
theorem q2627 : (Jvm.Cond.fieldLink "MarkHouseModel" (255 : Nat) "MarkHouseModel" "had" "[Z") ∈ lw_all := lw_g (lw_at lw_m10 225 rfl) rfl
theorem q2628 : (Jvm.Cond.fieldLink "MarkHouseModel" (258 : Nat) "MarkHouseModel" "found" "[I") ∈ lw_all := lw_g (lw_at lw_m10 226 rfl) rfl
theorem q2629 : (Jvm.Cond.fieldLink "MarkHouseModel" (261 : Nat) "MarkHouseModel" "mk" "[I") ∈ lw_all := lw_g (lw_at lw_m10 227 rfl) rfl
theorem q2630 : (Jvm.Cond.fieldLink "MarkHouseModel" (264 : Nat) "MarkHouseModel" "isEffective" "[Z") ∈ lw_all := lw_g (lw_at lw_m10 228 rfl) rfl
theorem q2631 : (Jvm.Cond.fieldLink "MarkHouseModel" (268 : Nat) "MarkHouseModel" "st" "[I") ∈ lw_all := lw_g (lw_at lw_m10 229 rfl) rfl
theorem q2632 : (Jvm.Cond.fieldLink "MarkHouseModel" (271 : Nat) "MarkHouseModel" "come" "[Z") ∈ lw_all := lw_g (lw_at lw_m10 230 rfl) rfl
theorem q2633 : (Jvm.Cond.fieldLink "MarkHouseModel" (274 : Nat) "MarkHouseModel" "now" "[I") ∈ lw_all := lw_g (lw_at lw_m10 231 rfl) rfl
theorem q2634 : (Jvm.Cond.fieldLink "MarkHouseModel" (841 : Nat) "MarkHouseModel" "moved" "Z") ∈ lw_all := lw_g (lw_at lw_m10 232 rfl) rfl
theorem q2635 : (Jvm.Cond.fieldLink "MarkHouseModel" (859 : Nat) "MarkHouseModel" "errors" "I") ∈ lw_all := lw_g (lw_at lw_m10 233 rfl) rfl
theorem q2636 : (Jvm.Cond.fieldLink "MarkHouseModel" (277 : Nat) "MarkHouseModel" "eMethod" "[I") ∈ lw_all := lw_g (lw_at lw_m10 234 rfl) rfl
theorem q2637 : (Jvm.Cond.fieldLink "MarkHouseModel" (280 : Nat) "MarkHouseModel" "eAct" "[I") ∈ lw_all := lw_g (lw_at lw_m10 235 rfl) rfl
theorem q2638 : (Jvm.Cond.fieldLink "MarkHouseModel" (283 : Nat) "MarkHouseModel" "eParameter" "[I") ∈ lw_all := lw_g (lw_at lw_m10 236 rfl) rfl
theorem q2639 : (Jvm.Cond.fieldLink "MarkHouseModel" (286 : Nat) "MarkHouseModel" "eComes" "[I") ∈ lw_all := lw_g (lw_at lw_m10 237 rfl) rfl
theorem q2640 : (Jvm.Cond.fieldLink "MarkHouseModel" (289 : Nat) "MarkHouseModel" "eWanted" "[I") ∈ lw_all := lw_g (lw_at lw_m10 238 rfl) rfl
theorem q2641 : (Jvm.Cond.fieldLink "MarkHouseModel" (292 : Nat) "MarkHouseModel" "flowing" "I") ∈ lw_all := lw_g (lw_at lw_m10 239 rfl) rfl
theorem q2642 : (Jvm.Cond.fieldLink "MarkHouseModel" (296 : Nat) "MarkHouseModel" "sAct" "[I") ∈ lw_all := lw_g (lw_at lw_m11 0 rfl) rfl
theorem q2643 : (Jvm.Cond.fieldLink "MarkHouseModel" (299 : Nat) "MarkHouseModel" "sFrom" "[I") ∈ lw_all := lw_g (lw_at lw_m11 1 rfl) rfl
theorem q2644 : (Jvm.Cond.fieldLink "MarkHouseModel" (302 : Nat) "MarkHouseModel" "sState" "[I") ∈ lw_all := lw_g (lw_at lw_m11 2 rfl) rfl
theorem q2645 : (Jvm.Cond.fieldLink "MarkHouseModel" (877 : Nat) "MarkHouseModel" "situations" "I") ∈ lw_all := lw_g (lw_at lw_m11 3 rfl) rfl
theorem q2646 : (Jvm.Cond.fieldLink "MarkHouseModel" (874 : Nat) "MarkHouseModel" "ways" "I") ∈ lw_all := lw_g (lw_at lw_m11 4 rfl) rfl
theorem q2647 : (Jvm.Cond.fieldLink "MarkHouseModel" (305 : Nat) "MarkHouseModel" "wayAct" "[I") ∈ lw_all := lw_g (lw_at lw_m11 5 rfl) rfl
theorem q2648 : (Jvm.Cond.fieldLink "MarkHouseModel" (880 : Nat) "MarkHouseModel" "isOpen" "Z") ∈ lw_all := lw_g (lw_at lw_m11 6 rfl) rfl
theorem q2649 : (Jvm.Cond.fieldLink "MarkHouseModel" (883 : Nat) "MarkHouseModel" "hit" "I") ∈ lw_all := lw_g (lw_at lw_m11 7 rfl) rfl
theorem q2650 : (Jvm.Cond.fieldLink "MarkHouseModel" (894 : Nat) "MarkHouseModel" "isWoven" "Z") ∈ lw_all := lw_g (lw_at lw_m11 8 rfl) rfl
theorem q2651 : (Jvm.Cond.fieldLink "MarkHouseModel" (308 : Nat) "MarkHouseModel" "check" "[I") ∈ lw_all := lw_g (lw_at lw_m11 9 rfl) rfl
theorem q2652 : (Jvm.Cond.fieldLink "MarkHouseModel" (311 : Nat) "MarkHouseModel" "argument" "[I") ∈ lw_all := lw_g (lw_at lw_m11 10 rfl) rfl
theorem q2653 : (Jvm.Cond.fieldLink "MarkHouseModel" (314 : Nat) "MarkHouseModel" "input" "[I") ∈ lw_all := lw_g (lw_at lw_m11 11 rfl) rfl
theorem q2654 : (Jvm.Cond.fieldLink "MarkHouseModel" (910 : Nat) "MarkHouseModel" "inputs" "I") ∈ lw_all := lw_g (lw_at lw_m11 12 rfl) rfl
theorem q2655 : (Jvm.Cond.fieldLink "MarkHouseModel" (897 : Nat) "MarkHouseModel" "running" "I") ∈ lw_all := lw_g (lw_at lw_m11 13 rfl) rfl
theorem q2656 : (Jvm.Cond.fieldLink "MarkHouseModel" (919 : Nat) "MarkHouseModel" "byChecks" "Z") ∈ lw_all := lw_g (lw_at lw_m11 14 rfl) rfl
theorem q2657 : (Jvm.Cond.fieldLink "MarkHouseModel" (913 : Nat) "MarkHouseModel" "frames" "I") ∈ lw_all := lw_g (lw_at lw_m11 15 rfl) rfl
theorem q2658 : (Jvm.Cond.fieldLink "MarkHouseModel" (317 : Nat) "MarkHouseModel" "frMethod" "[I") ∈ lw_all := lw_g (lw_at lw_m11 16 rfl) rfl
theorem q2659 : (Jvm.Cond.fieldLink "MarkHouseModel" (320 : Nat) "MarkHouseModel" "frAct" "[I") ∈ lw_all := lw_g (lw_at lw_m11 17 rfl) rfl
theorem q2660 : (Jvm.Cond.fieldLink "MarkHouseModel" (323 : Nat) "MarkHouseModel" "frTop" "[I") ∈ lw_all := lw_g (lw_at lw_m11 18 rfl) rfl
theorem q2661 : (Jvm.Cond.fieldLink "MarkHouseModel" (326 : Nat) "MarkHouseModel" "val" "[I") ∈ lw_all := lw_g (lw_at lw_m11 19 rfl) rfl
theorem q2662 : (Jvm.Cond.fieldLink "MarkHouseModel" (329 : Nat) "MarkHouseModel" "el" "[I") ∈ lw_all := lw_g (lw_at lw_m11 20 rfl) rfl
theorem q2663 : (Jvm.Cond.fieldLink "MarkHouseModel" (332 : Nat) "MarkHouseModel" "fieldNow" "[I") ∈ lw_all := lw_g (lw_at lw_m11 21 rfl) rfl
theorem q2664 : (Jvm.Cond.fieldLink "MarkHouseModel" (335 : Nat) "MarkHouseModel" "fieldEl" "[I") ∈ lw_all := lw_g (lw_at lw_m11 22 rfl) rfl
theorem q2665 : (Jvm.Cond.fieldLink "MarkHouseModel" (922 : Nat) "MarkHouseModel" "result" "I") ∈ lw_all := lw_g (lw_at lw_m11 23 rfl) rfl
theorem q2666 : (Jvm.Cond.fieldLink "MarkHouseModel" (338 : Nat) "MarkHouseModel" "resultEl" "[I") ∈ lw_all := lw_g (lw_at lw_m11 24 rfl) rfl
theorem q2667 : (Jvm.Cond.fieldLink "MarkHouseModel" (925 : Nat) "MarkHouseModel" "acts" "I") ∈ lw_all := lw_g (lw_at lw_m11 25 rfl) rfl
theorem q2668 : (Jvm.Cond.fieldLink "MarkHouseModel" (928 : Nat) "MarkHouseModel" "lefts" "I") ∈ lw_all := lw_g (lw_at lw_m11 26 rfl) rfl
theorem q2669 : (Jvm.Cond.fieldLink "MarkHouseModel" (931 : Nat) "MarkHouseModel" "leftMethod" "I") ∈ lw_all := lw_g (lw_at lw_m11 27 rfl) rfl
theorem q2670 : (Jvm.Cond.fieldLink "MarkHouseModel" (934 : Nat) "MarkHouseModel" "leftAct" "I") ∈ lw_all := lw_g (lw_at lw_m11 28 rfl) rfl
theorem q2671 : (Jvm.Cond.fieldLink "MarkHouseModel" (937 : Nat) "MarkHouseModel" "leftOrder" "I") ∈ lw_all := lw_g (lw_at lw_m11 29 rfl) rfl
theorem q2672 : (Jvm.Cond.fieldLink "MarkHouseModel" (940 : Nat) "MarkHouseModel" "brokens" "I") ∈ lw_all := lw_g (lw_at lw_m11 30 rfl) rfl
theorem q2673 : (Jvm.Cond.fieldLink "MarkHouseModel" (943 : Nat) "MarkHouseModel" "checksDone" "I") ∈ lw_all := lw_g (lw_at lw_m11 31 rfl) rfl
theorem q2674 : (Jvm.Cond.fieldLink "MarkHouseModel" (900 : Nat) "MarkHouseModel" "isWired" "Z") ∈ lw_all := lw_g (lw_at lw_m11 32 rfl) rfl
theorem q2675 : (Jvm.Cond.fieldLink "MarkHouseModel" (969 : Nat) "MarkHouseModel" "wireKind" "I") ∈ lw_all := lw_g (lw_at lw_m11 33 rfl) rfl
theorem q2676 : (Jvm.Cond.fieldLink "MarkHouseModel" (972 : Nat) "MarkHouseModel" "wireField" "I") ∈ lw_all := lw_g (lw_at lw_m11 34 rfl) rfl
theorem q2677 : (Jvm.Cond.fieldLink "MarkHouseModel" (975 : Nat) "MarkHouseModel" "wireClass" "I") ∈ lw_all := lw_g (lw_at lw_m11 35 rfl) rfl
theorem q2678 : (Jvm.Cond.fieldLink "MarkHouseModel" (978 : Nat) "MarkHouseModel" "made" "I") ∈ lw_all := lw_g (lw_at lw_m11 36 rfl) rfl
theorem q2679 : (Jvm.Cond.fieldLink "MarkHouseModel" (341 : Nat) "MarkHouseModel" "madeClass" "[I") ∈ lw_all := lw_g (lw_at lw_m11 37 rfl) rfl
theorem q2680 : (Jvm.Cond.fieldLink "MarkHouseModel" (344 : Nat) "MarkHouseModel" "isMade" "[Z") ∈ lw_all := lw_g (lw_at lw_m11 38 rfl) rfl
theorem q2681 : (Jvm.Cond.fieldLink "MarkHouseModel" (347 : Nat) "MarkHouseModel" "isMaking" "[Z") ∈ lw_all := lw_g (lw_at lw_m11 39 rfl) rfl
theorem q2682 : (Jvm.Cond.fieldLink "MarkHouseModel" (350 : Nat) "MarkHouseModel" "isPart" "[Z") ∈ lw_all := lw_g (lw_at lw_m11 40 rfl) rfl
theorem q2683 : (Jvm.Cond.fieldLink "MarkHouseModel" (353 : Nat) "MarkHouseModel" "partLabel" "[J") ∈ lw_all := lw_g (lw_at lw_m11 41 rfl) rfl
theorem q2684 : (Jvm.Cond.lays "MarkHouseModel" "MarkHouseModel" "thrown" "I") ∈ lw_all := lw_g (lw_at lw_m11 42 rfl) rfl
theorem q2685 : (Jvm.Cond.soleField "MarkHouseModel" "thrown") ∈ lw_all := lw_g (lw_at lw_m11 43 rfl) rfl
theorem q2686 : (Jvm.Cond.laysFinal "MarkHouseModel" "MarkHouseModel" "tape" "[I") ∈ lw_all := lw_g (lw_at lw_m11 44 rfl) rfl
theorem q2687 : (Jvm.Cond.soleField "MarkHouseModel" "tape") ∈ lw_all := lw_g (lw_at lw_m11 45 rfl) rfl
theorem q2688 : (Jvm.Cond.lays "MarkHouseModel" "MarkHouseModel" "taped" "I") ∈ lw_all := lw_g (lw_at lw_m11 46 rfl) rfl
theorem q2689 : (Jvm.Cond.soleField "MarkHouseModel" "taped") ∈ lw_all := lw_g (lw_at lw_m11 47 rfl) rfl
theorem q2690 : (Jvm.Cond.laysFinal "MarkHouseModel" "MarkHouseModel" "out" "[I") ∈ lw_all := lw_g (lw_at lw_m11 48 rfl) rfl
theorem q2691 : (Jvm.Cond.soleField "MarkHouseModel" "out") ∈ lw_all := lw_g (lw_at lw_m11 49 rfl) rfl
theorem q2692 : (Jvm.Cond.lays "MarkHouseModel" "MarkHouseModel" "outs" "I") ∈ lw_all := lw_g (lw_at lw_m11 50 rfl) rfl
theorem q2693 : (Jvm.Cond.soleField "MarkHouseModel" "outs") ∈ lw_all := lw_g (lw_at lw_m11 51 rfl) rfl
theorem q2694 : (Jvm.Cond.lays "MarkHouseModel" "MarkHouseModel" "some" "Z") ∈ lw_all := lw_g (lw_at lw_m11 52 rfl) rfl
theorem q2695 : (Jvm.Cond.soleField "MarkHouseModel" "some") ∈ lw_all := lw_g (lw_at lw_m11 53 rfl) rfl
theorem q2696 : (Jvm.Cond.laysFinal "MarkHouseModel" "MarkHouseModel" "words" "[Ljava/lang/String;") ∈ lw_all := lw_g (lw_at lw_m11 54 rfl) rfl
theorem q2697 : (Jvm.Cond.soleField "MarkHouseModel" "words") ∈ lw_all := lw_g (lw_at lw_m11 55 rfl) rfl
theorem q2698 : (Jvm.Cond.lays "MarkHouseModel" "MarkHouseModel" "lexemes" "I") ∈ lw_all := lw_g (lw_at lw_m11 56 rfl) rfl
theorem q2699 : (Jvm.Cond.soleField "MarkHouseModel" "lexemes") ∈ lw_all := lw_g (lw_at lw_m11 57 rfl) rfl
theorem q2700 : (Jvm.Cond.laysFinal "MarkHouseModel" "MarkHouseModel" "sort" "[I") ∈ lw_all := lw_g (lw_at lw_m11 58 rfl) rfl
theorem q2701 : (Jvm.Cond.soleField "MarkHouseModel" "sort") ∈ lw_all := lw_g (lw_at lw_m11 59 rfl) rfl
theorem q2702 : (Jvm.Cond.laysFinal "MarkHouseModel" "MarkHouseModel" "at" "[I") ∈ lw_all := lw_g (lw_at lw_m11 60 rfl) rfl
theorem q2703 : (Jvm.Cond.soleField "MarkHouseModel" "at") ∈ lw_all := lw_g (lw_at lw_m11 61 rfl) rfl
theorem q2704 : (Jvm.Cond.laysFinal "MarkHouseModel" "MarkHouseModel" "what" "[J") ∈ lw_all := lw_g (lw_at lw_m11 62 rfl) rfl
theorem q2705 : (Jvm.Cond.soleField "MarkHouseModel" "what") ∈ lw_all := lw_g (lw_at lw_m11 63 rfl) rfl
theorem q2706 : (Jvm.Cond.lays "MarkHouseModel" "MarkHouseModel" "faultKind" "I") ∈ lw_all := lw_g (lw_at lw_m11 64 rfl) rfl
theorem q2707 : (Jvm.Cond.soleField "MarkHouseModel" "faultKind") ∈ lw_all := lw_g (lw_at lw_m11 65 rfl) rfl
theorem q2708 : (Jvm.Cond.lays "MarkHouseModel" "MarkHouseModel" "faultPlace" "I") ∈ lw_all := lw_g (lw_at lw_m11 66 rfl) rfl
theorem q2709 : (Jvm.Cond.soleField "MarkHouseModel" "faultPlace") ∈ lw_all := lw_g (lw_at lw_m11 67 rfl) rfl
theorem q2710 : (Jvm.Cond.lays "MarkHouseModel" "MarkHouseModel" "wrong" "Z") ∈ lw_all := lw_g (lw_at lw_m11 68 rfl) rfl
theorem q2711 : (Jvm.Cond.soleField "MarkHouseModel" "wrong") ∈ lw_all := lw_g (lw_at lw_m11 69 rfl) rfl
theorem q2712 : (Jvm.Cond.lays "MarkHouseModel" "MarkHouseModel" "there" "Z") ∈ lw_all := lw_g (lw_at lw_m11 70 rfl) rfl
theorem q2713 : (Jvm.Cond.soleField "MarkHouseModel" "there") ∈ lw_all := lw_g (lw_at lw_m11 71 rfl) rfl
theorem q2714 : (Jvm.Cond.lays "MarkHouseModel" "MarkHouseModel" "orders" "I") ∈ lw_all := lw_g (lw_at lw_m11 72 rfl) rfl
theorem q2715 : (Jvm.Cond.soleField "MarkHouseModel" "orders") ∈ lw_all := lw_g (lw_at lw_m11 73 rfl) rfl
theorem q2716 : (Jvm.Cond.laysFinal "MarkHouseModel" "MarkHouseModel" "oName" "[J") ∈ lw_all := lw_g (lw_at lw_m11 74 rfl) rfl
theorem q2717 : (Jvm.Cond.soleField "MarkHouseModel" "oName") ∈ lw_all := lw_g (lw_at lw_m11 75 rfl) rfl
theorem q2718 : (Jvm.Cond.laysFinal "MarkHouseModel" "MarkHouseModel" "oMany" "[I") ∈ lw_all := lw_g (lw_at lw_m11 76 rfl) rfl
theorem q2719 : (Jvm.Cond.soleField "MarkHouseModel" "oMany") ∈ lw_all := lw_g (lw_at lw_m11 77 rfl) rfl
theorem q2720 : (Jvm.Cond.laysFinal "MarkHouseModel" "MarkHouseModel" "oElement" "[J") ∈ lw_all := lw_g (lw_at lw_m11 78 rfl) rfl
theorem q2721 : (Jvm.Cond.soleField "MarkHouseModel" "oElement") ∈ lw_all := lw_g (lw_at lw_m11 79 rfl) rfl
theorem q2722 : (Jvm.Cond.laysFinal "MarkHouseModel" "MarkHouseModel" "isBelow" "[Z") ∈ lw_all := lw_g (lw_at lw_m11 80 rfl) rfl
theorem q2723 : (Jvm.Cond.soleField "MarkHouseModel" "isBelow") ∈ lw_all := lw_g (lw_at lw_m11 81 rfl) rfl
theorem q2724 : (Jvm.Cond.laysFinal "MarkHouseModel" "MarkHouseModel" "oJoin" "[I") ∈ lw_all := lw_g (lw_at lw_m11 82 rfl) rfl
theorem q2725 : (Jvm.Cond.soleField "MarkHouseModel" "oJoin") ∈ lw_all := lw_g (lw_at lw_m11 83 rfl) rfl
theorem q2726 : (Jvm.Cond.laysFinal "MarkHouseModel" "MarkHouseModel" "oMeet" "[I") ∈ lw_all := lw_g (lw_at lw_m11 84 rfl) rfl
theorem q2727 : (Jvm.Cond.soleField "MarkHouseModel" "oMeet") ∈ lw_all := lw_g (lw_at lw_m11 85 rfl) rfl
theorem q2728 : (Jvm.Cond.laysFinal "MarkHouseModel" "MarkHouseModel" "oTop" "[I") ∈ lw_all := lw_g (lw_at lw_m11 86 rfl) rfl
theorem q2729 : (Jvm.Cond.soleField "MarkHouseModel" "oTop") ∈ lw_all := lw_g (lw_at lw_m11 87 rfl) rfl
theorem q2730 : (Jvm.Cond.laysFinal "MarkHouseModel" "MarkHouseModel" "oBottom" "[I") ∈ lw_all := lw_g (lw_at lw_m11 88 rfl) rfl
theorem q2731 : (Jvm.Cond.soleField "MarkHouseModel" "oBottom") ∈ lw_all := lw_g (lw_at lw_m11 89 rfl) rfl
theorem q2732 : (Jvm.Cond.lays "MarkHouseModel" "MarkHouseModel" "kinds" "I") ∈ lw_all := lw_g (lw_at lw_m11 90 rfl) rfl
theorem q2733 : (Jvm.Cond.soleField "MarkHouseModel" "kinds") ∈ lw_all := lw_g (lw_at lw_m11 91 rfl) rfl
theorem q2734 : (Jvm.Cond.laysFinal "MarkHouseModel" "MarkHouseModel" "kName" "[J") ∈ lw_all := lw_g (lw_at lw_m11 92 rfl) rfl
theorem q2735 : (Jvm.Cond.soleField "MarkHouseModel" "kName") ∈ lw_all := lw_g (lw_at lw_m11 93 rfl) rfl
theorem q2736 : (Jvm.Cond.laysFinal "MarkHouseModel" "MarkHouseModel" "kMembers" "[I") ∈ lw_all := lw_g (lw_at lw_m11 94 rfl) rfl
theorem q2737 : (Jvm.Cond.soleField "MarkHouseModel" "kMembers") ∈ lw_all := lw_g (lw_at lw_m11 95 rfl) rfl
theorem q2738 : (Jvm.Cond.laysFinal "MarkHouseModel" "MarkHouseModel" "memberName" "[J") ∈ lw_all := lw_g (lw_at lw_m11 96 rfl) rfl
theorem q2739 : (Jvm.Cond.soleField "MarkHouseModel" "memberName") ∈ lw_all := lw_g (lw_at lw_m11 97 rfl) rfl
theorem q2740 : (Jvm.Cond.laysFinal "MarkHouseModel" "MarkHouseModel" "memberText" "[Z") ∈ lw_all := lw_g (lw_at lw_m11 98 rfl) rfl
theorem q2741 : (Jvm.Cond.soleField "MarkHouseModel" "memberText") ∈ lw_all := lw_g (lw_at lw_m11 99 rfl) rfl
theorem q2742 : (Jvm.Cond.laysFinal "MarkHouseModel" "MarkHouseModel" "hasDefault" "[Z") ∈ lw_all := lw_g (lw_at lw_m11 100 rfl) rfl
theorem q2743 : (Jvm.Cond.soleField "MarkHouseModel" "hasDefault") ∈ lw_all := lw_g (lw_at lw_m11 101 rfl) rfl
theorem q2744 : (Jvm.Cond.laysFinal "MarkHouseModel" "MarkHouseModel" "memberDefault" "[J") ∈ lw_all := lw_g (lw_at lw_m11 102 rfl) rfl
theorem q2745 : (Jvm.Cond.soleField "MarkHouseModel" "memberDefault") ∈ lw_all := lw_g (lw_at lw_m11 103 rfl) rfl
theorem q2746 : (Jvm.Cond.laysFinal "MarkHouseModel" "MarkHouseModel" "kWhere" "[I") ∈ lw_all := lw_g (lw_at lw_m11 104 rfl) rfl
theorem q2747 : (Jvm.Cond.soleField "MarkHouseModel" "kWhere") ∈ lw_all := lw_g (lw_at lw_m11 105 rfl) rfl
theorem q2748 : (Jvm.Cond.laysFinal "MarkHouseModel" "MarkHouseModel" "kHeirs" "[Z") ∈ lw_all := lw_g (lw_at lw_m11 106 rfl) rfl
theorem q2749 : (Jvm.Cond.soleField "MarkHouseModel" "kHeirs") ∈ lw_all := lw_g (lw_at lw_m11 107 rfl) rfl
theorem q2750 : (Jvm.Cond.laysFinal "MarkHouseModel" "MarkHouseModel" "kMany" "[Z") ∈ lw_all := lw_g (lw_at lw_m11 108 rfl) rfl
theorem q2751 : (Jvm.Cond.soleField "MarkHouseModel" "kMany") ∈ lw_all := lw_g (lw_at lw_m11 109 rfl) rfl
theorem q2752 : (Jvm.Cond.lays "MarkHouseModel" "MarkHouseModel" "makers" "I") ∈ lw_all := lw_g (lw_at lw_m11 110 rfl) rfl
theorem q2753 : (Jvm.Cond.soleField "MarkHouseModel" "makers") ∈ lw_all := lw_g (lw_at lw_m11 111 rfl) rfl
theorem q2754 : (Jvm.Cond.laysFinal "MarkHouseModel" "MarkHouseModel" "makerName" "[J") ∈ lw_all := lw_g (lw_at lw_m11 112 rfl) rfl
theorem q2755 : (Jvm.Cond.soleField "MarkHouseModel" "makerName") ∈ lw_all := lw_g (lw_at lw_m11 113 rfl) rfl
theorem q2756 : (Jvm.Cond.laysFinal "MarkHouseModel" "MarkHouseModel" "makerKind" "[I") ∈ lw_all := lw_g (lw_at lw_m11 114 rfl) rfl
theorem q2757 : (Jvm.Cond.soleField "MarkHouseModel" "makerKind") ∈ lw_all := lw_g (lw_at lw_m11 115 rfl) rfl
theorem q2758 : (Jvm.Cond.lays "MarkHouseModel" "MarkHouseModel" "classes" "I") ∈ lw_all := lw_g (lw_at lw_m11 116 rfl) rfl
theorem q2759 : (Jvm.Cond.soleField "MarkHouseModel" "classes") ∈ lw_all := lw_g (lw_at lw_m11 117 rfl) rfl
theorem q2760 : (Jvm.Cond.laysFinal "MarkHouseModel" "MarkHouseModel" "cName" "[J") ∈ lw_all := lw_g (lw_at lw_m11 118 rfl) rfl
theorem q2761 : (Jvm.Cond.soleField "MarkHouseModel" "cName") ∈ lw_all := lw_g (lw_at lw_m11 119 rfl) rfl
theorem q2762 : (Jvm.Cond.laysFinal "MarkHouseModel" "MarkHouseModel" "cParent" "[I") ∈ lw_all := lw_g (lw_at lw_m11 120 rfl) rfl
theorem q2763 : (Jvm.Cond.soleField "MarkHouseModel" "cParent") ∈ lw_all := lw_g (lw_at lw_m11 121 rfl) rfl
theorem q2764 : (Jvm.Cond.laysFinal "MarkHouseModel" "MarkHouseModel" "cFields" "[I") ∈ lw_all := lw_g (lw_at lw_m11 122 rfl) rfl
theorem q2765 : (Jvm.Cond.soleField "MarkHouseModel" "cFields") ∈ lw_all := lw_g (lw_at lw_m11 123 rfl) rfl
theorem q2766 : (Jvm.Cond.laysFinal "MarkHouseModel" "MarkHouseModel" "cMethods" "[I") ∈ lw_all := lw_g (lw_at lw_m11 124 rfl) rfl
theorem q2767 : (Jvm.Cond.soleField "MarkHouseModel" "cMethods") ∈ lw_all := lw_g (lw_at lw_m11 125 rfl) rfl
theorem q2768 : (Jvm.Cond.laysFinal "MarkHouseModel" "MarkHouseModel" "fName" "[J") ∈ lw_all := lw_g (lw_at lw_m11 126 rfl) rfl
theorem q2769 : (Jvm.Cond.soleField "MarkHouseModel" "fName") ∈ lw_all := lw_g (lw_at lw_m11 127 rfl) rfl
theorem q2770 : (Jvm.Cond.laysFinal "MarkHouseModel" "MarkHouseModel" "fValue" "[I") ∈ lw_all := lw_g (lw_at lw_m11 128 rfl) rfl
theorem q2771 : (Jvm.Cond.soleField "MarkHouseModel" "fValue") ∈ lw_all := lw_g (lw_at lw_m11 129 rfl) rfl
theorem q2772 : (Jvm.Cond.laysFinal "MarkHouseModel" "MarkHouseModel" "mName" "[J") ∈ lw_all := lw_g (lw_at lw_m11 130 rfl) rfl
theorem q2773 : (Jvm.Cond.soleField "MarkHouseModel" "mName") ∈ lw_all := lw_g (lw_at lw_m11 131 rfl) rfl
theorem q2774 : (Jvm.Cond.laysFinal "MarkHouseModel" "MarkHouseModel" "mParameters" "[I") ∈ lw_all := lw_g (lw_at lw_m11 132 rfl) rfl
theorem q2775 : (Jvm.Cond.soleField "MarkHouseModel" "mParameters") ∈ lw_all := lw_g (lw_at lw_m11 133 rfl) rfl
theorem q2776 : (Jvm.Cond.laysFinal "MarkHouseModel" "MarkHouseModel" "mLocals" "[I") ∈ lw_all := lw_g (lw_at lw_m11 134 rfl) rfl
theorem q2777 : (Jvm.Cond.soleField "MarkHouseModel" "mLocals") ∈ lw_all := lw_g (lw_at lw_m11 135 rfl) rfl
theorem q2778 : (Jvm.Cond.laysFinal "MarkHouseModel" "MarkHouseModel" "local" "[J") ∈ lw_all := lw_g (lw_at lw_m11 136 rfl) rfl
theorem q2779 : (Jvm.Cond.soleField "MarkHouseModel" "local") ∈ lw_all := lw_g (lw_at lw_m11 137 rfl) rfl
theorem q2780 : (Jvm.Cond.laysFinal "MarkHouseModel" "MarkHouseModel" "mActs" "[I") ∈ lw_all := lw_g (lw_at lw_m11 138 rfl) rfl
theorem q2781 : (Jvm.Cond.soleField "MarkHouseModel" "mActs") ∈ lw_all := lw_g (lw_at lw_m11 139 rfl) rfl
theorem q2782 : (Jvm.Cond.laysFinal "MarkHouseModel" "MarkHouseModel" "op" "[I") ∈ lw_all := lw_g (lw_at lw_m11 140 rfl) rfl
theorem q2783 : (Jvm.Cond.soleField "MarkHouseModel" "op") ∈ lw_all := lw_g (lw_at lw_m11 141 rfl) rfl
theorem q2784 : (Jvm.Cond.laysFinal "MarkHouseModel" "MarkHouseModel" "label" "[J") ∈ lw_all := lw_g (lw_at lw_m11 142 rfl) rfl
theorem q2785 : (Jvm.Cond.soleField "MarkHouseModel" "label") ∈ lw_all := lw_g (lw_at lw_m11 143 rfl) rfl
theorem q2786 : (Jvm.Cond.laysFinal "MarkHouseModel" "MarkHouseModel" "act" "[I") ∈ lw_all := lw_g (lw_at lw_m11 144 rfl) rfl
theorem q2787 : (Jvm.Cond.soleField "MarkHouseModel" "act") ∈ lw_all := lw_g (lw_at lw_m11 145 rfl) rfl
theorem q2788 : (Jvm.Cond.laysFinal "MarkHouseModel" "MarkHouseModel" "x" "[I") ∈ lw_all := lw_g (lw_at lw_m11 146 rfl) rfl
theorem q2789 : (Jvm.Cond.soleField "MarkHouseModel" "x") ∈ lw_all := lw_g (lw_at lw_m11 147 rfl) rfl
theorem q2790 : (Jvm.Cond.laysFinal "MarkHouseModel" "MarkHouseModel" "y" "[I") ∈ lw_all := lw_g (lw_at lw_m11 148 rfl) rfl
theorem q2791 : (Jvm.Cond.soleField "MarkHouseModel" "y") ∈ lw_all := lw_g (lw_at lw_m11 149 rfl) rfl
theorem q2792 : (Jvm.Cond.laysFinal "MarkHouseModel" "MarkHouseModel" "to" "[I") ∈ lw_all := lw_g (lw_at lw_m11 150 rfl) rfl
theorem q2793 : (Jvm.Cond.soleField "MarkHouseModel" "to") ∈ lw_all := lw_g (lw_at lw_m11 151 rfl) rfl
theorem q2794 : (Jvm.Cond.laysFinal "MarkHouseModel" "MarkHouseModel" "nameAt" "[I") ∈ lw_all := lw_g (lw_at lw_m11 152 rfl) rfl
theorem q2795 : (Jvm.Cond.soleField "MarkHouseModel" "nameAt") ∈ lw_all := lw_g (lw_at lw_m11 153 rfl) rfl
theorem q2796 : (Jvm.Cond.laysFinal "MarkHouseModel" "MarkHouseModel" "labelAt" "[I") ∈ lw_all := lw_g (lw_at lw_m11 154 rfl) rfl
theorem q2797 : (Jvm.Cond.soleField "MarkHouseModel" "labelAt") ∈ lw_all := lw_g (lw_at lw_m11 155 rfl) rfl
theorem q2798 : (Jvm.Cond.laysFinal "MarkHouseModel" "MarkHouseModel" "told" "[I") ∈ lw_all := lw_g (lw_at lw_m11 156 rfl) rfl
theorem q2799 : (Jvm.Cond.soleField "MarkHouseModel" "told") ∈ lw_all := lw_g (lw_at lw_m11 157 rfl) rfl
theorem q2800 : (Jvm.Cond.laysFinal "MarkHouseModel" "MarkHouseModel" "toldOrder" "[I") ∈ lw_all := lw_g (lw_at lw_m11 158 rfl) rfl
theorem q2801 : (Jvm.Cond.soleField "MarkHouseModel" "toldOrder") ∈ lw_all := lw_g (lw_at lw_m11 159 rfl) rfl
theorem q2802 : (Jvm.Cond.laysFinal "MarkHouseModel" "MarkHouseModel" "toldElement" "[I") ∈ lw_all := lw_g (lw_at lw_m11 160 rfl) rfl
theorem q2803 : (Jvm.Cond.soleField "MarkHouseModel" "toldElement") ∈ lw_all := lw_g (lw_at lw_m11 161 rfl) rfl
theorem q2804 : (Jvm.Cond.laysFinal "MarkHouseModel" "MarkHouseModel" "marks" "[I") ∈ lw_all := lw_g (lw_at lw_m11 162 rfl) rfl
theorem q2805 : (Jvm.Cond.soleField "MarkHouseModel" "marks") ∈ lw_all := lw_g (lw_at lw_m11 163 rfl) rfl
theorem q2806 : (Jvm.Cond.laysFinal "MarkHouseModel" "MarkHouseModel" "markName" "[J") ∈ lw_all := lw_g (lw_at lw_m11 164 rfl) rfl
theorem q2807 : (Jvm.Cond.soleField "MarkHouseModel" "markName") ∈ lw_all := lw_g (lw_at lw_m11 165 rfl) rfl
theorem q2808 : (Jvm.Cond.laysFinal "MarkHouseModel" "MarkHouseModel" "isNo" "[Z") ∈ lw_all := lw_g (lw_at lw_m11 166 rfl) rfl
theorem q2809 : (Jvm.Cond.soleField "MarkHouseModel" "isNo") ∈ lw_all := lw_g (lw_at lw_m11 167 rfl) rfl
theorem q2810 : (Jvm.Cond.laysFinal "MarkHouseModel" "MarkHouseModel" "pairs" "[I") ∈ lw_all := lw_g (lw_at lw_m11 168 rfl) rfl
theorem q2811 : (Jvm.Cond.soleField "MarkHouseModel" "pairs") ∈ lw_all := lw_g (lw_at lw_m11 169 rfl) rfl
theorem q2812 : (Jvm.Cond.laysFinal "MarkHouseModel" "MarkHouseModel" "pairName" "[J") ∈ lw_all := lw_g (lw_at lw_m11 170 rfl) rfl
theorem q2813 : (Jvm.Cond.soleField "MarkHouseModel" "pairName") ∈ lw_all := lw_g (lw_at lw_m11 171 rfl) rfl
theorem q2814 : (Jvm.Cond.laysFinal "MarkHouseModel" "MarkHouseModel" "pairSort" "[I") ∈ lw_all := lw_g (lw_at lw_m11 172 rfl) rfl
theorem q2815 : (Jvm.Cond.soleField "MarkHouseModel" "pairSort") ∈ lw_all := lw_g (lw_at lw_m11 173 rfl) rfl
theorem q2816 : (Jvm.Cond.laysFinal "MarkHouseModel" "MarkHouseModel" "pairValue" "[J") ∈ lw_all := lw_g (lw_at lw_m11 174 rfl) rfl
theorem q2817 : (Jvm.Cond.soleField "MarkHouseModel" "pairValue") ∈ lw_all := lw_g (lw_at lw_m11 175 rfl) rfl
theorem q2818 : (Jvm.Cond.lays "MarkHouseModel" "MarkHouseModel" "here" "I") ∈ lw_all := lw_g (lw_at lw_m11 176 rfl) rfl
theorem q2819 : (Jvm.Cond.soleField "MarkHouseModel" "here") ∈ lw_all := lw_g (lw_at lw_m11 177 rfl) rfl
theorem q2820 : (Jvm.Cond.lays "MarkHouseModel" "MarkHouseModel" "value" "J") ∈ lw_all := lw_g (lw_at lw_m11 178 rfl) rfl
theorem q2821 : (Jvm.Cond.soleField "MarkHouseModel" "value") ∈ lw_all := lw_g (lw_at lw_m11 179 rfl) rfl
theorem q2822 : (Jvm.Cond.laysFinal "MarkHouseModel" "MarkHouseModel" "named" "[I") ∈ lw_all := lw_g (lw_at lw_m11 180 rfl) rfl
theorem q2823 : (Jvm.Cond.soleField "MarkHouseModel" "named") ∈ lw_all := lw_g (lw_at lw_m11 181 rfl) rfl
theorem q2824 : (Jvm.Cond.laysFinal "MarkHouseModel" "MarkHouseModel" "depth" "[I") ∈ lw_all := lw_g (lw_at lw_m11 182 rfl) rfl
theorem q2825 : (Jvm.Cond.soleField "MarkHouseModel" "depth") ∈ lw_all := lw_g (lw_at lw_m11 183 rfl) rfl
theorem q2826 : (Jvm.Cond.laysFinal "MarkHouseModel" "MarkHouseModel" "isOver" "[Z") ∈ lw_all := lw_g (lw_at lw_m11 184 rfl) rfl
theorem q2827 : (Jvm.Cond.soleField "MarkHouseModel" "isOver") ∈ lw_all := lw_g (lw_at lw_m11 185 rfl) rfl
theorem q2828 : (Jvm.Cond.laysFinal "MarkHouseModel" "MarkHouseModel" "gives" "[I") ∈ lw_all := lw_g (lw_at lw_m11 186 rfl) rfl
theorem q2829 : (Jvm.Cond.soleField "MarkHouseModel" "gives") ∈ lw_all := lw_g (lw_at lw_m11 187 rfl) rfl
theorem q2830 : (Jvm.Cond.lays "MarkHouseModel" "MarkHouseModel" "givesName" "J") ∈ lw_all := lw_g (lw_at lw_m11 188 rfl) rfl
theorem q2831 : (Jvm.Cond.soleField "MarkHouseModel" "givesName") ∈ lw_all := lw_g (lw_at lw_m11 189 rfl) rfl
theorem q2832 : (Jvm.Cond.lays "MarkHouseModel" "MarkHouseModel" "eMany" "I") ∈ lw_all := lw_g (lw_at lw_m11 190 rfl) rfl
theorem q2833 : (Jvm.Cond.soleField "MarkHouseModel" "eMany") ∈ lw_all := lw_g (lw_at lw_m11 191 rfl) rfl
theorem q2834 : (Jvm.Cond.laysFinal "MarkHouseModel" "MarkHouseModel" "eMark" "[I") ∈ lw_all := lw_g (lw_at lw_m11 192 rfl) rfl
theorem q2835 : (Jvm.Cond.soleField "MarkHouseModel" "eMark") ∈ lw_all := lw_g (lw_at lw_m11 193 rfl) rfl
theorem q2836 : (Jvm.Cond.lays "MarkHouseModel" "MarkHouseModel" "ePlace" "I") ∈ lw_all := lw_g (lw_at lw_m11 194 rfl) rfl
theorem q2837 : (Jvm.Cond.soleField "MarkHouseModel" "ePlace") ∈ lw_all := lw_g (lw_at lw_m11 195 rfl) rfl
theorem q2838 : (Jvm.Cond.lays "MarkHouseModel" "MarkHouseModel" "eSteps" "I") ∈ lw_all := lw_g (lw_at lw_m11 196 rfl) rfl
theorem q2839 : (Jvm.Cond.soleField "MarkHouseModel" "eSteps") ∈ lw_all := lw_g (lw_at lw_m11 197 rfl) rfl
theorem q2840 : (Jvm.Cond.lays "MarkHouseModel" "MarkHouseModel" "eGiven" "Z") ∈ lw_all := lw_g (lw_at lw_m11 198 rfl) rfl
theorem q2841 : (Jvm.Cond.soleField "MarkHouseModel" "eGiven") ∈ lw_all := lw_g (lw_at lw_m11 199 rfl) rfl
theorem q2842 : (Jvm.Cond.lays "MarkHouseModel" "MarkHouseModel" "mValue" "J") ∈ lw_all := lw_g (lw_at lw_m11 200 rfl) rfl
theorem q2843 : (Jvm.Cond.soleField "MarkHouseModel" "mValue") ∈ lw_all := lw_g (lw_at lw_m11 201 rfl) rfl
theorem q2844 : (Jvm.Cond.lays "MarkHouseModel" "MarkHouseModel" "fAt" "I") ∈ lw_all := lw_g (lw_at lw_m11 202 rfl) rfl
theorem q2845 : (Jvm.Cond.soleField "MarkHouseModel" "fAt") ∈ lw_all := lw_g (lw_at lw_m11 203 rfl) rfl
theorem q2846 : (Jvm.Cond.lays "MarkHouseModel" "MarkHouseModel" "fEnd" "I") ∈ lw_all := lw_g (lw_at lw_m11 204 rfl) rfl
theorem q2847 : (Jvm.Cond.soleField "MarkHouseModel" "fEnd") ∈ lw_all := lw_g (lw_at lw_m11 205 rfl) rfl
theorem q2848 : (Jvm.Cond.lays "MarkHouseModel" "MarkHouseModel" "bad" "Z") ∈ lw_all := lw_g (lw_at lw_m11 206 rfl) rfl
theorem q2849 : (Jvm.Cond.soleField "MarkHouseModel" "bad") ∈ lw_all := lw_g (lw_at lw_m11 207 rfl) rfl
theorem q2850 : (Jvm.Cond.laysFinal "MarkHouseModel" "MarkHouseModel" "had" "[Z") ∈ lw_all := lw_g (lw_at lw_m11 208 rfl) rfl
theorem q2851 : (Jvm.Cond.soleField "MarkHouseModel" "had") ∈ lw_all := lw_g (lw_at lw_m11 209 rfl) rfl
theorem q2852 : (Jvm.Cond.laysFinal "MarkHouseModel" "MarkHouseModel" "found" "[I") ∈ lw_all := lw_g (lw_at lw_m11 210 rfl) rfl
theorem q2853 : (Jvm.Cond.soleField "MarkHouseModel" "found") ∈ lw_all := lw_g (lw_at lw_m11 211 rfl) rfl
theorem q2854 : (Jvm.Cond.laysFinal "MarkHouseModel" "MarkHouseModel" "mk" "[I") ∈ lw_all := lw_g (lw_at lw_m11 212 rfl) rfl
theorem q2855 : (Jvm.Cond.soleField "MarkHouseModel" "mk") ∈ lw_all := lw_g (lw_at lw_m11 213 rfl) rfl
theorem q2856 : (Jvm.Cond.laysFinal "MarkHouseModel" "MarkHouseModel" "isEffective" "[Z") ∈ lw_all := lw_g (lw_at lw_m11 214 rfl) rfl
theorem q2857 : (Jvm.Cond.soleField "MarkHouseModel" "isEffective") ∈ lw_all := lw_g (lw_at lw_m11 215 rfl) rfl
theorem q2858 : (Jvm.Cond.laysFinal "MarkHouseModel" "MarkHouseModel" "st" "[I") ∈ lw_all := lw_g (lw_at lw_m11 216 rfl) rfl
theorem q2859 : (Jvm.Cond.soleField "MarkHouseModel" "st") ∈ lw_all := lw_g (lw_at lw_m11 217 rfl) rfl
theorem q2860 : (Jvm.Cond.laysFinal "MarkHouseModel" "MarkHouseModel" "come" "[Z") ∈ lw_all := lw_g (lw_at lw_m11 218 rfl) rfl
theorem q2861 : (Jvm.Cond.soleField "MarkHouseModel" "come") ∈ lw_all := lw_g (lw_at lw_m11 219 rfl) rfl
theorem q2862 : (Jvm.Cond.laysFinal "MarkHouseModel" "MarkHouseModel" "now" "[I") ∈ lw_all := lw_g (lw_at lw_m11 220 rfl) rfl
theorem q2863 : (Jvm.Cond.soleField "MarkHouseModel" "now") ∈ lw_all := lw_g (lw_at lw_m11 221 rfl) rfl
theorem q2864 : (Jvm.Cond.lays "MarkHouseModel" "MarkHouseModel" "moved" "Z") ∈ lw_all := lw_g (lw_at lw_m11 222 rfl) rfl
theorem q2865 : (Jvm.Cond.soleField "MarkHouseModel" "moved") ∈ lw_all := lw_g (lw_at lw_m11 223 rfl) rfl
theorem q2866 : (Jvm.Cond.lays "MarkHouseModel" "MarkHouseModel" "errors" "I") ∈ lw_all := lw_g (lw_at lw_m11 224 rfl) rfl
theorem q2867 : (Jvm.Cond.soleField "MarkHouseModel" "errors") ∈ lw_all := lw_g (lw_at lw_m11 225 rfl) rfl
theorem q2868 : (Jvm.Cond.laysFinal "MarkHouseModel" "MarkHouseModel" "eMethod" "[I") ∈ lw_all := lw_g (lw_at lw_m11 226 rfl) rfl
theorem q2869 : (Jvm.Cond.soleField "MarkHouseModel" "eMethod") ∈ lw_all := lw_g (lw_at lw_m11 227 rfl) rfl
theorem q2870 : (Jvm.Cond.laysFinal "MarkHouseModel" "MarkHouseModel" "eAct" "[I") ∈ lw_all := lw_g (lw_at lw_m11 228 rfl) rfl
theorem q2871 : (Jvm.Cond.soleField "MarkHouseModel" "eAct") ∈ lw_all := lw_g (lw_at lw_m11 229 rfl) rfl
theorem q2872 : (Jvm.Cond.laysFinal "MarkHouseModel" "MarkHouseModel" "eParameter" "[I") ∈ lw_all := lw_g (lw_at lw_m11 230 rfl) rfl
theorem q2873 : (Jvm.Cond.soleField "MarkHouseModel" "eParameter") ∈ lw_all := lw_g (lw_at lw_m11 231 rfl) rfl
theorem q2874 : (Jvm.Cond.laysFinal "MarkHouseModel" "MarkHouseModel" "eComes" "[I") ∈ lw_all := lw_g (lw_at lw_m11 232 rfl) rfl
theorem q2875 : (Jvm.Cond.soleField "MarkHouseModel" "eComes") ∈ lw_all := lw_g (lw_at lw_m11 233 rfl) rfl
theorem q2876 : (Jvm.Cond.laysFinal "MarkHouseModel" "MarkHouseModel" "eWanted" "[I") ∈ lw_all := lw_g (lw_at lw_m11 234 rfl) rfl
theorem q2877 : (Jvm.Cond.soleField "MarkHouseModel" "eWanted") ∈ lw_all := lw_g (lw_at lw_m11 235 rfl) rfl
theorem q2878 : (Jvm.Cond.lays "MarkHouseModel" "MarkHouseModel" "flowing" "I") ∈ lw_all := lw_g (lw_at lw_m11 236 rfl) rfl
theorem q2879 : (Jvm.Cond.soleField "MarkHouseModel" "flowing") ∈ lw_all := lw_g (lw_at lw_m11 237 rfl) rfl
theorem q2880 : (Jvm.Cond.laysFinal "MarkHouseModel" "MarkHouseModel" "sAct" "[I") ∈ lw_all := lw_g (lw_at lw_m11 238 rfl) rfl
theorem q2881 : (Jvm.Cond.soleField "MarkHouseModel" "sAct") ∈ lw_all := lw_g (lw_at lw_m11 239 rfl) rfl
theorem q2882 : (Jvm.Cond.laysFinal "MarkHouseModel" "MarkHouseModel" "sFrom" "[I") ∈ lw_all := lw_g (lw_at lw_m12 0 rfl) rfl
theorem q2883 : (Jvm.Cond.soleField "MarkHouseModel" "sFrom") ∈ lw_all := lw_g (lw_at lw_m12 1 rfl) rfl
theorem q2884 : (Jvm.Cond.laysFinal "MarkHouseModel" "MarkHouseModel" "sState" "[I") ∈ lw_all := lw_g (lw_at lw_m12 2 rfl) rfl
theorem q2885 : (Jvm.Cond.soleField "MarkHouseModel" "sState") ∈ lw_all := lw_g (lw_at lw_m12 3 rfl) rfl
theorem q2886 : (Jvm.Cond.lays "MarkHouseModel" "MarkHouseModel" "situations" "I") ∈ lw_all := lw_g (lw_at lw_m12 4 rfl) rfl
theorem q2887 : (Jvm.Cond.soleField "MarkHouseModel" "situations") ∈ lw_all := lw_g (lw_at lw_m12 5 rfl) rfl
theorem q2888 : (Jvm.Cond.lays "MarkHouseModel" "MarkHouseModel" "ways" "I") ∈ lw_all := lw_g (lw_at lw_m12 6 rfl) rfl
theorem q2889 : (Jvm.Cond.soleField "MarkHouseModel" "ways") ∈ lw_all := lw_g (lw_at lw_m12 7 rfl) rfl
theorem q2890 : (Jvm.Cond.laysFinal "MarkHouseModel" "MarkHouseModel" "wayAct" "[I") ∈ lw_all := lw_g (lw_at lw_m12 8 rfl) rfl
theorem q2891 : (Jvm.Cond.soleField "MarkHouseModel" "wayAct") ∈ lw_all := lw_g (lw_at lw_m12 9 rfl) rfl
theorem q2892 : (Jvm.Cond.lays "MarkHouseModel" "MarkHouseModel" "isOpen" "Z") ∈ lw_all := lw_g (lw_at lw_m12 10 rfl) rfl
theorem q2893 : (Jvm.Cond.soleField "MarkHouseModel" "isOpen") ∈ lw_all := lw_g (lw_at lw_m12 11 rfl) rfl
theorem q2894 : (Jvm.Cond.lays "MarkHouseModel" "MarkHouseModel" "hit" "I") ∈ lw_all := lw_g (lw_at lw_m12 12 rfl) rfl
theorem q2895 : (Jvm.Cond.soleField "MarkHouseModel" "hit") ∈ lw_all := lw_g (lw_at lw_m12 13 rfl) rfl
theorem q2896 : (Jvm.Cond.lays "MarkHouseModel" "MarkHouseModel" "isWoven" "Z") ∈ lw_all := lw_g (lw_at lw_m12 14 rfl) rfl
theorem q2897 : (Jvm.Cond.soleField "MarkHouseModel" "isWoven") ∈ lw_all := lw_g (lw_at lw_m12 15 rfl) rfl
theorem q2898 : (Jvm.Cond.laysFinal "MarkHouseModel" "MarkHouseModel" "check" "[I") ∈ lw_all := lw_g (lw_at lw_m12 16 rfl) rfl
theorem q2899 : (Jvm.Cond.soleField "MarkHouseModel" "check") ∈ lw_all := lw_g (lw_at lw_m12 17 rfl) rfl
theorem q2900 : (Jvm.Cond.laysFinal "MarkHouseModel" "MarkHouseModel" "argument" "[I") ∈ lw_all := lw_g (lw_at lw_m12 18 rfl) rfl
theorem q2901 : (Jvm.Cond.soleField "MarkHouseModel" "argument") ∈ lw_all := lw_g (lw_at lw_m12 19 rfl) rfl
theorem q2902 : (Jvm.Cond.laysFinal "MarkHouseModel" "MarkHouseModel" "input" "[I") ∈ lw_all := lw_g (lw_at lw_m12 20 rfl) rfl
theorem q2903 : (Jvm.Cond.soleField "MarkHouseModel" "input") ∈ lw_all := lw_g (lw_at lw_m12 21 rfl) rfl
theorem q2904 : (Jvm.Cond.lays "MarkHouseModel" "MarkHouseModel" "inputs" "I") ∈ lw_all := lw_g (lw_at lw_m12 22 rfl) rfl
theorem q2905 : (Jvm.Cond.soleField "MarkHouseModel" "inputs") ∈ lw_all := lw_g (lw_at lw_m12 23 rfl) rfl
theorem q2906 : (Jvm.Cond.lays "MarkHouseModel" "MarkHouseModel" "running" "I") ∈ lw_all := lw_g (lw_at lw_m12 24 rfl) rfl
theorem q2907 : (Jvm.Cond.soleField "MarkHouseModel" "running") ∈ lw_all := lw_g (lw_at lw_m12 25 rfl) rfl
theorem q2908 : (Jvm.Cond.lays "MarkHouseModel" "MarkHouseModel" "byChecks" "Z") ∈ lw_all := lw_g (lw_at lw_m12 26 rfl) rfl
theorem q2909 : (Jvm.Cond.soleField "MarkHouseModel" "byChecks") ∈ lw_all := lw_g (lw_at lw_m12 27 rfl) rfl
theorem q2910 : (Jvm.Cond.lays "MarkHouseModel" "MarkHouseModel" "frames" "I") ∈ lw_all := lw_g (lw_at lw_m12 28 rfl) rfl
theorem q2911 : (Jvm.Cond.soleField "MarkHouseModel" "frames") ∈ lw_all := lw_g (lw_at lw_m12 29 rfl) rfl
theorem q2912 : (Jvm.Cond.laysFinal "MarkHouseModel" "MarkHouseModel" "frMethod" "[I") ∈ lw_all := lw_g (lw_at lw_m12 30 rfl) rfl
theorem q2913 : (Jvm.Cond.soleField "MarkHouseModel" "frMethod") ∈ lw_all := lw_g (lw_at lw_m12 31 rfl) rfl
theorem q2914 : (Jvm.Cond.laysFinal "MarkHouseModel" "MarkHouseModel" "frAct" "[I") ∈ lw_all := lw_g (lw_at lw_m12 32 rfl) rfl
theorem q2915 : (Jvm.Cond.soleField "MarkHouseModel" "frAct") ∈ lw_all := lw_g (lw_at lw_m12 33 rfl) rfl
theorem q2916 : (Jvm.Cond.laysFinal "MarkHouseModel" "MarkHouseModel" "frTop" "[I") ∈ lw_all := lw_g (lw_at lw_m12 34 rfl) rfl
theorem q2917 : (Jvm.Cond.soleField "MarkHouseModel" "frTop") ∈ lw_all := lw_g (lw_at lw_m12 35 rfl) rfl
theorem q2918 : (Jvm.Cond.laysFinal "MarkHouseModel" "MarkHouseModel" "val" "[I") ∈ lw_all := lw_g (lw_at lw_m12 36 rfl) rfl
theorem q2919 : (Jvm.Cond.soleField "MarkHouseModel" "val") ∈ lw_all := lw_g (lw_at lw_m12 37 rfl) rfl
theorem q2920 : (Jvm.Cond.laysFinal "MarkHouseModel" "MarkHouseModel" "el" "[I") ∈ lw_all := lw_g (lw_at lw_m12 38 rfl) rfl
theorem q2921 : (Jvm.Cond.soleField "MarkHouseModel" "el") ∈ lw_all := lw_g (lw_at lw_m12 39 rfl) rfl
theorem q2922 : (Jvm.Cond.laysFinal "MarkHouseModel" "MarkHouseModel" "fieldNow" "[I") ∈ lw_all := lw_g (lw_at lw_m12 40 rfl) rfl
theorem q2923 : (Jvm.Cond.soleField "MarkHouseModel" "fieldNow") ∈ lw_all := lw_g (lw_at lw_m12 41 rfl) rfl
theorem q2924 : (Jvm.Cond.laysFinal "MarkHouseModel" "MarkHouseModel" "fieldEl" "[I") ∈ lw_all := lw_g (lw_at lw_m12 42 rfl) rfl
theorem q2925 : (Jvm.Cond.soleField "MarkHouseModel" "fieldEl") ∈ lw_all := lw_g (lw_at lw_m12 43 rfl) rfl
theorem q2926 : (Jvm.Cond.lays "MarkHouseModel" "MarkHouseModel" "result" "I") ∈ lw_all := lw_g (lw_at lw_m12 44 rfl) rfl
theorem q2927 : (Jvm.Cond.soleField "MarkHouseModel" "result") ∈ lw_all := lw_g (lw_at lw_m12 45 rfl) rfl
theorem q2928 : (Jvm.Cond.laysFinal "MarkHouseModel" "MarkHouseModel" "resultEl" "[I") ∈ lw_all := lw_g (lw_at lw_m12 46 rfl) rfl
theorem q2929 : (Jvm.Cond.soleField "MarkHouseModel" "resultEl") ∈ lw_all := lw_g (lw_at lw_m12 47 rfl) rfl
theorem q2930 : (Jvm.Cond.lays "MarkHouseModel" "MarkHouseModel" "acts" "I") ∈ lw_all := lw_g (lw_at lw_m12 48 rfl) rfl
theorem q2931 : (Jvm.Cond.soleField "MarkHouseModel" "acts") ∈ lw_all := lw_g (lw_at lw_m12 49 rfl) rfl
theorem q2932 : (Jvm.Cond.lays "MarkHouseModel" "MarkHouseModel" "lefts" "I") ∈ lw_all := lw_g (lw_at lw_m12 50 rfl) rfl
theorem q2933 : (Jvm.Cond.soleField "MarkHouseModel" "lefts") ∈ lw_all := lw_g (lw_at lw_m12 51 rfl) rfl
theorem q2934 : (Jvm.Cond.lays "MarkHouseModel" "MarkHouseModel" "leftMethod" "I") ∈ lw_all := lw_g (lw_at lw_m12 52 rfl) rfl
theorem q2935 : (Jvm.Cond.soleField "MarkHouseModel" "leftMethod") ∈ lw_all := lw_g (lw_at lw_m12 53 rfl) rfl
theorem q2936 : (Jvm.Cond.lays "MarkHouseModel" "MarkHouseModel" "leftAct" "I") ∈ lw_all := lw_g (lw_at lw_m12 54 rfl) rfl
theorem q2937 : (Jvm.Cond.soleField "MarkHouseModel" "leftAct") ∈ lw_all := lw_g (lw_at lw_m12 55 rfl) rfl
theorem q2938 : (Jvm.Cond.lays "MarkHouseModel" "MarkHouseModel" "leftOrder" "I") ∈ lw_all := lw_g (lw_at lw_m12 56 rfl) rfl
theorem q2939 : (Jvm.Cond.soleField "MarkHouseModel" "leftOrder") ∈ lw_all := lw_g (lw_at lw_m12 57 rfl) rfl
theorem q2940 : (Jvm.Cond.lays "MarkHouseModel" "MarkHouseModel" "brokens" "I") ∈ lw_all := lw_g (lw_at lw_m12 58 rfl) rfl
theorem q2941 : (Jvm.Cond.soleField "MarkHouseModel" "brokens") ∈ lw_all := lw_g (lw_at lw_m12 59 rfl) rfl
theorem q2942 : (Jvm.Cond.lays "MarkHouseModel" "MarkHouseModel" "checksDone" "I") ∈ lw_all := lw_g (lw_at lw_m12 60 rfl) rfl
theorem q2943 : (Jvm.Cond.soleField "MarkHouseModel" "checksDone") ∈ lw_all := lw_g (lw_at lw_m12 61 rfl) rfl
theorem q2944 : (Jvm.Cond.lays "MarkHouseModel" "MarkHouseModel" "isWired" "Z") ∈ lw_all := lw_g (lw_at lw_m12 62 rfl) rfl
theorem q2945 : (Jvm.Cond.soleField "MarkHouseModel" "isWired") ∈ lw_all := lw_g (lw_at lw_m12 63 rfl) rfl
theorem q2946 : (Jvm.Cond.lays "MarkHouseModel" "MarkHouseModel" "wireKind" "I") ∈ lw_all := lw_g (lw_at lw_m12 64 rfl) rfl
theorem q2947 : (Jvm.Cond.soleField "MarkHouseModel" "wireKind") ∈ lw_all := lw_g (lw_at lw_m12 65 rfl) rfl
theorem q2948 : (Jvm.Cond.lays "MarkHouseModel" "MarkHouseModel" "wireField" "I") ∈ lw_all := lw_g (lw_at lw_m12 66 rfl) rfl
theorem q2949 : (Jvm.Cond.soleField "MarkHouseModel" "wireField") ∈ lw_all := lw_g (lw_at lw_m12 67 rfl) rfl
theorem q2950 : (Jvm.Cond.lays "MarkHouseModel" "MarkHouseModel" "wireClass" "I") ∈ lw_all := lw_g (lw_at lw_m12 68 rfl) rfl
theorem q2951 : (Jvm.Cond.soleField "MarkHouseModel" "wireClass") ∈ lw_all := lw_g (lw_at lw_m12 69 rfl) rfl
theorem q2952 : (Jvm.Cond.lays "MarkHouseModel" "MarkHouseModel" "made" "I") ∈ lw_all := lw_g (lw_at lw_m12 70 rfl) rfl
theorem q2953 : (Jvm.Cond.soleField "MarkHouseModel" "made") ∈ lw_all := lw_g (lw_at lw_m12 71 rfl) rfl
theorem q2954 : (Jvm.Cond.laysFinal "MarkHouseModel" "MarkHouseModel" "madeClass" "[I") ∈ lw_all := lw_g (lw_at lw_m12 72 rfl) rfl
theorem q2955 : (Jvm.Cond.soleField "MarkHouseModel" "madeClass") ∈ lw_all := lw_g (lw_at lw_m12 73 rfl) rfl
theorem q2956 : (Jvm.Cond.laysFinal "MarkHouseModel" "MarkHouseModel" "isMade" "[Z") ∈ lw_all := lw_g (lw_at lw_m12 74 rfl) rfl
theorem q2957 : (Jvm.Cond.soleField "MarkHouseModel" "isMade") ∈ lw_all := lw_g (lw_at lw_m12 75 rfl) rfl
theorem q2958 : (Jvm.Cond.laysFinal "MarkHouseModel" "MarkHouseModel" "isMaking" "[Z") ∈ lw_all := lw_g (lw_at lw_m12 76 rfl) rfl
theorem q2959 : (Jvm.Cond.soleField "MarkHouseModel" "isMaking") ∈ lw_all := lw_g (lw_at lw_m12 77 rfl) rfl
theorem q2960 : (Jvm.Cond.laysFinal "MarkHouseModel" "MarkHouseModel" "isPart" "[Z") ∈ lw_all := lw_g (lw_at lw_m12 78 rfl) rfl
theorem q2961 : (Jvm.Cond.soleField "MarkHouseModel" "isPart") ∈ lw_all := lw_g (lw_at lw_m12 79 rfl) rfl
theorem q2962 : (Jvm.Cond.laysFinal "MarkHouseModel" "MarkHouseModel" "partLabel" "[J") ∈ lw_all := lw_g (lw_at lw_m12 80 rfl) rfl
theorem q2963 : (Jvm.Cond.soleField "MarkHouseModel" "partLabel") ∈ lw_all := lw_g (lw_at lw_m12 81 rfl) rfl
theorem q2964 : (Jvm.Cond.superclass "MarkHouseModel" "java/lang/Object") ∈ lw_all := lw_g (lw_at lw_m12 82 rfl) rfl
theorem q2966 : (Jvm.Cond.instanceMethod ({ cls := "MarkHouseModel", name := "thrown", desc := "()I" } : Jvm.MethodName)) ∈ lw_all := lw_g (lw_at lw_m12 84 rfl) rfl
theorem q2967 : (Jvm.Cond.selects "MarkHouseModel" ({ cls := "MarkHouseModel", name := "thrown", desc := "()I" } : Jvm.MethodName) ({ cls := "MarkHouseModel", name := "thrown", desc := "()I" } : Jvm.MethodName)) ∈ lw_all := lw_g (lw_at lw_m12 85 rfl) rfl
theorem q2968 : (Jvm.Cond.code ({ cls := "MarkHouseModel", name := "thrown", desc := "()I" } : Jvm.MethodName) prog_18_method_2_code (1 : Nat) (Option.some Jvm.ClassFile.FieldType.int)) ∈ lw_all := lw_g (lw_at lw_m12 86 rfl) rfl
theorem q2970 : (Jvm.Cond.instanceMethod ({ cls := "MarkHouseModel", name := "feed", desc := "(IIIII)I" } : Jvm.MethodName)) ∈ lw_all := lw_g (lw_at lw_m12 88 rfl) rfl
theorem q2971 : (Jvm.Cond.selects "MarkHouseModel" ({ cls := "MarkHouseModel", name := "feed", desc := "(IIIII)I" } : Jvm.MethodName) ({ cls := "MarkHouseModel", name := "feed", desc := "(IIIII)I" } : Jvm.MethodName)) ∈ lw_all := lw_g (lw_at lw_m12 89 rfl) rfl
theorem q2972 : (Jvm.Cond.code ({ cls := "MarkHouseModel", name := "feed", desc := "(IIIII)I" } : Jvm.MethodName) prog_18_method_3_code (6 : Nat) (Option.some Jvm.ClassFile.FieldType.int)) ∈ lw_all := lw_g (lw_at lw_m12 90 rfl) rfl
theorem q2973 : (Jvm.Cond.methodLink "MarkHouseModel" (362 : Nat) ({ cls := "MarkHouseModel", name := "four", desc := "(I)V" } : Jvm.MethodName)) ∈ lw_all := lw_g (lw_at lw_m12 91 rfl) rfl
theorem q2974 : (Jvm.Cond.privateMethod ({ cls := "MarkHouseModel", name := "four", desc := "(I)V" } : Jvm.MethodName)) ∈ lw_tbl := lw_at lw_m12 92 rfl
theorem q2975 : (Jvm.Cond.instanceMethod ({ cls := "MarkHouseModel", name := "four", desc := "(I)V" } : Jvm.MethodName)) ∈ lw_all := lw_g (lw_at lw_m12 93 rfl) rfl
theorem q2976 : (Jvm.Cond.code ({ cls := "MarkHouseModel", name := "four", desc := "(I)V" } : Jvm.MethodName) prog_18_method_4_code (3 : Nat) (Option.none : Option Jvm.ClassFile.FieldType)) ∈ lw_all := lw_g (lw_at lw_m12 94 rfl) rfl
theorem q2978 : (Jvm.Cond.instanceMethod ({ cls := "MarkHouseModel", name := "end", desc := "(I)I" } : Jvm.MethodName)) ∈ lw_all := lw_g (lw_at lw_m12 96 rfl) rfl
theorem q2979 : (Jvm.Cond.selects "MarkHouseModel" ({ cls := "MarkHouseModel", name := "end", desc := "(I)I" } : Jvm.MethodName) ({ cls := "MarkHouseModel", name := "end", desc := "(I)I" } : Jvm.MethodName)) ∈ lw_all := lw_g (lw_at lw_m12 97 rfl) rfl
theorem q2980 : (Jvm.Cond.code ({ cls := "MarkHouseModel", name := "end", desc := "(I)I" } : Jvm.MethodName) prog_18_method_5_code (2 : Nat) (Option.some Jvm.ClassFile.FieldType.int)) ∈ lw_all := lw_g (lw_at lw_m12 98 rfl) rfl
theorem q2982 : (Jvm.Cond.instanceMethod ({ cls := "MarkHouseModel", name := "out", desc := "(I)I" } : Jvm.MethodName)) ∈ lw_all := lw_g (lw_at lw_m12 100 rfl) rfl
theorem q2983 : (Jvm.Cond.selects "MarkHouseModel" ({ cls := "MarkHouseModel", name := "out", desc := "(I)I" } : Jvm.MethodName) ({ cls := "MarkHouseModel", name := "out", desc := "(I)I" } : Jvm.MethodName)) ∈ lw_all := lw_g (lw_at lw_m12 101 rfl) rfl
theorem q2984 : (Jvm.Cond.code ({ cls := "MarkHouseModel", name := "out", desc := "(I)I" } : Jvm.MethodName) prog_18_method_6_code (2 : Nat) (Option.some Jvm.ClassFile.FieldType.int)) ∈ lw_all := lw_g (lw_at lw_m12 102 rfl) rfl
theorem q2986 : (Jvm.Cond.instanceMethod ({ cls := "MarkHouseModel", name := "compile", desc := "()I" } : Jvm.MethodName)) ∈ lw_all := lw_g (lw_at lw_m12 104 rfl) rfl
theorem q2987 : (Jvm.Cond.selects "MarkHouseModel" ({ cls := "MarkHouseModel", name := "compile", desc := "()I" } : Jvm.MethodName) ({ cls := "MarkHouseModel", name := "compile", desc := "()I" } : Jvm.MethodName)) ∈ lw_all := lw_g (lw_at lw_m12 105 rfl) rfl
theorem q2988 : (Jvm.Cond.code ({ cls := "MarkHouseModel", name := "compile", desc := "()I" } : Jvm.MethodName) prog_18_method_80_code (4 : Nat) (Option.some Jvm.ClassFile.FieldType.int)) ∈ lw_all := lw_g (lw_at lw_m12 106 rfl) rfl
theorem q2989 : (Jvm.Cond.methodLink "MarkHouseModel" (637 : Nat) ({ cls := "MarkHouseModel", name := "changed", desc := "()V" } : Jvm.MethodName)) ∈ lw_all := lw_g (lw_at lw_m12 107 rfl) rfl
theorem q2990 : (Jvm.Cond.privateMethod ({ cls := "MarkHouseModel", name := "changed", desc := "()V" } : Jvm.MethodName)) ∈ lw_tbl := lw_at lw_m12 108 rfl
theorem q2991 : (Jvm.Cond.instanceMethod ({ cls := "MarkHouseModel", name := "changed", desc := "()V" } : Jvm.MethodName)) ∈ lw_all := lw_g (lw_at lw_m12 109 rfl) rfl
theorem q2992 : (Jvm.Cond.code ({ cls := "MarkHouseModel", name := "changed", desc := "()V" } : Jvm.MethodName) prog_18_method_149_code (1 : Nat) (Option.none : Option Jvm.ClassFile.FieldType)) ∈ lw_all := lw_g (lw_at lw_m12 110 rfl) rfl
theorem q2993 : (Jvm.Cond.methodLink "MarkHouseModel" (640 : Nat) ({ cls := "MarkHouseModel", name := "cut", desc := "(I)V" } : Jvm.MethodName)) ∈ lw_all := lw_g (lw_at lw_m12 111 rfl) rfl
theorem q2994 : (Jvm.Cond.privateMethod ({ cls := "MarkHouseModel", name := "cut", desc := "(I)V" } : Jvm.MethodName)) ∈ lw_tbl := lw_at lw_m12 112 rfl
theorem q2995 : (Jvm.Cond.instanceMethod ({ cls := "MarkHouseModel", name := "cut", desc := "(I)V" } : Jvm.MethodName)) ∈ lw_all := lw_g (lw_at lw_m12 113 rfl) rfl
theorem q2996 : (Jvm.Cond.code ({ cls := "MarkHouseModel", name := "cut", desc := "(I)V" } : Jvm.MethodName) prog_18_method_24_code (8 : Nat) (Option.none : Option Jvm.ClassFile.FieldType)) ∈ lw_all := lw_g (lw_at lw_m12 114 rfl) rfl
theorem q2997 : (Jvm.Cond.methodLink "MarkHouseModel" (425 : Nat) ({ cls := "MarkHouseModel", name := "isLetter", desc := "(I)Z" } : Jvm.MethodName)) ∈ lw_all := lw_g (lw_at lw_m12 115 rfl) rfl
theorem q2998 : (Jvm.Cond.static ({ cls := "MarkHouseModel", name := "isLetter", desc := "(I)Z" } : Jvm.MethodName)) ∈ lw_all := lw_g (lw_at lw_m12 116 rfl) rfl
theorem q2999 : (Jvm.Cond.code ({ cls := "MarkHouseModel", name := "isLetter", desc := "(I)Z" } : Jvm.MethodName) prog_18_method_17_code (1 : Nat) (Option.some Jvm.ClassFile.FieldType.boolean)) ∈ lw_all := lw_g (lw_at lw_m12 117 rfl) rfl
theorem q3000 : (Jvm.Cond.methodLink "MarkHouseModel" (429 : Nat) ({ cls := "MarkHouseModel", name := "isDigit", desc := "(I)Z" } : Jvm.MethodName)) ∈ lw_all := lw_g (lw_at lw_m12 118 rfl) rfl
theorem q3001 : (Jvm.Cond.static ({ cls := "MarkHouseModel", name := "isDigit", desc := "(I)Z" } : Jvm.MethodName)) ∈ lw_all := lw_g (lw_at lw_m12 119 rfl) rfl
theorem q3002 : (Jvm.Cond.code ({ cls := "MarkHouseModel", name := "isDigit", desc := "(I)Z" } : Jvm.MethodName) prog_18_method_18_code (1 : Nat) (Option.some Jvm.ClassFile.FieldType.boolean)) ∈ lw_all := lw_g (lw_at lw_m12 120 rfl) rfl
theorem q3003 : (Jvm.Cond.methodLink "MarkHouseModel" (432 : Nat) ({ cls := "MarkHouseModel", name := "fault", desc := "(II)V" } : Jvm.MethodName)) ∈ lw_all := lw_g (lw_at lw_m12 121 rfl) rfl
theorem q3004 : (Jvm.Cond.privateMethod ({ cls := "MarkHouseModel", name := "fault", desc := "(II)V" } : Jvm.MethodName)) ∈ lw_tbl := lw_at lw_m12 122 rfl
theorem q3005 : (Jvm.Cond.instanceMethod ({ cls := "MarkHouseModel", name := "fault", desc := "(II)V" } : Jvm.MethodName)) ∈ lw_all := lw_g (lw_at lw_m12 123 rfl) rfl
theorem q3006 : (Jvm.Cond.code ({ cls := "MarkHouseModel", name := "fault", desc := "(II)V" } : Jvm.MethodName) prog_18_method_20_code (3 : Nat) (Option.none : Option Jvm.ClassFile.FieldType)) ∈ lw_all := lw_g (lw_at lw_m12 124 rfl) rfl
theorem q3007 : (Jvm.Cond.methodLink "MarkHouseModel" (436 : Nat) ({ cls := "MarkHouseModel", name := "wordOf", desc := "(J)I" } : Jvm.MethodName)) ∈ lw_all := lw_g (lw_at lw_m12 125 rfl) rfl
theorem q3008 : (Jvm.Cond.privateMethod ({ cls := "MarkHouseModel", name := "wordOf", desc := "(J)I" } : Jvm.MethodName)) ∈ lw_tbl := lw_at lw_m12 126 rfl
theorem q3009 : (Jvm.Cond.instanceMethod ({ cls := "MarkHouseModel", name := "wordOf", desc := "(J)I" } : Jvm.MethodName)) ∈ lw_all := lw_g (lw_at lw_m12 127 rfl) rfl
theorem q3010 : (Jvm.Cond.code ({ cls := "MarkHouseModel", name := "wordOf", desc := "(J)I" } : Jvm.MethodName) prog_18_method_23_code (4 : Nat) (Option.some Jvm.ClassFile.FieldType.int)) ∈ lw_all := lw_g (lw_at lw_m12 128 rfl) rfl
theorem q3011 : (Jvm.Cond.methodLink "MarkHouseModel" (421 : Nat) ({ cls := "MarkHouseModel", name := "packed", desc := "(Ljava/lang/String;)J" } : Jvm.MethodName)) ∈ lw_all := lw_g (lw_at lw_m12 129 rfl) rfl
theorem q3012 : (Jvm.Cond.static ({ cls := "MarkHouseModel", name := "packed", desc := "(Ljava/lang/String;)J" } : Jvm.MethodName)) ∈ lw_all := lw_g (lw_at lw_m12 130 rfl) rfl
theorem q3013 : (Jvm.Cond.code ({ cls := "MarkHouseModel", name := "packed", desc := "(Ljava/lang/String;)J" } : Jvm.MethodName) prog_18_method_22_code (4 : Nat) (Option.some Jvm.ClassFile.FieldType.long)) ∈ lw_all := lw_g (lw_at lw_m12 131 rfl) rfl
theorem q3014 : (Jvm.Cond.methodLink "MarkHouseModel" (385 : Nat) ({ cls := "java/lang/String", name := "length", desc := "()I" } : Jvm.MethodName)) ∈ lw_all := lw_g (lw_at lw_m12 132 rfl) rfl
theorem q3015 : (Jvm.Cond.methodLink "MarkHouseModel" (389 : Nat) ({ cls := "java/lang/String", name := "charAt", desc := "(I)C" } : Jvm.MethodName)) ∈ lw_all := lw_g (lw_at lw_m12 133 rfl) rfl
theorem q3016 : (Jvm.Cond.methodLink "MarkHouseModel" (440 : Nat) ({ cls := "MarkHouseModel", name := "lexeme", desc := "(IIJ)V" } : Jvm.MethodName)) ∈ lw_all := lw_g (lw_at lw_m12 134 rfl) rfl
theorem q3017 : (Jvm.Cond.privateMethod ({ cls := "MarkHouseModel", name := "lexeme", desc := "(IIJ)V" } : Jvm.MethodName)) ∈ lw_tbl := lw_at lw_m12 135 rfl
theorem q3018 : (Jvm.Cond.instanceMethod ({ cls := "MarkHouseModel", name := "lexeme", desc := "(IIJ)V" } : Jvm.MethodName)) ∈ lw_all := lw_g (lw_at lw_m12 136 rfl) rfl
theorem q3019 : (Jvm.Cond.code ({ cls := "MarkHouseModel", name := "lexeme", desc := "(IIJ)V" } : Jvm.MethodName) prog_18_method_21_code (5 : Nat) (Option.none : Option Jvm.ClassFile.FieldType)) ∈ lw_all := lw_g (lw_at lw_m12 137 rfl) rfl
theorem q3020 : (Jvm.Cond.constantLong "MarkHouseModel" (374 : Nat) (10 : Int64)) ∈ lw_all := lw_g (lw_at lw_m12 138 rfl) rfl
theorem q3021 : (Jvm.Cond.constantLong "MarkHouseModel" (376 : Nat) (48 : Int64)) ∈ lw_all := lw_g (lw_at lw_m12 139 rfl) rfl
theorem q3022 : (Jvm.Cond.methodLink "MarkHouseModel" (444 : Nat) ({ cls := "MarkHouseModel", name := "isSign", desc := "(I)Z" } : Jvm.MethodName)) ∈ lw_all := lw_g (lw_at lw_m12 140 rfl) rfl
theorem q3023 : (Jvm.Cond.static ({ cls := "MarkHouseModel", name := "isSign", desc := "(I)Z" } : Jvm.MethodName)) ∈ lw_all := lw_g (lw_at lw_m12 141 rfl) rfl
theorem q3024 : (Jvm.Cond.code ({ cls := "MarkHouseModel", name := "isSign", desc := "(I)Z" } : Jvm.MethodName) prog_18_method_19_code (1 : Nat) (Option.some Jvm.ClassFile.FieldType.boolean)) ∈ lw_all := lw_g (lw_at lw_m12 142 rfl) rfl
theorem q3025 : (Jvm.Cond.methodLink "MarkHouseModel" (643 : Nat) ({ cls := "MarkHouseModel", name := "readProgram", desc := "()V" } : Jvm.MethodName)) ∈ lw_all := lw_g (lw_at lw_m12 143 rfl) rfl
theorem q3026 : (Jvm.Cond.privateMethod ({ cls := "MarkHouseModel", name := "readProgram", desc := "()V" } : Jvm.MethodName)) ∈ lw_tbl := lw_at lw_m12 144 rfl
theorem q3027 : (Jvm.Cond.instanceMethod ({ cls := "MarkHouseModel", name := "readProgram", desc := "()V" } : Jvm.MethodName)) ∈ lw_all := lw_g (lw_at lw_m12 145 rfl) rfl
theorem q3028 : (Jvm.Cond.code ({ cls := "MarkHouseModel", name := "readProgram", desc := "()V" } : Jvm.MethodName) prog_18_method_40_code (2 : Nat) (Option.none : Option Jvm.ClassFile.FieldType)) ∈ lw_all := lw_g (lw_at lw_m12 146 rfl) rfl
theorem q3029 : (Jvm.Cond.methodLink "MarkHouseModel" (490 : Nat) ({ cls := "MarkHouseModel", name := "mayWord", desc := "(I)Z" } : Jvm.MethodName)) ∈ lw_all := lw_g (lw_at lw_m12 147 rfl) rfl
theorem q3030 : (Jvm.Cond.privateMethod ({ cls := "MarkHouseModel", name := "mayWord", desc := "(I)Z" } : Jvm.MethodName)) ∈ lw_tbl := lw_at lw_m12 148 rfl
theorem q3031 : (Jvm.Cond.instanceMethod ({ cls := "MarkHouseModel", name := "mayWord", desc := "(I)Z" } : Jvm.MethodName)) ∈ lw_all := lw_g (lw_at lw_m12 149 rfl) rfl
theorem q3032 : (Jvm.Cond.code ({ cls := "MarkHouseModel", name := "mayWord", desc := "(I)Z" } : Jvm.MethodName) prog_18_method_34_code (2 : Nat) (Option.some Jvm.ClassFile.FieldType.boolean)) ∈ lw_all := lw_g (lw_at lw_m12 150 rfl) rfl
theorem q3033 : (Jvm.Cond.methodLink "MarkHouseModel" (474 : Nat) ({ cls := "MarkHouseModel", name := "isWord", desc := "(I)Z" } : Jvm.MethodName)) ∈ lw_all := lw_g (lw_at lw_m12 151 rfl) rfl
theorem q3034 : (Jvm.Cond.privateMethod ({ cls := "MarkHouseModel", name := "isWord", desc := "(I)Z" } : Jvm.MethodName)) ∈ lw_tbl := lw_at lw_m12 152 rfl
theorem q3035 : (Jvm.Cond.instanceMethod ({ cls := "MarkHouseModel", name := "isWord", desc := "(I)Z" } : Jvm.MethodName)) ∈ lw_all := lw_g (lw_at lw_m12 153 rfl) rfl
theorem q3036 : (Jvm.Cond.code ({ cls := "MarkHouseModel", name := "isWord", desc := "(I)Z" } : Jvm.MethodName) prog_18_method_32_code (2 : Nat) (Option.some Jvm.ClassFile.FieldType.boolean)) ∈ lw_all := lw_g (lw_at lw_m12 154 rfl) rfl
theorem q3037 : (Jvm.Cond.methodLink "MarkHouseModel" (493 : Nat) ({ cls := "MarkHouseModel", name := "readOrder", desc := "()V" } : Jvm.MethodName)) ∈ lw_all := lw_g (lw_at lw_m12 155 rfl) rfl
theorem q3038 : (Jvm.Cond.privateMethod ({ cls := "MarkHouseModel", name := "readOrder", desc := "()V" } : Jvm.MethodName)) ∈ lw_tbl := lw_at lw_m12 156 rfl
theorem q3039 : (Jvm.Cond.instanceMethod ({ cls := "MarkHouseModel", name := "readOrder", desc := "()V" } : Jvm.MethodName)) ∈ lw_all := lw_g (lw_at lw_m12 157 rfl) rfl
theorem q3040 : (Jvm.Cond.code ({ cls := "MarkHouseModel", name := "readOrder", desc := "()V" } : Jvm.MethodName) prog_18_method_44_code (8 : Nat) (Option.none : Option Jvm.ClassFile.FieldType)) ∈ lw_all := lw_g (lw_at lw_m12 158 rfl) rfl
theorem q3041 : (Jvm.Cond.methodLink "MarkHouseModel" (517 : Nat) ({ cls := "MarkHouseModel", name := "newName", desc := "(II)J" } : Jvm.MethodName)) ∈ lw_all := lw_g (lw_at lw_m12 159 rfl) rfl
theorem q3042 : (Jvm.Cond.privateMethod ({ cls := "MarkHouseModel", name := "newName", desc := "(II)J" } : Jvm.MethodName)) ∈ lw_tbl := lw_at lw_m12 160 rfl
theorem q3043 : (Jvm.Cond.instanceMethod ({ cls := "MarkHouseModel", name := "newName", desc := "(II)J" } : Jvm.MethodName)) ∈ lw_all := lw_g (lw_at lw_m12 161 rfl) rfl
theorem q3044 : (Jvm.Cond.code ({ cls := "MarkHouseModel", name := "newName", desc := "(II)J" } : Jvm.MethodName) prog_18_method_41_code (6 : Nat) (Option.some Jvm.ClassFile.FieldType.long)) ∈ lw_all := lw_g (lw_at lw_m12 162 rfl) rfl
theorem q3045 : (Jvm.Cond.methodLink "MarkHouseModel" (505 : Nat) ({ cls := "MarkHouseModel", name := "wantName", desc := "()J" } : Jvm.MethodName)) ∈ lw_all := lw_g (lw_at lw_m12 163 rfl) rfl
theorem q3046 : (Jvm.Cond.privateMethod ({ cls := "MarkHouseModel", name := "wantName", desc := "()J" } : Jvm.MethodName)) ∈ lw_tbl := lw_at lw_m12 164 rfl
theorem q3047 : (Jvm.Cond.instanceMethod ({ cls := "MarkHouseModel", name := "wantName", desc := "()J" } : Jvm.MethodName)) ∈ lw_all := lw_g (lw_at lw_m12 165 rfl) rfl
theorem q3048 : (Jvm.Cond.code ({ cls := "MarkHouseModel", name := "wantName", desc := "()J" } : Jvm.MethodName) prog_18_method_38_code (1 : Nat) (Option.some Jvm.ClassFile.FieldType.long)) ∈ lw_all := lw_g (lw_at lw_m12 166 rfl) rfl
theorem q3049 : (Jvm.Cond.methodLink "MarkHouseModel" (480 : Nat) ({ cls := "MarkHouseModel", name := "cant", desc := "()V" } : Jvm.MethodName)) ∈ lw_all := lw_g (lw_at lw_m12 167 rfl) rfl
theorem q3050 : (Jvm.Cond.privateMethod ({ cls := "MarkHouseModel", name := "cant", desc := "()V" } : Jvm.MethodName)) ∈ lw_tbl := lw_at lw_m12 168 rfl
theorem q3051 : (Jvm.Cond.instanceMethod ({ cls := "MarkHouseModel", name := "cant", desc := "()V" } : Jvm.MethodName)) ∈ lw_all := lw_g (lw_at lw_m12 169 rfl) rfl
theorem q3052 : (Jvm.Cond.code ({ cls := "MarkHouseModel", name := "cant", desc := "()V" } : Jvm.MethodName) prog_18_method_36_code (1 : Nat) (Option.none : Option Jvm.ClassFile.FieldType)) ∈ lw_all := lw_g (lw_at lw_m12 170 rfl) rfl
theorem q3053 : (Jvm.Cond.methodLink "MarkHouseModel" (509 : Nat) ({ cls := "MarkHouseModel", name := "isTaken", desc := "(J)Z" } : Jvm.MethodName)) ∈ lw_all := lw_g (lw_at lw_m12 171 rfl) rfl
theorem q3054 : (Jvm.Cond.privateMethod ({ cls := "MarkHouseModel", name := "isTaken", desc := "(J)Z" } : Jvm.MethodName)) ∈ lw_tbl := lw_at lw_m12 172 rfl
theorem q3055 : (Jvm.Cond.instanceMethod ({ cls := "MarkHouseModel", name := "isTaken", desc := "(J)Z" } : Jvm.MethodName)) ∈ lw_all := lw_g (lw_at lw_m12 173 rfl) rfl
theorem q3056 : (Jvm.Cond.code ({ cls := "MarkHouseModel", name := "isTaken", desc := "(J)Z" } : Jvm.MethodName) prog_18_method_29_code (3 : Nat) (Option.some Jvm.ClassFile.FieldType.boolean)) ∈ lw_all := lw_g (lw_at lw_m12 174 rfl) rfl
theorem q3057 : (Jvm.Cond.methodLink "MarkHouseModel" (459 : Nat) ({ cls := "MarkHouseModel", name := "orderOf", desc := "(J)I" } : Jvm.MethodName)) ∈ lw_all := lw_g (lw_at lw_m12 175 rfl) rfl
theorem q3058 : (Jvm.Cond.privateMethod ({ cls := "MarkHouseModel", name := "orderOf", desc := "(J)I" } : Jvm.MethodName)) ∈ lw_tbl := lw_at lw_m12 176 rfl
theorem q3059 : (Jvm.Cond.instanceMethod ({ cls := "MarkHouseModel", name := "orderOf", desc := "(J)I" } : Jvm.MethodName)) ∈ lw_all := lw_g (lw_at lw_m12 177 rfl) rfl
theorem q3060 : (Jvm.Cond.code ({ cls := "MarkHouseModel", name := "orderOf", desc := "(J)I" } : Jvm.MethodName) prog_18_method_25_code (4 : Nat) (Option.some Jvm.ClassFile.FieldType.int)) ∈ lw_all := lw_g (lw_at lw_m12 178 rfl) rfl
theorem q3061 : (Jvm.Cond.methodLink "MarkHouseModel" (462 : Nat) ({ cls := "MarkHouseModel", name := "kindOf", desc := "(J)I" } : Jvm.MethodName)) ∈ lw_all := lw_g (lw_at lw_m12 179 rfl) rfl
theorem q3062 : (Jvm.Cond.privateMethod ({ cls := "MarkHouseModel", name := "kindOf", desc := "(J)I" } : Jvm.MethodName)) ∈ lw_tbl := lw_at lw_m12 180 rfl
theorem q3063 : (Jvm.Cond.instanceMethod ({ cls := "MarkHouseModel", name := "kindOf", desc := "(J)I" } : Jvm.MethodName)) ∈ lw_all := lw_g (lw_at lw_m12 181 rfl) rfl
theorem q3064 : (Jvm.Cond.code ({ cls := "MarkHouseModel", name := "kindOf", desc := "(J)I" } : Jvm.MethodName) prog_18_method_26_code (4 : Nat) (Option.some Jvm.ClassFile.FieldType.int)) ∈ lw_all := lw_g (lw_at lw_m12 182 rfl) rfl
theorem q3065 : (Jvm.Cond.methodLink "MarkHouseModel" (465 : Nat) ({ cls := "MarkHouseModel", name := "makerOf", desc := "(J)I" } : Jvm.MethodName)) ∈ lw_all := lw_g (lw_at lw_m12 183 rfl) rfl
theorem q3066 : (Jvm.Cond.privateMethod ({ cls := "MarkHouseModel", name := "makerOf", desc := "(J)I" } : Jvm.MethodName)) ∈ lw_tbl := lw_at lw_m12 184 rfl
theorem q3067 : (Jvm.Cond.instanceMethod ({ cls := "MarkHouseModel", name := "makerOf", desc := "(J)I" } : Jvm.MethodName)) ∈ lw_all := lw_g (lw_at lw_m12 185 rfl) rfl
theorem q3068 : (Jvm.Cond.code ({ cls := "MarkHouseModel", name := "makerOf", desc := "(J)I" } : Jvm.MethodName) prog_18_method_27_code (4 : Nat) (Option.some Jvm.ClassFile.FieldType.int)) ∈ lw_all := lw_g (lw_at lw_m12 186 rfl) rfl
theorem q3069 : (Jvm.Cond.methodLink "MarkHouseModel" (468 : Nat) ({ cls := "MarkHouseModel", name := "classOf", desc := "(J)I" } : Jvm.MethodName)) ∈ lw_all := lw_g (lw_at lw_m12 187 rfl) rfl
theorem q3070 : (Jvm.Cond.privateMethod ({ cls := "MarkHouseModel", name := "classOf", desc := "(J)I" } : Jvm.MethodName)) ∈ lw_tbl := lw_at lw_m12 188 rfl
theorem q3071 : (Jvm.Cond.instanceMethod ({ cls := "MarkHouseModel", name := "classOf", desc := "(J)I" } : Jvm.MethodName)) ∈ lw_all := lw_g (lw_at lw_m12 189 rfl) rfl
theorem q3072 : (Jvm.Cond.code ({ cls := "MarkHouseModel", name := "classOf", desc := "(J)I" } : Jvm.MethodName) prog_18_method_28_code (4 : Nat) (Option.some Jvm.ClassFile.FieldType.int)) ∈ lw_all := lw_g (lw_at lw_m12 190 rfl) rfl
theorem q3073 : (Jvm.Cond.methodLink "MarkHouseModel" (521 : Nat) ({ cls := "MarkHouseModel", name := "wantSign", desc := "(I)V" } : Jvm.MethodName)) ∈ lw_all := lw_g (lw_at lw_m12 191 rfl) rfl
theorem q3074 : (Jvm.Cond.privateMethod ({ cls := "MarkHouseModel", name := "wantSign", desc := "(I)V" } : Jvm.MethodName)) ∈ lw_tbl := lw_at lw_m12 192 rfl
theorem q3075 : (Jvm.Cond.instanceMethod ({ cls := "MarkHouseModel", name := "wantSign", desc := "(I)V" } : Jvm.MethodName)) ∈ lw_all := lw_g (lw_at lw_m12 193 rfl) rfl
theorem q3076 : (Jvm.Cond.code ({ cls := "MarkHouseModel", name := "wantSign", desc := "(I)V" } : Jvm.MethodName) prog_18_method_37_code (2 : Nat) (Option.none : Option Jvm.ClassFile.FieldType)) ∈ lw_all := lw_g (lw_at lw_m12 194 rfl) rfl
theorem q3077 : (Jvm.Cond.methodLink "MarkHouseModel" (477 : Nat) ({ cls := "MarkHouseModel", name := "isSignHere", desc := "(I)Z" } : Jvm.MethodName)) ∈ lw_all := lw_g (lw_at lw_m12 195 rfl) rfl
theorem q3078 : (Jvm.Cond.privateMethod ({ cls := "MarkHouseModel", name := "isSignHere", desc := "(I)Z" } : Jvm.MethodName)) ∈ lw_tbl := lw_at lw_m12 196 rfl
theorem q3079 : (Jvm.Cond.instanceMethod ({ cls := "MarkHouseModel", name := "isSignHere", desc := "(I)Z" } : Jvm.MethodName)) ∈ lw_all := lw_g (lw_at lw_m12 197 rfl) rfl
theorem q3080 : (Jvm.Cond.code ({ cls := "MarkHouseModel", name := "isSignHere", desc := "(I)Z" } : Jvm.MethodName) prog_18_method_33_code (2 : Nat) (Option.some Jvm.ClassFile.FieldType.boolean)) ∈ lw_all := lw_g (lw_at lw_m12 198 rfl) rfl
theorem q3081 : (Jvm.Cond.methodLink "MarkHouseModel" (524 : Nat) ({ cls := "MarkHouseModel", name := "cell", desc := "(III)I" } : Jvm.MethodName)) ∈ lw_all := lw_g (lw_at lw_m12 199 rfl) rfl
theorem q3082 : (Jvm.Cond.privateMethod ({ cls := "MarkHouseModel", name := "cell", desc := "(III)I" } : Jvm.MethodName)) ∈ lw_tbl := lw_at lw_m12 200 rfl
theorem q3083 : (Jvm.Cond.instanceMethod ({ cls := "MarkHouseModel", name := "cell", desc := "(III)I" } : Jvm.MethodName)) ∈ lw_all := lw_g (lw_at lw_m12 201 rfl) rfl
theorem q3084 : (Jvm.Cond.code ({ cls := "MarkHouseModel", name := "cell", desc := "(III)I" } : Jvm.MethodName) prog_18_method_43_code (4 : Nat) (Option.some Jvm.ClassFile.FieldType.int)) ∈ lw_all := lw_g (lw_at lw_m12 202 rfl) rfl
theorem q3085 : (Jvm.Cond.methodLink "MarkHouseModel" (528 : Nat) ({ cls := "MarkHouseModel", name := "element", desc := "(I)I" } : Jvm.MethodName)) ∈ lw_all := lw_g (lw_at lw_m12 203 rfl) rfl
theorem q3086 : (Jvm.Cond.privateMethod ({ cls := "MarkHouseModel", name := "element", desc := "(I)I" } : Jvm.MethodName)) ∈ lw_tbl := lw_at lw_m12 204 rfl
theorem q3087 : (Jvm.Cond.instanceMethod ({ cls := "MarkHouseModel", name := "element", desc := "(I)I" } : Jvm.MethodName)) ∈ lw_all := lw_g (lw_at lw_m12 205 rfl) rfl
theorem q3088 : (Jvm.Cond.code ({ cls := "MarkHouseModel", name := "element", desc := "(I)I" } : Jvm.MethodName) prog_18_method_42_code (6 : Nat) (Option.some Jvm.ClassFile.FieldType.int)) ∈ lw_all := lw_g (lw_at lw_m12 206 rfl) rfl
theorem q3089 : (Jvm.Cond.methodLink "MarkHouseModel" (513 : Nat) ({ cls := "MarkHouseModel", name := "elementOf", desc := "(IJ)I" } : Jvm.MethodName)) ∈ lw_all := lw_g (lw_at lw_m12 207 rfl) rfl
theorem q3090 : (Jvm.Cond.privateMethod ({ cls := "MarkHouseModel", name := "elementOf", desc := "(IJ)I" } : Jvm.MethodName)) ∈ lw_tbl := lw_at lw_m12 208 rfl
theorem q3091 : (Jvm.Cond.instanceMethod ({ cls := "MarkHouseModel", name := "elementOf", desc := "(IJ)I" } : Jvm.MethodName)) ∈ lw_all := lw_g (lw_at lw_m12 209 rfl) rfl
theorem q3092 : (Jvm.Cond.code ({ cls := "MarkHouseModel", name := "elementOf", desc := "(IJ)I" } : Jvm.MethodName) prog_18_method_30_code (5 : Nat) (Option.some Jvm.ClassFile.FieldType.int)) ∈ lw_all := lw_g (lw_at lw_m12 210 rfl) rfl
theorem q3093 : (Jvm.Cond.methodLink "MarkHouseModel" (483 : Nat) ({ cls := "MarkHouseModel", name := "maySign", desc := "(I)Z" } : Jvm.MethodName)) ∈ lw_all := lw_g (lw_at lw_m12 211 rfl) rfl
theorem q3094 : (Jvm.Cond.privateMethod ({ cls := "MarkHouseModel", name := "maySign", desc := "(I)Z" } : Jvm.MethodName)) ∈ lw_tbl := lw_at lw_m12 212 rfl
theorem q3095 : (Jvm.Cond.instanceMethod ({ cls := "MarkHouseModel", name := "maySign", desc := "(I)Z" } : Jvm.MethodName)) ∈ lw_all := lw_g (lw_at lw_m12 213 rfl) rfl
theorem q3096 : (Jvm.Cond.code ({ cls := "MarkHouseModel", name := "maySign", desc := "(I)Z" } : Jvm.MethodName) prog_18_method_35_code (2 : Nat) (Option.some Jvm.ClassFile.FieldType.boolean)) ∈ lw_all := lw_g (lw_at lw_m12 214 rfl) rfl
theorem q3097 : (Jvm.Cond.methodLink "MarkHouseModel" (532 : Nat) ({ cls := "MarkHouseModel", name := "isLattice", desc := "(I)Z" } : Jvm.MethodName)) ∈ lw_all := lw_g (lw_at lw_m12 215 rfl) rfl
theorem q3098 : (Jvm.Cond.privateMethod ({ cls := "MarkHouseModel", name := "isLattice", desc := "(I)Z" } : Jvm.MethodName)) ∈ lw_tbl := lw_at lw_m12 216 rfl
theorem q3099 : (Jvm.Cond.instanceMethod ({ cls := "MarkHouseModel", name := "isLattice", desc := "(I)Z" } : Jvm.MethodName)) ∈ lw_all := lw_g (lw_at lw_m12 217 rfl) rfl
theorem q3100 : (Jvm.Cond.code ({ cls := "MarkHouseModel", name := "isLattice", desc := "(I)Z" } : Jvm.MethodName) prog_18_method_47_code (8 : Nat) (Option.some Jvm.ClassFile.FieldType.boolean)) ∈ lw_all := lw_g (lw_at lw_m12 218 rfl) rfl
theorem q3101 : (Jvm.Cond.methodLink "MarkHouseModel" (535 : Nat) ({ cls := "MarkHouseModel", name := "below", desc := "(III)Z" } : Jvm.MethodName)) ∈ lw_all := lw_g (lw_at lw_m12 219 rfl) rfl
theorem q3102 : (Jvm.Cond.privateMethod ({ cls := "MarkHouseModel", name := "below", desc := "(III)Z" } : Jvm.MethodName)) ∈ lw_tbl := lw_at lw_m12 220 rfl
theorem q3103 : (Jvm.Cond.instanceMethod ({ cls := "MarkHouseModel", name := "below", desc := "(III)Z" } : Jvm.MethodName)) ∈ lw_all := lw_g (lw_at lw_m12 221 rfl) rfl
theorem q3104 : (Jvm.Cond.code ({ cls := "MarkHouseModel", name := "below", desc := "(III)Z" } : Jvm.MethodName) prog_18_method_45_code (4 : Nat) (Option.some Jvm.ClassFile.FieldType.boolean)) ∈ lw_all := lw_g (lw_at lw_m12 222 rfl) rfl
theorem q3105 : (Jvm.Cond.methodLink "MarkHouseModel" (539 : Nat) ({ cls := "MarkHouseModel", name := "least", desc := "(IIIZ)I" } : Jvm.MethodName)) ∈ lw_all := lw_g (lw_at lw_m12 223 rfl) rfl
theorem q3106 : (Jvm.Cond.privateMethod ({ cls := "MarkHouseModel", name := "least", desc := "(IIIZ)I" } : Jvm.MethodName)) ∈ lw_tbl := lw_at lw_m12 224 rfl
theorem q3107 : (Jvm.Cond.instanceMethod ({ cls := "MarkHouseModel", name := "least", desc := "(IIIZ)I" } : Jvm.MethodName)) ∈ lw_all := lw_g (lw_at lw_m12 225 rfl) rfl
theorem q3108 : (Jvm.Cond.code ({ cls := "MarkHouseModel", name := "least", desc := "(IIIZ)I" } : Jvm.MethodName) prog_18_method_46_code (10 : Nat) (Option.some Jvm.ClassFile.FieldType.int)) ∈ lw_all := lw_g (lw_at lw_m12 226 rfl) rfl
theorem q3109 : (Jvm.Cond.methodLink "MarkHouseModel" (496 : Nat) ({ cls := "MarkHouseModel", name := "readKind", desc := "()V" } : Jvm.MethodName)) ∈ lw_all := lw_g (lw_at lw_m12 227 rfl) rfl
theorem q3110 : (Jvm.Cond.privateMethod ({ cls := "MarkHouseModel", name := "readKind", desc := "()V" } : Jvm.MethodName)) ∈ lw_tbl := lw_at lw_m12 228 rfl
theorem q3111 : (Jvm.Cond.instanceMethod ({ cls := "MarkHouseModel", name := "readKind", desc := "()V" } : Jvm.MethodName)) ∈ lw_all := lw_g (lw_at lw_m12 229 rfl) rfl
theorem q3112 : (Jvm.Cond.code ({ cls := "MarkHouseModel", name := "readKind", desc := "()V" } : Jvm.MethodName) prog_18_method_58_code (5 : Nat) (Option.none : Option Jvm.ClassFile.FieldType)) ∈ lw_all := lw_g (lw_at lw_m12 230 rfl) rfl
theorem q3113 : (Jvm.Cond.methodLink "MarkHouseModel" (575 : Nat) ({ cls := "MarkHouseModel", name := "readMember", desc := "(I)V" } : Jvm.MethodName)) ∈ lw_all := lw_g (lw_at lw_m12 231 rfl) rfl
theorem q3114 : (Jvm.Cond.privateMethod ({ cls := "MarkHouseModel", name := "readMember", desc := "(I)V" } : Jvm.MethodName)) ∈ lw_tbl := lw_at lw_m12 232 rfl
theorem q3115 : (Jvm.Cond.instanceMethod ({ cls := "MarkHouseModel", name := "readMember", desc := "(I)V" } : Jvm.MethodName)) ∈ lw_all := lw_g (lw_at lw_m12 233 rfl) rfl
theorem q3116 : (Jvm.Cond.code ({ cls := "MarkHouseModel", name := "readMember", desc := "(I)V" } : Jvm.MethodName) prog_18_method_59_code (6 : Nat) (Option.none : Option Jvm.ClassFile.FieldType)) ∈ lw_all := lw_g (lw_at lw_m12 234 rfl) rfl
theorem q3117 : (Jvm.Cond.methodLink "MarkHouseModel" (568 : Nat) ({ cls := "MarkHouseModel", name := "memberOf", desc := "(IJ)I" } : Jvm.MethodName)) ∈ lw_all := lw_g (lw_at lw_m12 235 rfl) rfl
theorem q3118 : (Jvm.Cond.privateMethod ({ cls := "MarkHouseModel", name := "memberOf", desc := "(IJ)I" } : Jvm.MethodName)) ∈ lw_tbl := lw_at lw_m12 236 rfl
theorem q3119 : (Jvm.Cond.instanceMethod ({ cls := "MarkHouseModel", name := "memberOf", desc := "(IJ)I" } : Jvm.MethodName)) ∈ lw_all := lw_g (lw_at lw_m12 237 rfl) rfl
theorem q3120 : (Jvm.Cond.code ({ cls := "MarkHouseModel", name := "memberOf", desc := "(IJ)I" } : Jvm.MethodName) prog_18_method_31_code (5 : Nat) (Option.some Jvm.ClassFile.FieldType.int)) ∈ lw_all := lw_g (lw_at lw_m12 238 rfl) rfl
theorem q3121 : (Jvm.Cond.methodLink "MarkHouseModel" (571 : Nat) ({ cls := "MarkHouseModel", name := "wantValue", desc := "(ZZ)V" } : Jvm.MethodName)) ∈ lw_all := lw_g (lw_at lw_m12 239 rfl) rfl
theorem q3122 : (Jvm.Cond.privateMethod ({ cls := "MarkHouseModel", name := "wantValue", desc := "(ZZ)V" } : Jvm.MethodName)) ∈ lw_tbl := lw_at lw_m13 0 rfl
theorem q3123 : (Jvm.Cond.instanceMethod ({ cls := "MarkHouseModel", name := "wantValue", desc := "(ZZ)V" } : Jvm.MethodName)) ∈ lw_all := lw_g (lw_at lw_m13 1 rfl) rfl
theorem q3124 : (Jvm.Cond.code ({ cls := "MarkHouseModel", name := "wantValue", desc := "(ZZ)V" } : Jvm.MethodName) prog_18_method_39_code (7 : Nat) (Option.none : Option Jvm.ClassFile.FieldType)) ∈ lw_all := lw_g (lw_at lw_m13 2 rfl) rfl
theorem q3125 : (Jvm.Cond.methodLink "MarkHouseModel" (578 : Nat) ({ cls := "MarkHouseModel", name := "sortBit", desc := "(I)I" } : Jvm.MethodName)) ∈ lw_all := lw_g (lw_at lw_m13 3 rfl) rfl
theorem q3126 : (Jvm.Cond.static ({ cls := "MarkHouseModel", name := "sortBit", desc := "(I)I" } : Jvm.MethodName)) ∈ lw_all := lw_g (lw_at lw_m13 4 rfl) rfl
theorem q3127 : (Jvm.Cond.code ({ cls := "MarkHouseModel", name := "sortBit", desc := "(I)I" } : Jvm.MethodName) prog_18_method_57_code (1 : Nat) (Option.some Jvm.ClassFile.FieldType.int)) ∈ lw_all := lw_g (lw_at lw_m13 5 rfl) rfl
theorem q3128 : (Jvm.Cond.methodLink "MarkHouseModel" (581 : Nat) ({ cls := "MarkHouseModel", name := "readMarks", desc := "(IIZZ)V" } : Jvm.MethodName)) ∈ lw_all := lw_g (lw_at lw_m13 6 rfl) rfl
theorem q3129 : (Jvm.Cond.privateMethod ({ cls := "MarkHouseModel", name := "readMarks", desc := "(IIZZ)V" } : Jvm.MethodName)) ∈ lw_tbl := lw_at lw_m13 7 rfl
theorem q3130 : (Jvm.Cond.instanceMethod ({ cls := "MarkHouseModel", name := "readMarks", desc := "(IIZZ)V" } : Jvm.MethodName)) ∈ lw_all := lw_g (lw_at lw_m13 8 rfl) rfl
theorem q3131 : (Jvm.Cond.code ({ cls := "MarkHouseModel", name := "readMarks", desc := "(IIZZ)V" } : Jvm.MethodName) prog_18_method_54_code (5 : Nat) (Option.none : Option Jvm.ClassFile.FieldType)) ∈ lw_all := lw_g (lw_at lw_m13 9 rfl) rfl
theorem q3132 : (Jvm.Cond.methodLink "MarkHouseModel" (547 : Nat) ({ cls := "MarkHouseModel", name := "readMark", desc := "(IIZ)V" } : Jvm.MethodName)) ∈ lw_all := lw_g (lw_at lw_m13 10 rfl) rfl
theorem q3133 : (Jvm.Cond.privateMethod ({ cls := "MarkHouseModel", name := "readMark", desc := "(IIZ)V" } : Jvm.MethodName)) ∈ lw_tbl := lw_at lw_m13 11 rfl
theorem q3134 : (Jvm.Cond.instanceMethod ({ cls := "MarkHouseModel", name := "readMark", desc := "(IIZ)V" } : Jvm.MethodName)) ∈ lw_all := lw_g (lw_at lw_m13 12 rfl) rfl
theorem q3135 : (Jvm.Cond.code ({ cls := "MarkHouseModel", name := "readMark", desc := "(IIZ)V" } : Jvm.MethodName) prog_18_method_55_code (15 : Nat) (Option.none : Option Jvm.ClassFile.FieldType)) ∈ lw_all := lw_g (lw_at lw_m13 13 rfl) rfl
theorem q3136 : (Jvm.Cond.methodLink "MarkHouseModel" (551 : Nat) ({ cls := "MarkHouseModel", name := "hasName", desc := "(IIJ)Z" } : Jvm.MethodName)) ∈ lw_all := lw_g (lw_at lw_m13 14 rfl) rfl
theorem q3137 : (Jvm.Cond.privateMethod ({ cls := "MarkHouseModel", name := "hasName", desc := "(IIJ)Z" } : Jvm.MethodName)) ∈ lw_tbl := lw_at lw_m13 15 rfl
theorem q3138 : (Jvm.Cond.instanceMethod ({ cls := "MarkHouseModel", name := "hasName", desc := "(IIJ)Z" } : Jvm.MethodName)) ∈ lw_all := lw_g (lw_at lw_m13 16 rfl) rfl
theorem q3139 : (Jvm.Cond.code ({ cls := "MarkHouseModel", name := "hasName", desc := "(IIJ)Z" } : Jvm.MethodName) prog_18_method_53_code (7 : Nat) (Option.some Jvm.ClassFile.FieldType.boolean)) ∈ lw_all := lw_g (lw_at lw_m13 17 rfl) rfl
theorem q3140 : (Jvm.Cond.methodLink "MarkHouseModel" (543 : Nat) ({ cls := "MarkHouseModel", name := "place", desc := "(II)I" } : Jvm.MethodName)) ∈ lw_all := lw_g (lw_at lw_m13 18 rfl) rfl
theorem q3141 : (Jvm.Cond.privateMethod ({ cls := "MarkHouseModel", name := "place", desc := "(II)I" } : Jvm.MethodName)) ∈ lw_tbl := lw_at lw_m13 19 rfl
theorem q3142 : (Jvm.Cond.instanceMethod ({ cls := "MarkHouseModel", name := "place", desc := "(II)I" } : Jvm.MethodName)) ∈ lw_all := lw_g (lw_at lw_m13 20 rfl) rfl
theorem q3143 : (Jvm.Cond.code ({ cls := "MarkHouseModel", name := "place", desc := "(II)I" } : Jvm.MethodName) prog_18_method_50_code (3 : Nat) (Option.some Jvm.ClassFile.FieldType.int)) ∈ lw_all := lw_g (lw_at lw_m13 21 rfl) rfl
theorem q3144 : (Jvm.Cond.methodLink "MarkHouseModel" (555 : Nat) ({ cls := "MarkHouseModel", name := "newMark", desc := "(IJZ)V" } : Jvm.MethodName)) ∈ lw_all := lw_g (lw_at lw_m13 22 rfl) rfl
theorem q3145 : (Jvm.Cond.privateMethod ({ cls := "MarkHouseModel", name := "newMark", desc := "(IJZ)V" } : Jvm.MethodName)) ∈ lw_tbl := lw_at lw_m13 23 rfl
theorem q3146 : (Jvm.Cond.instanceMethod ({ cls := "MarkHouseModel", name := "newMark", desc := "(IJZ)V" } : Jvm.MethodName)) ∈ lw_all := lw_g (lw_at lw_m13 24 rfl) rfl
theorem q3147 : (Jvm.Cond.code ({ cls := "MarkHouseModel", name := "newMark", desc := "(IJZ)V" } : Jvm.MethodName) prog_18_method_51_code (6 : Nat) (Option.none : Option Jvm.ClassFile.FieldType)) ∈ lw_all := lw_g (lw_at lw_m13 25 rfl) rfl
theorem q3148 : (Jvm.Cond.constantLong "MarkHouseModel" (559 : Nat) (24948 : Int64)) ∈ lw_all := lw_g (lw_at lw_m13 26 rfl) rfl
theorem q3149 : (Jvm.Cond.methodLink "MarkHouseModel" (561 : Nat) ({ cls := "MarkHouseModel", name := "newPair", desc := "(IJIJ)V" } : Jvm.MethodName)) ∈ lw_all := lw_g (lw_at lw_m13 27 rfl) rfl
theorem q3150 : (Jvm.Cond.privateMethod ({ cls := "MarkHouseModel", name := "newPair", desc := "(IJIJ)V" } : Jvm.MethodName)) ∈ lw_tbl := lw_at lw_m13 28 rfl
theorem q3151 : (Jvm.Cond.instanceMethod ({ cls := "MarkHouseModel", name := "newPair", desc := "(IJIJ)V" } : Jvm.MethodName)) ∈ lw_all := lw_g (lw_at lw_m13 29 rfl) rfl
theorem q3152 : (Jvm.Cond.code ({ cls := "MarkHouseModel", name := "newPair", desc := "(IJIJ)V" } : Jvm.MethodName) prog_18_method_52_code (8 : Nat) (Option.none : Option Jvm.ClassFile.FieldType)) ∈ lw_all := lw_g (lw_at lw_m13 30 rfl) rfl
theorem q3153 : (Jvm.Cond.methodLink "MarkHouseModel" (565 : Nat) ({ cls := "MarkHouseModel", name := "readPairs", desc := "(II)V" } : Jvm.MethodName)) ∈ lw_all := lw_g (lw_at lw_m13 31 rfl) rfl
theorem q3154 : (Jvm.Cond.privateMethod ({ cls := "MarkHouseModel", name := "readPairs", desc := "(II)V" } : Jvm.MethodName)) ∈ lw_tbl := lw_at lw_m13 32 rfl
theorem q3155 : (Jvm.Cond.instanceMethod ({ cls := "MarkHouseModel", name := "readPairs", desc := "(II)V" } : Jvm.MethodName)) ∈ lw_all := lw_g (lw_at lw_m13 33 rfl) rfl
theorem q3156 : (Jvm.Cond.code ({ cls := "MarkHouseModel", name := "readPairs", desc := "(II)V" } : Jvm.MethodName) prog_18_method_56_code (9 : Nat) (Option.none : Option Jvm.ClassFile.FieldType)) ∈ lw_all := lw_g (lw_at lw_m13 34 rfl) rfl
theorem q3157 : (Jvm.Cond.methodLink "MarkHouseModel" (499 : Nat) ({ cls := "MarkHouseModel", name := "readMaker", desc := "()V" } : Jvm.MethodName)) ∈ lw_all := lw_g (lw_at lw_m13 35 rfl) rfl
theorem q3158 : (Jvm.Cond.privateMethod ({ cls := "MarkHouseModel", name := "readMaker", desc := "()V" } : Jvm.MethodName)) ∈ lw_tbl := lw_at lw_m13 36 rfl
theorem q3159 : (Jvm.Cond.instanceMethod ({ cls := "MarkHouseModel", name := "readMaker", desc := "()V" } : Jvm.MethodName)) ∈ lw_all := lw_g (lw_at lw_m13 37 rfl) rfl
theorem q3160 : (Jvm.Cond.code ({ cls := "MarkHouseModel", name := "readMaker", desc := "()V" } : Jvm.MethodName) prog_18_method_60_code (6 : Nat) (Option.none : Option Jvm.ClassFile.FieldType)) ∈ lw_all := lw_g (lw_at lw_m13 38 rfl) rfl
theorem q3161 : (Jvm.Cond.methodLink "MarkHouseModel" (502 : Nat) ({ cls := "MarkHouseModel", name := "readClass", desc := "()V" } : Jvm.MethodName)) ∈ lw_all := lw_g (lw_at lw_m13 39 rfl) rfl
theorem q3162 : (Jvm.Cond.privateMethod ({ cls := "MarkHouseModel", name := "readClass", desc := "()V" } : Jvm.MethodName)) ∈ lw_tbl := lw_at lw_m13 40 rfl
theorem q3163 : (Jvm.Cond.instanceMethod ({ cls := "MarkHouseModel", name := "readClass", desc := "()V" } : Jvm.MethodName)) ∈ lw_all := lw_g (lw_at lw_m13 41 rfl) rfl
theorem q3164 : (Jvm.Cond.code ({ cls := "MarkHouseModel", name := "readClass", desc := "()V" } : Jvm.MethodName) prog_18_method_61_code (7 : Nat) (Option.none : Option Jvm.ClassFile.FieldType)) ∈ lw_all := lw_g (lw_at lw_m13 42 rfl) rfl
theorem q3165 : (Jvm.Cond.methodLink "MarkHouseModel" (585 : Nat) ({ cls := "MarkHouseModel", name := "readField", desc := "(I)V" } : Jvm.MethodName)) ∈ lw_all := lw_g (lw_at lw_m13 43 rfl) rfl
theorem q3166 : (Jvm.Cond.privateMethod ({ cls := "MarkHouseModel", name := "readField", desc := "(I)V" } : Jvm.MethodName)) ∈ lw_tbl := lw_at lw_m13 44 rfl
theorem q3167 : (Jvm.Cond.instanceMethod ({ cls := "MarkHouseModel", name := "readField", desc := "(I)V" } : Jvm.MethodName)) ∈ lw_all := lw_g (lw_at lw_m13 45 rfl) rfl
theorem q3168 : (Jvm.Cond.code ({ cls := "MarkHouseModel", name := "readField", desc := "(I)V" } : Jvm.MethodName) prog_18_method_62_code (6 : Nat) (Option.none : Option Jvm.ClassFile.FieldType)) ∈ lw_all := lw_g (lw_at lw_m13 46 rfl) rfl
theorem q3169 : (Jvm.Cond.methodLink "MarkHouseModel" (588 : Nat) ({ cls := "MarkHouseModel", name := "readMethod", desc := "(I)V" } : Jvm.MethodName)) ∈ lw_all := lw_g (lw_at lw_m13 47 rfl) rfl
theorem q3170 : (Jvm.Cond.privateMethod ({ cls := "MarkHouseModel", name := "readMethod", desc := "(I)V" } : Jvm.MethodName)) ∈ lw_tbl := lw_at lw_m13 48 rfl
theorem q3171 : (Jvm.Cond.instanceMethod ({ cls := "MarkHouseModel", name := "readMethod", desc := "(I)V" } : Jvm.MethodName)) ∈ lw_all := lw_g (lw_at lw_m13 49 rfl) rfl
theorem q3172 : (Jvm.Cond.code ({ cls := "MarkHouseModel", name := "readMethod", desc := "(I)V" } : Jvm.MethodName) prog_18_method_63_code (8 : Nat) (Option.none : Option Jvm.ClassFile.FieldType)) ∈ lw_all := lw_g (lw_at lw_m13 50 rfl) rfl
theorem q3173 : (Jvm.Cond.methodLink "MarkHouseModel" (591 : Nat) ({ cls := "MarkHouseModel", name := "readParameter", desc := "(II)V" } : Jvm.MethodName)) ∈ lw_all := lw_g (lw_at lw_m13 51 rfl) rfl
theorem q3174 : (Jvm.Cond.privateMethod ({ cls := "MarkHouseModel", name := "readParameter", desc := "(II)V" } : Jvm.MethodName)) ∈ lw_tbl := lw_at lw_m13 52 rfl
theorem q3175 : (Jvm.Cond.instanceMethod ({ cls := "MarkHouseModel", name := "readParameter", desc := "(II)V" } : Jvm.MethodName)) ∈ lw_all := lw_g (lw_at lw_m13 53 rfl) rfl
theorem q3176 : (Jvm.Cond.code ({ cls := "MarkHouseModel", name := "readParameter", desc := "(II)V" } : Jvm.MethodName) prog_18_method_64_code (7 : Nat) (Option.none : Option Jvm.ClassFile.FieldType)) ∈ lw_all := lw_g (lw_at lw_m13 54 rfl) rfl
theorem q3177 : (Jvm.Cond.methodLink "MarkHouseModel" (594 : Nat) ({ cls := "MarkHouseModel", name := "readAct", desc := "(I)V" } : Jvm.MethodName)) ∈ lw_all := lw_g (lw_at lw_m13 55 rfl) rfl
theorem q3178 : (Jvm.Cond.privateMethod ({ cls := "MarkHouseModel", name := "readAct", desc := "(I)V" } : Jvm.MethodName)) ∈ lw_tbl := lw_at lw_m13 56 rfl
theorem q3179 : (Jvm.Cond.instanceMethod ({ cls := "MarkHouseModel", name := "readAct", desc := "(I)V" } : Jvm.MethodName)) ∈ lw_all := lw_g (lw_at lw_m13 57 rfl) rfl
theorem q3180 : (Jvm.Cond.code ({ cls := "MarkHouseModel", name := "readAct", desc := "(I)V" } : Jvm.MethodName) prog_18_method_66_code (9 : Nat) (Option.none : Option Jvm.ClassFile.FieldType)) ∈ lw_all := lw_g (lw_at lw_m13 58 rfl) rfl
theorem q3181 : (Jvm.Cond.constantLong "MarkHouseModel" (597 : Nat) (14 : Int64)) ∈ lw_all := lw_g (lw_at lw_m13 59 rfl) rfl
theorem q3182 : (Jvm.Cond.methodLink "MarkHouseModel" (599 : Nat) ({ cls := "MarkHouseModel", name := "parts", desc := "(II)V" } : Jvm.MethodName)) ∈ lw_all := lw_g (lw_at lw_m13 60 rfl) rfl
theorem q3183 : (Jvm.Cond.privateMethod ({ cls := "MarkHouseModel", name := "parts", desc := "(II)V" } : Jvm.MethodName)) ∈ lw_tbl := lw_at lw_m13 61 rfl
theorem q3184 : (Jvm.Cond.instanceMethod ({ cls := "MarkHouseModel", name := "parts", desc := "(II)V" } : Jvm.MethodName)) ∈ lw_all := lw_g (lw_at lw_m13 62 rfl) rfl
theorem q3185 : (Jvm.Cond.code ({ cls := "MarkHouseModel", name := "parts", desc := "(II)V" } : Jvm.MethodName) prog_18_method_67_code (5 : Nat) (Option.none : Option Jvm.ClassFile.FieldType)) ∈ lw_all := lw_g (lw_at lw_m13 63 rfl) rfl
theorem q3186 : (Jvm.Cond.methodLink "MarkHouseModel" (602 : Nat) ({ cls := "MarkHouseModel", name := "toldMarks", desc := "(I)V" } : Jvm.MethodName)) ∈ lw_all := lw_g (lw_at lw_m13 64 rfl) rfl
theorem q3187 : (Jvm.Cond.privateMethod ({ cls := "MarkHouseModel", name := "toldMarks", desc := "(I)V" } : Jvm.MethodName)) ∈ lw_tbl := lw_at lw_m13 65 rfl
theorem q3188 : (Jvm.Cond.instanceMethod ({ cls := "MarkHouseModel", name := "toldMarks", desc := "(I)V" } : Jvm.MethodName)) ∈ lw_all := lw_g (lw_at lw_m13 66 rfl) rfl
theorem q3189 : (Jvm.Cond.code ({ cls := "MarkHouseModel", name := "toldMarks", desc := "(I)V" } : Jvm.MethodName) prog_18_method_69_code (5 : Nat) (Option.none : Option Jvm.ClassFile.FieldType)) ∈ lw_all := lw_g (lw_at lw_m13 67 rfl) rfl
theorem q3190 : (Jvm.Cond.methodLink "MarkHouseModel" (605 : Nat) ({ cls := "MarkHouseModel", name := "slot", desc := "(II)V" } : Jvm.MethodName)) ∈ lw_all := lw_g (lw_at lw_m13 68 rfl) rfl
theorem q3191 : (Jvm.Cond.privateMethod ({ cls := "MarkHouseModel", name := "slot", desc := "(II)V" } : Jvm.MethodName)) ∈ lw_tbl := lw_at lw_m13 69 rfl
theorem q3192 : (Jvm.Cond.instanceMethod ({ cls := "MarkHouseModel", name := "slot", desc := "(II)V" } : Jvm.MethodName)) ∈ lw_all := lw_g (lw_at lw_m13 70 rfl) rfl
theorem q3193 : (Jvm.Cond.code ({ cls := "MarkHouseModel", name := "slot", desc := "(II)V" } : Jvm.MethodName) prog_18_method_70_code (6 : Nat) (Option.none : Option Jvm.ClassFile.FieldType)) ∈ lw_all := lw_g (lw_at lw_m13 71 rfl) rfl
theorem q3194 : (Jvm.Cond.methodLink "MarkHouseModel" (611 : Nat) ({ cls := "MarkHouseModel", name := "localOf", desc := "(IJ)I" } : Jvm.MethodName)) ∈ lw_all := lw_g (lw_at lw_m13 72 rfl) rfl
theorem q3195 : (Jvm.Cond.privateMethod ({ cls := "MarkHouseModel", name := "localOf", desc := "(IJ)I" } : Jvm.MethodName)) ∈ lw_tbl := lw_at lw_m13 73 rfl
theorem q3196 : (Jvm.Cond.instanceMethod ({ cls := "MarkHouseModel", name := "localOf", desc := "(IJ)I" } : Jvm.MethodName)) ∈ lw_all := lw_g (lw_at lw_m13 74 rfl) rfl
theorem q3197 : (Jvm.Cond.code ({ cls := "MarkHouseModel", name := "localOf", desc := "(IJ)I" } : Jvm.MethodName) prog_18_method_65_code (5 : Nat) (Option.some Jvm.ClassFile.FieldType.int)) ∈ lw_all := lw_g (lw_at lw_m13 75 rfl) rfl
theorem q3198 : (Jvm.Cond.methodLink "MarkHouseModel" (608 : Nat) ({ cls := "MarkHouseModel", name := "elementOfAct", desc := "(I)V" } : Jvm.MethodName)) ∈ lw_all := lw_g (lw_at lw_m13 76 rfl) rfl
theorem q3199 : (Jvm.Cond.privateMethod ({ cls := "MarkHouseModel", name := "elementOfAct", desc := "(I)V" } : Jvm.MethodName)) ∈ lw_tbl := lw_at lw_m13 77 rfl
theorem q3200 : (Jvm.Cond.instanceMethod ({ cls := "MarkHouseModel", name := "elementOfAct", desc := "(I)V" } : Jvm.MethodName)) ∈ lw_all := lw_g (lw_at lw_m13 78 rfl) rfl
theorem q3201 : (Jvm.Cond.code ({ cls := "MarkHouseModel", name := "elementOfAct", desc := "(I)V" } : Jvm.MethodName) prog_18_method_68_code (5 : Nat) (Option.none : Option Jvm.ClassFile.FieldType)) ∈ lw_all := lw_g (lw_at lw_m13 79 rfl) rfl
theorem q3202 : (Jvm.Cond.methodLink "MarkHouseModel" (646 : Nat) ({ cls := "MarkHouseModel", name := "findNames", desc := "()V" } : Jvm.MethodName)) ∈ lw_all := lw_g (lw_at lw_m13 80 rfl) rfl
theorem q3203 : (Jvm.Cond.privateMethod ({ cls := "MarkHouseModel", name := "findNames", desc := "()V" } : Jvm.MethodName)) ∈ lw_tbl := lw_at lw_m13 81 rfl
theorem q3204 : (Jvm.Cond.instanceMethod ({ cls := "MarkHouseModel", name := "findNames", desc := "()V" } : Jvm.MethodName)) ∈ lw_all := lw_g (lw_at lw_m13 82 rfl) rfl
theorem q3205 : (Jvm.Cond.code ({ cls := "MarkHouseModel", name := "findNames", desc := "()V" } : Jvm.MethodName) prog_18_method_73_code (3 : Nat) (Option.none : Option Jvm.ClassFile.FieldType)) ∈ lw_all := lw_g (lw_at lw_m13 83 rfl) rfl
theorem q3206 : (Jvm.Cond.methodLink "MarkHouseModel" (614 : Nat) ({ cls := "MarkHouseModel", name := "isMethod", desc := "(I)Z" } : Jvm.MethodName)) ∈ lw_all := lw_g (lw_at lw_m13 84 rfl) rfl
theorem q3207 : (Jvm.Cond.privateMethod ({ cls := "MarkHouseModel", name := "isMethod", desc := "(I)Z" } : Jvm.MethodName)) ∈ lw_tbl := lw_at lw_m13 85 rfl
theorem q3208 : (Jvm.Cond.instanceMethod ({ cls := "MarkHouseModel", name := "isMethod", desc := "(I)Z" } : Jvm.MethodName)) ∈ lw_all := lw_g (lw_at lw_m13 86 rfl) rfl
theorem q3209 : (Jvm.Cond.code ({ cls := "MarkHouseModel", name := "isMethod", desc := "(I)Z" } : Jvm.MethodName) prog_18_method_74_code (2 : Nat) (Option.some Jvm.ClassFile.FieldType.boolean)) ∈ lw_all := lw_g (lw_at lw_m13 87 rfl) rfl
theorem q3210 : (Jvm.Cond.methodLink "MarkHouseModel" (617 : Nat) ({ cls := "MarkHouseModel", name := "findName", desc := "(II)V" } : Jvm.MethodName)) ∈ lw_all := lw_g (lw_at lw_m13 88 rfl) rfl
theorem q3211 : (Jvm.Cond.privateMethod ({ cls := "MarkHouseModel", name := "findName", desc := "(II)V" } : Jvm.MethodName)) ∈ lw_tbl := lw_at lw_m13 89 rfl
theorem q3212 : (Jvm.Cond.instanceMethod ({ cls := "MarkHouseModel", name := "findName", desc := "(II)V" } : Jvm.MethodName)) ∈ lw_all := lw_g (lw_at lw_m13 90 rfl) rfl
theorem q3213 : (Jvm.Cond.code ({ cls := "MarkHouseModel", name := "findName", desc := "(II)V" } : Jvm.MethodName) prog_18_method_75_code (6 : Nat) (Option.none : Option Jvm.ClassFile.FieldType)) ∈ lw_all := lw_g (lw_at lw_m13 91 rfl) rfl
theorem q3214 : (Jvm.Cond.methodLink "MarkHouseModel" (620 : Nat) ({ cls := "MarkHouseModel", name := "methodOf", desc := "(IJ)I" } : Jvm.MethodName)) ∈ lw_all := lw_g (lw_at lw_m13 92 rfl) rfl
theorem q3215 : (Jvm.Cond.privateMethod ({ cls := "MarkHouseModel", name := "methodOf", desc := "(IJ)I" } : Jvm.MethodName)) ∈ lw_tbl := lw_at lw_m13 93 rfl
theorem q3216 : (Jvm.Cond.instanceMethod ({ cls := "MarkHouseModel", name := "methodOf", desc := "(IJ)I" } : Jvm.MethodName)) ∈ lw_all := lw_g (lw_at lw_m13 94 rfl) rfl
theorem q3217 : (Jvm.Cond.code ({ cls := "MarkHouseModel", name := "methodOf", desc := "(IJ)I" } : Jvm.MethodName) prog_18_method_72_code (6 : Nat) (Option.some Jvm.ClassFile.FieldType.int)) ∈ lw_all := lw_g (lw_at lw_m13 95 rfl) rfl
theorem q3218 : (Jvm.Cond.methodLink "MarkHouseModel" (623 : Nat) ({ cls := "MarkHouseModel", name := "fieldOf", desc := "(IJ)I" } : Jvm.MethodName)) ∈ lw_all := lw_g (lw_at lw_m13 96 rfl) rfl
theorem q3219 : (Jvm.Cond.privateMethod ({ cls := "MarkHouseModel", name := "fieldOf", desc := "(IJ)I" } : Jvm.MethodName)) ∈ lw_tbl := lw_at lw_m13 97 rfl
theorem q3220 : (Jvm.Cond.instanceMethod ({ cls := "MarkHouseModel", name := "fieldOf", desc := "(IJ)I" } : Jvm.MethodName)) ∈ lw_all := lw_g (lw_at lw_m13 98 rfl) rfl
theorem q3221 : (Jvm.Cond.code ({ cls := "MarkHouseModel", name := "fieldOf", desc := "(IJ)I" } : Jvm.MethodName) prog_18_method_71_code (6 : Nat) (Option.some Jvm.ClassFile.FieldType.int)) ∈ lw_all := lw_g (lw_at lw_m13 99 rfl) rfl
theorem q3222 : (Jvm.Cond.methodLink "MarkHouseModel" (649 : Nat) ({ cls := "MarkHouseModel", name := "findDepths", desc := "(I)V" } : Jvm.MethodName)) ∈ lw_all := lw_g (lw_at lw_m13 100 rfl) rfl
theorem q3223 : (Jvm.Cond.privateMethod ({ cls := "MarkHouseModel", name := "findDepths", desc := "(I)V" } : Jvm.MethodName)) ∈ lw_tbl := lw_at lw_m13 101 rfl
theorem q3224 : (Jvm.Cond.instanceMethod ({ cls := "MarkHouseModel", name := "findDepths", desc := "(I)V" } : Jvm.MethodName)) ∈ lw_all := lw_g (lw_at lw_m13 102 rfl) rfl
theorem q3225 : (Jvm.Cond.code ({ cls := "MarkHouseModel", name := "findDepths", desc := "(I)V" } : Jvm.MethodName) prog_18_method_78_code (8 : Nat) (Option.none : Option Jvm.ClassFile.FieldType)) ∈ lw_all := lw_g (lw_at lw_m13 103 rfl) rfl
theorem q3226 : (Jvm.Cond.methodLink "MarkHouseModel" (626 : Nat) ({ cls := "MarkHouseModel", name := "takes", desc := "(I)I" } : Jvm.MethodName)) ∈ lw_all := lw_g (lw_at lw_m13 104 rfl) rfl
theorem q3227 : (Jvm.Cond.privateMethod ({ cls := "MarkHouseModel", name := "takes", desc := "(I)I" } : Jvm.MethodName)) ∈ lw_tbl := lw_at lw_m13 105 rfl
theorem q3228 : (Jvm.Cond.instanceMethod ({ cls := "MarkHouseModel", name := "takes", desc := "(I)I" } : Jvm.MethodName)) ∈ lw_all := lw_g (lw_at lw_m13 106 rfl) rfl
theorem q3229 : (Jvm.Cond.code ({ cls := "MarkHouseModel", name := "takes", desc := "(I)I" } : Jvm.MethodName) prog_18_method_76_code (2 : Nat) (Option.some Jvm.ClassFile.FieldType.int)) ∈ lw_all := lw_g (lw_at lw_m13 107 rfl) rfl
theorem q3230 : (Jvm.Cond.methodLink "MarkHouseModel" (629 : Nat) ({ cls := "MarkHouseModel", name := "gives", desc := "(I)I" } : Jvm.MethodName)) ∈ lw_all := lw_g (lw_at lw_m13 108 rfl) rfl
theorem q3231 : (Jvm.Cond.privateMethod ({ cls := "MarkHouseModel", name := "gives", desc := "(I)I" } : Jvm.MethodName)) ∈ lw_tbl := lw_at lw_m13 109 rfl
theorem q3232 : (Jvm.Cond.instanceMethod ({ cls := "MarkHouseModel", name := "gives", desc := "(I)I" } : Jvm.MethodName)) ∈ lw_all := lw_g (lw_at lw_m13 110 rfl) rfl
theorem q3233 : (Jvm.Cond.code ({ cls := "MarkHouseModel", name := "gives", desc := "(I)I" } : Jvm.MethodName) prog_18_method_77_code (2 : Nat) (Option.some Jvm.ClassFile.FieldType.int)) ∈ lw_all := lw_g (lw_at lw_m13 111 rfl) rfl
theorem q3234 : (Jvm.Cond.methodLink "MarkHouseModel" (631 : Nat) ({ cls := "MarkHouseModel", name := "leads", desc := "(II)V" } : Jvm.MethodName)) ∈ lw_all := lw_g (lw_at lw_m13 112 rfl) rfl
theorem q3235 : (Jvm.Cond.privateMethod ({ cls := "MarkHouseModel", name := "leads", desc := "(II)V" } : Jvm.MethodName)) ∈ lw_tbl := lw_at lw_m13 113 rfl
theorem q3236 : (Jvm.Cond.instanceMethod ({ cls := "MarkHouseModel", name := "leads", desc := "(II)V" } : Jvm.MethodName)) ∈ lw_all := lw_g (lw_at lw_m13 114 rfl) rfl
theorem q3237 : (Jvm.Cond.code ({ cls := "MarkHouseModel", name := "leads", desc := "(II)V" } : Jvm.MethodName) prog_18_method_79_code (3 : Nat) (Option.none : Option Jvm.ClassFile.FieldType)) ∈ lw_all := lw_g (lw_at lw_m13 115 rfl) rfl
theorem q3239 : (Jvm.Cond.instanceMethod ({ cls := "MarkHouseModel", name := "fault", desc := "(I)I" } : Jvm.MethodName)) ∈ lw_all := lw_g (lw_at lw_m13 117 rfl) rfl
theorem q3240 : (Jvm.Cond.selects "MarkHouseModel" ({ cls := "MarkHouseModel", name := "fault", desc := "(I)I" } : Jvm.MethodName) ({ cls := "MarkHouseModel", name := "fault", desc := "(I)I" } : Jvm.MethodName)) ∈ lw_all := lw_g (lw_at lw_m13 118 rfl) rfl
theorem q3241 : (Jvm.Cond.code ({ cls := "MarkHouseModel", name := "fault", desc := "(I)I" } : Jvm.MethodName) prog_18_method_81_code (2 : Nat) (Option.some Jvm.ClassFile.FieldType.int)) ∈ lw_all := lw_g (lw_at lw_m13 119 rfl) rfl
theorem q3243 : (Jvm.Cond.instanceMethod ({ cls := "MarkHouseModel", name := "effective", desc := "(II)I" } : Jvm.MethodName)) ∈ lw_all := lw_g (lw_at lw_m13 121 rfl) rfl
theorem q3244 : (Jvm.Cond.selects "MarkHouseModel" ({ cls := "MarkHouseModel", name := "effective", desc := "(II)I" } : Jvm.MethodName) ({ cls := "MarkHouseModel", name := "effective", desc := "(II)I" } : Jvm.MethodName)) ∈ lw_all := lw_g (lw_at lw_m13 122 rfl) rfl
theorem q3245 : (Jvm.Cond.code ({ cls := "MarkHouseModel", name := "effective", desc := "(II)I" } : Jvm.MethodName) prog_18_method_100_code (3 : Nat) (Option.some Jvm.ClassFile.FieldType.int)) ∈ lw_all := lw_g (lw_at lw_m13 123 rfl) rfl
theorem q3246 : (Jvm.Cond.methodLink "MarkHouseModel" (652 : Nat) ({ cls := "MarkHouseModel", name := "isPlace", desc := "(I)Z" } : Jvm.MethodName)) ∈ lw_all := lw_g (lw_at lw_m13 124 rfl) rfl
theorem q3247 : (Jvm.Cond.privateMethod ({ cls := "MarkHouseModel", name := "isPlace", desc := "(I)Z" } : Jvm.MethodName)) ∈ lw_tbl := lw_at lw_m13 125 rfl
theorem q3248 : (Jvm.Cond.instanceMethod ({ cls := "MarkHouseModel", name := "isPlace", desc := "(I)Z" } : Jvm.MethodName)) ∈ lw_all := lw_g (lw_at lw_m13 126 rfl) rfl
theorem q3249 : (Jvm.Cond.code ({ cls := "MarkHouseModel", name := "isPlace", desc := "(I)Z" } : Jvm.MethodName) prog_18_method_83_code (5 : Nat) (Option.some Jvm.ClassFile.FieldType.boolean)) ∈ lw_all := lw_g (lw_at lw_m13 127 rfl) rfl
theorem q3250 : (Jvm.Cond.methodLink "MarkHouseModel" (709 : Nat) ({ cls := "MarkHouseModel", name := "isKey", desc := "(I)Z" } : Jvm.MethodName)) ∈ lw_all := lw_g (lw_at lw_m13 128 rfl) rfl
theorem q3251 : (Jvm.Cond.privateMethod ({ cls := "MarkHouseModel", name := "isKey", desc := "(I)Z" } : Jvm.MethodName)) ∈ lw_tbl := lw_at lw_m13 129 rfl
theorem q3252 : (Jvm.Cond.instanceMethod ({ cls := "MarkHouseModel", name := "isKey", desc := "(I)Z" } : Jvm.MethodName)) ∈ lw_all := lw_g (lw_at lw_m13 130 rfl) rfl
theorem q3253 : (Jvm.Cond.code ({ cls := "MarkHouseModel", name := "isKey", desc := "(I)Z" } : Jvm.MethodName) prog_18_method_90_code (2 : Nat) (Option.some Jvm.ClassFile.FieldType.boolean)) ∈ lw_all := lw_g (lw_at lw_m13 131 rfl) rfl
theorem q3254 : (Jvm.Cond.methodLink "MarkHouseModel" (712 : Nat) ({ cls := "MarkHouseModel", name := "effect", desc := "(II)V" } : Jvm.MethodName)) ∈ lw_all := lw_g (lw_at lw_m13 132 rfl) rfl
theorem q3255 : (Jvm.Cond.privateMethod ({ cls := "MarkHouseModel", name := "effect", desc := "(II)V" } : Jvm.MethodName)) ∈ lw_tbl := lw_at lw_m13 133 rfl
theorem q3256 : (Jvm.Cond.instanceMethod ({ cls := "MarkHouseModel", name := "effect", desc := "(II)V" } : Jvm.MethodName)) ∈ lw_all := lw_g (lw_at lw_m13 134 rfl) rfl
theorem q3257 : (Jvm.Cond.code ({ cls := "MarkHouseModel", name := "effect", desc := "(II)V" } : Jvm.MethodName) prog_18_method_95_code (9 : Nat) (Option.none : Option Jvm.ClassFile.FieldType)) ∈ lw_all := lw_g (lw_at lw_m13 135 rfl) rfl
theorem q3258 : (Jvm.Cond.methodLink "MarkHouseModel" (674 : Nat) ({ cls := "MarkHouseModel", name := "nameOfKey", desc := "(I)J" } : Jvm.MethodName)) ∈ lw_all := lw_g (lw_at lw_m13 136 rfl) rfl
theorem q3259 : (Jvm.Cond.privateMethod ({ cls := "MarkHouseModel", name := "nameOfKey", desc := "(I)J" } : Jvm.MethodName)) ∈ lw_tbl := lw_at lw_m13 137 rfl
theorem q3260 : (Jvm.Cond.instanceMethod ({ cls := "MarkHouseModel", name := "nameOfKey", desc := "(I)J" } : Jvm.MethodName)) ∈ lw_all := lw_g (lw_at lw_m13 138 rfl) rfl
theorem q3261 : (Jvm.Cond.code ({ cls := "MarkHouseModel", name := "nameOfKey", desc := "(I)J" } : Jvm.MethodName) prog_18_method_91_code (2 : Nat) (Option.some Jvm.ClassFile.FieldType.long)) ∈ lw_all := lw_g (lw_at lw_m13 139 rfl) rfl
theorem q3262 : (Jvm.Cond.methodLink "MarkHouseModel" (667 : Nat) ({ cls := "MarkHouseModel", name := "doesCount", desc := "(II)Z" } : Jvm.MethodName)) ∈ lw_all := lw_g (lw_at lw_m13 140 rfl) rfl
theorem q3263 : (Jvm.Cond.privateMethod ({ cls := "MarkHouseModel", name := "doesCount", desc := "(II)Z" } : Jvm.MethodName)) ∈ lw_tbl := lw_at lw_m13 141 rfl
theorem q3264 : (Jvm.Cond.instanceMethod ({ cls := "MarkHouseModel", name := "doesCount", desc := "(II)Z" } : Jvm.MethodName)) ∈ lw_all := lw_g (lw_at lw_m13 142 rfl) rfl
theorem q3265 : (Jvm.Cond.code ({ cls := "MarkHouseModel", name := "doesCount", desc := "(II)Z" } : Jvm.MethodName) prog_18_method_92_code (10 : Nat) (Option.some Jvm.ClassFile.FieldType.boolean)) ∈ lw_all := lw_g (lw_at lw_m13 143 rfl) rfl
theorem q3266 : (Jvm.Cond.methodLink "MarkHouseModel" (655 : Nat) ({ cls := "MarkHouseModel", name := "sortOf", desc := "(I)I" } : Jvm.MethodName)) ∈ lw_all := lw_g (lw_at lw_m13 144 rfl) rfl
theorem q3267 : (Jvm.Cond.static ({ cls := "MarkHouseModel", name := "sortOf", desc := "(I)I" } : Jvm.MethodName)) ∈ lw_all := lw_g (lw_at lw_m13 145 rfl) rfl
theorem q3268 : (Jvm.Cond.code ({ cls := "MarkHouseModel", name := "sortOf", desc := "(I)I" } : Jvm.MethodName) prog_18_method_84_code (2 : Nat) (Option.some Jvm.ClassFile.FieldType.int)) ∈ lw_all := lw_g (lw_at lw_m13 146 rfl) rfl
theorem q3269 : (Jvm.Cond.methodLink "MarkHouseModel" (690 : Nat) ({ cls := "MarkHouseModel", name := "givenBy", desc := "(IIJ)I" } : Jvm.MethodName)) ∈ lw_all := lw_g (lw_at lw_m13 147 rfl) rfl
theorem q3270 : (Jvm.Cond.privateMethod ({ cls := "MarkHouseModel", name := "givenBy", desc := "(IIJ)I" } : Jvm.MethodName)) ∈ lw_tbl := lw_at lw_m13 148 rfl
theorem q3271 : (Jvm.Cond.instanceMethod ({ cls := "MarkHouseModel", name := "givenBy", desc := "(IIJ)I" } : Jvm.MethodName)) ∈ lw_all := lw_g (lw_at lw_m13 149 rfl) rfl
theorem q3272 : (Jvm.Cond.code ({ cls := "MarkHouseModel", name := "givenBy", desc := "(IIJ)I" } : Jvm.MethodName) prog_18_method_94_code (6 : Nat) (Option.some Jvm.ClassFile.FieldType.int)) ∈ lw_all := lw_g (lw_at lw_m13 150 rfl) rfl
theorem q3273 : (Jvm.Cond.methodLink "MarkHouseModel" (671 : Nat) ({ cls := "MarkHouseModel", name := "findGiven", desc := "(J)V" } : Jvm.MethodName)) ∈ lw_all := lw_g (lw_at lw_m13 151 rfl) rfl
theorem q3274 : (Jvm.Cond.privateMethod ({ cls := "MarkHouseModel", name := "findGiven", desc := "(J)V" } : Jvm.MethodName)) ∈ lw_tbl := lw_at lw_m13 152 rfl
theorem q3275 : (Jvm.Cond.instanceMethod ({ cls := "MarkHouseModel", name := "findGiven", desc := "(J)V" } : Jvm.MethodName)) ∈ lw_all := lw_g (lw_at lw_m13 153 rfl) rfl
theorem q3276 : (Jvm.Cond.code ({ cls := "MarkHouseModel", name := "findGiven", desc := "(J)V" } : Jvm.MethodName) prog_18_method_93_code (7 : Nat) (Option.none : Option Jvm.ClassFile.FieldType)) ∈ lw_all := lw_g (lw_at lw_m13 154 rfl) rfl
theorem q3277 : (Jvm.Cond.methodLink "MarkHouseModel" (694 : Nat) ({ cls := "MarkHouseModel", name := "above", desc := "(I)I" } : Jvm.MethodName)) ∈ lw_all := lw_g (lw_at lw_m13 155 rfl) rfl
theorem q3278 : (Jvm.Cond.privateMethod ({ cls := "MarkHouseModel", name := "above", desc := "(I)I" } : Jvm.MethodName)) ∈ lw_tbl := lw_at lw_m13 156 rfl
theorem q3279 : (Jvm.Cond.instanceMethod ({ cls := "MarkHouseModel", name := "above", desc := "(I)I" } : Jvm.MethodName)) ∈ lw_all := lw_g (lw_at lw_m13 157 rfl) rfl
theorem q3280 : (Jvm.Cond.code ({ cls := "MarkHouseModel", name := "above", desc := "(I)I" } : Jvm.MethodName) prog_18_method_89_code (7 : Nat) (Option.some Jvm.ClassFile.FieldType.int)) ∈ lw_all := lw_g (lw_at lw_m13 158 rfl) rfl
theorem q3281 : (Jvm.Cond.methodLink "MarkHouseModel" (658 : Nat) ({ cls := "MarkHouseModel", name := "methodAt", desc := "(I)I" } : Jvm.MethodName)) ∈ lw_all := lw_g (lw_at lw_m13 159 rfl) rfl
theorem q3282 : (Jvm.Cond.static ({ cls := "MarkHouseModel", name := "methodAt", desc := "(I)I" } : Jvm.MethodName)) ∈ lw_all := lw_g (lw_at lw_m13 160 rfl) rfl
theorem q3283 : (Jvm.Cond.code ({ cls := "MarkHouseModel", name := "methodAt", desc := "(I)I" } : Jvm.MethodName) prog_18_method_85_code (1 : Nat) (Option.some Jvm.ClassFile.FieldType.int)) ∈ lw_all := lw_g (lw_at lw_m13 161 rfl) rfl
theorem q3284 : (Jvm.Cond.methodLink "MarkHouseModel" (661 : Nat) ({ cls := "MarkHouseModel", name := "placeOf", desc := "(I)I" } : Jvm.MethodName)) ∈ lw_all := lw_g (lw_at lw_m13 162 rfl) rfl
theorem q3285 : (Jvm.Cond.static ({ cls := "MarkHouseModel", name := "placeOf", desc := "(I)I" } : Jvm.MethodName)) ∈ lw_all := lw_g (lw_at lw_m13 163 rfl) rfl
theorem q3286 : (Jvm.Cond.code ({ cls := "MarkHouseModel", name := "placeOf", desc := "(I)I" } : Jvm.MethodName) prog_18_method_86_code (1 : Nat) (Option.some Jvm.ClassFile.FieldType.int)) ∈ lw_all := lw_g (lw_at lw_m13 164 rfl) rfl
theorem q3288 : (Jvm.Cond.instanceMethod ({ cls := "MarkHouseModel", name := "whence", desc := "(III)I" } : Jvm.MethodName)) ∈ lw_all := lw_g (lw_at lw_m13 166 rfl) rfl
theorem q3289 : (Jvm.Cond.selects "MarkHouseModel" ({ cls := "MarkHouseModel", name := "whence", desc := "(III)I" } : Jvm.MethodName) ({ cls := "MarkHouseModel", name := "whence", desc := "(III)I" } : Jvm.MethodName)) ∈ lw_all := lw_g (lw_at lw_m13 167 rfl) rfl
theorem q3290 : (Jvm.Cond.code ({ cls := "MarkHouseModel", name := "whence", desc := "(III)I" } : Jvm.MethodName) prog_18_method_101_code (7 : Nat) (Option.some Jvm.ClassFile.FieldType.int)) ∈ lw_all := lw_g (lw_at lw_m13 168 rfl) rfl
theorem q3291 : (Jvm.Cond.methodLink "MarkHouseModel" (715 : Nat) ({ cls := "MarkHouseModel", name := "isSame", desc := "(III)Z" } : Jvm.MethodName)) ∈ lw_all := lw_g (lw_at lw_m13 169 rfl) rfl
theorem q3292 : (Jvm.Cond.privateMethod ({ cls := "MarkHouseModel", name := "isSame", desc := "(III)Z" } : Jvm.MethodName)) ∈ lw_tbl := lw_at lw_m13 170 rfl
theorem q3293 : (Jvm.Cond.instanceMethod ({ cls := "MarkHouseModel", name := "isSame", desc := "(III)Z" } : Jvm.MethodName)) ∈ lw_all := lw_g (lw_at lw_m13 171 rfl) rfl
theorem q3294 : (Jvm.Cond.code ({ cls := "MarkHouseModel", name := "isSame", desc := "(III)Z" } : Jvm.MethodName) prog_18_method_99_code (10 : Nat) (Option.some Jvm.ClassFile.FieldType.boolean)) ∈ lw_all := lw_g (lw_at lw_m13 172 rfl) rfl
theorem q3295 : (Jvm.Cond.methodLink "MarkHouseModel" (703 : Nat) ({ cls := "MarkHouseModel", name := "elementThatCounts", desc := "(II)I" } : Jvm.MethodName)) ∈ lw_all := lw_g (lw_at lw_m13 173 rfl) rfl
theorem q3296 : (Jvm.Cond.privateMethod ({ cls := "MarkHouseModel", name := "elementThatCounts", desc := "(II)I" } : Jvm.MethodName)) ∈ lw_tbl := lw_at lw_m13 174 rfl
theorem q3297 : (Jvm.Cond.instanceMethod ({ cls := "MarkHouseModel", name := "elementThatCounts", desc := "(II)I" } : Jvm.MethodName)) ∈ lw_all := lw_g (lw_at lw_m13 175 rfl) rfl
theorem q3298 : (Jvm.Cond.code ({ cls := "MarkHouseModel", name := "elementThatCounts", desc := "(II)I" } : Jvm.MethodName) prog_18_method_98_code (4 : Nat) (Option.some Jvm.ClassFile.FieldType.int)) ∈ lw_all := lw_g (lw_at lw_m13 176 rfl) rfl
theorem q3299 : (Jvm.Cond.methodLink "MarkHouseModel" (700 : Nat) ({ cls := "MarkHouseModel", name := "elementIn", desc := "(II)I" } : Jvm.MethodName)) ∈ lw_all := lw_g (lw_at lw_m13 177 rfl) rfl
theorem q3300 : (Jvm.Cond.privateMethod ({ cls := "MarkHouseModel", name := "elementIn", desc := "(II)I" } : Jvm.MethodName)) ∈ lw_tbl := lw_at lw_m13 178 rfl
theorem q3301 : (Jvm.Cond.instanceMethod ({ cls := "MarkHouseModel", name := "elementIn", desc := "(II)I" } : Jvm.MethodName)) ∈ lw_all := lw_g (lw_at lw_m13 179 rfl) rfl
theorem q3302 : (Jvm.Cond.code ({ cls := "MarkHouseModel", name := "elementIn", desc := "(II)I" } : Jvm.MethodName) prog_18_method_97_code (6 : Nat) (Option.some Jvm.ClassFile.FieldType.int)) ∈ lw_all := lw_g (lw_at lw_m13 180 rfl) rfl
theorem q3303 : (Jvm.Cond.methodLink "MarkHouseModel" (706 : Nat) ({ cls := "MarkHouseModel", name := "member", desc := "(III)I" } : Jvm.MethodName)) ∈ lw_all := lw_g (lw_at lw_m13 181 rfl) rfl
theorem q3304 : (Jvm.Cond.privateMethod ({ cls := "MarkHouseModel", name := "member", desc := "(III)I" } : Jvm.MethodName)) ∈ lw_tbl := lw_at lw_m13 182 rfl
theorem q3305 : (Jvm.Cond.instanceMethod ({ cls := "MarkHouseModel", name := "member", desc := "(III)I" } : Jvm.MethodName)) ∈ lw_all := lw_g (lw_at lw_m13 183 rfl) rfl
theorem q3306 : (Jvm.Cond.code ({ cls := "MarkHouseModel", name := "member", desc := "(III)I" } : Jvm.MethodName) prog_18_method_96_code (7 : Nat) (Option.some Jvm.ClassFile.FieldType.int)) ∈ lw_all := lw_g (lw_at lw_m13 184 rfl) rfl
theorem q3308 : (Jvm.Cond.instanceMethod ({ cls := "MarkHouseModel", name := "ask", desc := "(IIII)I" } : Jvm.MethodName)) ∈ lw_all := lw_g (lw_at lw_m13 186 rfl) rfl
theorem q3309 : (Jvm.Cond.selects "MarkHouseModel" ({ cls := "MarkHouseModel", name := "ask", desc := "(IIII)I" } : Jvm.MethodName) ({ cls := "MarkHouseModel", name := "ask", desc := "(IIII)I" } : Jvm.MethodName)) ∈ lw_all := lw_g (lw_at lw_m13 187 rfl) rfl
theorem q3310 : (Jvm.Cond.code ({ cls := "MarkHouseModel", name := "ask", desc := "(IIII)I" } : Jvm.MethodName) prog_18_method_102_code (6 : Nat) (Option.some Jvm.ClassFile.FieldType.int)) ∈ lw_all := lw_g (lw_at lw_m13 188 rfl) rfl
theorem q3311 : (Jvm.Cond.methodLink "MarkHouseModel" (393 : Nat) ({ cls := "MarkHouseModel", name := "sayPacked", desc := "(J)V" } : Jvm.MethodName)) ∈ lw_all := lw_g (lw_at lw_m13 189 rfl) rfl
theorem q3312 : (Jvm.Cond.privateMethod ({ cls := "MarkHouseModel", name := "sayPacked", desc := "(J)V" } : Jvm.MethodName)) ∈ lw_tbl := lw_at lw_m13 190 rfl
theorem q3313 : (Jvm.Cond.instanceMethod ({ cls := "MarkHouseModel", name := "sayPacked", desc := "(J)V" } : Jvm.MethodName)) ∈ lw_all := lw_g (lw_at lw_m13 191 rfl) rfl
theorem q3314 : (Jvm.Cond.code ({ cls := "MarkHouseModel", name := "sayPacked", desc := "(J)V" } : Jvm.MethodName) prog_18_method_8_code (4 : Nat) (Option.none : Option Jvm.ClassFile.FieldType)) ∈ lw_all := lw_g (lw_at lw_m13 192 rfl) rfl
theorem q3315 : (Jvm.Cond.constantLong "MarkHouseModel" (369 : Nat) (255 : Int64)) ∈ lw_all := lw_g (lw_at lw_m13 193 rfl) rfl
theorem q3316 : (Jvm.Cond.methodLink "MarkHouseModel" (371 : Nat) ({ cls := "MarkHouseModel", name := "say", desc := "(I)V" } : Jvm.MethodName)) ∈ lw_all := lw_g (lw_at lw_m13 194 rfl) rfl
theorem q3317 : (Jvm.Cond.privateMethod ({ cls := "MarkHouseModel", name := "say", desc := "(I)V" } : Jvm.MethodName)) ∈ lw_tbl := lw_at lw_m13 195 rfl
theorem q3318 : (Jvm.Cond.instanceMethod ({ cls := "MarkHouseModel", name := "say", desc := "(I)V" } : Jvm.MethodName)) ∈ lw_all := lw_g (lw_at lw_m13 196 rfl) rfl
theorem q3319 : (Jvm.Cond.code ({ cls := "MarkHouseModel", name := "say", desc := "(I)V" } : Jvm.MethodName) prog_18_method_7_code (2 : Nat) (Option.none : Option Jvm.ClassFile.FieldType)) ∈ lw_all := lw_g (lw_at lw_m13 197 rfl) rfl
theorem q3320 : (Jvm.Cond.methodLink "MarkHouseModel" (397 : Nat) ({ cls := "MarkHouseModel", name := "sayNumber", desc := "(J)V" } : Jvm.MethodName)) ∈ lw_all := lw_g (lw_at lw_m13 198 rfl) rfl
theorem q3321 : (Jvm.Cond.privateMethod ({ cls := "MarkHouseModel", name := "sayNumber", desc := "(J)V" } : Jvm.MethodName)) ∈ lw_tbl := lw_at lw_m13 199 rfl
theorem q3322 : (Jvm.Cond.instanceMethod ({ cls := "MarkHouseModel", name := "sayNumber", desc := "(J)V" } : Jvm.MethodName)) ∈ lw_all := lw_g (lw_at lw_m13 200 rfl) rfl
theorem q3323 : (Jvm.Cond.code ({ cls := "MarkHouseModel", name := "sayNumber", desc := "(J)V" } : Jvm.MethodName) prog_18_method_10_code (5 : Nat) (Option.none : Option Jvm.ClassFile.FieldType)) ∈ lw_all := lw_g (lw_at lw_m13 201 rfl) rfl
theorem q3325 : (Jvm.Cond.instanceMethod ({ cls := "MarkHouseModel", name := "mark", desc := "(III)I" } : Jvm.MethodName)) ∈ lw_all := lw_g (lw_at lw_m13 203 rfl) rfl
theorem q3326 : (Jvm.Cond.selects "MarkHouseModel" ({ cls := "MarkHouseModel", name := "mark", desc := "(III)I" } : Jvm.MethodName) ({ cls := "MarkHouseModel", name := "mark", desc := "(III)I" } : Jvm.MethodName)) ∈ lw_all := lw_g (lw_at lw_m13 204 rfl) rfl
theorem q3327 : (Jvm.Cond.code ({ cls := "MarkHouseModel", name := "mark", desc := "(III)I" } : Jvm.MethodName) prog_18_method_103_code (6 : Nat) (Option.some Jvm.ClassFile.FieldType.int)) ∈ lw_all := lw_g (lw_at lw_m13 205 rfl) rfl
theorem q3329 : (Jvm.Cond.instanceMethod ({ cls := "MarkHouseModel", name := "size", desc := "(II)I" } : Jvm.MethodName)) ∈ lw_all := lw_g (lw_at lw_m13 207 rfl) rfl
theorem q3330 : (Jvm.Cond.selects "MarkHouseModel" ({ cls := "MarkHouseModel", name := "size", desc := "(II)I" } : Jvm.MethodName) ({ cls := "MarkHouseModel", name := "size", desc := "(II)I" } : Jvm.MethodName)) ∈ lw_all := lw_g (lw_at lw_m13 208 rfl) rfl
theorem q3331 : (Jvm.Cond.code ({ cls := "MarkHouseModel", name := "size", desc := "(II)I" } : Jvm.MethodName) prog_18_method_104_code (3 : Nat) (Option.some Jvm.ClassFile.FieldType.int)) ∈ lw_all := lw_g (lw_at lw_m13 209 rfl) rfl
theorem q3332 : (Jvm.Cond.methodLink "MarkHouseModel" (718 : Nat) ({ cls := "MarkHouseModel", name := "isClass", desc := "(I)Z" } : Jvm.MethodName)) ∈ lw_all := lw_g (lw_at lw_m13 210 rfl) rfl
theorem q3333 : (Jvm.Cond.privateMethod ({ cls := "MarkHouseModel", name := "isClass", desc := "(I)Z" } : Jvm.MethodName)) ∈ lw_tbl := lw_at lw_m13 211 rfl
theorem q3334 : (Jvm.Cond.instanceMethod ({ cls := "MarkHouseModel", name := "isClass", desc := "(I)Z" } : Jvm.MethodName)) ∈ lw_all := lw_g (lw_at lw_m13 212 rfl) rfl
theorem q3335 : (Jvm.Cond.code ({ cls := "MarkHouseModel", name := "isClass", desc := "(I)Z" } : Jvm.MethodName) prog_18_method_82_code (2 : Nat) (Option.some Jvm.ClassFile.FieldType.boolean)) ∈ lw_all := lw_g (lw_at lw_m13 213 rfl) rfl
theorem q3336 : (Jvm.Cond.methodLink "MarkHouseModel" (721 : Nat) ({ cls := "MarkHouseModel", name := "isMethodPlace", desc := "(I)Z" } : Jvm.MethodName)) ∈ lw_all := lw_g (lw_at lw_m13 214 rfl) rfl
theorem q3337 : (Jvm.Cond.privateMethod ({ cls := "MarkHouseModel", name := "isMethodPlace", desc := "(I)Z" } : Jvm.MethodName)) ∈ lw_tbl := lw_at lw_m13 215 rfl
theorem q3338 : (Jvm.Cond.instanceMethod ({ cls := "MarkHouseModel", name := "isMethodPlace", desc := "(I)Z" } : Jvm.MethodName)) ∈ lw_all := lw_g (lw_at lw_m13 216 rfl) rfl
theorem q3339 : (Jvm.Cond.code ({ cls := "MarkHouseModel", name := "isMethodPlace", desc := "(I)Z" } : Jvm.MethodName) prog_18_method_87_code (2 : Nat) (Option.some Jvm.ClassFile.FieldType.boolean)) ∈ lw_all := lw_g (lw_at lw_m13 217 rfl) rfl
theorem q3341 : (Jvm.Cond.instanceMethod ({ cls := "MarkHouseModel", name := "order", desc := "(IIII)I" } : Jvm.MethodName)) ∈ lw_all := lw_g (lw_at lw_m13 219 rfl) rfl
theorem q3342 : (Jvm.Cond.selects "MarkHouseModel" ({ cls := "MarkHouseModel", name := "order", desc := "(IIII)I" } : Jvm.MethodName) ({ cls := "MarkHouseModel", name := "order", desc := "(IIII)I" } : Jvm.MethodName)) ∈ lw_all := lw_g (lw_at lw_m13 220 rfl) rfl
theorem q3343 : (Jvm.Cond.code ({ cls := "MarkHouseModel", name := "order", desc := "(IIII)I" } : Jvm.MethodName) prog_18_method_106_code (5 : Nat) (Option.some Jvm.ClassFile.FieldType.int)) ∈ lw_all := lw_g (lw_at lw_m13 221 rfl) rfl
theorem q3344 : (Jvm.Cond.methodLink "MarkHouseModel" (724 : Nat) ({ cls := "MarkHouseModel", name := "isOrder", desc := "(I)Z" } : Jvm.MethodName)) ∈ lw_all := lw_g (lw_at lw_m13 222 rfl) rfl
theorem q3345 : (Jvm.Cond.privateMethod ({ cls := "MarkHouseModel", name := "isOrder", desc := "(I)Z" } : Jvm.MethodName)) ∈ lw_tbl := lw_at lw_m13 223 rfl
theorem q3346 : (Jvm.Cond.instanceMethod ({ cls := "MarkHouseModel", name := "isOrder", desc := "(I)Z" } : Jvm.MethodName)) ∈ lw_all := lw_g (lw_at lw_m13 224 rfl) rfl
theorem q3347 : (Jvm.Cond.code ({ cls := "MarkHouseModel", name := "isOrder", desc := "(I)Z" } : Jvm.MethodName) prog_18_method_105_code (2 : Nat) (Option.some Jvm.ClassFile.FieldType.boolean)) ∈ lw_all := lw_g (lw_at lw_m13 225 rfl) rfl
theorem q3348 : (Jvm.Cond.methodLink "MarkHouseModel" (727 : Nat) ({ cls := "MarkHouseModel", name := "join", desc := "(III)I" } : Jvm.MethodName)) ∈ lw_all := lw_g (lw_at lw_m13 226 rfl) rfl
theorem q3349 : (Jvm.Cond.privateMethod ({ cls := "MarkHouseModel", name := "join", desc := "(III)I" } : Jvm.MethodName)) ∈ lw_tbl := lw_at lw_m13 227 rfl
theorem q3350 : (Jvm.Cond.instanceMethod ({ cls := "MarkHouseModel", name := "join", desc := "(III)I" } : Jvm.MethodName)) ∈ lw_all := lw_g (lw_at lw_m13 228 rfl) rfl
theorem q3351 : (Jvm.Cond.code ({ cls := "MarkHouseModel", name := "join", desc := "(III)I" } : Jvm.MethodName) prog_18_method_48_code (4 : Nat) (Option.some Jvm.ClassFile.FieldType.int)) ∈ lw_all := lw_g (lw_at lw_m13 229 rfl) rfl
theorem q3352 : (Jvm.Cond.methodLink "MarkHouseModel" (730 : Nat) ({ cls := "MarkHouseModel", name := "meet", desc := "(III)I" } : Jvm.MethodName)) ∈ lw_all := lw_g (lw_at lw_m13 230 rfl) rfl
theorem q3353 : (Jvm.Cond.privateMethod ({ cls := "MarkHouseModel", name := "meet", desc := "(III)I" } : Jvm.MethodName)) ∈ lw_tbl := lw_at lw_m13 231 rfl
theorem q3354 : (Jvm.Cond.instanceMethod ({ cls := "MarkHouseModel", name := "meet", desc := "(III)I" } : Jvm.MethodName)) ∈ lw_all := lw_g (lw_at lw_m13 232 rfl) rfl
theorem q3355 : (Jvm.Cond.code ({ cls := "MarkHouseModel", name := "meet", desc := "(III)I" } : Jvm.MethodName) prog_18_method_49_code (4 : Nat) (Option.some Jvm.ClassFile.FieldType.int)) ∈ lw_all := lw_g (lw_at lw_m13 233 rfl) rfl
theorem q3357 : (Jvm.Cond.instanceMethod ({ cls := "MarkHouseModel", name := "give", desc := "(I)I" } : Jvm.MethodName)) ∈ lw_all := lw_g (lw_at lw_m13 235 rfl) rfl
theorem q3358 : (Jvm.Cond.selects "MarkHouseModel" ({ cls := "MarkHouseModel", name := "give", desc := "(I)I" } : Jvm.MethodName) ({ cls := "MarkHouseModel", name := "give", desc := "(I)I" } : Jvm.MethodName)) ∈ lw_all := lw_g (lw_at lw_m13 236 rfl) rfl
theorem q3359 : (Jvm.Cond.code ({ cls := "MarkHouseModel", name := "give", desc := "(I)I" } : Jvm.MethodName) prog_18_method_111_code (9 : Nat) (Option.some Jvm.ClassFile.FieldType.int)) ∈ lw_all := lw_g (lw_at lw_m13 237 rfl) rfl
theorem q3360 : (Jvm.Cond.methodLink "MarkHouseModel" (742 : Nat) ({ cls := "MarkHouseModel", name := "byteHere", desc := "(II)I" } : Jvm.MethodName)) ∈ lw_all := lw_g (lw_at lw_m13 238 rfl) rfl
theorem q3361 : (Jvm.Cond.privateMethod ({ cls := "MarkHouseModel", name := "byteHere", desc := "(II)I" } : Jvm.MethodName)) ∈ lw_tbl := lw_at lw_m13 239 rfl
theorem q3362 : (Jvm.Cond.instanceMethod ({ cls := "MarkHouseModel", name := "byteHere", desc := "(II)I" } : Jvm.MethodName)) ∈ lw_all := lw_g (lw_at lw_m14 0 rfl) rfl
theorem q3363 : (Jvm.Cond.code ({ cls := "MarkHouseModel", name := "byteHere", desc := "(II)I" } : Jvm.MethodName) prog_18_method_107_code (3 : Nat) (Option.some Jvm.ClassFile.FieldType.int)) ∈ lw_all := lw_g (lw_at lw_m14 1 rfl) rfl
theorem q3364 : (Jvm.Cond.methodLink "MarkHouseModel" (745 : Nat) ({ cls := "MarkHouseModel", name := "fileName", desc := "()J" } : Jvm.MethodName)) ∈ lw_all := lw_g (lw_at lw_m14 2 rfl) rfl
theorem q3365 : (Jvm.Cond.privateMethod ({ cls := "MarkHouseModel", name := "fileName", desc := "()J" } : Jvm.MethodName)) ∈ lw_tbl := lw_at lw_m14 3 rfl
theorem q3366 : (Jvm.Cond.instanceMethod ({ cls := "MarkHouseModel", name := "fileName", desc := "()J" } : Jvm.MethodName)) ∈ lw_all := lw_g (lw_at lw_m14 4 rfl) rfl
theorem q3367 : (Jvm.Cond.code ({ cls := "MarkHouseModel", name := "fileName", desc := "()J" } : Jvm.MethodName) prog_18_method_108_code (6 : Nat) (Option.some Jvm.ClassFile.FieldType.long)) ∈ lw_all := lw_g (lw_at lw_m14 5 rfl) rfl
theorem q3368 : (Jvm.Cond.methodLink "MarkHouseModel" (751 : Nat) ({ cls := "MarkHouseModel", name := "filePair", desc := "(I)V" } : Jvm.MethodName)) ∈ lw_all := lw_g (lw_at lw_m14 6 rfl) rfl
theorem q3369 : (Jvm.Cond.privateMethod ({ cls := "MarkHouseModel", name := "filePair", desc := "(I)V" } : Jvm.MethodName)) ∈ lw_tbl := lw_at lw_m14 7 rfl
theorem q3370 : (Jvm.Cond.instanceMethod ({ cls := "MarkHouseModel", name := "filePair", desc := "(I)V" } : Jvm.MethodName)) ∈ lw_all := lw_g (lw_at lw_m14 8 rfl) rfl
theorem q3371 : (Jvm.Cond.code ({ cls := "MarkHouseModel", name := "filePair", desc := "(I)V" } : Jvm.MethodName) prog_18_method_110_code (9 : Nat) (Option.none : Option Jvm.ClassFile.FieldType)) ∈ lw_all := lw_g (lw_at lw_m14 9 rfl) rfl
theorem q3372 : (Jvm.Cond.methodLink "MarkHouseModel" (748 : Nat) ({ cls := "MarkHouseModel", name := "fileText", desc := "()J" } : Jvm.MethodName)) ∈ lw_all := lw_g (lw_at lw_m14 10 rfl) rfl
theorem q3373 : (Jvm.Cond.privateMethod ({ cls := "MarkHouseModel", name := "fileText", desc := "()J" } : Jvm.MethodName)) ∈ lw_tbl := lw_at lw_m14 11 rfl
theorem q3374 : (Jvm.Cond.instanceMethod ({ cls := "MarkHouseModel", name := "fileText", desc := "()J" } : Jvm.MethodName)) ∈ lw_all := lw_g (lw_at lw_m14 12 rfl) rfl
theorem q3375 : (Jvm.Cond.code ({ cls := "MarkHouseModel", name := "fileText", desc := "()J" } : Jvm.MethodName) prog_18_method_109_code (6 : Nat) (Option.some Jvm.ClassFile.FieldType.long)) ∈ lw_all := lw_g (lw_at lw_m14 13 rfl) rfl
theorem q3376 : (Jvm.Cond.methodLink "MarkHouseModel" (754 : Nat) ({ cls := "MarkHouseModel", name := "copyMark", desc := "(II)V" } : Jvm.MethodName)) ∈ lw_all := lw_g (lw_at lw_m14 14 rfl) rfl
theorem q3377 : (Jvm.Cond.privateMethod ({ cls := "MarkHouseModel", name := "copyMark", desc := "(II)V" } : Jvm.MethodName)) ∈ lw_tbl := lw_at lw_m14 15 rfl
theorem q3378 : (Jvm.Cond.instanceMethod ({ cls := "MarkHouseModel", name := "copyMark", desc := "(II)V" } : Jvm.MethodName)) ∈ lw_all := lw_g (lw_at lw_m14 16 rfl) rfl
theorem q3379 : (Jvm.Cond.code ({ cls := "MarkHouseModel", name := "copyMark", desc := "(II)V" } : Jvm.MethodName) prog_18_method_112_code (5 : Nat) (Option.none : Option Jvm.ClassFile.FieldType)) ∈ lw_all := lw_g (lw_at lw_m14 17 rfl) rfl
theorem q3381 : (Jvm.Cond.instanceMethod ({ cls := "MarkHouseModel", name := "file", desc := "(I)I" } : Jvm.MethodName)) ∈ lw_all := lw_g (lw_at lw_m14 19 rfl) rfl
theorem q3382 : (Jvm.Cond.selects "MarkHouseModel" ({ cls := "MarkHouseModel", name := "file", desc := "(I)I" } : Jvm.MethodName) ({ cls := "MarkHouseModel", name := "file", desc := "(I)I" } : Jvm.MethodName)) ∈ lw_all := lw_g (lw_at lw_m14 20 rfl) rfl
theorem q3383 : (Jvm.Cond.code ({ cls := "MarkHouseModel", name := "file", desc := "(I)I" } : Jvm.MethodName) prog_18_method_114_code (7 : Nat) (Option.some Jvm.ClassFile.FieldType.int)) ∈ lw_all := lw_g (lw_at lw_m14 21 rfl) rfl
theorem q3384 : (Jvm.Cond.methodLink "MarkHouseModel" (760 : Nat) ({ cls := "MarkHouseModel", name := "sayFileName", desc := "(J)V" } : Jvm.MethodName)) ∈ lw_all := lw_g (lw_at lw_m14 22 rfl) rfl
theorem q3385 : (Jvm.Cond.privateMethod ({ cls := "MarkHouseModel", name := "sayFileName", desc := "(J)V" } : Jvm.MethodName)) ∈ lw_tbl := lw_at lw_m14 23 rfl
theorem q3386 : (Jvm.Cond.instanceMethod ({ cls := "MarkHouseModel", name := "sayFileName", desc := "(J)V" } : Jvm.MethodName)) ∈ lw_all := lw_g (lw_at lw_m14 24 rfl) rfl
theorem q3387 : (Jvm.Cond.code ({ cls := "MarkHouseModel", name := "sayFileName", desc := "(J)V" } : Jvm.MethodName) prog_18_method_113_code (3 : Nat) (Option.none : Option Jvm.ClassFile.FieldType)) ∈ lw_all := lw_g (lw_at lw_m14 25 rfl) rfl
theorem q3388 : (Jvm.Cond.methodLink "MarkHouseModel" (757 : Nat) ({ cls := "MarkHouseModel", name := "sizeOf", desc := "(J)I" } : Jvm.MethodName)) ∈ lw_all := lw_g (lw_at lw_m14 26 rfl) rfl
theorem q3389 : (Jvm.Cond.static ({ cls := "MarkHouseModel", name := "sizeOf", desc := "(J)I" } : Jvm.MethodName)) ∈ lw_all := lw_g (lw_at lw_m14 27 rfl) rfl
theorem q3390 : (Jvm.Cond.code ({ cls := "MarkHouseModel", name := "sizeOf", desc := "(J)I" } : Jvm.MethodName) prog_18_method_9_code (5 : Nat) (Option.some Jvm.ClassFile.FieldType.int)) ∈ lw_all := lw_g (lw_at lw_m14 28 rfl) rfl
theorem q3392 : (Jvm.Cond.instanceMethod ({ cls := "MarkHouseModel", name := "tell", desc := "()I" } : Jvm.MethodName)) ∈ lw_all := lw_g (lw_at lw_m14 30 rfl) rfl
theorem q3393 : (Jvm.Cond.selects "MarkHouseModel" ({ cls := "MarkHouseModel", name := "tell", desc := "()I" } : Jvm.MethodName) ({ cls := "MarkHouseModel", name := "tell", desc := "()I" } : Jvm.MethodName)) ∈ lw_all := lw_g (lw_at lw_m14 31 rfl) rfl
theorem q3394 : (Jvm.Cond.code ({ cls := "MarkHouseModel", name := "tell", desc := "()I" } : Jvm.MethodName) prog_18_method_125_code (2 : Nat) (Option.some Jvm.ClassFile.FieldType.int)) ∈ lw_all := lw_g (lw_at lw_m14 32 rfl) rfl
theorem q3395 : (Jvm.Cond.methodLink "MarkHouseModel" (820 : Nat) ({ cls := "MarkHouseModel", name := "tellOrder", desc := "(I)V" } : Jvm.MethodName)) ∈ lw_all := lw_g (lw_at lw_m14 33 rfl) rfl
theorem q3396 : (Jvm.Cond.privateMethod ({ cls := "MarkHouseModel", name := "tellOrder", desc := "(I)V" } : Jvm.MethodName)) ∈ lw_tbl := lw_at lw_m14 34 rfl
theorem q3397 : (Jvm.Cond.instanceMethod ({ cls := "MarkHouseModel", name := "tellOrder", desc := "(I)V" } : Jvm.MethodName)) ∈ lw_all := lw_g (lw_at lw_m14 35 rfl) rfl
theorem q3398 : (Jvm.Cond.code ({ cls := "MarkHouseModel", name := "tellOrder", desc := "(I)V" } : Jvm.MethodName) prog_18_method_120_code (4 : Nat) (Option.none : Option Jvm.ClassFile.FieldType)) ∈ lw_all := lw_g (lw_at lw_m14 36 rfl) rfl
theorem q3399 : (Jvm.Cond.methodLink "MarkHouseModel" (402 : Nat) ({ cls := "MarkHouseModel", name := "sayWord", desc := "(Ljava/lang/String;)V" } : Jvm.MethodName)) ∈ lw_all := lw_g (lw_at lw_m14 37 rfl) rfl
theorem q3400 : (Jvm.Cond.privateMethod ({ cls := "MarkHouseModel", name := "sayWord", desc := "(Ljava/lang/String;)V" } : Jvm.MethodName)) ∈ lw_tbl := lw_at lw_m14 38 rfl
theorem q3401 : (Jvm.Cond.instanceMethod ({ cls := "MarkHouseModel", name := "sayWord", desc := "(Ljava/lang/String;)V" } : Jvm.MethodName)) ∈ lw_all := lw_g (lw_at lw_m14 39 rfl) rfl
theorem q3402 : (Jvm.Cond.code ({ cls := "MarkHouseModel", name := "sayWord", desc := "(Ljava/lang/String;)V" } : Jvm.MethodName) prog_18_method_12_code (3 : Nat) (Option.none : Option Jvm.ClassFile.FieldType)) ∈ lw_all := lw_g (lw_at lw_m14 40 rfl) rfl
theorem q3403 : (Jvm.Cond.methodLink "MarkHouseModel" (382 : Nat) ({ cls := "MarkHouseModel", name := "gap", desc := "()V" } : Jvm.MethodName)) ∈ lw_all := lw_g (lw_at lw_m14 41 rfl) rfl
theorem q3404 : (Jvm.Cond.privateMethod ({ cls := "MarkHouseModel", name := "gap", desc := "()V" } : Jvm.MethodName)) ∈ lw_tbl := lw_at lw_m14 42 rfl
theorem q3405 : (Jvm.Cond.instanceMethod ({ cls := "MarkHouseModel", name := "gap", desc := "()V" } : Jvm.MethodName)) ∈ lw_all := lw_g (lw_at lw_m14 43 rfl) rfl
theorem q3406 : (Jvm.Cond.code ({ cls := "MarkHouseModel", name := "gap", desc := "()V" } : Jvm.MethodName) prog_18_method_11_code (1 : Nat) (Option.none : Option Jvm.ClassFile.FieldType)) ∈ lw_all := lw_g (lw_at lw_m14 44 rfl) rfl
theorem q3407 : (Jvm.Cond.methodLink "MarkHouseModel" (765 : Nat) ({ cls := "MarkHouseModel", name := "sayName", desc := "(J)V" } : Jvm.MethodName)) ∈ lw_all := lw_g (lw_at lw_m14 45 rfl) rfl
theorem q3408 : (Jvm.Cond.privateMethod ({ cls := "MarkHouseModel", name := "sayName", desc := "(J)V" } : Jvm.MethodName)) ∈ lw_tbl := lw_at lw_m14 46 rfl
theorem q3409 : (Jvm.Cond.instanceMethod ({ cls := "MarkHouseModel", name := "sayName", desc := "(J)V" } : Jvm.MethodName)) ∈ lw_all := lw_g (lw_at lw_m14 47 rfl) rfl
theorem q3410 : (Jvm.Cond.code ({ cls := "MarkHouseModel", name := "sayName", desc := "(J)V" } : Jvm.MethodName) prog_18_method_13_code (3 : Nat) (Option.none : Option Jvm.ClassFile.FieldType)) ∈ lw_all := lw_g (lw_at lw_m14 48 rfl) rfl
theorem q3411 : (Jvm.Cond.stringRef "MarkHouseModel" (794 : Nat) ":") ∈ lw_tbl := lw_at lw_m14 49 rfl
theorem q3412 : (Jvm.Cond.stringRef "MarkHouseModel" (774 : Nat) ",") ∈ lw_tbl := lw_at lw_m14 50 rfl
theorem q3413 : (Jvm.Cond.methodLink "MarkHouseModel" (796 : Nat) ({ cls := "MarkHouseModel", name := "isNext", desc := "(III)Z" } : Jvm.MethodName)) ∈ lw_all := lw_g (lw_at lw_m14 51 rfl) rfl
theorem q3414 : (Jvm.Cond.privateMethod ({ cls := "MarkHouseModel", name := "isNext", desc := "(III)Z" } : Jvm.MethodName)) ∈ lw_tbl := lw_at lw_m14 52 rfl
theorem q3415 : (Jvm.Cond.instanceMethod ({ cls := "MarkHouseModel", name := "isNext", desc := "(III)Z" } : Jvm.MethodName)) ∈ lw_all := lw_g (lw_at lw_m14 53 rfl) rfl
theorem q3416 : (Jvm.Cond.code ({ cls := "MarkHouseModel", name := "isNext", desc := "(III)Z" } : Jvm.MethodName) prog_18_method_119_code (6 : Nat) (Option.some Jvm.ClassFile.FieldType.boolean)) ∈ lw_all := lw_g (lw_at lw_m14 54 rfl) rfl
theorem q3417 : (Jvm.Cond.stringRef "MarkHouseModel" (799 : Nat) "<") ∈ lw_tbl := lw_at lw_m14 55 rfl
theorem q3418 : (Jvm.Cond.stringRef "MarkHouseModel" (801 : Nat) ";") ∈ lw_tbl := lw_at lw_m14 56 rfl
theorem q3419 : (Jvm.Cond.methodLink "MarkHouseModel" (823 : Nat) ({ cls := "MarkHouseModel", name := "tellKind", desc := "(I)V" } : Jvm.MethodName)) ∈ lw_all := lw_g (lw_at lw_m14 57 rfl) rfl
theorem q3420 : (Jvm.Cond.privateMethod ({ cls := "MarkHouseModel", name := "tellKind", desc := "(I)V" } : Jvm.MethodName)) ∈ lw_tbl := lw_at lw_m14 58 rfl
theorem q3421 : (Jvm.Cond.instanceMethod ({ cls := "MarkHouseModel", name := "tellKind", desc := "(I)V" } : Jvm.MethodName)) ∈ lw_all := lw_g (lw_at lw_m14 59 rfl) rfl
theorem q3422 : (Jvm.Cond.code ({ cls := "MarkHouseModel", name := "tellKind", desc := "(I)V" } : Jvm.MethodName) prog_18_method_121_code (4 : Nat) (Option.none : Option Jvm.ClassFile.FieldType)) ∈ lw_all := lw_g (lw_at lw_m14 60 rfl) rfl
theorem q3423 : (Jvm.Cond.stringRef "MarkHouseModel" (776 : Nat) "(") ∈ lw_tbl := lw_at lw_m14 61 rfl
theorem q3424 : (Jvm.Cond.stringRef "MarkHouseModel" (778 : Nat) "=") ∈ lw_tbl := lw_at lw_m14 62 rfl
theorem q3425 : (Jvm.Cond.methodLink "MarkHouseModel" (780 : Nat) ({ cls := "MarkHouseModel", name := "sayText", desc := "(J)V" } : Jvm.MethodName)) ∈ lw_all := lw_g (lw_at lw_m14 63 rfl) rfl
theorem q3426 : (Jvm.Cond.privateMethod ({ cls := "MarkHouseModel", name := "sayText", desc := "(J)V" } : Jvm.MethodName)) ∈ lw_tbl := lw_at lw_m14 64 rfl
theorem q3427 : (Jvm.Cond.instanceMethod ({ cls := "MarkHouseModel", name := "sayText", desc := "(J)V" } : Jvm.MethodName)) ∈ lw_all := lw_g (lw_at lw_m14 65 rfl) rfl
theorem q3428 : (Jvm.Cond.code ({ cls := "MarkHouseModel", name := "sayText", desc := "(J)V" } : Jvm.MethodName) prog_18_method_16_code (3 : Nat) (Option.none : Option Jvm.ClassFile.FieldType)) ∈ lw_all := lw_g (lw_at lw_m14 66 rfl) rfl
theorem q3429 : (Jvm.Cond.methodLink "MarkHouseModel" (783 : Nat) ({ cls := "MarkHouseModel", name := "sayInt", desc := "(I)V" } : Jvm.MethodName)) ∈ lw_all := lw_g (lw_at lw_m14 67 rfl) rfl
theorem q3430 : (Jvm.Cond.privateMethod ({ cls := "MarkHouseModel", name := "sayInt", desc := "(I)V" } : Jvm.MethodName)) ∈ lw_tbl := lw_at lw_m14 68 rfl
theorem q3431 : (Jvm.Cond.instanceMethod ({ cls := "MarkHouseModel", name := "sayInt", desc := "(I)V" } : Jvm.MethodName)) ∈ lw_all := lw_g (lw_at lw_m14 69 rfl) rfl
theorem q3432 : (Jvm.Cond.code ({ cls := "MarkHouseModel", name := "sayInt", desc := "(I)V" } : Jvm.MethodName) prog_18_method_15_code (2 : Nat) (Option.none : Option Jvm.ClassFile.FieldType)) ∈ lw_all := lw_g (lw_at lw_m14 70 rfl) rfl
theorem q3433 : (Jvm.Cond.stringRef "MarkHouseModel" (400 : Nat) "-") ∈ lw_tbl := lw_at lw_m14 71 rfl
theorem q3434 : (Jvm.Cond.methodLink "MarkHouseModel" (406 : Nat) ({ cls := "MarkHouseModel", name := "sayWhole", desc := "(J)V" } : Jvm.MethodName)) ∈ lw_all := lw_g (lw_at lw_m14 72 rfl) rfl
theorem q3435 : (Jvm.Cond.privateMethod ({ cls := "MarkHouseModel", name := "sayWhole", desc := "(J)V" } : Jvm.MethodName)) ∈ lw_tbl := lw_at lw_m14 73 rfl
theorem q3436 : (Jvm.Cond.instanceMethod ({ cls := "MarkHouseModel", name := "sayWhole", desc := "(J)V" } : Jvm.MethodName)) ∈ lw_all := lw_g (lw_at lw_m14 74 rfl) rfl
theorem q3437 : (Jvm.Cond.code ({ cls := "MarkHouseModel", name := "sayWhole", desc := "(J)V" } : Jvm.MethodName) prog_18_method_14_code (3 : Nat) (Option.none : Option Jvm.ClassFile.FieldType)) ∈ lw_all := lw_g (lw_at lw_m14 75 rfl) rfl
theorem q3438 : (Jvm.Cond.stringRef "MarkHouseModel" (786 : Nat) ")") ∈ lw_tbl := lw_at lw_m14 76 rfl
theorem q3439 : (Jvm.Cond.methodLink "MarkHouseModel" (803 : Nat) ({ cls := "MarkHouseModel", name := "sayMarks", desc := "(I)V" } : Jvm.MethodName)) ∈ lw_all := lw_g (lw_at lw_m14 77 rfl) rfl
theorem q3440 : (Jvm.Cond.privateMethod ({ cls := "MarkHouseModel", name := "sayMarks", desc := "(I)V" } : Jvm.MethodName)) ∈ lw_tbl := lw_at lw_m14 78 rfl
theorem q3441 : (Jvm.Cond.instanceMethod ({ cls := "MarkHouseModel", name := "sayMarks", desc := "(I)V" } : Jvm.MethodName)) ∈ lw_all := lw_g (lw_at lw_m14 79 rfl) rfl
theorem q3442 : (Jvm.Cond.code ({ cls := "MarkHouseModel", name := "sayMarks", desc := "(I)V" } : Jvm.MethodName) prog_18_method_118_code (3 : Nat) (Option.none : Option Jvm.ClassFile.FieldType)) ∈ lw_all := lw_g (lw_at lw_m14 80 rfl) rfl
theorem q3443 : (Jvm.Cond.methodLink "MarkHouseModel" (788 : Nat) ({ cls := "MarkHouseModel", name := "isSound", desc := "(I)Z" } : Jvm.MethodName)) ∈ lw_all := lw_g (lw_at lw_m14 81 rfl) rfl
theorem q3444 : (Jvm.Cond.privateMethod ({ cls := "MarkHouseModel", name := "isSound", desc := "(I)Z" } : Jvm.MethodName)) ∈ lw_tbl := lw_at lw_m14 82 rfl
theorem q3445 : (Jvm.Cond.instanceMethod ({ cls := "MarkHouseModel", name := "isSound", desc := "(I)Z" } : Jvm.MethodName)) ∈ lw_all := lw_g (lw_at lw_m14 83 rfl) rfl
theorem q3446 : (Jvm.Cond.code ({ cls := "MarkHouseModel", name := "isSound", desc := "(I)Z" } : Jvm.MethodName) prog_18_method_117_code (6 : Nat) (Option.some Jvm.ClassFile.FieldType.boolean)) ∈ lw_all := lw_g (lw_at lw_m14 84 rfl) rfl
theorem q3447 : (Jvm.Cond.methodLink "MarkHouseModel" (791 : Nat) ({ cls := "MarkHouseModel", name := "sayMark", desc := "(I)V" } : Jvm.MethodName)) ∈ lw_all := lw_g (lw_at lw_m14 85 rfl) rfl
theorem q3448 : (Jvm.Cond.privateMethod ({ cls := "MarkHouseModel", name := "sayMark", desc := "(I)V" } : Jvm.MethodName)) ∈ lw_tbl := lw_at lw_m14 86 rfl
theorem q3449 : (Jvm.Cond.instanceMethod ({ cls := "MarkHouseModel", name := "sayMark", desc := "(I)V" } : Jvm.MethodName)) ∈ lw_all := lw_g (lw_at lw_m14 87 rfl) rfl
theorem q3450 : (Jvm.Cond.code ({ cls := "MarkHouseModel", name := "sayMark", desc := "(I)V" } : Jvm.MethodName) prog_18_method_115_code (7 : Nat) (Option.none : Option Jvm.ClassFile.FieldType)) ∈ lw_all := lw_g (lw_at lw_m14 88 rfl) rfl
theorem q3451 : (Jvm.Cond.stringRef "MarkHouseModel" (763 : Nat) "@") ∈ lw_tbl := lw_at lw_m14 89 rfl
theorem q3452 : (Jvm.Cond.stringRef "MarkHouseModel" (768 : Nat) ".") ∈ lw_tbl := lw_at lw_m14 90 rfl
theorem q3453 : (Jvm.Cond.methodLink "MarkHouseModel" (770 : Nat) ({ cls := "MarkHouseModel", name := "hasPair", desc := "(IJ)Z" } : Jvm.MethodName)) ∈ lw_all := lw_g (lw_at lw_m14 91 rfl) rfl
theorem q3454 : (Jvm.Cond.privateMethod ({ cls := "MarkHouseModel", name := "hasPair", desc := "(IJ)Z" } : Jvm.MethodName)) ∈ lw_tbl := lw_at lw_m14 92 rfl
theorem q3455 : (Jvm.Cond.instanceMethod ({ cls := "MarkHouseModel", name := "hasPair", desc := "(IJ)Z" } : Jvm.MethodName)) ∈ lw_all := lw_g (lw_at lw_m14 93 rfl) rfl
theorem q3456 : (Jvm.Cond.code ({ cls := "MarkHouseModel", name := "hasPair", desc := "(IJ)Z" } : Jvm.MethodName) prog_18_method_116_code (6 : Nat) (Option.some Jvm.ClassFile.FieldType.boolean)) ∈ lw_all := lw_g (lw_at lw_m14 94 rfl) rfl
theorem q3457 : (Jvm.Cond.methodLink "MarkHouseModel" (826 : Nat) ({ cls := "MarkHouseModel", name := "tellClass", desc := "(I)V" } : Jvm.MethodName)) ∈ lw_all := lw_g (lw_at lw_m14 95 rfl) rfl
theorem q3458 : (Jvm.Cond.privateMethod ({ cls := "MarkHouseModel", name := "tellClass", desc := "(I)V" } : Jvm.MethodName)) ∈ lw_tbl := lw_at lw_m14 96 rfl
theorem q3459 : (Jvm.Cond.instanceMethod ({ cls := "MarkHouseModel", name := "tellClass", desc := "(I)V" } : Jvm.MethodName)) ∈ lw_all := lw_g (lw_at lw_m14 97 rfl) rfl
theorem q3460 : (Jvm.Cond.code ({ cls := "MarkHouseModel", name := "tellClass", desc := "(I)V" } : Jvm.MethodName) prog_18_method_122_code (5 : Nat) (Option.none : Option Jvm.ClassFile.FieldType)) ∈ lw_all := lw_g (lw_at lw_m14 98 rfl) rfl
theorem q3461 : (Jvm.Cond.stringRef "MarkHouseModel" (806 : Nat) "{") ∈ lw_tbl := lw_at lw_m14 99 rfl
theorem q3462 : (Jvm.Cond.methodLink "MarkHouseModel" (808 : Nat) ({ cls := "MarkHouseModel", name := "sayAct", desc := "(IIZZ)V" } : Jvm.MethodName)) ∈ lw_all := lw_g (lw_at lw_m14 100 rfl) rfl
theorem q3463 : (Jvm.Cond.privateMethod ({ cls := "MarkHouseModel", name := "sayAct", desc := "(IIZZ)V" } : Jvm.MethodName)) ∈ lw_tbl := lw_at lw_m14 101 rfl
theorem q3464 : (Jvm.Cond.instanceMethod ({ cls := "MarkHouseModel", name := "sayAct", desc := "(IIZZ)V" } : Jvm.MethodName)) ∈ lw_all := lw_g (lw_at lw_m14 102 rfl) rfl
theorem q3465 : (Jvm.Cond.code ({ cls := "MarkHouseModel", name := "sayAct", desc := "(IIZZ)V" } : Jvm.MethodName) prog_18_method_123_code (6 : Nat) (Option.none : Option Jvm.ClassFile.FieldType)) ∈ lw_all := lw_g (lw_at lw_m14 103 rfl) rfl
theorem q3466 : (Jvm.Cond.methodLink "MarkHouseModel" (813 : Nat) ({ cls := "MarkHouseModel", name := "sayElement", desc := "(II)V" } : Jvm.MethodName)) ∈ lw_all := lw_g (lw_at lw_m14 104 rfl) rfl
theorem q3467 : (Jvm.Cond.privateMethod ({ cls := "MarkHouseModel", name := "sayElement", desc := "(II)V" } : Jvm.MethodName)) ∈ lw_tbl := lw_at lw_m14 105 rfl
theorem q3468 : (Jvm.Cond.instanceMethod ({ cls := "MarkHouseModel", name := "sayElement", desc := "(II)V" } : Jvm.MethodName)) ∈ lw_all := lw_g (lw_at lw_m14 106 rfl) rfl
theorem q3469 : (Jvm.Cond.code ({ cls := "MarkHouseModel", name := "sayElement", desc := "(II)V" } : Jvm.MethodName) prog_18_method_124_code (3 : Nat) (Option.none : Option Jvm.ClassFile.FieldType)) ∈ lw_all := lw_g (lw_at lw_m14 107 rfl) rfl
theorem q3470 : (Jvm.Cond.methodLink "MarkHouseModel" (816 : Nat) ({ cls := "MarkHouseModel", name := "numberOf", desc := "(IIZ)I" } : Jvm.MethodName)) ∈ lw_all := lw_g (lw_at lw_m14 108 rfl) rfl
theorem q3471 : (Jvm.Cond.privateMethod ({ cls := "MarkHouseModel", name := "numberOf", desc := "(IIZ)I" } : Jvm.MethodName)) ∈ lw_tbl := lw_at lw_m14 109 rfl
theorem q3472 : (Jvm.Cond.instanceMethod ({ cls := "MarkHouseModel", name := "numberOf", desc := "(IIZ)I" } : Jvm.MethodName)) ∈ lw_all := lw_g (lw_at lw_m14 110 rfl) rfl
theorem q3473 : (Jvm.Cond.code ({ cls := "MarkHouseModel", name := "numberOf", desc := "(IIZ)I" } : Jvm.MethodName) prog_18_method_153_code (6 : Nat) (Option.some Jvm.ClassFile.FieldType.int)) ∈ lw_all := lw_g (lw_at lw_m14 111 rfl) rfl
theorem q3474 : (Jvm.Cond.methodLink "MarkHouseModel" (906 : Nat) ({ cls := "MarkHouseModel", name := "checksOf", desc := "(I)I" } : Jvm.MethodName)) ∈ lw_all := lw_g (lw_at lw_m14 112 rfl) rfl
theorem q3475 : (Jvm.Cond.privateMethod ({ cls := "MarkHouseModel", name := "checksOf", desc := "(I)I" } : Jvm.MethodName)) ∈ lw_tbl := lw_at lw_m14 113 rfl
theorem q3476 : (Jvm.Cond.instanceMethod ({ cls := "MarkHouseModel", name := "checksOf", desc := "(I)I" } : Jvm.MethodName)) ∈ lw_all := lw_g (lw_at lw_m14 114 rfl) rfl
theorem q3477 : (Jvm.Cond.code ({ cls := "MarkHouseModel", name := "checksOf", desc := "(I)I" } : Jvm.MethodName) prog_18_method_152_code (4 : Nat) (Option.some Jvm.ClassFile.FieldType.int)) ∈ lw_all := lw_g (lw_at lw_m14 115 rfl) rfl
theorem q3478 : (Jvm.Cond.stringRef "MarkHouseModel" (811 : Nat) "}") ∈ lw_tbl := lw_at lw_m14 116 rfl
theorem q3480 : (Jvm.Cond.instanceMethod ({ cls := "MarkHouseModel", name := "rounds", desc := "()I" } : Jvm.MethodName)) ∈ lw_all := lw_g (lw_at lw_m14 118 rfl) rfl
theorem q3481 : (Jvm.Cond.selects "MarkHouseModel" ({ cls := "MarkHouseModel", name := "rounds", desc := "()I" } : Jvm.MethodName) ({ cls := "MarkHouseModel", name := "rounds", desc := "()I" } : Jvm.MethodName)) ∈ lw_all := lw_g (lw_at lw_m14 119 rfl) rfl
theorem q3482 : (Jvm.Cond.code ({ cls := "MarkHouseModel", name := "rounds", desc := "()I" } : Jvm.MethodName) prog_18_method_126_code (7 : Nat) (Option.some Jvm.ClassFile.FieldType.int)) ∈ lw_all := lw_g (lw_at lw_m14 120 rfl) rfl
theorem q3484 : (Jvm.Cond.instanceMethod ({ cls := "MarkHouseModel", name := "markOf", desc := "(II)I" } : Jvm.MethodName)) ∈ lw_all := lw_g (lw_at lw_m14 122 rfl) rfl
theorem q3485 : (Jvm.Cond.selects "MarkHouseModel" ({ cls := "MarkHouseModel", name := "markOf", desc := "(II)I" } : Jvm.MethodName) ({ cls := "MarkHouseModel", name := "markOf", desc := "(II)I" } : Jvm.MethodName)) ∈ lw_all := lw_g (lw_at lw_m14 123 rfl) rfl
theorem q3486 : (Jvm.Cond.code ({ cls := "MarkHouseModel", name := "markOf", desc := "(II)I" } : Jvm.MethodName) prog_18_method_128_code (3 : Nat) (Option.some Jvm.ClassFile.FieldType.int)) ∈ lw_all := lw_g (lw_at lw_m14 124 rfl) rfl
theorem q3487 : (Jvm.Cond.methodLink "MarkHouseModel" (829 : Nat) ({ cls := "MarkHouseModel", name := "isFlowing", desc := "(I)Z" } : Jvm.MethodName)) ∈ lw_all := lw_g (lw_at lw_m14 125 rfl) rfl
theorem q3488 : (Jvm.Cond.privateMethod ({ cls := "MarkHouseModel", name := "isFlowing", desc := "(I)Z" } : Jvm.MethodName)) ∈ lw_tbl := lw_at lw_m14 126 rfl
theorem q3489 : (Jvm.Cond.instanceMethod ({ cls := "MarkHouseModel", name := "isFlowing", desc := "(I)Z" } : Jvm.MethodName)) ∈ lw_all := lw_g (lw_at lw_m14 127 rfl) rfl
theorem q3490 : (Jvm.Cond.code ({ cls := "MarkHouseModel", name := "isFlowing", desc := "(I)Z" } : Jvm.MethodName) prog_18_method_88_code (2 : Nat) (Option.some Jvm.ClassFile.FieldType.boolean)) ∈ lw_all := lw_g (lw_at lw_m14 128 rfl) rfl
theorem q3491 : (Jvm.Cond.methodLink "MarkHouseModel" (832 : Nat) ({ cls := "MarkHouseModel", name := "markNow", desc := "(II)I" } : Jvm.MethodName)) ∈ lw_all := lw_g (lw_at lw_m14 129 rfl) rfl
theorem q3492 : (Jvm.Cond.privateMethod ({ cls := "MarkHouseModel", name := "markNow", desc := "(II)I" } : Jvm.MethodName)) ∈ lw_tbl := lw_at lw_m14 130 rfl
theorem q3493 : (Jvm.Cond.instanceMethod ({ cls := "MarkHouseModel", name := "markNow", desc := "(II)I" } : Jvm.MethodName)) ∈ lw_all := lw_g (lw_at lw_m14 131 rfl) rfl
theorem q3494 : (Jvm.Cond.code ({ cls := "MarkHouseModel", name := "markNow", desc := "(II)I" } : Jvm.MethodName) prog_18_method_127_code (3 : Nat) (Option.some Jvm.ClassFile.FieldType.int)) ∈ lw_all := lw_g (lw_at lw_m14 132 rfl) rfl
theorem q3496 : (Jvm.Cond.instanceMethod ({ cls := "MarkHouseModel", name := "flow", desc := "(I)I" } : Jvm.MethodName)) ∈ lw_all := lw_g (lw_at lw_m14 134 rfl) rfl
theorem q3497 : (Jvm.Cond.selects "MarkHouseModel" ({ cls := "MarkHouseModel", name := "flow", desc := "(I)I" } : Jvm.MethodName) ({ cls := "MarkHouseModel", name := "flow", desc := "(I)I" } : Jvm.MethodName)) ∈ lw_all := lw_g (lw_at lw_m14 135 rfl) rfl
theorem q3498 : (Jvm.Cond.code ({ cls := "MarkHouseModel", name := "flow", desc := "(I)I" } : Jvm.MethodName) prog_18_method_140_code (2 : Nat) (Option.some Jvm.ClassFile.FieldType.int)) ∈ lw_all := lw_g (lw_at lw_m14 136 rfl) rfl
theorem q3499 : (Jvm.Cond.methodLink "MarkHouseModel" (871 : Nat) ({ cls := "MarkHouseModel", name := "flowAll", desc := "(I)V" } : Jvm.MethodName)) ∈ lw_all := lw_g (lw_at lw_m14 137 rfl) rfl
theorem q3500 : (Jvm.Cond.privateMethod ({ cls := "MarkHouseModel", name := "flowAll", desc := "(I)V" } : Jvm.MethodName)) ∈ lw_tbl := lw_at lw_m14 138 rfl
theorem q3501 : (Jvm.Cond.instanceMethod ({ cls := "MarkHouseModel", name := "flowAll", desc := "(I)V" } : Jvm.MethodName)) ∈ lw_all := lw_g (lw_at lw_m14 139 rfl) rfl
theorem q3502 : (Jvm.Cond.code ({ cls := "MarkHouseModel", name := "flowAll", desc := "(I)V" } : Jvm.MethodName) prog_18_method_139_code (8 : Nat) (Option.none : Option Jvm.ClassFile.FieldType)) ∈ lw_all := lw_g (lw_at lw_m14 140 rfl) rfl
theorem q3503 : (Jvm.Cond.methodLink "MarkHouseModel" (856 : Nat) ({ cls := "MarkHouseModel", name := "findMarks", desc := "(I)V" } : Jvm.MethodName)) ∈ lw_all := lw_g (lw_at lw_m14 141 rfl) rfl
theorem q3504 : (Jvm.Cond.privateMethod ({ cls := "MarkHouseModel", name := "findMarks", desc := "(I)V" } : Jvm.MethodName)) ∈ lw_tbl := lw_at lw_m14 142 rfl
theorem q3505 : (Jvm.Cond.instanceMethod ({ cls := "MarkHouseModel", name := "findMarks", desc := "(I)V" } : Jvm.MethodName)) ∈ lw_all := lw_g (lw_at lw_m14 143 rfl) rfl
theorem q3506 : (Jvm.Cond.code ({ cls := "MarkHouseModel", name := "findMarks", desc := "(I)V" } : Jvm.MethodName) prog_18_method_129_code (3 : Nat) (Option.none : Option Jvm.ClassFile.FieldType)) ∈ lw_all := lw_g (lw_at lw_m14 144 rfl) rfl
theorem q3507 : (Jvm.Cond.methodLink "MarkHouseModel" (862 : Nat) ({ cls := "MarkHouseModel", name := "flowOf", desc := "(II)V" } : Jvm.MethodName)) ∈ lw_all := lw_g (lw_at lw_m14 145 rfl) rfl
theorem q3508 : (Jvm.Cond.privateMethod ({ cls := "MarkHouseModel", name := "flowOf", desc := "(II)V" } : Jvm.MethodName)) ∈ lw_tbl := lw_at lw_m14 146 rfl
theorem q3509 : (Jvm.Cond.instanceMethod ({ cls := "MarkHouseModel", name := "flowOf", desc := "(II)V" } : Jvm.MethodName)) ∈ lw_all := lw_g (lw_at lw_m14 147 rfl) rfl
theorem q3510 : (Jvm.Cond.code ({ cls := "MarkHouseModel", name := "flowOf", desc := "(II)V" } : Jvm.MethodName) prog_18_method_135_code (6 : Nat) (Option.none : Option Jvm.ClassFile.FieldType)) ∈ lw_all := lw_g (lw_at lw_m14 148 rfl) rfl
theorem q3511 : (Jvm.Cond.methodLink "MarkHouseModel" (844 : Nat) ({ cls := "MarkHouseModel", name := "first", desc := "(II)V" } : Jvm.MethodName)) ∈ lw_all := lw_g (lw_at lw_m14 149 rfl) rfl
theorem q3512 : (Jvm.Cond.privateMethod ({ cls := "MarkHouseModel", name := "first", desc := "(II)V" } : Jvm.MethodName)) ∈ lw_tbl := lw_at lw_m14 150 rfl
theorem q3513 : (Jvm.Cond.instanceMethod ({ cls := "MarkHouseModel", name := "first", desc := "(II)V" } : Jvm.MethodName)) ∈ lw_all := lw_g (lw_at lw_m14 151 rfl) rfl
theorem q3514 : (Jvm.Cond.code ({ cls := "MarkHouseModel", name := "first", desc := "(II)V" } : Jvm.MethodName) prog_18_method_131_code (4 : Nat) (Option.none : Option Jvm.ClassFile.FieldType)) ∈ lw_all := lw_g (lw_at lw_m14 152 rfl) rfl
theorem q3515 : (Jvm.Cond.methodLink "MarkHouseModel" (847 : Nat) ({ cls := "MarkHouseModel", name := "comes", desc := "(II)V" } : Jvm.MethodName)) ∈ lw_all := lw_g (lw_at lw_m14 153 rfl) rfl
theorem q3516 : (Jvm.Cond.privateMethod ({ cls := "MarkHouseModel", name := "comes", desc := "(II)V" } : Jvm.MethodName)) ∈ lw_tbl := lw_at lw_m14 154 rfl
theorem q3517 : (Jvm.Cond.instanceMethod ({ cls := "MarkHouseModel", name := "comes", desc := "(II)V" } : Jvm.MethodName)) ∈ lw_all := lw_g (lw_at lw_m14 155 rfl) rfl
theorem q3518 : (Jvm.Cond.code ({ cls := "MarkHouseModel", name := "comes", desc := "(II)V" } : Jvm.MethodName) prog_18_method_134_code (5 : Nat) (Option.none : Option Jvm.ClassFile.FieldType)) ∈ lw_all := lw_g (lw_at lw_m14 156 rfl) rfl
theorem q3519 : (Jvm.Cond.methodLink "MarkHouseModel" (850 : Nat) ({ cls := "MarkHouseModel", name := "does", desc := "(II)V" } : Jvm.MethodName)) ∈ lw_all := lw_g (lw_at lw_m14 157 rfl) rfl
theorem q3520 : (Jvm.Cond.privateMethod ({ cls := "MarkHouseModel", name := "does", desc := "(II)V" } : Jvm.MethodName)) ∈ lw_tbl := lw_at lw_m14 158 rfl
theorem q3521 : (Jvm.Cond.instanceMethod ({ cls := "MarkHouseModel", name := "does", desc := "(II)V" } : Jvm.MethodName)) ∈ lw_all := lw_g (lw_at lw_m14 159 rfl) rfl
theorem q3522 : (Jvm.Cond.code ({ cls := "MarkHouseModel", name := "does", desc := "(II)V" } : Jvm.MethodName) prog_18_method_133_code (5 : Nat) (Option.none : Option Jvm.ClassFile.FieldType)) ∈ lw_all := lw_g (lw_at lw_m14 160 rfl) rfl
theorem q3523 : (Jvm.Cond.methodLink "MarkHouseModel" (835 : Nat) ({ cls := "MarkHouseModel", name := "toldOf", desc := "(II)I" } : Jvm.MethodName)) ∈ lw_all := lw_g (lw_at lw_m14 161 rfl) rfl
theorem q3524 : (Jvm.Cond.privateMethod ({ cls := "MarkHouseModel", name := "toldOf", desc := "(II)I" } : Jvm.MethodName)) ∈ lw_tbl := lw_at lw_m14 162 rfl
theorem q3525 : (Jvm.Cond.instanceMethod ({ cls := "MarkHouseModel", name := "toldOf", desc := "(II)I" } : Jvm.MethodName)) ∈ lw_all := lw_g (lw_at lw_m14 163 rfl) rfl
theorem q3526 : (Jvm.Cond.code ({ cls := "MarkHouseModel", name := "toldOf", desc := "(II)I" } : Jvm.MethodName) prog_18_method_132_code (5 : Nat) (Option.some Jvm.ClassFile.FieldType.int)) ∈ lw_all := lw_g (lw_at lw_m14 164 rfl) rfl
theorem q3527 : (Jvm.Cond.methodLink "MarkHouseModel" (838 : Nat) ({ cls := "MarkHouseModel", name := "fieldPlace", desc := "(II)I" } : Jvm.MethodName)) ∈ lw_all := lw_g (lw_at lw_m14 165 rfl) rfl
theorem q3528 : (Jvm.Cond.static ({ cls := "MarkHouseModel", name := "fieldPlace", desc := "(II)I" } : Jvm.MethodName)) ∈ lw_all := lw_g (lw_at lw_m14 166 rfl) rfl
theorem q3529 : (Jvm.Cond.code ({ cls := "MarkHouseModel", name := "fieldPlace", desc := "(II)I" } : Jvm.MethodName) prog_18_method_130_code (2 : Nat) (Option.some Jvm.ClassFile.FieldType.int)) ∈ lw_all := lw_g (lw_at lw_m14 167 rfl) rfl
theorem q3530 : (Jvm.Cond.methodLink "MarkHouseModel" (853 : Nat) ({ cls := "MarkHouseModel", name := "wants", desc := "(I)I" } : Jvm.MethodName)) ∈ lw_all := lw_g (lw_at lw_m14 168 rfl) rfl
theorem q3531 : (Jvm.Cond.privateMethod ({ cls := "MarkHouseModel", name := "wants", desc := "(I)I" } : Jvm.MethodName)) ∈ lw_tbl := lw_at lw_m14 169 rfl
theorem q3532 : (Jvm.Cond.instanceMethod ({ cls := "MarkHouseModel", name := "wants", desc := "(I)I" } : Jvm.MethodName)) ∈ lw_all := lw_g (lw_at lw_m14 170 rfl) rfl
theorem q3533 : (Jvm.Cond.code ({ cls := "MarkHouseModel", name := "wants", desc := "(I)I" } : Jvm.MethodName) prog_18_method_136_code (2 : Nat) (Option.some Jvm.ClassFile.FieldType.int)) ∈ lw_all := lw_g (lw_at lw_m14 171 rfl) rfl
theorem q3534 : (Jvm.Cond.methodLink "MarkHouseModel" (865 : Nat) ({ cls := "MarkHouseModel", name := "fromTop", desc := "(II)I" } : Jvm.MethodName)) ∈ lw_all := lw_g (lw_at lw_m14 172 rfl) rfl
theorem q3535 : (Jvm.Cond.privateMethod ({ cls := "MarkHouseModel", name := "fromTop", desc := "(II)I" } : Jvm.MethodName)) ∈ lw_tbl := lw_at lw_m14 173 rfl
theorem q3536 : (Jvm.Cond.instanceMethod ({ cls := "MarkHouseModel", name := "fromTop", desc := "(II)I" } : Jvm.MethodName)) ∈ lw_all := lw_g (lw_at lw_m14 174 rfl) rfl
theorem q3537 : (Jvm.Cond.code ({ cls := "MarkHouseModel", name := "fromTop", desc := "(II)I" } : Jvm.MethodName) prog_18_method_138_code (3 : Nat) (Option.some Jvm.ClassFile.FieldType.int)) ∈ lw_all := lw_g (lw_at lw_m14 175 rfl) rfl
theorem q3538 : (Jvm.Cond.methodLink "MarkHouseModel" (868 : Nat) ({ cls := "MarkHouseModel", name := "wantedAt", desc := "(III)I" } : Jvm.MethodName)) ∈ lw_all := lw_g (lw_at lw_m14 176 rfl) rfl
theorem q3539 : (Jvm.Cond.privateMethod ({ cls := "MarkHouseModel", name := "wantedAt", desc := "(III)I" } : Jvm.MethodName)) ∈ lw_tbl := lw_at lw_m14 177 rfl
theorem q3540 : (Jvm.Cond.instanceMethod ({ cls := "MarkHouseModel", name := "wantedAt", desc := "(III)I" } : Jvm.MethodName)) ∈ lw_all := lw_g (lw_at lw_m14 178 rfl) rfl
theorem q3541 : (Jvm.Cond.code ({ cls := "MarkHouseModel", name := "wantedAt", desc := "(III)I" } : Jvm.MethodName) prog_18_method_137_code (4 : Nat) (Option.some Jvm.ClassFile.FieldType.int)) ∈ lw_all := lw_g (lw_at lw_m14 179 rfl) rfl
theorem q3543 : (Jvm.Cond.instanceMethod ({ cls := "MarkHouseModel", name := "error", desc := "(II)I" } : Jvm.MethodName)) ∈ lw_all := lw_g (lw_at lw_m14 181 rfl) rfl
theorem q3544 : (Jvm.Cond.selects "MarkHouseModel" ({ cls := "MarkHouseModel", name := "error", desc := "(II)I" } : Jvm.MethodName) ({ cls := "MarkHouseModel", name := "error", desc := "(II)I" } : Jvm.MethodName)) ∈ lw_all := lw_g (lw_at lw_m14 182 rfl) rfl
theorem q3545 : (Jvm.Cond.code ({ cls := "MarkHouseModel", name := "error", desc := "(II)I" } : Jvm.MethodName) prog_18_method_141_code (3 : Nat) (Option.some Jvm.ClassFile.FieldType.int)) ∈ lw_all := lw_g (lw_at lw_m14 183 rfl) rfl
theorem q3547 : (Jvm.Cond.instanceMethod ({ cls := "MarkHouseModel", name := "state", desc := "(III)I" } : Jvm.MethodName)) ∈ lw_all := lw_g (lw_at lw_m14 185 rfl) rfl
theorem q3548 : (Jvm.Cond.selects "MarkHouseModel" ({ cls := "MarkHouseModel", name := "state", desc := "(III)I" } : Jvm.MethodName) ({ cls := "MarkHouseModel", name := "state", desc := "(III)I" } : Jvm.MethodName)) ∈ lw_all := lw_g (lw_at lw_m14 186 rfl) rfl
theorem q3549 : (Jvm.Cond.code ({ cls := "MarkHouseModel", name := "state", desc := "(III)I" } : Jvm.MethodName) prog_18_method_142_code (6 : Nat) (Option.some Jvm.ClassFile.FieldType.int)) ∈ lw_all := lw_g (lw_at lw_m14 187 rfl) rfl
theorem q3551 : (Jvm.Cond.instanceMethod ({ cls := "MarkHouseModel", name := "way", desc := "(I)I" } : Jvm.MethodName)) ∈ lw_all := lw_g (lw_at lw_m14 189 rfl) rfl
theorem q3552 : (Jvm.Cond.selects "MarkHouseModel" ({ cls := "MarkHouseModel", name := "way", desc := "(I)I" } : Jvm.MethodName) ({ cls := "MarkHouseModel", name := "way", desc := "(I)I" } : Jvm.MethodName)) ∈ lw_all := lw_g (lw_at lw_m14 190 rfl) rfl
theorem q3553 : (Jvm.Cond.code ({ cls := "MarkHouseModel", name := "way", desc := "(I)I" } : Jvm.MethodName) prog_18_method_144_code (8 : Nat) (Option.some Jvm.ClassFile.FieldType.int)) ∈ lw_all := lw_g (lw_at lw_m14 191 rfl) rfl
theorem q3554 : (Jvm.Cond.methodLink "MarkHouseModel" (886 : Nat) ({ cls := "MarkHouseModel", name := "meets", desc := "(IIII)V" } : Jvm.MethodName)) ∈ lw_all := lw_g (lw_at lw_m14 192 rfl) rfl
theorem q3555 : (Jvm.Cond.privateMethod ({ cls := "MarkHouseModel", name := "meets", desc := "(IIII)V" } : Jvm.MethodName)) ∈ lw_tbl := lw_at lw_m14 193 rfl
theorem q3556 : (Jvm.Cond.instanceMethod ({ cls := "MarkHouseModel", name := "meets", desc := "(IIII)V" } : Jvm.MethodName)) ∈ lw_all := lw_g (lw_at lw_m14 194 rfl) rfl
theorem q3557 : (Jvm.Cond.code ({ cls := "MarkHouseModel", name := "meets", desc := "(IIII)V" } : Jvm.MethodName) prog_18_method_143_code (10 : Nat) (Option.none : Option Jvm.ClassFile.FieldType)) ∈ lw_all := lw_g (lw_at lw_m14 195 rfl) rfl
theorem q3558 : (Jvm.Cond.methodLink "MarkHouseModel" (890 : Nat) ({ cls := "MarkHouseModel", name := "goes", desc := "(IIIZ)V" } : Jvm.MethodName)) ∈ lw_all := lw_g (lw_at lw_m14 196 rfl) rfl
theorem q3559 : (Jvm.Cond.privateMethod ({ cls := "MarkHouseModel", name := "goes", desc := "(IIIZ)V" } : Jvm.MethodName)) ∈ lw_tbl := lw_at lw_m14 197 rfl
theorem q3560 : (Jvm.Cond.instanceMethod ({ cls := "MarkHouseModel", name := "goes", desc := "(IIIZ)V" } : Jvm.MethodName)) ∈ lw_all := lw_g (lw_at lw_m14 198 rfl) rfl
theorem q3561 : (Jvm.Cond.code ({ cls := "MarkHouseModel", name := "goes", desc := "(IIIZ)V" } : Jvm.MethodName) prog_18_method_145_code (7 : Nat) (Option.none : Option Jvm.ClassFile.FieldType)) ∈ lw_all := lw_g (lw_at lw_m14 199 rfl) rfl
theorem q3563 : (Jvm.Cond.instanceMethod ({ cls := "MarkHouseModel", name := "step", desc := "(I)I" } : Jvm.MethodName)) ∈ lw_all := lw_g (lw_at lw_m14 201 rfl) rfl
theorem q3564 : (Jvm.Cond.selects "MarkHouseModel" ({ cls := "MarkHouseModel", name := "step", desc := "(I)I" } : Jvm.MethodName) ({ cls := "MarkHouseModel", name := "step", desc := "(I)I" } : Jvm.MethodName)) ∈ lw_all := lw_g (lw_at lw_m14 202 rfl) rfl
theorem q3565 : (Jvm.Cond.code ({ cls := "MarkHouseModel", name := "step", desc := "(I)I" } : Jvm.MethodName) prog_18_method_146_code (2 : Nat) (Option.some Jvm.ClassFile.FieldType.int)) ∈ lw_all := lw_g (lw_at lw_m14 203 rfl) rfl
theorem q3567 : (Jvm.Cond.instanceMethod ({ cls := "MarkHouseModel", name := "find", desc := "(I)I" } : Jvm.MethodName)) ∈ lw_all := lw_g (lw_at lw_m14 205 rfl) rfl
theorem q3568 : (Jvm.Cond.selects "MarkHouseModel" ({ cls := "MarkHouseModel", name := "find", desc := "(I)I" } : Jvm.MethodName) ({ cls := "MarkHouseModel", name := "find", desc := "(I)I" } : Jvm.MethodName)) ∈ lw_all := lw_g (lw_at lw_m14 206 rfl) rfl
theorem q3569 : (Jvm.Cond.code ({ cls := "MarkHouseModel", name := "find", desc := "(I)I" } : Jvm.MethodName) prog_18_method_147_code (9 : Nat) (Option.some Jvm.ClassFile.FieldType.int)) ∈ lw_all := lw_g (lw_at lw_m14 207 rfl) rfl
theorem q3571 : (Jvm.Cond.instanceMethod ({ cls := "MarkHouseModel", name := "plain", desc := "(I)Z" } : Jvm.MethodName)) ∈ lw_all := lw_g (lw_at lw_m14 209 rfl) rfl
theorem q3572 : (Jvm.Cond.selects "MarkHouseModel" ({ cls := "MarkHouseModel", name := "plain", desc := "(I)Z" } : Jvm.MethodName) ({ cls := "MarkHouseModel", name := "plain", desc := "(I)Z" } : Jvm.MethodName)) ∈ lw_all := lw_g (lw_at lw_m14 210 rfl) rfl
theorem q3573 : (Jvm.Cond.code ({ cls := "MarkHouseModel", name := "plain", desc := "(I)Z" } : Jvm.MethodName) prog_18_method_148_code (3 : Nat) (Option.some Jvm.ClassFile.FieldType.boolean)) ∈ lw_all := lw_g (lw_at lw_m14 211 rfl) rfl
theorem q3575 : (Jvm.Cond.instanceMethod ({ cls := "MarkHouseModel", name := "weave", desc := "()I" } : Jvm.MethodName)) ∈ lw_all := lw_g (lw_at lw_m14 213 rfl) rfl
theorem q3576 : (Jvm.Cond.selects "MarkHouseModel" ({ cls := "MarkHouseModel", name := "weave", desc := "()I" } : Jvm.MethodName) ({ cls := "MarkHouseModel", name := "weave", desc := "()I" } : Jvm.MethodName)) ∈ lw_all := lw_g (lw_at lw_m14 214 rfl) rfl
theorem q3577 : (Jvm.Cond.code ({ cls := "MarkHouseModel", name := "weave", desc := "()I" } : Jvm.MethodName) prog_18_method_151_code (4 : Nat) (Option.some Jvm.ClassFile.FieldType.int)) ∈ lw_all := lw_g (lw_at lw_m14 215 rfl) rfl
theorem q3578 : (Jvm.Cond.methodLink "MarkHouseModel" (903 : Nat) ({ cls := "MarkHouseModel", name := "checkAt", desc := "(III)I" } : Jvm.MethodName)) ∈ lw_all := lw_g (lw_at lw_m14 216 rfl) rfl
theorem q3579 : (Jvm.Cond.static ({ cls := "MarkHouseModel", name := "checkAt", desc := "(III)I" } : Jvm.MethodName)) ∈ lw_all := lw_g (lw_at lw_m14 217 rfl) rfl
theorem q3580 : (Jvm.Cond.code ({ cls := "MarkHouseModel", name := "checkAt", desc := "(III)I" } : Jvm.MethodName) prog_18_method_150_code (3 : Nat) (Option.some Jvm.ClassFile.FieldType.int)) ∈ lw_all := lw_g (lw_at lw_m14 218 rfl) rfl
theorem q3582 : (Jvm.Cond.instanceMethod ({ cls := "MarkHouseModel", name := "code", desc := "(IZ)I" } : Jvm.MethodName)) ∈ lw_all := lw_g (lw_at lw_m14 220 rfl) rfl
theorem q3583 : (Jvm.Cond.selects "MarkHouseModel" ({ cls := "MarkHouseModel", name := "code", desc := "(IZ)I" } : Jvm.MethodName) ({ cls := "MarkHouseModel", name := "code", desc := "(IZ)I" } : Jvm.MethodName)) ∈ lw_all := lw_g (lw_at lw_m14 221 rfl) rfl
theorem q3584 : (Jvm.Cond.code ({ cls := "MarkHouseModel", name := "code", desc := "(IZ)I" } : Jvm.MethodName) prog_18_method_154_code (8 : Nat) (Option.some Jvm.ClassFile.FieldType.int)) ∈ lw_all := lw_g (lw_at lw_m14 222 rfl) rfl
theorem q3585 : (Jvm.Cond.stringRef "MarkHouseModel" (909 : Nat) "check") ∈ lw_tbl := lw_at lw_m14 223 rfl
theorem q3587 : (Jvm.Cond.instanceMethod ({ cls := "MarkHouseModel", name := "argument", desc := "(II)Z" } : Jvm.MethodName)) ∈ lw_all := lw_g (lw_at lw_m14 225 rfl) rfl
theorem q3588 : (Jvm.Cond.selects "MarkHouseModel" ({ cls := "MarkHouseModel", name := "argument", desc := "(II)Z" } : Jvm.MethodName) ({ cls := "MarkHouseModel", name := "argument", desc := "(II)Z" } : Jvm.MethodName)) ∈ lw_all := lw_g (lw_at lw_m14 226 rfl) rfl
theorem q3589 : (Jvm.Cond.code ({ cls := "MarkHouseModel", name := "argument", desc := "(II)Z" } : Jvm.MethodName) prog_18_method_155_code (3 : Nat) (Option.some Jvm.ClassFile.FieldType.boolean)) ∈ lw_all := lw_g (lw_at lw_m14 227 rfl) rfl
theorem q3591 : (Jvm.Cond.instanceMethod ({ cls := "MarkHouseModel", name := "input", desc := "(I)I" } : Jvm.MethodName)) ∈ lw_all := lw_g (lw_at lw_m14 229 rfl) rfl
theorem q3592 : (Jvm.Cond.selects "MarkHouseModel" ({ cls := "MarkHouseModel", name := "input", desc := "(I)I" } : Jvm.MethodName) ({ cls := "MarkHouseModel", name := "input", desc := "(I)I" } : Jvm.MethodName)) ∈ lw_all := lw_g (lw_at lw_m14 230 rfl) rfl
theorem q3593 : (Jvm.Cond.code ({ cls := "MarkHouseModel", name := "input", desc := "(I)I" } : Jvm.MethodName) prog_18_method_156_code (2 : Nat) (Option.some Jvm.ClassFile.FieldType.int)) ∈ lw_all := lw_g (lw_at lw_m14 231 rfl) rfl
theorem q3595 : (Jvm.Cond.instanceMethod ({ cls := "MarkHouseModel", name := "begin", desc := "(IZ)V" } : Jvm.MethodName)) ∈ lw_all := lw_g (lw_at lw_m14 233 rfl) rfl
theorem q3596 : (Jvm.Cond.selects "MarkHouseModel" ({ cls := "MarkHouseModel", name := "begin", desc := "(IZ)V" } : Jvm.MethodName) ({ cls := "MarkHouseModel", name := "begin", desc := "(IZ)V" } : Jvm.MethodName)) ∈ lw_all := lw_g (lw_at lw_m14 234 rfl) rfl
theorem q3597 : (Jvm.Cond.code ({ cls := "MarkHouseModel", name := "begin", desc := "(IZ)V" } : Jvm.MethodName) prog_18_method_160_code (5 : Nat) (Option.none : Option Jvm.ClassFile.FieldType)) ∈ lw_all := lw_g (lw_at lw_m14 235 rfl) rfl
theorem q3598 : (Jvm.Cond.methodLink "MarkHouseModel" (946 : Nat) ({ cls := "MarkHouseModel", name := "frame", desc := "(I)V" } : Jvm.MethodName)) ∈ lw_all := lw_g (lw_at lw_m14 236 rfl) rfl
theorem q3599 : (Jvm.Cond.privateMethod ({ cls := "MarkHouseModel", name := "frame", desc := "(I)V" } : Jvm.MethodName)) ∈ lw_tbl := lw_at lw_m14 237 rfl
theorem q3600 : (Jvm.Cond.instanceMethod ({ cls := "MarkHouseModel", name := "frame", desc := "(I)V" } : Jvm.MethodName)) ∈ lw_all := lw_g (lw_at lw_m14 238 rfl) rfl
theorem q3601 : (Jvm.Cond.code ({ cls := "MarkHouseModel", name := "frame", desc := "(I)V" } : Jvm.MethodName) prog_18_method_157_code (4 : Nat) (Option.none : Option Jvm.ClassFile.FieldType)) ∈ lw_all := lw_g (lw_at lw_m14 239 rfl) rfl
theorem q3602 : (Jvm.Cond.methodLink "MarkHouseModel" (916 : Nat) ({ cls := "MarkHouseModel", name := "plain", desc := "(II)V" } : Jvm.MethodName)) ∈ lw_all := lw_g (lw_at lw_m15 0 rfl) rfl
theorem q3603 : (Jvm.Cond.privateMethod ({ cls := "MarkHouseModel", name := "plain", desc := "(II)V" } : Jvm.MethodName)) ∈ lw_tbl := lw_at lw_m15 1 rfl
theorem q3604 : (Jvm.Cond.instanceMethod ({ cls := "MarkHouseModel", name := "plain", desc := "(II)V" } : Jvm.MethodName)) ∈ lw_all := lw_g (lw_at lw_m15 2 rfl) rfl
theorem q3605 : (Jvm.Cond.code ({ cls := "MarkHouseModel", name := "plain", desc := "(II)V" } : Jvm.MethodName) prog_18_method_158_code (4 : Nat) (Option.none : Option Jvm.ClassFile.FieldType)) ∈ lw_all := lw_g (lw_at lw_m15 3 rfl) rfl
theorem q3607 : (Jvm.Cond.instanceMethod ({ cls := "MarkHouseModel", name := "go", desc := "(I)I" } : Jvm.MethodName)) ∈ lw_all := lw_g (lw_at lw_m15 5 rfl) rfl
theorem q3608 : (Jvm.Cond.selects "MarkHouseModel" ({ cls := "MarkHouseModel", name := "go", desc := "(I)I" } : Jvm.MethodName) ({ cls := "MarkHouseModel", name := "go", desc := "(I)I" } : Jvm.MethodName)) ∈ lw_all := lw_g (lw_at lw_m15 6 rfl) rfl
theorem q3609 : (Jvm.Cond.code ({ cls := "MarkHouseModel", name := "go", desc := "(I)I" } : Jvm.MethodName) prog_18_method_161_code (5 : Nat) (Option.some Jvm.ClassFile.FieldType.int)) ∈ lw_all := lw_g (lw_at lw_m15 7 rfl) rfl
theorem q3610 : (Jvm.Cond.methodLink "MarkHouseModel" (949 : Nat) ({ cls := "MarkHouseModel", name := "passes", desc := "(II)Z" } : Jvm.MethodName)) ∈ lw_all := lw_g (lw_at lw_m15 8 rfl) rfl
theorem q3611 : (Jvm.Cond.privateMethod ({ cls := "MarkHouseModel", name := "passes", desc := "(II)Z" } : Jvm.MethodName)) ∈ lw_tbl := lw_at lw_m15 9 rfl
theorem q3612 : (Jvm.Cond.instanceMethod ({ cls := "MarkHouseModel", name := "passes", desc := "(II)Z" } : Jvm.MethodName)) ∈ lw_all := lw_g (lw_at lw_m15 10 rfl) rfl
theorem q3613 : (Jvm.Cond.code ({ cls := "MarkHouseModel", name := "passes", desc := "(II)Z" } : Jvm.MethodName) prog_18_method_162_code (6 : Nat) (Option.some Jvm.ClassFile.FieldType.boolean)) ∈ lw_all := lw_g (lw_at lw_m15 11 rfl) rfl
theorem q3614 : (Jvm.Cond.methodLink "MarkHouseModel" (952 : Nat) ({ cls := "MarkHouseModel", name := "leaves", desc := "(II)V" } : Jvm.MethodName)) ∈ lw_all := lw_g (lw_at lw_m15 12 rfl) rfl
theorem q3615 : (Jvm.Cond.privateMethod ({ cls := "MarkHouseModel", name := "leaves", desc := "(II)V" } : Jvm.MethodName)) ∈ lw_tbl := lw_at lw_m15 13 rfl
theorem q3616 : (Jvm.Cond.instanceMethod ({ cls := "MarkHouseModel", name := "leaves", desc := "(II)V" } : Jvm.MethodName)) ∈ lw_all := lw_g (lw_at lw_m15 14 rfl) rfl
theorem q3617 : (Jvm.Cond.code ({ cls := "MarkHouseModel", name := "leaves", desc := "(II)V" } : Jvm.MethodName) prog_18_method_163_code (7 : Nat) (Option.none : Option Jvm.ClassFile.FieldType)) ∈ lw_all := lw_g (lw_at lw_m15 15 rfl) rfl
theorem q3618 : (Jvm.Cond.methodLink "MarkHouseModel" (955 : Nat) ({ cls := "MarkHouseModel", name := "perform", desc := "(II)V" } : Jvm.MethodName)) ∈ lw_all := lw_g (lw_at lw_m15 16 rfl) rfl
theorem q3619 : (Jvm.Cond.privateMethod ({ cls := "MarkHouseModel", name := "perform", desc := "(II)V" } : Jvm.MethodName)) ∈ lw_tbl := lw_at lw_m15 17 rfl
theorem q3620 : (Jvm.Cond.instanceMethod ({ cls := "MarkHouseModel", name := "perform", desc := "(II)V" } : Jvm.MethodName)) ∈ lw_all := lw_g (lw_at lw_m15 18 rfl) rfl
theorem q3621 : (Jvm.Cond.code ({ cls := "MarkHouseModel", name := "perform", desc := "(II)V" } : Jvm.MethodName) prog_18_method_164_code (9 : Nat) (Option.none : Option Jvm.ClassFile.FieldType)) ∈ lw_all := lw_g (lw_at lw_m15 19 rfl) rfl
theorem q3622 : (Jvm.Cond.methodLink "MarkHouseModel" (958 : Nat) ({ cls := "MarkHouseModel", name := "nextInput", desc := "()I" } : Jvm.MethodName)) ∈ lw_all := lw_g (lw_at lw_m15 20 rfl) rfl
theorem q3623 : (Jvm.Cond.privateMethod ({ cls := "MarkHouseModel", name := "nextInput", desc := "()I" } : Jvm.MethodName)) ∈ lw_tbl := lw_at lw_m15 21 rfl
theorem q3624 : (Jvm.Cond.instanceMethod ({ cls := "MarkHouseModel", name := "nextInput", desc := "()I" } : Jvm.MethodName)) ∈ lw_all := lw_g (lw_at lw_m15 22 rfl) rfl
theorem q3625 : (Jvm.Cond.code ({ cls := "MarkHouseModel", name := "nextInput", desc := "()I" } : Jvm.MethodName) prog_18_method_165_code (3 : Nat) (Option.some Jvm.ClassFile.FieldType.int)) ∈ lw_all := lw_g (lw_at lw_m15 23 rfl) rfl
theorem q3626 : (Jvm.Cond.methodLink "MarkHouseModel" (961 : Nat) ({ cls := "MarkHouseModel", name := "copy", desc := "(II)V" } : Jvm.MethodName)) ∈ lw_all := lw_g (lw_at lw_m15 24 rfl) rfl
theorem q3627 : (Jvm.Cond.privateMethod ({ cls := "MarkHouseModel", name := "copy", desc := "(II)V" } : Jvm.MethodName)) ∈ lw_tbl := lw_at lw_m15 25 rfl
theorem q3628 : (Jvm.Cond.instanceMethod ({ cls := "MarkHouseModel", name := "copy", desc := "(II)V" } : Jvm.MethodName)) ∈ lw_all := lw_g (lw_at lw_m15 26 rfl) rfl
theorem q3629 : (Jvm.Cond.code ({ cls := "MarkHouseModel", name := "copy", desc := "(II)V" } : Jvm.MethodName) prog_18_method_159_code (4 : Nat) (Option.none : Option Jvm.ClassFile.FieldType)) ∈ lw_all := lw_g (lw_at lw_m15 27 rfl) rfl
theorem q3630 : (Jvm.Cond.methodLink "MarkHouseModel" (964 : Nat) ({ cls := "MarkHouseModel", name := "calls", desc := "(II)V" } : Jvm.MethodName)) ∈ lw_all := lw_g (lw_at lw_m15 28 rfl) rfl
theorem q3631 : (Jvm.Cond.privateMethod ({ cls := "MarkHouseModel", name := "calls", desc := "(II)V" } : Jvm.MethodName)) ∈ lw_tbl := lw_at lw_m15 29 rfl
theorem q3632 : (Jvm.Cond.instanceMethod ({ cls := "MarkHouseModel", name := "calls", desc := "(II)V" } : Jvm.MethodName)) ∈ lw_all := lw_g (lw_at lw_m15 30 rfl) rfl
theorem q3633 : (Jvm.Cond.code ({ cls := "MarkHouseModel", name := "calls", desc := "(II)V" } : Jvm.MethodName) prog_18_method_166_code (6 : Nat) (Option.none : Option Jvm.ClassFile.FieldType)) ∈ lw_all := lw_g (lw_at lw_m15 31 rfl) rfl
theorem q3634 : (Jvm.Cond.methodLink "MarkHouseModel" (967 : Nat) ({ cls := "MarkHouseModel", name := "gives", desc := "(II)V" } : Jvm.MethodName)) ∈ lw_all := lw_g (lw_at lw_m15 32 rfl) rfl
theorem q3635 : (Jvm.Cond.privateMethod ({ cls := "MarkHouseModel", name := "gives", desc := "(II)V" } : Jvm.MethodName)) ∈ lw_tbl := lw_at lw_m15 33 rfl
theorem q3636 : (Jvm.Cond.instanceMethod ({ cls := "MarkHouseModel", name := "gives", desc := "(II)V" } : Jvm.MethodName)) ∈ lw_all := lw_g (lw_at lw_m15 34 rfl) rfl
theorem q3637 : (Jvm.Cond.code ({ cls := "MarkHouseModel", name := "gives", desc := "(II)V" } : Jvm.MethodName) prog_18_method_167_code (4 : Nat) (Option.none : Option Jvm.ClassFile.FieldType)) ∈ lw_all := lw_g (lw_at lw_m15 35 rfl) rfl
theorem q3639 : (Jvm.Cond.instanceMethod ({ cls := "MarkHouseModel", name := "run", desc := "(I)I" } : Jvm.MethodName)) ∈ lw_all := lw_g (lw_at lw_m15 37 rfl) rfl
theorem q3640 : (Jvm.Cond.selects "MarkHouseModel" ({ cls := "MarkHouseModel", name := "run", desc := "(I)I" } : Jvm.MethodName) ({ cls := "MarkHouseModel", name := "run", desc := "(I)I" } : Jvm.MethodName)) ∈ lw_all := lw_g (lw_at lw_m15 38 rfl) rfl
theorem q3641 : (Jvm.Cond.code ({ cls := "MarkHouseModel", name := "run", desc := "(I)I" } : Jvm.MethodName) prog_18_method_168_code (3 : Nat) (Option.some Jvm.ClassFile.FieldType.int)) ∈ lw_all := lw_g (lw_at lw_m15 39 rfl) rfl
theorem q3643 : (Jvm.Cond.instanceMethod ({ cls := "MarkHouseModel", name := "truth", desc := "(I)I" } : Jvm.MethodName)) ∈ lw_all := lw_g (lw_at lw_m15 41 rfl) rfl
theorem q3644 : (Jvm.Cond.selects "MarkHouseModel" ({ cls := "MarkHouseModel", name := "truth", desc := "(I)I" } : Jvm.MethodName) ({ cls := "MarkHouseModel", name := "truth", desc := "(I)I" } : Jvm.MethodName)) ∈ lw_all := lw_g (lw_at lw_m15 42 rfl) rfl
theorem q3645 : (Jvm.Cond.code ({ cls := "MarkHouseModel", name := "truth", desc := "(I)I" } : Jvm.MethodName) prog_18_method_169_code (2 : Nat) (Option.some Jvm.ClassFile.FieldType.int)) ∈ lw_all := lw_g (lw_at lw_m15 43 rfl) rfl
theorem q3647 : (Jvm.Cond.instanceMethod ({ cls := "MarkHouseModel", name := "wire", desc := "()I" } : Jvm.MethodName)) ∈ lw_all := lw_g (lw_at lw_m15 45 rfl) rfl
theorem q3648 : (Jvm.Cond.selects "MarkHouseModel" ({ cls := "MarkHouseModel", name := "wire", desc := "()I" } : Jvm.MethodName) ({ cls := "MarkHouseModel", name := "wire", desc := "()I" } : Jvm.MethodName)) ∈ lw_all := lw_g (lw_at lw_m15 46 rfl) rfl
theorem q3649 : (Jvm.Cond.code ({ cls := "MarkHouseModel", name := "wire", desc := "()I" } : Jvm.MethodName) prog_18_method_174_code (3 : Nat) (Option.some Jvm.ClassFile.FieldType.int)) ∈ lw_all := lw_g (lw_at lw_m15 47 rfl) rfl
theorem q3650 : (Jvm.Cond.constantLong "MarkHouseModel" (981 : Nat) (1885434484 : Int64)) ∈ lw_all := lw_g (lw_at lw_m15 48 rfl) rfl
theorem q3651 : (Jvm.Cond.constantLong "MarkHouseModel" (983 : Nat) (465490306412 : Int64)) ∈ lw_all := lw_g (lw_at lw_m15 49 rfl) rfl
theorem q3652 : (Jvm.Cond.methodLink "MarkHouseModel" (985 : Nat) ({ cls := "MarkHouseModel", name := "textOf", desc := "(IIJ)J" } : Jvm.MethodName)) ∈ lw_all := lw_g (lw_at lw_m15 50 rfl) rfl
theorem q3653 : (Jvm.Cond.privateMethod ({ cls := "MarkHouseModel", name := "textOf", desc := "(IIJ)J" } : Jvm.MethodName)) ∈ lw_tbl := lw_at lw_m15 51 rfl
theorem q3654 : (Jvm.Cond.instanceMethod ({ cls := "MarkHouseModel", name := "textOf", desc := "(IIJ)J" } : Jvm.MethodName)) ∈ lw_all := lw_g (lw_at lw_m15 52 rfl) rfl
theorem q3655 : (Jvm.Cond.code ({ cls := "MarkHouseModel", name := "textOf", desc := "(IIJ)J" } : Jvm.MethodName) prog_18_method_170_code (6 : Nat) (Option.some Jvm.ClassFile.FieldType.long)) ∈ lw_all := lw_g (lw_at lw_m15 53 rfl) rfl
theorem q3656 : (Jvm.Cond.methodLink "MarkHouseModel" (989 : Nat) ({ cls := "MarkHouseModel", name := "make", desc := "(I)V" } : Jvm.MethodName)) ∈ lw_all := lw_g (lw_at lw_m15 54 rfl) rfl
theorem q3657 : (Jvm.Cond.privateMethod ({ cls := "MarkHouseModel", name := "make", desc := "(I)V" } : Jvm.MethodName)) ∈ lw_tbl := lw_at lw_m15 55 rfl
theorem q3658 : (Jvm.Cond.instanceMethod ({ cls := "MarkHouseModel", name := "make", desc := "(I)V" } : Jvm.MethodName)) ∈ lw_all := lw_g (lw_at lw_m15 56 rfl) rfl
theorem q3659 : (Jvm.Cond.code ({ cls := "MarkHouseModel", name := "make", desc := "(I)V" } : Jvm.MethodName) prog_18_method_175_code (2 : Nat) (Option.none : Option Jvm.ClassFile.FieldType)) ∈ lw_all := lw_g (lw_at lw_m15 57 rfl) rfl
theorem q3660 : (Jvm.Cond.methodLink "MarkHouseModel" (992 : Nat) ({ cls := "MarkHouseModel", name := "wantsOf", desc := "(II)V" } : Jvm.MethodName)) ∈ lw_all := lw_g (lw_at lw_m15 58 rfl) rfl
theorem q3661 : (Jvm.Cond.privateMethod ({ cls := "MarkHouseModel", name := "wantsOf", desc := "(II)V" } : Jvm.MethodName)) ∈ lw_tbl := lw_at lw_m15 59 rfl
theorem q3662 : (Jvm.Cond.instanceMethod ({ cls := "MarkHouseModel", name := "wantsOf", desc := "(II)V" } : Jvm.MethodName)) ∈ lw_all := lw_g (lw_at lw_m15 60 rfl) rfl
theorem q3663 : (Jvm.Cond.code ({ cls := "MarkHouseModel", name := "wantsOf", desc := "(II)V" } : Jvm.MethodName) prog_18_method_176_code (6 : Nat) (Option.none : Option Jvm.ClassFile.FieldType)) ∈ lw_all := lw_g (lw_at lw_m15 61 rfl) rfl
theorem q3664 : (Jvm.Cond.constantLong "MarkHouseModel" (995 : Nat) (2002873972 : Int64)) ∈ lw_all := lw_g (lw_at lw_m15 62 rfl) rfl
theorem q3665 : (Jvm.Cond.methodLink "MarkHouseModel" (997 : Nat) ({ cls := "MarkHouseModel", name := "wantsOne", desc := "(IIII)V" } : Jvm.MethodName)) ∈ lw_all := lw_g (lw_at lw_m15 63 rfl) rfl
theorem q3666 : (Jvm.Cond.privateMethod ({ cls := "MarkHouseModel", name := "wantsOne", desc := "(IIII)V" } : Jvm.MethodName)) ∈ lw_tbl := lw_at lw_m15 64 rfl
theorem q3667 : (Jvm.Cond.instanceMethod ({ cls := "MarkHouseModel", name := "wantsOne", desc := "(IIII)V" } : Jvm.MethodName)) ∈ lw_all := lw_g (lw_at lw_m15 65 rfl) rfl
theorem q3668 : (Jvm.Cond.code ({ cls := "MarkHouseModel", name := "wantsOne", desc := "(IIII)V" } : Jvm.MethodName) prog_18_method_177_code (13 : Nat) (Option.none : Option Jvm.ClassFile.FieldType)) ∈ lw_all := lw_g (lw_at lw_m15 66 rfl) rfl
theorem q3669 : (Jvm.Cond.constantLong "MarkHouseModel" (1000 : Nat) (28518 : Int64)) ∈ lw_all := lw_g (lw_at lw_m15 67 rfl) rfl
theorem q3670 : (Jvm.Cond.methodLink "MarkHouseModel" (1002 : Nat) ({ cls := "MarkHouseModel", name := "hasText", desc := "(IIJ)Z" } : Jvm.MethodName)) ∈ lw_all := lw_g (lw_at lw_m15 68 rfl) rfl
theorem q3671 : (Jvm.Cond.privateMethod ({ cls := "MarkHouseModel", name := "hasText", desc := "(IIJ)Z" } : Jvm.MethodName)) ∈ lw_tbl := lw_at lw_m15 69 rfl
theorem q3672 : (Jvm.Cond.instanceMethod ({ cls := "MarkHouseModel", name := "hasText", desc := "(IIJ)Z" } : Jvm.MethodName)) ∈ lw_all := lw_g (lw_at lw_m15 70 rfl) rfl
theorem q3673 : (Jvm.Cond.code ({ cls := "MarkHouseModel", name := "hasText", desc := "(IIJ)Z" } : Jvm.MethodName) prog_18_method_171_code (6 : Nat) (Option.some Jvm.ClassFile.FieldType.boolean)) ∈ lw_all := lw_g (lw_at lw_m15 71 rfl) rfl
theorem q3674 : (Jvm.Cond.constantLong "MarkHouseModel" (1005 : Nat) (1818326117 : Int64)) ∈ lw_all := lw_g (lw_at lw_m15 72 rfl) rfl
theorem q3675 : (Jvm.Cond.methodLink "MarkHouseModel" (1007 : Nat) ({ cls := "MarkHouseModel", name := "isUnder", desc := "(II)Z" } : Jvm.MethodName)) ∈ lw_all := lw_g (lw_at lw_m15 73 rfl) rfl
theorem q3676 : (Jvm.Cond.privateMethod ({ cls := "MarkHouseModel", name := "isUnder", desc := "(II)Z" } : Jvm.MethodName)) ∈ lw_tbl := lw_at lw_m15 74 rfl
theorem q3677 : (Jvm.Cond.instanceMethod ({ cls := "MarkHouseModel", name := "isUnder", desc := "(II)Z" } : Jvm.MethodName)) ∈ lw_all := lw_g (lw_at lw_m15 75 rfl) rfl
theorem q3678 : (Jvm.Cond.code ({ cls := "MarkHouseModel", name := "isUnder", desc := "(II)Z" } : Jvm.MethodName) prog_18_method_172_code (4 : Nat) (Option.some Jvm.ClassFile.FieldType.boolean)) ∈ lw_all := lw_g (lw_at lw_m15 76 rfl) rfl
theorem q3679 : (Jvm.Cond.methodLink "MarkHouseModel" (1010 : Nat) ({ cls := "MarkHouseModel", name := "wires", desc := "(III)V" } : Jvm.MethodName)) ∈ lw_all := lw_g (lw_at lw_m15 77 rfl) rfl
theorem q3680 : (Jvm.Cond.privateMethod ({ cls := "MarkHouseModel", name := "wires", desc := "(III)V" } : Jvm.MethodName)) ∈ lw_tbl := lw_at lw_m15 78 rfl
theorem q3681 : (Jvm.Cond.instanceMethod ({ cls := "MarkHouseModel", name := "wires", desc := "(III)V" } : Jvm.MethodName)) ∈ lw_all := lw_g (lw_at lw_m15 79 rfl) rfl
theorem q3682 : (Jvm.Cond.code ({ cls := "MarkHouseModel", name := "wires", desc := "(III)V" } : Jvm.MethodName) prog_18_method_173_code (4 : Nat) (Option.none : Option Jvm.ClassFile.FieldType)) ∈ lw_all := lw_g (lw_at lw_m15 80 rfl) rfl
theorem q3684 : (Jvm.Cond.instanceMethod ({ cls := "MarkHouseModel", name := "wired", desc := "(I)I" } : Jvm.MethodName)) ∈ lw_all := lw_g (lw_at lw_m15 82 rfl) rfl
theorem q3685 : (Jvm.Cond.selects "MarkHouseModel" ({ cls := "MarkHouseModel", name := "wired", desc := "(I)I" } : Jvm.MethodName) ({ cls := "MarkHouseModel", name := "wired", desc := "(I)I" } : Jvm.MethodName)) ∈ lw_all := lw_g (lw_at lw_m15 83 rfl) rfl
theorem q3686 : (Jvm.Cond.code ({ cls := "MarkHouseModel", name := "wired", desc := "(I)I" } : Jvm.MethodName) prog_18_method_178_code (2 : Nat) (Option.some Jvm.ClassFile.FieldType.int)) ∈ lw_all := lw_g (lw_at lw_m15 84 rfl) rfl
theorem in_X17 : ∀ w ∈ wsX170, w ∈ lw_all := lw_in wsX170 [2684, 2686, 2688, 2690, 2692, 2694, 2696, 2698, 2700, 2702, 2704, 2706, 2708, 2710, 2712, 2714, 2716, 2718, 2720, 2722, 2724, 2726, 2728, 2730, 2732, 2734, 2736, 2738, 2740, 2742, 2744, 2746, 2748, 2750, 2752, 2754, 2756, 2758, 2760, 2762, 2764, 2766, 2768, 2770, 2772, 2774, 2776, 2778, 2780, 2782, 2784, 2786, 2788, 2790, 2792, 2794, 2796, 2798, 2800, 2802, 2804, 2806, 2808, 2810, 2812, 2814, 2816, 2818, 2820, 2822, 2824, 2826, 2828, 2830, 2832, 2834, 2836, 2838, 2840, 2842, 2844, 2846, 2848, 2850, 2852, 2854, 2856, 2858, 2860, 2862, 2864, 2866, 2868, 2870, 2872, 2874, 2876, 2878, 2880, 2882, 2884, 2886, 2888, 2890, 2892, 2894, 2896, 2898, 2900, 2902, 2904, 2906, 2908, 2910, 2912, 2914, 2916, 2918, 2920, 2922, 2924, 2926, 2928, 2930, 2932, 2934, 2936, 2938, 2940, 2942, 2944, 2946, 2948, 2950, 2952, 2954, 2956, 2958, 2960, 2962] (by decide +kernel) (by decide +kernel)
theorem q271 : (Jvm.Cond.initialized "java/lang/System") ∈ lw_all := lw_g (lw_at lw_m1 29 rfl) rfl
set_option maxRecDepth 100000
theorem q1736 : (Jvm.Cond.static ({ cls := "java/lang/System", name := "arraycopy", desc := "(Ljava/lang/Object;ILjava/lang/Object;II)V" } : Jvm.MethodName)) ∈ lw_all := lw_g (lw_at lw_m7 54 rfl) rfl
theorem q1737 : (Jvm.Cond.native ({ cls := "java/lang/System", name := "arraycopy", desc := "(Ljava/lang/Object;ILjava/lang/Object;II)V" } : Jvm.MethodName)) ∈ lw_all := lw_g (lw_at lw_m7 55 rfl) rfl
theorem q295 : (Jvm.Cond.arrayClass Jvm.ClassFile.FieldType.byte) ∈ lw_all := lw_g (lw_at lw_m1 53 rfl) rfl
set_option maxRecDepth 100000
theorem q318 : (Jvm.Cond.arrayOver (Jvm.ClassFile.FieldType.object "java/lang/String")) ∈ lw_tbl := lw_at lw_m1 76 rfl
theorem q432 : (Jvm.Cond.arrayClass Jvm.ClassFile.FieldType.long) ∈ lw_all := lw_g (lw_at lw_m1 190 rfl) rfl
theorem q433 : (Jvm.Cond.arrayClass Jvm.ClassFile.FieldType.int) ∈ lw_all := lw_g (lw_at lw_m1 191 rfl) rfl
theorem q494 : (Jvm.Cond.arrayClass Jvm.ClassFile.FieldType.boolean) ∈ lw_all := lw_g (lw_at lw_m2 12 rfl) rfl
theorem q834 : (Jvm.Cond.arrayOver (Jvm.ClassFile.FieldType.array Jvm.ClassFile.FieldType.int)) ∈ lw_tbl := lw_at lw_m3 112 rfl
