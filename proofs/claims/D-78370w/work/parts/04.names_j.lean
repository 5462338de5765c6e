/-! java/util/AbstractCollection -/
set_option maxRecDepth 100000
def RJ0 : String := "java/util/AbstractCollection"
abbrev cJ0_init : ByteArray := prog_50_method_1_code
def yJ0_init : MethodName := ⟨RJ0, "<init>", "()V"⟩
theorem dJ0_init_0 : decode cJ0_init 0 = .ok (.aload_n 0, 1) := by decide +kernel
theorem dJ0_init_1 : decode cJ0_init 1 = .ok (.invokespecial 1, 3) := by decide +kernel
theorem dJ0_init_4 : decode cJ0_init 4 = .ok (.return_, 1) := by decide +kernel
theorem q109 : (Jvm.Cond.initialized "java/util/AbstractCollection") ∈ lw_all := lw_g (lw_at lw_m1 2 rfl) rfl
theorem q181 : (Jvm.Cond.instanceMethod ({ cls := "java/util/AbstractCollection", name := "<init>", desc := "()V" } : Jvm.MethodName)) ∈ lw_all := lw_g (lw_at lw_m1 74 rfl) rfl
theorem q182 : (Jvm.Cond.code ({ cls := "java/util/AbstractCollection", name := "<init>", desc := "()V" } : Jvm.MethodName) prog_50_method_1_code (1 : Nat) (Option.none : Option Jvm.ClassFile.FieldType)) ∈ lw_all := lw_g (lw_at lw_m1 75 rfl) rfl
theorem q183 : (Jvm.Cond.methodLink "java/util/AbstractCollection" (1 : Nat) ({ cls := "java/lang/Object", name := "<init>", desc := "()V" } : Jvm.MethodName)) ∈ lw_all := lw_g (lw_at lw_m1 76 rfl) rfl

/-! java/util/AbstractList -/
set_option maxRecDepth 100000
def RJ1 : String := "java/util/AbstractList"
abbrev cJ1_init : ByteArray := prog_51_method_1_code
def yJ1_init : MethodName := ⟨RJ1, "<init>", "()V"⟩
def dkwJ1_init_0 : List UInt8 := [42, 183, 0, 1, 42, 3, 181, 0, 7, 177]
abbrev dktJ1_init_0 : List UInt8 := dkwJ1_init_0 ++ []
theorem dksJ1_init_0 : cJ1_init.data.toList.drop 0 = dktJ1_init_0 := by decide +kernel
theorem dJ1_init_0 : decode cJ1_init 0 = .ok (.aload_n 0, 1) := dk_42 (dk_at dksJ1_init_0 0 rfl rfl)
theorem dJ1_init_1 : decode cJ1_init 1 = .ok (.invokespecial 1, 3) := dk_183 0 1 (dk_at dksJ1_init_0 1 rfl rfl)
theorem dJ1_init_4 : decode cJ1_init 4 = .ok (.aload_n 0, 1) := dk_42 (dk_at dksJ1_init_0 4 rfl rfl)
theorem dJ1_init_5 : decode cJ1_init 5 = .ok (.iconst 0, 1) := dk_3 (dk_at dksJ1_init_0 5 rfl rfl)
theorem dJ1_init_6 : decode cJ1_init 6 = .ok (.putfield 7, 3) := dk_181 0 7 (dk_at dksJ1_init_0 6 rfl rfl)
theorem dJ1_init_9 : decode cJ1_init 9 = .ok (.return_, 1) := dk_177 (dk_at dksJ1_init_0 9 rfl rfl)
theorem q110 : (Jvm.Cond.initialized "java/util/AbstractList") ∈ lw_all := lw_g (lw_at lw_m1 3 rfl) rfl
theorem q178 : (Jvm.Cond.instanceMethod ({ cls := "java/util/AbstractList", name := "<init>", desc := "()V" } : Jvm.MethodName)) ∈ lw_all := lw_g (lw_at lw_m1 71 rfl) rfl
theorem q179 : (Jvm.Cond.code ({ cls := "java/util/AbstractList", name := "<init>", desc := "()V" } : Jvm.MethodName) prog_51_method_1_code (1 : Nat) (Option.none : Option Jvm.ClassFile.FieldType)) ∈ lw_all := lw_g (lw_at lw_m1 72 rfl) rfl
theorem q180 : (Jvm.Cond.methodLink "java/util/AbstractList" (1 : Nat) ({ cls := "java/util/AbstractCollection", name := "<init>", desc := "()V" } : Jvm.MethodName)) ∈ lw_all := lw_g (lw_at lw_m1 73 rfl) rfl
theorem q507 : (Jvm.Cond.fieldLink "java/util/AbstractList" (7 : Nat) "java/util/AbstractList" "modCount" "I") ∈ lw_all := lw_g (lw_at lw_m2 160 rfl) rfl
theorem q515 : (Jvm.Cond.soleField "java/util/AbstractList" "modCount") ∈ lw_all := lw_g (lw_at lw_m2 168 rfl) rfl

/-! java/lang/StringUTF16 -/
set_option maxRecDepth 100000
def RJ10 : String := "java/lang/StringUTF16"
abbrev cJ10_newBytesFor : ByteArray := prog_44_method_2_code
def yJ10_newBytesFor : MethodName := ⟨RJ10, "newBytesFor", "(I)[B"⟩
abbrev cJ10_newBytesLength : ByteArray := prog_44_method_3_code
def yJ10_newBytesLength : MethodName := ⟨RJ10, "newBytesLength", "(I)I"⟩
abbrev cJ10_putCharsAt : ByteArray := prog_44_method_81_code
def yJ10_putCharsAt : MethodName := ⟨RJ10, "putCharsAt", "([BICCCC)I"⟩
abbrev cJ10_checkBoundsBeginEnd : ByteArray := prog_44_method_93_code
def yJ10_checkBoundsBeginEnd : MethodName := ⟨RJ10, "checkBoundsBeginEnd", "(II[B)V"⟩
abbrev cJ10_length : ByteArray := prog_44_method_6_code
def yJ10_length : MethodName := ⟨RJ10, "length", "([B)I"⟩
abbrev cJ10_putChar : ByteArray := prog_44_method_4_code
def yJ10_putChar : MethodName := ⟨RJ10, "putChar", "([BII)V"⟩
abbrev cJ10_inflate : ByteArray := prog_44_method_86_code
def yJ10_inflate : MethodName := ⟨RJ10, "inflate", "([BI[BII)V"⟩
abbrev cJ10_checkBoundsOffCount : ByteArray := prog_44_method_94_code
def yJ10_checkBoundsOffCount : MethodName := ⟨RJ10, "checkBoundsOffCount", "(II[B)V"⟩
abbrev cJ10_getChars : ByteArray := prog_44_method_77_code
def yJ10_getChars : MethodName := ⟨RJ10, "getChars", "(III[B)I"⟩
abbrev cJ10_getChars_2 : ByteArray := prog_44_method_89_code
def yJ10_getChars_2 : MethodName := ⟨RJ10, "getChars", "(II[B)I"⟩
abbrev cJ10_compress : ByteArray := prog_44_method_17_code
def yJ10_compress : MethodName := ⟨RJ10, "compress", "([BII)[B"⟩
abbrev cJ10_compress_2 : ByteArray := prog_44_method_22_code
def yJ10_compress_2 : MethodName := ⟨RJ10, "compress", "([BI[BII)I"⟩
abbrev cJ10_getChar : ByteArray := prog_44_method_5_code
def yJ10_getChar : MethodName := ⟨RJ10, "getChar", "([BI)C"⟩
abbrev cJ10_coderFromArrayLen : ByteArray := prog_44_method_15_code
def yJ10_coderFromArrayLen : MethodName := ⟨RJ10, "coderFromArrayLen", "([BI)B"⟩
abbrev cJ10_fillNull : ByteArray := prog_44_method_70_code
def yJ10_fillNull : MethodName := ⟨RJ10, "fillNull", "([BII)V"⟩
abbrev cJ10_indexOf : ByteArray := prog_44_method_40_code
def yJ10_indexOf : MethodName := ⟨RJ10, "indexOf", "([BIII)I"⟩
abbrev cJ10_indexOfChar : ByteArray := prog_44_method_47_code
def yJ10_indexOfChar : MethodName := ⟨RJ10, "indexOfChar", "([BIII)I"⟩
abbrev cJ10_indexOfCharUnsafe : ByteArray := prog_44_method_48_code
def yJ10_indexOfCharUnsafe : MethodName := ⟨RJ10, "indexOfCharUnsafe", "([BIII)I"⟩
abbrev cJ10_indexOfSupplementary : ByteArray := prog_44_method_49_code
def yJ10_indexOfSupplementary : MethodName := ⟨RJ10, "indexOfSupplementary", "([BIII)I"⟩
abbrev cJ10_hashCode : ByteArray := prog_44_method_39_code
def yJ10_hashCode : MethodName := ⟨RJ10, "hashCode", "([B)I"⟩
abbrev cJ10_compareTo : ByteArray := prog_44_method_29_code
def yJ10_compareTo : MethodName := ⟨RJ10, "compareTo", "([B[B)I"⟩
abbrev cJ10_compareValues : ByteArray := prog_44_method_31_code
def yJ10_compareValues : MethodName := ⟨RJ10, "compareValues", "([B[BII)I"⟩
abbrev cJ10_compareToLatin1 : ByteArray := prog_44_method_32_code
def yJ10_compareToLatin1 : MethodName := ⟨RJ10, "compareToLatin1", "([B[B)I"⟩
abbrev cJ10_compareTo_2 : ByteArray := prog_44_method_30_code
def yJ10_compareTo_2 : MethodName := ⟨RJ10, "compareTo", "([B[BII)I"⟩
abbrev cJ10_checkOffset : ByteArray := prog_44_method_92_code
def yJ10_checkOffset : MethodName := ⟨RJ10, "checkOffset", "(I[B)V"⟩
abbrev cJ10_compareToLatin1_2 : ByteArray := prog_44_method_33_code
def yJ10_compareToLatin1_2 : MethodName := ⟨RJ10, "compareToLatin1", "([B[BII)I"⟩
abbrev cJ10_putCharSB : ByteArray := prog_44_method_71_code
def yJ10_putCharSB : MethodName := ⟨RJ10, "putCharSB", "([BII)V"⟩
abbrev cJ10_checkIndex : ByteArray := prog_44_method_91_code
def yJ10_checkIndex : MethodName := ⟨RJ10, "checkIndex", "(I[B)V"⟩
theorem q119 : (Jvm.Cond.initialized "java/lang/StringUTF16") ∈ lw_all := lw_g (lw_at lw_m1 12 rfl) rfl
theorem q243 : (Jvm.Cond.static ({ cls := "java/lang/StringUTF16", name := "newBytesFor", desc := "(I)[B" } : Jvm.MethodName)) ∈ lw_all := lw_g (lw_at lw_m1 136 rfl) rfl
theorem q244 : (Jvm.Cond.code ({ cls := "java/lang/StringUTF16", name := "newBytesFor", desc := "(I)[B" } : Jvm.MethodName) prog_44_method_2_code (1 : Nat) (Option.some (Jvm.ClassFile.FieldType.array Jvm.ClassFile.FieldType.byte))) ∈ lw_all := lw_g (lw_at lw_m1 137 rfl) rfl
theorem q245 : (Jvm.Cond.methodLink "java/lang/StringUTF16" (11 : Nat) ({ cls := "java/lang/StringUTF16", name := "newBytesLength", desc := "(I)I" } : Jvm.MethodName)) ∈ lw_all := lw_g (lw_at lw_m1 138 rfl) rfl
theorem q246 : (Jvm.Cond.static ({ cls := "java/lang/StringUTF16", name := "newBytesLength", desc := "(I)I" } : Jvm.MethodName)) ∈ lw_all := lw_g (lw_at lw_m1 139 rfl) rfl
theorem q247 : (Jvm.Cond.code ({ cls := "java/lang/StringUTF16", name := "newBytesLength", desc := "(I)I" } : Jvm.MethodName) prog_44_method_3_code (1 : Nat) (Option.some Jvm.ClassFile.FieldType.int)) ∈ lw_all := lw_g (lw_at lw_m1 140 rfl) rfl
theorem q248 : (Jvm.Cond.constant "java/lang/StringUTF16" (20 : Nat) (1073741823 : Int32)) ∈ lw_all := lw_g (lw_at lw_m1 141 rfl) rfl
theorem q317 : (Jvm.Cond.static ({ cls := "java/lang/StringUTF16", name := "putCharsAt", desc := "([BICCCC)I" } : Jvm.MethodName)) ∈ lw_all := lw_g (lw_at lw_m1 210 rfl) rfl
theorem q318 : (Jvm.Cond.code ({ cls := "java/lang/StringUTF16", name := "putCharsAt", desc := "([BICCCC)I" } : Jvm.MethodName) prog_44_method_81_code (7 : Nat) (Option.some Jvm.ClassFile.FieldType.int)) ∈ lw_all := lw_g (lw_at lw_m1 211 rfl) rfl
theorem q319 : (Jvm.Cond.methodLink "java/lang/StringUTF16" (96 : Nat) ({ cls := "java/lang/StringUTF16", name := "checkBoundsBeginEnd", desc := "(II[B)V" } : Jvm.MethodName)) ∈ lw_all := lw_g (lw_at lw_m1 212 rfl) rfl
theorem q320 : (Jvm.Cond.static ({ cls := "java/lang/StringUTF16", name := "checkBoundsBeginEnd", desc := "(II[B)V" } : Jvm.MethodName)) ∈ lw_all := lw_g (lw_at lw_m1 213 rfl) rfl
theorem q321 : (Jvm.Cond.code ({ cls := "java/lang/StringUTF16", name := "checkBoundsBeginEnd", desc := "(II[B)V" } : Jvm.MethodName) prog_44_method_93_code (3 : Nat) (Option.none : Option Jvm.ClassFile.FieldType)) ∈ lw_all := lw_g (lw_at lw_m1 214 rfl) rfl
theorem q322 : (Jvm.Cond.methodLink "java/lang/StringUTF16" (48 : Nat) ({ cls := "java/lang/StringUTF16", name := "length", desc := "([B)I" } : Jvm.MethodName)) ∈ lw_all := lw_g (lw_at lw_m1 215 rfl) rfl
theorem q323 : (Jvm.Cond.static ({ cls := "java/lang/StringUTF16", name := "length", desc := "([B)I" } : Jvm.MethodName)) ∈ lw_all := lw_g (lw_at lw_m1 216 rfl) rfl
theorem q324 : (Jvm.Cond.code ({ cls := "java/lang/StringUTF16", name := "length", desc := "([B)I" } : Jvm.MethodName) prog_44_method_6_code (1 : Nat) (Option.some Jvm.ClassFile.FieldType.int)) ∈ lw_all := lw_g (lw_at lw_m1 217 rfl) rfl
theorem q325 : (Jvm.Cond.methodLink "java/lang/StringUTF16" (241 : Nat) ({ cls := "java/lang/String", name := "checkBoundsBeginEnd", desc := "(III)V" } : Jvm.MethodName)) ∈ lw_all := lw_g (lw_at lw_m1 218 rfl) rfl
theorem q333 : (Jvm.Cond.methodLink "java/lang/StringUTF16" (111 : Nat) ({ cls := "java/lang/StringUTF16", name := "putChar", desc := "([BII)V" } : Jvm.MethodName)) ∈ lw_all := lw_g (lw_at lw_m1 226 rfl) rfl
theorem q334 : (Jvm.Cond.static ({ cls := "java/lang/StringUTF16", name := "putChar", desc := "([BII)V" } : Jvm.MethodName)) ∈ lw_all := lw_g (lw_at lw_m1 227 rfl) rfl
theorem q335 : (Jvm.Cond.code ({ cls := "java/lang/StringUTF16", name := "putChar", desc := "([BII)V" } : Jvm.MethodName) prog_44_method_4_code (3 : Nat) (Option.none : Option Jvm.ClassFile.FieldType)) ∈ lw_all := lw_g (lw_at lw_m1 228 rfl) rfl
theorem q336 : (Jvm.Cond.fieldLink "java/lang/StringUTF16" (44 : Nat) "java/lang/StringUTF16" "$assertionsDisabled" "Z") ∈ lw_all := lw_g (lw_at lw_m1 229 rfl) rfl
theorem q337 : (Jvm.Cond.laysStatic "java/lang/StringUTF16" "$assertionsDisabled" "Z") ∈ lw_tbl := lw_at lw_m1 230 rfl
theorem q338 : (Jvm.Cond.fieldLink "java/lang/StringUTF16" (59 : Nat) "java/lang/StringUTF16" "HI_BYTE_SHIFT" "I") ∈ lw_all := lw_g (lw_at lw_m1 231 rfl) rfl
theorem q339 : (Jvm.Cond.laysStatic "java/lang/StringUTF16" "HI_BYTE_SHIFT" "I") ∈ lw_tbl := lw_at lw_m1 232 rfl
theorem q340 : (Jvm.Cond.fieldLink "java/lang/StringUTF16" (63 : Nat) "java/lang/StringUTF16" "LO_BYTE_SHIFT" "I") ∈ lw_all := lw_g (lw_at lw_m1 233 rfl) rfl
theorem q341 : (Jvm.Cond.laysStatic "java/lang/StringUTF16" "LO_BYTE_SHIFT" "I") ∈ lw_tbl := lw_at lw_m1 234 rfl
theorem q368 : (Jvm.Cond.static ({ cls := "java/lang/StringUTF16", name := "inflate", desc := "([BI[BII)V" } : Jvm.MethodName)) ∈ lw_all := lw_g (lw_at lw_m2 21 rfl) rfl
theorem q369 : (Jvm.Cond.code ({ cls := "java/lang/StringUTF16", name := "inflate", desc := "([BI[BII)V" } : Jvm.MethodName) prog_44_method_86_code (6 : Nat) (Option.none : Option Jvm.ClassFile.FieldType)) ∈ lw_all := lw_g (lw_at lw_m2 22 rfl) rfl
theorem q370 : (Jvm.Cond.methodLink "java/lang/StringUTF16" (173 : Nat) ({ cls := "java/lang/StringUTF16", name := "checkBoundsOffCount", desc := "(II[B)V" } : Jvm.MethodName)) ∈ lw_all := lw_g (lw_at lw_m2 23 rfl) rfl
theorem q371 : (Jvm.Cond.static ({ cls := "java/lang/StringUTF16", name := "checkBoundsOffCount", desc := "(II[B)V" } : Jvm.MethodName)) ∈ lw_all := lw_g (lw_at lw_m2 24 rfl) rfl
theorem q372 : (Jvm.Cond.code ({ cls := "java/lang/StringUTF16", name := "checkBoundsOffCount", desc := "(II[B)V" } : Jvm.MethodName) prog_44_method_94_code (3 : Nat) (Option.none : Option Jvm.ClassFile.FieldType)) ∈ lw_all := lw_g (lw_at lw_m2 25 rfl) rfl
theorem q373 : (Jvm.Cond.methodLink "java/lang/StringUTF16" (419 : Nat) ({ cls := "java/lang/String", name := "checkBoundsOffCount", desc := "(III)I" } : Jvm.MethodName)) ∈ lw_all := lw_g (lw_at lw_m2 26 rfl) rfl
theorem q403 : (Jvm.Cond.static ({ cls := "java/lang/StringUTF16", name := "getChars", desc := "(III[B)I" } : Jvm.MethodName)) ∈ lw_all := lw_g (lw_at lw_m2 56 rfl) rfl
theorem q404 : (Jvm.Cond.code ({ cls := "java/lang/StringUTF16", name := "getChars", desc := "(III[B)I" } : Jvm.MethodName) prog_44_method_77_code (5 : Nat) (Option.some Jvm.ClassFile.FieldType.int)) ∈ lw_all := lw_g (lw_at lw_m2 57 rfl) rfl
theorem q405 : (Jvm.Cond.methodLink "java/lang/StringUTF16" (393 : Nat) ({ cls := "java/lang/StringUTF16", name := "getChars", desc := "(II[B)I" } : Jvm.MethodName)) ∈ lw_all := lw_g (lw_at lw_m2 58 rfl) rfl
theorem q406 : (Jvm.Cond.static ({ cls := "java/lang/StringUTF16", name := "getChars", desc := "(II[B)I" } : Jvm.MethodName)) ∈ lw_all := lw_g (lw_at lw_m2 59 rfl) rfl
theorem q407 : (Jvm.Cond.code ({ cls := "java/lang/StringUTF16", name := "getChars", desc := "(II[B)I" } : Jvm.MethodName) prog_44_method_89_code (7 : Nat) (Option.some Jvm.ClassFile.FieldType.int)) ∈ lw_all := lw_g (lw_at lw_m2 60 rfl) rfl
theorem q408 : (Jvm.Cond.fieldLink "java/lang/StringUTF16" (403 : Nat) "java/lang/Integer" "DigitOnes" "[B") ∈ lw_all := lw_g (lw_at lw_m2 61 rfl) rfl
theorem q409 : (Jvm.Cond.fieldLink "java/lang/StringUTF16" (407 : Nat) "java/lang/Integer" "DigitTens" "[B") ∈ lw_all := lw_g (lw_at lw_m2 62 rfl) rfl
theorem q479 : (Jvm.Cond.static ({ cls := "java/lang/StringUTF16", name := "compress", desc := "([BII)[B" } : Jvm.MethodName)) ∈ lw_all := lw_g (lw_at lw_m2 132 rfl) rfl
theorem q480 : (Jvm.Cond.code ({ cls := "java/lang/StringUTF16", name := "compress", desc := "([BII)[B" } : Jvm.MethodName) prog_44_method_17_code (6 : Nat) (Option.some (Jvm.ClassFile.FieldType.array Jvm.ClassFile.FieldType.byte))) ∈ lw_all := lw_g (lw_at lw_m2 133 rfl) rfl
theorem q481 : (Jvm.Cond.methodLink "java/lang/StringUTF16" (123 : Nat) ({ cls := "java/lang/StringUTF16", name := "compress", desc := "([BI[BII)I" } : Jvm.MethodName)) ∈ lw_all := lw_g (lw_at lw_m2 134 rfl) rfl
theorem q482 : (Jvm.Cond.static ({ cls := "java/lang/StringUTF16", name := "compress", desc := "([BI[BII)I" } : Jvm.MethodName)) ∈ lw_all := lw_g (lw_at lw_m2 135 rfl) rfl
theorem q483 : (Jvm.Cond.code ({ cls := "java/lang/StringUTF16", name := "compress", desc := "([BI[BII)I" } : Jvm.MethodName) prog_44_method_22_code (7 : Nat) (Option.some Jvm.ClassFile.FieldType.int)) ∈ lw_all := lw_g (lw_at lw_m2 136 rfl) rfl
theorem q484 : (Jvm.Cond.methodLink "java/lang/StringUTF16" (71 : Nat) ({ cls := "java/lang/StringUTF16", name := "getChar", desc := "([BI)C" } : Jvm.MethodName)) ∈ lw_all := lw_g (lw_at lw_m2 137 rfl) rfl
theorem q485 : (Jvm.Cond.static ({ cls := "java/lang/StringUTF16", name := "getChar", desc := "([BI)C" } : Jvm.MethodName)) ∈ lw_all := lw_g (lw_at lw_m2 138 rfl) rfl
theorem q486 : (Jvm.Cond.code ({ cls := "java/lang/StringUTF16", name := "getChar", desc := "([BI)C" } : Jvm.MethodName) prog_44_method_5_code (2 : Nat) (Option.some Jvm.ClassFile.FieldType.char)) ∈ lw_all := lw_g (lw_at lw_m2 139 rfl) rfl
theorem q487 : (Jvm.Cond.methodLink "java/lang/StringUTF16" (126 : Nat) ({ cls := "java/util/Arrays", name := "copyOfRange", desc := "([BII)[B" } : Jvm.MethodName)) ∈ lw_all := lw_g (lw_at lw_m2 140 rfl) rfl
theorem q489 : (Jvm.Cond.static ({ cls := "java/lang/StringUTF16", name := "coderFromArrayLen", desc := "([BI)B" } : Jvm.MethodName)) ∈ lw_all := lw_g (lw_at lw_m2 142 rfl) rfl
theorem q490 : (Jvm.Cond.code ({ cls := "java/lang/StringUTF16", name := "coderFromArrayLen", desc := "([BI)B" } : Jvm.MethodName) prog_44_method_15_code (2 : Nat) (Option.some Jvm.ClassFile.FieldType.byte)) ∈ lw_all := lw_g (lw_at lw_m2 143 rfl) rfl
theorem q954 : (Jvm.Cond.static ({ cls := "java/lang/StringUTF16", name := "fillNull", desc := "([BII)V" } : Jvm.MethodName)) ∈ lw_all := lw_g (lw_at lw_m4 127 rfl) rfl
theorem q955 : (Jvm.Cond.code ({ cls := "java/lang/StringUTF16", name := "fillNull", desc := "([BII)V" } : Jvm.MethodName) prog_44_method_70_code (3 : Nat) (Option.none : Option Jvm.ClassFile.FieldType)) ∈ lw_all := lw_g (lw_at lw_m4 128 rfl) rfl
theorem q956 : (Jvm.Cond.methodLink "java/lang/StringUTF16" (380 : Nat) ({ cls := "java/util/Arrays", name := "fill", desc := "([BIIB)V" } : Jvm.MethodName)) ∈ lw_all := lw_g (lw_at lw_m4 129 rfl) rfl
theorem q1211 : (Jvm.Cond.static ({ cls := "java/lang/StringUTF16", name := "indexOf", desc := "([BIII)I" } : Jvm.MethodName)) ∈ lw_all := lw_g (lw_at lw_m5 144 rfl) rfl
theorem q1212 : (Jvm.Cond.code ({ cls := "java/lang/StringUTF16", name := "indexOf", desc := "([BIII)I" } : Jvm.MethodName) prog_44_method_40_code (4 : Nat) (Option.some Jvm.ClassFile.FieldType.int)) ∈ lw_all := lw_g (lw_at lw_m5 145 rfl) rfl
theorem q1213 : (Jvm.Cond.methodLink "java/lang/StringUTF16" (224 : Nat) ({ cls := "java/lang/Math", name := "max", desc := "(II)I" } : Jvm.MethodName)) ∈ lw_all := lw_g (lw_at lw_m5 146 rfl) rfl
theorem q1214 : (Jvm.Cond.methodLink "java/lang/StringUTF16" (183 : Nat) ({ cls := "java/lang/Math", name := "min", desc := "(II)I" } : Jvm.MethodName)) ∈ lw_all := lw_g (lw_at lw_m5 147 rfl) rfl
theorem q1215 : (Jvm.Cond.constant "java/lang/StringUTF16" (227 : Nat) (65536 : Int32)) ∈ lw_all := lw_g (lw_at lw_m5 148 rfl) rfl
theorem q1216 : (Jvm.Cond.methodLink "java/lang/StringUTF16" (228 : Nat) ({ cls := "java/lang/StringUTF16", name := "indexOfChar", desc := "([BIII)I" } : Jvm.MethodName)) ∈ lw_all := lw_g (lw_at lw_m5 149 rfl) rfl
theorem q1217 : (Jvm.Cond.static ({ cls := "java/lang/StringUTF16", name := "indexOfChar", desc := "([BIII)I" } : Jvm.MethodName)) ∈ lw_all := lw_g (lw_at lw_m5 150 rfl) rfl
theorem q1218 : (Jvm.Cond.code ({ cls := "java/lang/StringUTF16", name := "indexOfChar", desc := "([BIII)I" } : Jvm.MethodName) prog_44_method_47_code (4 : Nat) (Option.some Jvm.ClassFile.FieldType.int)) ∈ lw_all := lw_g (lw_at lw_m5 151 rfl) rfl
theorem q1219 : (Jvm.Cond.methodLink "java/lang/StringUTF16" (244 : Nat) ({ cls := "java/lang/StringUTF16", name := "indexOfCharUnsafe", desc := "([BIII)I" } : Jvm.MethodName)) ∈ lw_all := lw_g (lw_at lw_m5 152 rfl) rfl
theorem q1220 : (Jvm.Cond.static ({ cls := "java/lang/StringUTF16", name := "indexOfCharUnsafe", desc := "([BIII)I" } : Jvm.MethodName)) ∈ lw_all := lw_g (lw_at lw_m5 153 rfl) rfl
theorem q1221 : (Jvm.Cond.code ({ cls := "java/lang/StringUTF16", name := "indexOfCharUnsafe", desc := "([BIII)I" } : Jvm.MethodName) prog_44_method_48_code (5 : Nat) (Option.some Jvm.ClassFile.FieldType.int)) ∈ lw_all := lw_g (lw_at lw_m5 154 rfl) rfl
theorem q1222 : (Jvm.Cond.methodLink "java/lang/StringUTF16" (232 : Nat) ({ cls := "java/lang/StringUTF16", name := "indexOfSupplementary", desc := "([BIII)I" } : Jvm.MethodName)) ∈ lw_all := lw_g (lw_at lw_m5 155 rfl) rfl
theorem q1223 : (Jvm.Cond.static ({ cls := "java/lang/StringUTF16", name := "indexOfSupplementary", desc := "([BIII)I" } : Jvm.MethodName)) ∈ lw_all := lw_g (lw_at lw_m5 156 rfl) rfl
theorem q1224 : (Jvm.Cond.code ({ cls := "java/lang/StringUTF16", name := "indexOfSupplementary", desc := "([BIII)I" } : Jvm.MethodName) prog_44_method_49_code (7 : Nat) (Option.some Jvm.ClassFile.FieldType.int)) ∈ lw_all := lw_g (lw_at lw_m5 157 rfl) rfl
theorem q1225 : (Jvm.Cond.methodLink "java/lang/StringUTF16" (164 : Nat) ({ cls := "java/lang/Character", name := "isValidCodePoint", desc := "(I)Z" } : Jvm.MethodName)) ∈ lw_all := lw_g (lw_at lw_m5 158 rfl) rfl
theorem q1228 : (Jvm.Cond.methodLink "java/lang/StringUTF16" (157 : Nat) ({ cls := "java/lang/Character", name := "highSurrogate", desc := "(I)C" } : Jvm.MethodName)) ∈ lw_all := lw_g (lw_at lw_m5 161 rfl) rfl
theorem q1232 : (Jvm.Cond.methodLink "java/lang/StringUTF16" (161 : Nat) ({ cls := "java/lang/Character", name := "lowSurrogate", desc := "(I)C" } : Jvm.MethodName)) ∈ lw_all := lw_g (lw_at lw_m5 165 rfl) rfl
theorem q1359 : (Jvm.Cond.static ({ cls := "java/lang/StringUTF16", name := "hashCode", desc := "([B)I" } : Jvm.MethodName)) ∈ lw_all := lw_g (lw_at lw_m6 52 rfl) rfl
theorem q1360 : (Jvm.Cond.code ({ cls := "java/lang/StringUTF16", name := "hashCode", desc := "([B)I" } : Jvm.MethodName) prog_44_method_39_code (1 : Nat) (Option.some Jvm.ClassFile.FieldType.int)) ∈ lw_all := lw_g (lw_at lw_m6 53 rfl) rfl
theorem q1361 : (Jvm.Cond.methodLink "java/lang/StringUTF16" (220 : Nat) ({ cls := "jdk/internal/util/ArraysSupport", name := "vectorizedHashCode", desc := "(Ljava/lang/Object;IIII)I" } : Jvm.MethodName)) ∈ lw_all := lw_g (lw_at lw_m6 54 rfl) rfl
theorem q1593 : (Jvm.Cond.static ({ cls := "java/lang/StringUTF16", name := "compareTo", desc := "([B[B)I" } : Jvm.MethodName)) ∈ lw_all := lw_g (lw_at lw_m7 46 rfl) rfl
theorem q1594 : (Jvm.Cond.code ({ cls := "java/lang/StringUTF16", name := "compareTo", desc := "([B[B)I" } : Jvm.MethodName) prog_44_method_29_code (4 : Nat) (Option.some Jvm.ClassFile.FieldType.int)) ∈ lw_all := lw_g (lw_at lw_m7 47 rfl) rfl
theorem q1595 : (Jvm.Cond.methodLink "java/lang/StringUTF16" (176 : Nat) ({ cls := "java/lang/StringUTF16", name := "compareValues", desc := "([B[BII)I" } : Jvm.MethodName)) ∈ lw_all := lw_g (lw_at lw_m7 48 rfl) rfl
theorem q1596 : (Jvm.Cond.static ({ cls := "java/lang/StringUTF16", name := "compareValues", desc := "([B[BII)I" } : Jvm.MethodName)) ∈ lw_all := lw_g (lw_at lw_m7 49 rfl) rfl
theorem q1597 : (Jvm.Cond.code ({ cls := "java/lang/StringUTF16", name := "compareValues", desc := "([B[BII)I" } : Jvm.MethodName) prog_44_method_31_code (8 : Nat) (Option.some Jvm.ClassFile.FieldType.int)) ∈ lw_all := lw_g (lw_at lw_m7 50 rfl) rfl
theorem q1610 : (Jvm.Cond.static ({ cls := "java/lang/StringUTF16", name := "compareToLatin1", desc := "([B[B)I" } : Jvm.MethodName)) ∈ lw_all := lw_g (lw_at lw_m7 63 rfl) rfl
theorem q1611 : (Jvm.Cond.code ({ cls := "java/lang/StringUTF16", name := "compareToLatin1", desc := "([B[B)I" } : Jvm.MethodName) prog_44_method_32_code (2 : Nat) (Option.some Jvm.ClassFile.FieldType.int)) ∈ lw_all := lw_g (lw_at lw_m7 64 rfl) rfl
theorem q1612 : (Jvm.Cond.methodLink "java/lang/StringUTF16" (189 : Nat) ({ cls := "java/lang/StringLatin1", name := "compareToUTF16", desc := "([B[B)I" } : Jvm.MethodName)) ∈ lw_all := lw_g (lw_at lw_m7 65 rfl) rfl
theorem q1629 : (Jvm.Cond.static ({ cls := "java/lang/StringUTF16", name := "compareTo", desc := "([B[BII)I" } : Jvm.MethodName)) ∈ lw_all := lw_g (lw_at lw_m7 82 rfl) rfl
theorem q1630 : (Jvm.Cond.code ({ cls := "java/lang/StringUTF16", name := "compareTo", desc := "([B[BII)I" } : Jvm.MethodName) prog_44_method_30_code (4 : Nat) (Option.some Jvm.ClassFile.FieldType.int)) ∈ lw_all := lw_g (lw_at lw_m7 83 rfl) rfl
theorem q1631 : (Jvm.Cond.methodLink "java/lang/StringUTF16" (180 : Nat) ({ cls := "java/lang/StringUTF16", name := "checkOffset", desc := "(I[B)V" } : Jvm.MethodName)) ∈ lw_all := lw_g (lw_at lw_m7 84 rfl) rfl
theorem q1632 : (Jvm.Cond.static ({ cls := "java/lang/StringUTF16", name := "checkOffset", desc := "(I[B)V" } : Jvm.MethodName)) ∈ lw_all := lw_g (lw_at lw_m7 85 rfl) rfl
theorem q1633 : (Jvm.Cond.code ({ cls := "java/lang/StringUTF16", name := "checkOffset", desc := "(I[B)V" } : Jvm.MethodName) prog_44_method_92_code (2 : Nat) (Option.none : Option Jvm.ClassFile.FieldType)) ∈ lw_all := lw_g (lw_at lw_m7 86 rfl) rfl
theorem q1634 : (Jvm.Cond.methodLink "java/lang/StringUTF16" (417 : Nat) ({ cls := "java/lang/String", name := "checkOffset", desc := "(II)V" } : Jvm.MethodName)) ∈ lw_all := lw_g (lw_at lw_m7 87 rfl) rfl
theorem q1642 : (Jvm.Cond.static ({ cls := "java/lang/StringUTF16", name := "compareToLatin1", desc := "([B[BII)I" } : Jvm.MethodName)) ∈ lw_all := lw_g (lw_at lw_m7 95 rfl) rfl
theorem q1643 : (Jvm.Cond.code ({ cls := "java/lang/StringUTF16", name := "compareToLatin1", desc := "([B[BII)I" } : Jvm.MethodName) prog_44_method_33_code (4 : Nat) (Option.some Jvm.ClassFile.FieldType.int)) ∈ lw_all := lw_g (lw_at lw_m7 96 rfl) rfl
theorem q1644 : (Jvm.Cond.methodLink "java/lang/StringUTF16" (193 : Nat) ({ cls := "java/lang/StringLatin1", name := "compareToUTF16", desc := "([B[BII)I" } : Jvm.MethodName)) ∈ lw_all := lw_g (lw_at lw_m7 97 rfl) rfl
theorem q2304 : (Jvm.Cond.static ({ cls := "java/lang/StringUTF16", name := "putCharSB", desc := "([BII)V" } : Jvm.MethodName)) ∈ lw_all := lw_g (lw_at lw_m10 37 rfl) rfl
theorem q2305 : (Jvm.Cond.code ({ cls := "java/lang/StringUTF16", name := "putCharSB", desc := "([BII)V" } : Jvm.MethodName) prog_44_method_71_code (3 : Nat) (Option.none : Option Jvm.ClassFile.FieldType)) ∈ lw_all := lw_g (lw_at lw_m10 38 rfl) rfl
theorem q2306 : (Jvm.Cond.methodLink "java/lang/StringUTF16" (67 : Nat) ({ cls := "java/lang/StringUTF16", name := "checkIndex", desc := "(I[B)V" } : Jvm.MethodName)) ∈ lw_all := lw_g (lw_at lw_m10 39 rfl) rfl
theorem q2307 : (Jvm.Cond.static ({ cls := "java/lang/StringUTF16", name := "checkIndex", desc := "(I[B)V" } : Jvm.MethodName)) ∈ lw_all := lw_g (lw_at lw_m10 40 rfl) rfl
theorem q2308 : (Jvm.Cond.code ({ cls := "java/lang/StringUTF16", name := "checkIndex", desc := "(I[B)V" } : Jvm.MethodName) prog_44_method_91_code (2 : Nat) (Option.none : Option Jvm.ClassFile.FieldType)) ∈ lw_all := lw_g (lw_at lw_m10 41 rfl) rfl
theorem q2309 : (Jvm.Cond.methodLink "java/lang/StringUTF16" (414 : Nat) ({ cls := "java/lang/String", name := "checkIndex", desc := "(II)V" } : Jvm.MethodName)) ∈ lw_all := lw_g (lw_at lw_m10 42 rfl) rfl

/-! jdk/internal/util/ArraysSupport -/
set_option maxRecDepth 100000
def RJ11 : String := "jdk/internal/util/ArraysSupport"
abbrev cJ11_newLength : ByteArray := prog_77_method_27_code
def yJ11_newLength : MethodName := ⟨RJ11, "newLength", "(III)I"⟩
abbrev cJ11_hugeLength : ByteArray := prog_77_method_28_code
def yJ11_hugeLength : MethodName := ⟨RJ11, "hugeLength", "(II)I"⟩
abbrev cJ11_vectorizedHashCode : ByteArray := prog_77_method_4_code
def yJ11_vectorizedHashCode : MethodName := ⟨RJ11, "vectorizedHashCode", "(Ljava/lang/Object;IIII)I"⟩
abbrev cJ11_signedHashCode : ByteArray := prog_77_method_5_code
def yJ11_signedHashCode : MethodName := ⟨RJ11, "signedHashCode", "(I[BII)I"⟩
abbrev cJ11_utf16hashCode : ByteArray := prog_77_method_10_code
def yJ11_utf16hashCode : MethodName := ⟨RJ11, "utf16hashCode", "(I[BII)I"⟩
abbrev cJ11_hashCode : ByteArray := prog_77_method_7_code
def yJ11_hashCode : MethodName := ⟨RJ11, "hashCode", "(I[CII)I"⟩
abbrev cJ11_hashCode_2 : ByteArray := prog_77_method_6_code
def yJ11_hashCode_2 : MethodName := ⟨RJ11, "hashCode", "(I[BII)I"⟩
abbrev cJ11_hashCode_3 : ByteArray := prog_77_method_8_code
def yJ11_hashCode_3 : MethodName := ⟨RJ11, "hashCode", "(I[SII)I"⟩
abbrev cJ11_hashCode_4 : ByteArray := prog_77_method_9_code
def yJ11_hashCode_4 : MethodName := ⟨RJ11, "hashCode", "(I[III)I"⟩
abbrev cJ11_mismatch : ByteArray := prog_77_method_13_code
def yJ11_mismatch : MethodName := ⟨RJ11, "mismatch", "([B[BI)I"⟩
abbrev cJ11_vectorizedMismatch : ByteArray := prog_77_method_3_code
def yJ11_vectorizedMismatch : MethodName := ⟨RJ11, "vectorizedMismatch", "(Ljava/lang/Object;JLjava/lang/Object;JII)I"⟩
theorem q120 : (Jvm.Cond.initialized "jdk/internal/util/ArraysSupport") ∈ lw_all := lw_g (lw_at lw_m1 13 rfl) rfl
theorem q285 : (Jvm.Cond.static ({ cls := "jdk/internal/util/ArraysSupport", name := "newLength", desc := "(III)I" } : Jvm.MethodName)) ∈ lw_all := lw_g (lw_at lw_m1 178 rfl) rfl
theorem q286 : (Jvm.Cond.code ({ cls := "jdk/internal/util/ArraysSupport", name := "newLength", desc := "(III)I" } : Jvm.MethodName) prog_77_method_27_code (4 : Nat) (Option.some Jvm.ClassFile.FieldType.int)) ∈ lw_all := lw_g (lw_at lw_m1 179 rfl) rfl
theorem q287 : (Jvm.Cond.methodLink "jdk/internal/util/ArraysSupport" (194 : Nat) ({ cls := "java/lang/Math", name := "max", desc := "(II)I" } : Jvm.MethodName)) ∈ lw_all := lw_g (lw_at lw_m1 180 rfl) rfl
theorem q290 : (Jvm.Cond.constant "jdk/internal/util/ArraysSupport" (200 : Nat) (2147483639 : Int32)) ∈ lw_all := lw_g (lw_at lw_m1 183 rfl) rfl
theorem q291 : (Jvm.Cond.methodLink "jdk/internal/util/ArraysSupport" (201 : Nat) ({ cls := "jdk/internal/util/ArraysSupport", name := "hugeLength", desc := "(II)I" } : Jvm.MethodName)) ∈ lw_all := lw_g (lw_at lw_m1 184 rfl) rfl
theorem q292 : (Jvm.Cond.static ({ cls := "jdk/internal/util/ArraysSupport", name := "hugeLength", desc := "(II)I" } : Jvm.MethodName)) ∈ lw_all := lw_g (lw_at lw_m1 185 rfl) rfl
theorem q293 : (Jvm.Cond.code ({ cls := "jdk/internal/util/ArraysSupport", name := "hugeLength", desc := "(II)I" } : Jvm.MethodName) prog_77_method_28_code (3 : Nat) (Option.some Jvm.ClassFile.FieldType.int)) ∈ lw_all := lw_g (lw_at lw_m1 186 rfl) rfl
theorem q1313 : (Jvm.Cond.static ({ cls := "jdk/internal/util/ArraysSupport", name := "vectorizedHashCode", desc := "(Ljava/lang/Object;IIII)I" } : Jvm.MethodName)) ∈ lw_all := lw_g (lw_at lw_m6 6 rfl) rfl
theorem q1314 : (Jvm.Cond.code ({ cls := "jdk/internal/util/ArraysSupport", name := "vectorizedHashCode", desc := "(Ljava/lang/Object;IIII)I" } : Jvm.MethodName) prog_77_method_4_code (5 : Nat) (Option.some Jvm.ClassFile.FieldType.int)) ∈ lw_all := lw_g (lw_at lw_m6 7 rfl) rfl
theorem q1315 : (Jvm.Cond.classLink "jdk/internal/util/ArraysSupport" (60 : Nat) "[B") ∈ lw_all := lw_g (lw_at lw_m6 8 rfl) rfl
theorem q1316 : (Jvm.Cond.methodLink "jdk/internal/util/ArraysSupport" (62 : Nat) ({ cls := "jdk/internal/util/ArraysSupport", name := "signedHashCode", desc := "(I[BII)I" } : Jvm.MethodName)) ∈ lw_all := lw_g (lw_at lw_m6 9 rfl) rfl
theorem q1317 : (Jvm.Cond.static ({ cls := "jdk/internal/util/ArraysSupport", name := "signedHashCode", desc := "(I[BII)I" } : Jvm.MethodName)) ∈ lw_all := lw_g (lw_at lw_m6 10 rfl) rfl
theorem q1318 : (Jvm.Cond.code ({ cls := "jdk/internal/util/ArraysSupport", name := "signedHashCode", desc := "(I[BII)I" } : Jvm.MethodName) prog_77_method_5_code (6 : Nat) (Option.some Jvm.ClassFile.FieldType.int)) ∈ lw_all := lw_g (lw_at lw_m6 11 rfl) rfl
theorem q1319 : (Jvm.Cond.methodLink "jdk/internal/util/ArraysSupport" (66 : Nat) ({ cls := "jdk/internal/util/ArraysSupport", name := "utf16hashCode", desc := "(I[BII)I" } : Jvm.MethodName)) ∈ lw_all := lw_g (lw_at lw_m6 12 rfl) rfl
theorem q1320 : (Jvm.Cond.static ({ cls := "jdk/internal/util/ArraysSupport", name := "utf16hashCode", desc := "(I[BII)I" } : Jvm.MethodName)) ∈ lw_all := lw_g (lw_at lw_m6 13 rfl) rfl
theorem q1321 : (Jvm.Cond.code ({ cls := "jdk/internal/util/ArraysSupport", name := "utf16hashCode", desc := "(I[BII)I" } : Jvm.MethodName) prog_77_method_10_code (6 : Nat) (Option.some Jvm.ClassFile.FieldType.int)) ∈ lw_all := lw_g (lw_at lw_m6 14 rfl) rfl
theorem q1322 : (Jvm.Cond.fieldLink "jdk/internal/util/ArraysSupport" (106 : Nat) "jdk/internal/util/ArraysSupport" "JLA" "Ljdk/internal/access/JavaLangAccess;") ∈ lw_all := lw_g (lw_at lw_m6 15 rfl) rfl
theorem q1323 : (Jvm.Cond.laysStatic "jdk/internal/util/ArraysSupport" "JLA" "Ljdk/internal/access/JavaLangAccess;") ∈ lw_tbl := lw_at lw_m6 16 rfl
theorem q1324 : (Jvm.Cond.interfaceEntry "jdk/internal/util/ArraysSupport" (110 : Nat)) ∈ lw_tbl := lw_at lw_m6 17 rfl
theorem q1325 : (Jvm.Cond.methodLink "jdk/internal/util/ArraysSupport" (110 : Nat) ({ cls := "jdk/internal/access/JavaLangAccess", name := "getUTF16Char", desc := "([BI)C" } : Jvm.MethodName)) ∈ lw_all := lw_g (lw_at lw_m6 18 rfl) rfl
theorem q1335 : (Jvm.Cond.classLink "jdk/internal/util/ArraysSupport" (69 : Nat) "[C") ∈ lw_all := lw_g (lw_at lw_m6 28 rfl) rfl
theorem q1336 : (Jvm.Cond.methodLink "jdk/internal/util/ArraysSupport" (71 : Nat) ({ cls := "jdk/internal/util/ArraysSupport", name := "hashCode", desc := "(I[CII)I" } : Jvm.MethodName)) ∈ lw_all := lw_g (lw_at lw_m6 29 rfl) rfl
theorem q1337 : (Jvm.Cond.static ({ cls := "jdk/internal/util/ArraysSupport", name := "hashCode", desc := "(I[CII)I" } : Jvm.MethodName)) ∈ lw_all := lw_g (lw_at lw_m6 30 rfl) rfl
theorem q1338 : (Jvm.Cond.code ({ cls := "jdk/internal/util/ArraysSupport", name := "hashCode", desc := "(I[CII)I" } : Jvm.MethodName) prog_77_method_7_code (6 : Nat) (Option.some Jvm.ClassFile.FieldType.int)) ∈ lw_all := lw_g (lw_at lw_m6 31 rfl) rfl
theorem q1339 : (Jvm.Cond.methodLink "jdk/internal/util/ArraysSupport" (75 : Nat) ({ cls := "jdk/internal/util/ArraysSupport", name := "hashCode", desc := "(I[BII)I" } : Jvm.MethodName)) ∈ lw_all := lw_g (lw_at lw_m6 32 rfl) rfl
theorem q1340 : (Jvm.Cond.static ({ cls := "jdk/internal/util/ArraysSupport", name := "hashCode", desc := "(I[BII)I" } : Jvm.MethodName)) ∈ lw_all := lw_g (lw_at lw_m6 33 rfl) rfl
theorem q1341 : (Jvm.Cond.code ({ cls := "jdk/internal/util/ArraysSupport", name := "hashCode", desc := "(I[BII)I" } : Jvm.MethodName) prog_77_method_6_code (6 : Nat) (Option.some Jvm.ClassFile.FieldType.int)) ∈ lw_all := lw_g (lw_at lw_m6 34 rfl) rfl
theorem q1342 : (Jvm.Cond.classLink "jdk/internal/util/ArraysSupport" (77 : Nat) "[S") ∈ lw_all := lw_g (lw_at lw_m6 35 rfl) rfl
theorem q1343 : (Jvm.Cond.methodLink "jdk/internal/util/ArraysSupport" (79 : Nat) ({ cls := "jdk/internal/util/ArraysSupport", name := "hashCode", desc := "(I[SII)I" } : Jvm.MethodName)) ∈ lw_all := lw_g (lw_at lw_m6 36 rfl) rfl
theorem q1344 : (Jvm.Cond.static ({ cls := "jdk/internal/util/ArraysSupport", name := "hashCode", desc := "(I[SII)I" } : Jvm.MethodName)) ∈ lw_all := lw_g (lw_at lw_m6 37 rfl) rfl
theorem q1345 : (Jvm.Cond.code ({ cls := "jdk/internal/util/ArraysSupport", name := "hashCode", desc := "(I[SII)I" } : Jvm.MethodName) prog_77_method_8_code (6 : Nat) (Option.some Jvm.ClassFile.FieldType.int)) ∈ lw_all := lw_g (lw_at lw_m6 38 rfl) rfl
theorem q1346 : (Jvm.Cond.classLink "jdk/internal/util/ArraysSupport" (82 : Nat) "[I") ∈ lw_all := lw_g (lw_at lw_m6 39 rfl) rfl
theorem q1347 : (Jvm.Cond.methodLink "jdk/internal/util/ArraysSupport" (84 : Nat) ({ cls := "jdk/internal/util/ArraysSupport", name := "hashCode", desc := "(I[III)I" } : Jvm.MethodName)) ∈ lw_all := lw_g (lw_at lw_m6 40 rfl) rfl
theorem q1348 : (Jvm.Cond.static ({ cls := "jdk/internal/util/ArraysSupport", name := "hashCode", desc := "(I[III)I" } : Jvm.MethodName)) ∈ lw_all := lw_g (lw_at lw_m6 41 rfl) rfl
theorem q1349 : (Jvm.Cond.code ({ cls := "jdk/internal/util/ArraysSupport", name := "hashCode", desc := "(I[III)I" } : Jvm.MethodName) prog_77_method_9_code (6 : Nat) (Option.some Jvm.ClassFile.FieldType.int)) ∈ lw_all := lw_g (lw_at lw_m6 42 rfl) rfl
theorem q1350 : (Jvm.Cond.classLink "jdk/internal/util/ArraysSupport" (87 : Nat) "java/lang/IllegalArgumentException") ∈ lw_all := lw_g (lw_at lw_m6 43 rfl) rfl
theorem q1351 : (Jvm.Cond.classLink "jdk/internal/util/ArraysSupport" (89 : Nat) "java/lang/StringBuilder") ∈ lw_all := lw_g (lw_at lw_m6 44 rfl) rfl
theorem q1352 : (Jvm.Cond.methodLink "jdk/internal/util/ArraysSupport" (91 : Nat) ({ cls := "java/lang/StringBuilder", name := "<init>", desc := "()V" } : Jvm.MethodName)) ∈ lw_all := lw_g (lw_at lw_m6 45 rfl) rfl
theorem q1353 : (Jvm.Cond.stringRef "jdk/internal/util/ArraysSupport" (92 : Nat) "unrecognized basic type: ") ∈ lw_tbl := lw_at lw_m6 46 rfl
theorem q1354 : (Jvm.Cond.methodLink "jdk/internal/util/ArraysSupport" (94 : Nat) ({ cls := "java/lang/StringBuilder", name := "append", desc := "(Ljava/lang/String;)Ljava/lang/StringBuilder;" } : Jvm.MethodName)) ∈ lw_all := lw_g (lw_at lw_m6 47 rfl) rfl
theorem q1355 : (Jvm.Cond.methodLink "jdk/internal/util/ArraysSupport" (98 : Nat) ({ cls := "java/lang/StringBuilder", name := "append", desc := "(I)Ljava/lang/StringBuilder;" } : Jvm.MethodName)) ∈ lw_all := lw_g (lw_at lw_m6 48 rfl) rfl
theorem q1356 : (Jvm.Cond.methodLink "jdk/internal/util/ArraysSupport" (101 : Nat) ({ cls := "java/lang/StringBuilder", name := "toString", desc := "()Ljava/lang/String;" } : Jvm.MethodName)) ∈ lw_all := lw_g (lw_at lw_m6 49 rfl) rfl
theorem q1357 : (Jvm.Cond.methodLink "jdk/internal/util/ArraysSupport" (105 : Nat) ({ cls := "java/lang/IllegalArgumentException", name := "<init>", desc := "(Ljava/lang/String;)V" } : Jvm.MethodName)) ∈ lw_all := lw_g (lw_at lw_m6 50 rfl) rfl
theorem q1486 : (Jvm.Cond.static ({ cls := "jdk/internal/util/ArraysSupport", name := "mismatch", desc := "([B[BI)I" } : Jvm.MethodName)) ∈ lw_all := lw_g (lw_at lw_m6 179 rfl) rfl
theorem q1487 : (Jvm.Cond.code ({ cls := "jdk/internal/util/ArraysSupport", name := "mismatch", desc := "([B[BI)I" } : Jvm.MethodName) prog_77_method_13_code (4 : Nat) (Option.some Jvm.ClassFile.FieldType.int)) ∈ lw_all := lw_g (lw_at lw_m6 180 rfl) rfl
theorem q1488 : (Jvm.Cond.fieldLink "jdk/internal/util/ArraysSupport" (126 : Nat) "jdk/internal/misc/Unsafe" "ARRAY_BYTE_BASE_OFFSET" "I") ∈ lw_all := lw_g (lw_at lw_m6 181 rfl) rfl
theorem q1490 : (Jvm.Cond.fieldLink "jdk/internal/util/ArraysSupport" (129 : Nat) "jdk/internal/util/ArraysSupport" "LOG2_ARRAY_BYTE_INDEX_SCALE" "I") ∈ lw_all := lw_g (lw_at lw_m6 183 rfl) rfl
theorem q1491 : (Jvm.Cond.laysStatic "jdk/internal/util/ArraysSupport" "LOG2_ARRAY_BYTE_INDEX_SCALE" "I") ∈ lw_tbl := lw_at lw_m6 184 rfl
theorem q1492 : (Jvm.Cond.methodLink "jdk/internal/util/ArraysSupport" (122 : Nat) ({ cls := "jdk/internal/util/ArraysSupport", name := "vectorizedMismatch", desc := "(Ljava/lang/Object;JLjava/lang/Object;JII)I" } : Jvm.MethodName)) ∈ lw_all := lw_g (lw_at lw_m6 185 rfl) rfl
theorem q1493 : (Jvm.Cond.static ({ cls := "jdk/internal/util/ArraysSupport", name := "vectorizedMismatch", desc := "(Ljava/lang/Object;JLjava/lang/Object;JII)I" } : Jvm.MethodName)) ∈ lw_all := lw_g (lw_at lw_m6 186 rfl) rfl
theorem q1494 : (Jvm.Cond.code ({ cls := "jdk/internal/util/ArraysSupport", name := "vectorizedMismatch", desc := "(Ljava/lang/Object;JLjava/lang/Object;JII)I" } : Jvm.MethodName) prog_77_method_3_code (19 : Nat) (Option.some Jvm.ClassFile.FieldType.int)) ∈ lw_all := lw_g (lw_at lw_m6 187 rfl) rfl
theorem q1495 : (Jvm.Cond.fieldLink "jdk/internal/util/ArraysSupport" (20 : Nat) "jdk/internal/util/ArraysSupport" "LOG2_ARRAY_LONG_INDEX_SCALE" "I") ∈ lw_all := lw_g (lw_at lw_m6 188 rfl) rfl
theorem q1496 : (Jvm.Cond.laysStatic "jdk/internal/util/ArraysSupport" "LOG2_ARRAY_LONG_INDEX_SCALE" "I") ∈ lw_tbl := lw_at lw_m6 189 rfl
theorem q1497 : (Jvm.Cond.fieldLink "jdk/internal/util/ArraysSupport" (26 : Nat) "jdk/internal/util/ArraysSupport" "U" "Ljdk/internal/misc/Unsafe;") ∈ lw_all := lw_g (lw_at lw_m6 190 rfl) rfl
theorem q1498 : (Jvm.Cond.laysStatic "jdk/internal/util/ArraysSupport" "U" "Ljdk/internal/misc/Unsafe;") ∈ lw_tbl := lw_at lw_m6 191 rfl
theorem q1499 : (Jvm.Cond.methodLink "jdk/internal/util/ArraysSupport" (30 : Nat) ({ cls := "jdk/internal/misc/Unsafe", name := "getLongUnaligned", desc := "(Ljava/lang/Object;J)J" } : Jvm.MethodName)) ∈ lw_all := lw_g (lw_at lw_m6 192 rfl) rfl
theorem q1551 : (Jvm.Cond.fieldLink "jdk/internal/util/ArraysSupport" (36 : Nat) "jdk/internal/util/ArraysSupport" "BIG_ENDIAN" "Z") ∈ lw_all := lw_g (lw_at lw_m7 4 rfl) rfl
theorem q1552 : (Jvm.Cond.laysStatic "jdk/internal/util/ArraysSupport" "BIG_ENDIAN" "Z") ∈ lw_tbl := lw_at lw_m7 5 rfl
theorem q1553 : (Jvm.Cond.methodLink "jdk/internal/util/ArraysSupport" (40 : Nat) ({ cls := "java/lang/Long", name := "numberOfLeadingZeros", desc := "(J)I" } : Jvm.MethodName)) ∈ lw_all := lw_g (lw_at lw_m7 6 rfl) rfl
theorem q1560 : (Jvm.Cond.fieldLink "jdk/internal/util/ArraysSupport" (46 : Nat) "jdk/internal/util/ArraysSupport" "LOG2_BYTE_BIT_SIZE" "I") ∈ lw_all := lw_g (lw_at lw_m7 13 rfl) rfl
theorem q1561 : (Jvm.Cond.laysStatic "jdk/internal/util/ArraysSupport" "LOG2_BYTE_BIT_SIZE" "I") ∈ lw_tbl := lw_at lw_m7 14 rfl
theorem q1562 : (Jvm.Cond.methodLink "jdk/internal/util/ArraysSupport" (49 : Nat) ({ cls := "java/lang/Long", name := "numberOfTrailingZeros", desc := "(J)I" } : Jvm.MethodName)) ∈ lw_all := lw_g (lw_at lw_m7 15 rfl) rfl
theorem q1568 : (Jvm.Cond.fieldLink "jdk/internal/util/ArraysSupport" (51 : Nat) "jdk/internal/util/ArraysSupport" "LOG2_ARRAY_INT_INDEX_SCALE" "I") ∈ lw_all := lw_g (lw_at lw_m7 21 rfl) rfl
theorem q1569 : (Jvm.Cond.laysStatic "jdk/internal/util/ArraysSupport" "LOG2_ARRAY_INT_INDEX_SCALE" "I") ∈ lw_tbl := lw_at lw_m7 22 rfl
theorem q1570 : (Jvm.Cond.methodLink "jdk/internal/util/ArraysSupport" (54 : Nat) ({ cls := "jdk/internal/misc/Unsafe", name := "getIntUnaligned", desc := "(Ljava/lang/Object;J)I" } : Jvm.MethodName)) ∈ lw_all := lw_g (lw_at lw_m7 23 rfl) rfl
theorem q1587 : (Jvm.Cond.methodLink "jdk/internal/util/ArraysSupport" (58 : Nat) ({ cls := "java/lang/Integer", name := "numberOfLeadingZeros", desc := "(I)I" } : Jvm.MethodName)) ∈ lw_all := lw_g (lw_at lw_m7 40 rfl) rfl
theorem q1588 : (Jvm.Cond.methodLink "jdk/internal/util/ArraysSupport" (11 : Nat) ({ cls := "java/lang/Integer", name := "numberOfTrailingZeros", desc := "(I)I" } : Jvm.MethodName)) ∈ lw_all := lw_g (lw_at lw_m7 41 rfl) rfl

/-! java/lang/Math -/
set_option maxRecDepth 100000
def RJ12 : String := "java/lang/Math"
abbrev cJ12_max : ByteArray := prog_37_method_65_code
def yJ12_max : MethodName := ⟨RJ12, "max", "(II)I"⟩
def dkwJ12_max_0 : List UInt8 := [26, 27, 161, 0, 7, 26, 167, 0, 4, 27, 172]
abbrev dktJ12_max_0 : List UInt8 := dkwJ12_max_0 ++ []
theorem dksJ12_max_0 : cJ12_max.data.toList.drop 0 = dktJ12_max_0 := by decide +kernel
theorem dJ12_max_0 : decode cJ12_max 0 = .ok (.iload_n 0, 1) := dk_26 (dk_at dksJ12_max_0 0 rfl rfl)
theorem dJ12_max_1 : decode cJ12_max 1 = .ok (.iload_n 1, 1) := dk_27 (dk_at dksJ12_max_0 1 rfl rfl)
theorem dJ12_max_2 : decode cJ12_max 2 = .ok (.if_icmp .lt 7, 3) := dk_161 0 7 (dk_at dksJ12_max_0 2 rfl rfl)
theorem dJ12_max_5 : decode cJ12_max 5 = .ok (.iload_n 0, 1) := dk_26 (dk_at dksJ12_max_0 5 rfl rfl)
theorem dJ12_max_6 : decode cJ12_max 6 = .ok (.goto 4, 3) := dk_167 0 4 (dk_at dksJ12_max_0 6 rfl rfl)
theorem dJ12_max_9 : decode cJ12_max 9 = .ok (.iload_n 1, 1) := dk_27 (dk_at dksJ12_max_0 9 rfl rfl)
theorem dJ12_max_10 : decode cJ12_max 10 = .ok (.ireturn, 1) := dk_172 (dk_at dksJ12_max_0 10 rfl rfl)
abbrev cJ12_min : ByteArray := prog_37_method_69_code
def yJ12_min : MethodName := ⟨RJ12, "min", "(II)I"⟩
def dkwJ12_min_0 : List UInt8 := [26, 27, 163, 0, 7, 26, 167, 0, 4, 27, 172]
abbrev dktJ12_min_0 : List UInt8 := dkwJ12_min_0 ++ []
theorem dksJ12_min_0 : cJ12_min.data.toList.drop 0 = dktJ12_min_0 := by decide +kernel
theorem dJ12_min_0 : decode cJ12_min 0 = .ok (.iload_n 0, 1) := dk_26 (dk_at dksJ12_min_0 0 rfl rfl)
theorem dJ12_min_1 : decode cJ12_min 1 = .ok (.iload_n 1, 1) := dk_27 (dk_at dksJ12_min_0 1 rfl rfl)
theorem dJ12_min_2 : decode cJ12_min 2 = .ok (.if_icmp .gt 7, 3) := dk_163 0 7 (dk_at dksJ12_min_0 2 rfl rfl)
theorem dJ12_min_5 : decode cJ12_min 5 = .ok (.iload_n 0, 1) := dk_26 (dk_at dksJ12_min_0 5 rfl rfl)
theorem dJ12_min_6 : decode cJ12_min 6 = .ok (.goto 4, 3) := dk_167 0 4 (dk_at dksJ12_min_0 6 rfl rfl)
theorem dJ12_min_9 : decode cJ12_min 9 = .ok (.iload_n 1, 1) := dk_27 (dk_at dksJ12_min_0 9 rfl rfl)
theorem dJ12_min_10 : decode cJ12_min 10 = .ok (.ireturn, 1) := dk_172 (dk_at dksJ12_min_0 10 rfl rfl)
abbrev cJ12_max_2 : ByteArray := prog_37_method_66_code
def yJ12_max_2 : MethodName := ⟨RJ12, "max", "(JJ)J"⟩
def dkwJ12_max_2_0 : List UInt8 := [30, 32, 148, 155, 0, 7, 30, 167, 0, 4, 32, 173]
abbrev dktJ12_max_2_0 : List UInt8 := dkwJ12_max_2_0 ++ []
theorem dksJ12_max_2_0 : cJ12_max_2.data.toList.drop 0 = dktJ12_max_2_0 := by decide +kernel
theorem dJ12_max_2_0 : decode cJ12_max_2 0 = .ok (.lload_n 0, 1) := dk_30 (dk_at dksJ12_max_2_0 0 rfl rfl)
theorem dJ12_max_2_1 : decode cJ12_max_2 1 = .ok (.lload_n 2, 1) := dk_32 (dk_at dksJ12_max_2_0 1 rfl rfl)
theorem dJ12_max_2_2 : decode cJ12_max_2 2 = .ok (.lcmp, 1) := dk_148 (dk_at dksJ12_max_2_0 2 rfl rfl)
theorem dJ12_max_2_3 : decode cJ12_max_2 3 = .ok (.ifCond .lt 7, 3) := dk_155 0 7 (dk_at dksJ12_max_2_0 3 rfl rfl)
theorem dJ12_max_2_6 : decode cJ12_max_2 6 = .ok (.lload_n 0, 1) := dk_30 (dk_at dksJ12_max_2_0 6 rfl rfl)
theorem dJ12_max_2_7 : decode cJ12_max_2 7 = .ok (.goto 4, 3) := dk_167 0 4 (dk_at dksJ12_max_2_0 7 rfl rfl)
theorem dJ12_max_2_10 : decode cJ12_max_2 10 = .ok (.lload_n 2, 1) := dk_32 (dk_at dksJ12_max_2_0 10 rfl rfl)
theorem dJ12_max_2_11 : decode cJ12_max_2 11 = .ok (.lreturn, 1) := dk_173 (dk_at dksJ12_max_2_0 11 rfl rfl)
abbrev cJ12_min_2 : ByteArray := prog_37_method_70_code
def yJ12_min_2 : MethodName := ⟨RJ12, "min", "(JJ)J"⟩
def dkwJ12_min_2_0 : List UInt8 := [30, 32, 148, 157, 0, 7, 30, 167, 0, 4, 32, 173]
abbrev dktJ12_min_2_0 : List UInt8 := dkwJ12_min_2_0 ++ []
theorem dksJ12_min_2_0 : cJ12_min_2.data.toList.drop 0 = dktJ12_min_2_0 := by decide +kernel
theorem dJ12_min_2_0 : decode cJ12_min_2 0 = .ok (.lload_n 0, 1) := dk_30 (dk_at dksJ12_min_2_0 0 rfl rfl)
theorem dJ12_min_2_1 : decode cJ12_min_2 1 = .ok (.lload_n 2, 1) := dk_32 (dk_at dksJ12_min_2_0 1 rfl rfl)
theorem dJ12_min_2_2 : decode cJ12_min_2 2 = .ok (.lcmp, 1) := dk_148 (dk_at dksJ12_min_2_0 2 rfl rfl)
theorem dJ12_min_2_3 : decode cJ12_min_2 3 = .ok (.ifCond .gt 7, 3) := dk_157 0 7 (dk_at dksJ12_min_2_0 3 rfl rfl)
theorem dJ12_min_2_6 : decode cJ12_min_2 6 = .ok (.lload_n 0, 1) := dk_30 (dk_at dksJ12_min_2_0 6 rfl rfl)
theorem dJ12_min_2_7 : decode cJ12_min_2 7 = .ok (.goto 4, 3) := dk_167 0 4 (dk_at dksJ12_min_2_0 7 rfl rfl)
theorem dJ12_min_2_10 : decode cJ12_min_2 10 = .ok (.lload_n 2, 1) := dk_32 (dk_at dksJ12_min_2_0 10 rfl rfl)
theorem dJ12_min_2_11 : decode cJ12_min_2 11 = .ok (.lreturn, 1) := dk_173 (dk_at dksJ12_min_2_0 11 rfl rfl)
theorem q121 : (Jvm.Cond.initialized "java/lang/Math") ∈ lw_all := lw_g (lw_at lw_m1 14 rfl) rfl
theorem q288 : (Jvm.Cond.static ({ cls := "java/lang/Math", name := "max", desc := "(II)I" } : Jvm.MethodName)) ∈ lw_all := lw_g (lw_at lw_m1 181 rfl) rfl
theorem q289 : (Jvm.Cond.code ({ cls := "java/lang/Math", name := "max", desc := "(II)I" } : Jvm.MethodName) prog_37_method_65_code (2 : Nat) (Option.some Jvm.ClassFile.FieldType.int)) ∈ lw_all := lw_g (lw_at lw_m1 182 rfl) rfl
theorem q306 : (Jvm.Cond.static ({ cls := "java/lang/Math", name := "min", desc := "(II)I" } : Jvm.MethodName)) ∈ lw_all := lw_g (lw_at lw_m1 199 rfl) rfl
theorem q307 : (Jvm.Cond.code ({ cls := "java/lang/Math", name := "min", desc := "(II)I" } : Jvm.MethodName) prog_37_method_69_code (2 : Nat) (Option.some Jvm.ClassFile.FieldType.int)) ∈ lw_all := lw_g (lw_at lw_m1 200 rfl) rfl
theorem q2421 : (Jvm.Cond.static ({ cls := "java/lang/Math", name := "max", desc := "(JJ)J" } : Jvm.MethodName)) ∈ lw_all := lw_g (lw_at lw_m10 154 rfl) rfl
theorem q2422 : (Jvm.Cond.code ({ cls := "java/lang/Math", name := "max", desc := "(JJ)J" } : Jvm.MethodName) prog_37_method_66_code (4 : Nat) (Option.some Jvm.ClassFile.FieldType.long)) ∈ lw_all := lw_g (lw_at lw_m10 155 rfl) rfl
theorem q2434 : (Jvm.Cond.static ({ cls := "java/lang/Math", name := "min", desc := "(JJ)J" } : Jvm.MethodName)) ∈ lw_all := lw_g (lw_at lw_m10 167 rfl) rfl
theorem q2435 : (Jvm.Cond.code ({ cls := "java/lang/Math", name := "min", desc := "(JJ)J" } : Jvm.MethodName) prog_37_method_70_code (4 : Nat) (Option.some Jvm.ClassFile.FieldType.long)) ∈ lw_all := lw_g (lw_at lw_m10 168 rfl) rfl

/-! java/util/Arrays -/
set_option maxRecDepth 100000
def RJ13 : String := "java/util/Arrays"
abbrev cJ13_copyOf : ByteArray := prog_56_method_121_code
def yJ13_copyOf : MethodName := ⟨RJ13, "copyOf", "([BI)[B"⟩
abbrev cJ13_copyOfRange : ByteArray := prog_56_method_132_code
def yJ13_copyOfRange : MethodName := ⟨RJ13, "copyOfRange", "([BII)[B"⟩
abbrev cJ13_copyOfRangeByte : ByteArray := prog_56_method_133_code
def yJ13_copyOfRangeByte : MethodName := ⟨RJ13, "copyOfRangeByte", "([BII)[B"⟩
abbrev cJ13_checkLength : ByteArray := prog_56_method_131_code
def yJ13_checkLength : MethodName := ⟨RJ13, "checkLength", "(II)V"⟩
abbrev cJ13_fill : ByteArray := prog_56_method_110_code
def yJ13_fill : MethodName := ⟨RJ13, "fill", "([BIIB)V"⟩
abbrev cJ13_rangeCheck : ByteArray := prog_56_method_30_code
def yJ13_rangeCheck : MethodName := ⟨RJ13, "rangeCheck", "(III)V"⟩
abbrev cJ13_copyOf_2 : ByteArray := prog_56_method_119_code
def yJ13_copyOf_2 : MethodName := ⟨RJ13, "copyOf", "([Ljava/lang/Object;I)[Ljava/lang/Object;"⟩
abbrev cJ13_copyOf_3 : ByteArray := prog_56_method_120_code
def yJ13_copyOf_3 : MethodName := ⟨RJ13, "copyOf", "([Ljava/lang/Object;ILjava/lang/Class;)[Ljava/lang/Object;"⟩
theorem q122 : (Jvm.Cond.initialized "java/util/Arrays") ∈ lw_all := lw_g (lw_at lw_m1 15 rfl) rfl
theorem q296 : (Jvm.Cond.static ({ cls := "java/util/Arrays", name := "copyOf", desc := "([BI)[B" } : Jvm.MethodName)) ∈ lw_all := lw_g (lw_at lw_m1 189 rfl) rfl
theorem q297 : (Jvm.Cond.code ({ cls := "java/util/Arrays", name := "copyOf", desc := "([BI)[B" } : Jvm.MethodName) prog_56_method_121_code (3 : Nat) (Option.some (Jvm.ClassFile.FieldType.array Jvm.ClassFile.FieldType.byte))) ∈ lw_all := lw_g (lw_at lw_m1 190 rfl) rfl
theorem q298 : (Jvm.Cond.methodLink "java/util/Arrays" (310 : Nat) ({ cls := "[B", name := "clone", desc := "()Ljava/lang/Object;" } : Jvm.MethodName)) ∈ lw_all := lw_g (lw_at lw_m1 191 rfl) rfl
theorem q304 : (Jvm.Cond.classLink "java/util/Arrays" (311 : Nat) "[B") ∈ lw_all := lw_g (lw_at lw_m1 197 rfl) rfl
theorem q305 : (Jvm.Cond.methodLink "java/util/Arrays" (304 : Nat) ({ cls := "java/lang/Math", name := "min", desc := "(II)I" } : Jvm.MethodName)) ∈ lw_all := lw_g (lw_at lw_m1 198 rfl) rfl
theorem q308 : (Jvm.Cond.methodLink "java/util/Arrays" (150 : Nat) ({ cls := "java/lang/System", name := "arraycopy", desc := "(Ljava/lang/Object;ILjava/lang/Object;II)V" } : Jvm.MethodName)) ∈ lw_all := lw_g (lw_at lw_m1 201 rfl) rfl
theorem q438 : (Jvm.Cond.static ({ cls := "java/util/Arrays", name := "copyOfRange", desc := "([BII)[B" } : Jvm.MethodName)) ∈ lw_all := lw_g (lw_at lw_m2 91 rfl) rfl
theorem q439 : (Jvm.Cond.code ({ cls := "java/util/Arrays", name := "copyOfRange", desc := "([BII)[B" } : Jvm.MethodName) prog_56_method_132_code (3 : Nat) (Option.some (Jvm.ClassFile.FieldType.array Jvm.ClassFile.FieldType.byte))) ∈ lw_all := lw_g (lw_at lw_m2 92 rfl) rfl
theorem q440 : (Jvm.Cond.methodLink "java/util/Arrays" (339 : Nat) ({ cls := "java/util/Arrays", name := "copyOfRangeByte", desc := "([BII)[B" } : Jvm.MethodName)) ∈ lw_all := lw_g (lw_at lw_m2 93 rfl) rfl
theorem q441 : (Jvm.Cond.static ({ cls := "java/util/Arrays", name := "copyOfRangeByte", desc := "([BII)[B" } : Jvm.MethodName)) ∈ lw_all := lw_g (lw_at lw_m2 94 rfl) rfl
theorem q442 : (Jvm.Cond.code ({ cls := "java/util/Arrays", name := "copyOfRangeByte", desc := "([BII)[B" } : Jvm.MethodName) prog_56_method_133_code (5 : Nat) (Option.some (Jvm.ClassFile.FieldType.array Jvm.ClassFile.FieldType.byte))) ∈ lw_all := lw_g (lw_at lw_m2 95 rfl) rfl
theorem q443 : (Jvm.Cond.methodLink "java/util/Arrays" (343 : Nat) ({ cls := "java/util/Arrays", name := "checkLength", desc := "(II)V" } : Jvm.MethodName)) ∈ lw_all := lw_g (lw_at lw_m2 96 rfl) rfl
theorem q444 : (Jvm.Cond.static ({ cls := "java/util/Arrays", name := "checkLength", desc := "(II)V" } : Jvm.MethodName)) ∈ lw_all := lw_g (lw_at lw_m2 97 rfl) rfl
theorem q445 : (Jvm.Cond.code ({ cls := "java/util/Arrays", name := "checkLength", desc := "(II)V" } : Jvm.MethodName) prog_56_method_131_code (2 : Nat) (Option.none : Option Jvm.ClassFile.FieldType)) ∈ lw_all := lw_g (lw_at lw_m2 98 rfl) rfl
theorem q446 : (Jvm.Cond.classLink "java/util/Arrays" (43 : Nat) "java/lang/IllegalArgumentException") ∈ lw_all := lw_g (lw_at lw_m2 99 rfl) rfl
theorem q447 : (Jvm.Cond.classLink "java/util/Arrays" (45 : Nat) "java/lang/StringBuilder") ∈ lw_all := lw_g (lw_at lw_m2 100 rfl) rfl
theorem q448 : (Jvm.Cond.methodLink "java/util/Arrays" (47 : Nat) ({ cls := "java/lang/StringBuilder", name := "<init>", desc := "()V" } : Jvm.MethodName)) ∈ lw_all := lw_g (lw_at lw_m2 101 rfl) rfl
theorem q449 : (Jvm.Cond.methodLink "java/util/Arrays" (54 : Nat) ({ cls := "java/lang/StringBuilder", name := "append", desc := "(I)Ljava/lang/StringBuilder;" } : Jvm.MethodName)) ∈ lw_all := lw_g (lw_at lw_m2 102 rfl) rfl
theorem q450 : (Jvm.Cond.stringRef "java/util/Arrays" (337 : Nat) " > ") ∈ lw_tbl := lw_at lw_m2 103 rfl
theorem q451 : (Jvm.Cond.methodLink "java/util/Arrays" (50 : Nat) ({ cls := "java/lang/StringBuilder", name := "append", desc := "(Ljava/lang/String;)Ljava/lang/StringBuilder;" } : Jvm.MethodName)) ∈ lw_all := lw_g (lw_at lw_m2 104 rfl) rfl
theorem q452 : (Jvm.Cond.methodLink "java/util/Arrays" (61 : Nat) ({ cls := "java/lang/StringBuilder", name := "toString", desc := "()Ljava/lang/String;" } : Jvm.MethodName)) ∈ lw_all := lw_g (lw_at lw_m2 105 rfl) rfl
theorem q453 : (Jvm.Cond.methodLink "java/util/Arrays" (65 : Nat) ({ cls := "java/lang/IllegalArgumentException", name := "<init>", desc := "(Ljava/lang/String;)V" } : Jvm.MethodName)) ∈ lw_all := lw_g (lw_at lw_m2 106 rfl) rfl
theorem q922 : (Jvm.Cond.static ({ cls := "java/util/Arrays", name := "fill", desc := "([BIIB)V" } : Jvm.MethodName)) ∈ lw_all := lw_g (lw_at lw_m4 95 rfl) rfl
theorem q923 : (Jvm.Cond.code ({ cls := "java/util/Arrays", name := "fill", desc := "([BIIB)V" } : Jvm.MethodName) prog_56_method_110_code (5 : Nat) (Option.none : Option Jvm.ClassFile.FieldType)) ∈ lw_all := lw_g (lw_at lw_m4 96 rfl) rfl
theorem q924 : (Jvm.Cond.methodLink "java/util/Arrays" (13 : Nat) ({ cls := "java/util/Arrays", name := "rangeCheck", desc := "(III)V" } : Jvm.MethodName)) ∈ lw_all := lw_g (lw_at lw_m4 97 rfl) rfl
theorem q925 : (Jvm.Cond.static ({ cls := "java/util/Arrays", name := "rangeCheck", desc := "(III)V" } : Jvm.MethodName)) ∈ lw_all := lw_g (lw_at lw_m4 98 rfl) rfl
theorem q926 : (Jvm.Cond.code ({ cls := "java/util/Arrays", name := "rangeCheck", desc := "(III)V" } : Jvm.MethodName) prog_56_method_30_code (3 : Nat) (Option.none : Option Jvm.ClassFile.FieldType)) ∈ lw_all := lw_g (lw_at lw_m4 99 rfl) rfl
theorem q927 : (Jvm.Cond.stringRef "java/util/Arrays" (48 : Nat) "fromIndex(") ∈ lw_tbl := lw_at lw_m4 100 rfl
theorem q928 : (Jvm.Cond.stringRef "java/util/Arrays" (57 : Nat) ") > toIndex(") ∈ lw_tbl := lw_at lw_m4 101 rfl
theorem q929 : (Jvm.Cond.stringRef "java/util/Arrays" (59 : Nat) ")") ∈ lw_tbl := lw_at lw_m4 102 rfl
theorem q930 : (Jvm.Cond.classLink "java/util/Arrays" (68 : Nat) "java/lang/ArrayIndexOutOfBoundsException") ∈ lw_all := lw_g (lw_at lw_m4 103 rfl) rfl
theorem q941 : (Jvm.Cond.methodLink "java/util/Arrays" (70 : Nat) ({ cls := "java/lang/ArrayIndexOutOfBoundsException", name := "<init>", desc := "(I)V" } : Jvm.MethodName)) ∈ lw_all := lw_g (lw_at lw_m4 114 rfl) rfl
theorem q1109 : (Jvm.Cond.static ({ cls := "java/util/Arrays", name := "copyOf", desc := "([Ljava/lang/Object;I)[Ljava/lang/Object;" } : Jvm.MethodName)) ∈ lw_all := lw_g (lw_at lw_m5 42 rfl) rfl
theorem q1110 : (Jvm.Cond.code ({ cls := "java/util/Arrays", name := "copyOf", desc := "([Ljava/lang/Object;I)[Ljava/lang/Object;" } : Jvm.MethodName) prog_56_method_119_code (2 : Nat) (Option.some (Jvm.ClassFile.FieldType.array (Jvm.ClassFile.FieldType.object "java/lang/Object")))) ∈ lw_all := lw_g (lw_at lw_m5 43 rfl) rfl
theorem q1111 : (Jvm.Cond.methodLink "java/util/Arrays" (86 : Nat) ({ cls := "java/lang/Object", name := "getClass", desc := "()Ljava/lang/Class;" } : Jvm.MethodName)) ∈ lw_all := lw_g (lw_at lw_m5 44 rfl) rfl
theorem q1150 : (Jvm.Cond.methodLink "java/util/Arrays" (300 : Nat) ({ cls := "java/util/Arrays", name := "copyOf", desc := "([Ljava/lang/Object;ILjava/lang/Class;)[Ljava/lang/Object;" } : Jvm.MethodName)) ∈ lw_all := lw_g (lw_at lw_m5 83 rfl) rfl
theorem q1151 : (Jvm.Cond.static ({ cls := "java/util/Arrays", name := "copyOf", desc := "([Ljava/lang/Object;ILjava/lang/Class;)[Ljava/lang/Object;" } : Jvm.MethodName)) ∈ lw_all := lw_g (lw_at lw_m5 84 rfl) rfl
theorem q1152 : (Jvm.Cond.code ({ cls := "java/util/Arrays", name := "copyOf", desc := "([Ljava/lang/Object;ILjava/lang/Class;)[Ljava/lang/Object;" } : Jvm.MethodName) prog_56_method_120_code (4 : Nat) (Option.some (Jvm.ClassFile.FieldType.array (Jvm.ClassFile.FieldType.object "java/lang/Object")))) ∈ lw_all := lw_g (lw_at lw_m5 85 rfl) rfl
theorem q1153 : (Jvm.Cond.classLink "java/util/Arrays" (110 : Nat) "[Ljava/lang/Object;") ∈ lw_all := lw_g (lw_at lw_m5 86 rfl) rfl
theorem q1154 : (Jvm.Cond.classLink "java/util/Arrays" (2 : Nat) "java/lang/Object") ∈ lw_all := lw_g (lw_at lw_m5 87 rfl) rfl

/-! jdk/internal/util/Preconditions -/
set_option maxRecDepth 100000
def RJ14 : String := "jdk/internal/util/Preconditions"
abbrev cJ14_checkFromToIndex : ByteArray := prog_78_method_12_code
def yJ14_checkFromToIndex : MethodName := ⟨RJ14, "checkFromToIndex", "(IIILjava/util/function/BiFunction;)I"⟩
def dkwJ14_checkFromToIndex_0 : List UInt8 := [26, 155, 0, 13, 26, 27, 163, 0, 8, 27, 28, 164, 0, 11, 45, 26, 27, 28, 184, 0, 99, 191, 26, 172]
abbrev dktJ14_checkFromToIndex_0 : List UInt8 := dkwJ14_checkFromToIndex_0 ++ []
theorem dksJ14_checkFromToIndex_0 : cJ14_checkFromToIndex.data.toList.drop 0 = dktJ14_checkFromToIndex_0 := by decide +kernel
theorem dJ14_checkFromToIndex_0 : decode cJ14_checkFromToIndex 0 = .ok (.iload_n 0, 1) := dk_26 (dk_at dksJ14_checkFromToIndex_0 0 rfl rfl)
theorem dJ14_checkFromToIndex_1 : decode cJ14_checkFromToIndex 1 = .ok (.ifCond .lt 13, 3) := dk_155 0 13 (dk_at dksJ14_checkFromToIndex_0 1 rfl rfl)
theorem dJ14_checkFromToIndex_4 : decode cJ14_checkFromToIndex 4 = .ok (.iload_n 0, 1) := dk_26 (dk_at dksJ14_checkFromToIndex_0 4 rfl rfl)
theorem dJ14_checkFromToIndex_5 : decode cJ14_checkFromToIndex 5 = .ok (.iload_n 1, 1) := dk_27 (dk_at dksJ14_checkFromToIndex_0 5 rfl rfl)
theorem dJ14_checkFromToIndex_6 : decode cJ14_checkFromToIndex 6 = .ok (.if_icmp .gt 8, 3) := dk_163 0 8 (dk_at dksJ14_checkFromToIndex_0 6 rfl rfl)
theorem dJ14_checkFromToIndex_9 : decode cJ14_checkFromToIndex 9 = .ok (.iload_n 1, 1) := dk_27 (dk_at dksJ14_checkFromToIndex_0 9 rfl rfl)
theorem dJ14_checkFromToIndex_10 : decode cJ14_checkFromToIndex 10 = .ok (.iload_n 2, 1) := dk_28 (dk_at dksJ14_checkFromToIndex_0 10 rfl rfl)
theorem dJ14_checkFromToIndex_11 : decode cJ14_checkFromToIndex 11 = .ok (.if_icmp .le 11, 3) := dk_164 0 11 (dk_at dksJ14_checkFromToIndex_0 11 rfl rfl)
theorem dJ14_checkFromToIndex_14 : decode cJ14_checkFromToIndex 14 = .ok (.aload_n 3, 1) := dk_45 (dk_at dksJ14_checkFromToIndex_0 14 rfl rfl)
theorem dJ14_checkFromToIndex_15 : decode cJ14_checkFromToIndex 15 = .ok (.iload_n 0, 1) := dk_26 (dk_at dksJ14_checkFromToIndex_0 15 rfl rfl)
theorem dJ14_checkFromToIndex_16 : decode cJ14_checkFromToIndex 16 = .ok (.iload_n 1, 1) := dk_27 (dk_at dksJ14_checkFromToIndex_0 16 rfl rfl)
theorem dJ14_checkFromToIndex_17 : decode cJ14_checkFromToIndex 17 = .ok (.iload_n 2, 1) := dk_28 (dk_at dksJ14_checkFromToIndex_0 17 rfl rfl)
theorem dJ14_checkFromToIndex_18 : decode cJ14_checkFromToIndex 18 = .ok (.invokestatic 99, 3) := dk_184 0 99 (dk_at dksJ14_checkFromToIndex_0 18 rfl rfl)
theorem dJ14_checkFromToIndex_21 : decode cJ14_checkFromToIndex 21 = .ok (.athrow, 1) := dk_191 (dk_at dksJ14_checkFromToIndex_0 21 rfl rfl)
theorem dJ14_checkFromToIndex_22 : decode cJ14_checkFromToIndex 22 = .ok (.iload_n 0, 1) := dk_26 (dk_at dksJ14_checkFromToIndex_0 22 rfl rfl)
theorem dJ14_checkFromToIndex_23 : decode cJ14_checkFromToIndex 23 = .ok (.ireturn, 1) := dk_172 (dk_at dksJ14_checkFromToIndex_0 23 rfl rfl)
abbrev cJ14_checkFromIndexSize : ByteArray := prog_78_method_13_code
def yJ14_checkFromIndexSize : MethodName := ⟨RJ14, "checkFromIndexSize", "(IIILjava/util/function/BiFunction;)I"⟩
def dkwJ14_checkFromIndexSize_1 : List UInt8 := [172]
abbrev dktJ14_checkFromIndexSize_1 : List UInt8 := dkwJ14_checkFromIndexSize_1 ++ []
def dkwJ14_checkFromIndexSize_0 : List UInt8 := [28, 26, 128, 27, 128, 155, 0, 10, 27, 28, 26, 100, 164, 0, 11, 45, 26, 27, 28, 184, 0, 103, 191, 26]
abbrev dktJ14_checkFromIndexSize_0 : List UInt8 := dkwJ14_checkFromIndexSize_0 ++ dktJ14_checkFromIndexSize_1
theorem dksJ14_checkFromIndexSize_0 : cJ14_checkFromIndexSize.data.toList.drop 0 = dktJ14_checkFromIndexSize_0 := by decide +kernel
theorem dksJ14_checkFromIndexSize_1 : cJ14_checkFromIndexSize.data.toList.drop 24 = dktJ14_checkFromIndexSize_1 := dk_seg dksJ14_checkFromIndexSize_0 24 rfl rfl
theorem dJ14_checkFromIndexSize_0 : decode cJ14_checkFromIndexSize 0 = .ok (.iload_n 2, 1) := dk_28 (dk_at dksJ14_checkFromIndexSize_0 0 rfl rfl)
theorem dJ14_checkFromIndexSize_1 : decode cJ14_checkFromIndexSize 1 = .ok (.iload_n 0, 1) := dk_26 (dk_at dksJ14_checkFromIndexSize_0 1 rfl rfl)
theorem dJ14_checkFromIndexSize_2 : decode cJ14_checkFromIndexSize 2 = .ok (.ior, 1) := dk_128 (dk_at dksJ14_checkFromIndexSize_0 2 rfl rfl)
theorem dJ14_checkFromIndexSize_3 : decode cJ14_checkFromIndexSize 3 = .ok (.iload_n 1, 1) := dk_27 (dk_at dksJ14_checkFromIndexSize_0 3 rfl rfl)
theorem dJ14_checkFromIndexSize_4 : decode cJ14_checkFromIndexSize 4 = .ok (.ior, 1) := dk_128 (dk_at dksJ14_checkFromIndexSize_0 4 rfl rfl)
theorem dJ14_checkFromIndexSize_5 : decode cJ14_checkFromIndexSize 5 = .ok (.ifCond .lt 10, 3) := dk_155 0 10 (dk_at dksJ14_checkFromIndexSize_0 5 rfl rfl)
theorem dJ14_checkFromIndexSize_8 : decode cJ14_checkFromIndexSize 8 = .ok (.iload_n 1, 1) := dk_27 (dk_at dksJ14_checkFromIndexSize_0 8 rfl rfl)
theorem dJ14_checkFromIndexSize_9 : decode cJ14_checkFromIndexSize 9 = .ok (.iload_n 2, 1) := dk_28 (dk_at dksJ14_checkFromIndexSize_0 9 rfl rfl)
theorem dJ14_checkFromIndexSize_10 : decode cJ14_checkFromIndexSize 10 = .ok (.iload_n 0, 1) := dk_26 (dk_at dksJ14_checkFromIndexSize_0 10 rfl rfl)
theorem dJ14_checkFromIndexSize_11 : decode cJ14_checkFromIndexSize 11 = .ok (.isub, 1) := dk_100 (dk_at dksJ14_checkFromIndexSize_0 11 rfl rfl)
theorem dJ14_checkFromIndexSize_12 : decode cJ14_checkFromIndexSize 12 = .ok (.if_icmp .le 11, 3) := dk_164 0 11 (dk_at dksJ14_checkFromIndexSize_0 12 rfl rfl)
theorem dJ14_checkFromIndexSize_15 : decode cJ14_checkFromIndexSize 15 = .ok (.aload_n 3, 1) := dk_45 (dk_at dksJ14_checkFromIndexSize_0 15 rfl rfl)
theorem dJ14_checkFromIndexSize_16 : decode cJ14_checkFromIndexSize 16 = .ok (.iload_n 0, 1) := dk_26 (dk_at dksJ14_checkFromIndexSize_0 16 rfl rfl)
theorem dJ14_checkFromIndexSize_17 : decode cJ14_checkFromIndexSize 17 = .ok (.iload_n 1, 1) := dk_27 (dk_at dksJ14_checkFromIndexSize_0 17 rfl rfl)
theorem dJ14_checkFromIndexSize_18 : decode cJ14_checkFromIndexSize 18 = .ok (.iload_n 2, 1) := dk_28 (dk_at dksJ14_checkFromIndexSize_0 18 rfl rfl)
theorem dJ14_checkFromIndexSize_19 : decode cJ14_checkFromIndexSize 19 = .ok (.invokestatic 103, 3) := dk_184 0 103 (dk_at dksJ14_checkFromIndexSize_0 19 rfl rfl)
theorem dJ14_checkFromIndexSize_22 : decode cJ14_checkFromIndexSize 22 = .ok (.athrow, 1) := dk_191 (dk_at dksJ14_checkFromIndexSize_0 22 rfl rfl)
theorem dJ14_checkFromIndexSize_23 : decode cJ14_checkFromIndexSize 23 = .ok (.iload_n 0, 1) := dk_26 (dk_at dksJ14_checkFromIndexSize_0 23 rfl rfl)
theorem dJ14_checkFromIndexSize_24 : decode cJ14_checkFromIndexSize 24 = .ok (.ireturn, 1) := dk_172 (dk_at dksJ14_checkFromIndexSize_1 0 rfl rfl)
abbrev cJ14_checkIndex : ByteArray := prog_78_method_11_code
def yJ14_checkIndex : MethodName := ⟨RJ14, "checkIndex", "(IILjava/util/function/BiFunction;)I"⟩
def dkwJ14_checkIndex_0 : List UInt8 := [26, 155, 0, 8, 26, 27, 161, 0, 10, 44, 26, 27, 184, 0, 95, 191, 26, 172]
abbrev dktJ14_checkIndex_0 : List UInt8 := dkwJ14_checkIndex_0 ++ []
theorem dksJ14_checkIndex_0 : cJ14_checkIndex.data.toList.drop 0 = dktJ14_checkIndex_0 := by decide +kernel
theorem dJ14_checkIndex_0 : decode cJ14_checkIndex 0 = .ok (.iload_n 0, 1) := dk_26 (dk_at dksJ14_checkIndex_0 0 rfl rfl)
theorem dJ14_checkIndex_1 : decode cJ14_checkIndex 1 = .ok (.ifCond .lt 8, 3) := dk_155 0 8 (dk_at dksJ14_checkIndex_0 1 rfl rfl)
theorem dJ14_checkIndex_4 : decode cJ14_checkIndex 4 = .ok (.iload_n 0, 1) := dk_26 (dk_at dksJ14_checkIndex_0 4 rfl rfl)
theorem dJ14_checkIndex_5 : decode cJ14_checkIndex 5 = .ok (.iload_n 1, 1) := dk_27 (dk_at dksJ14_checkIndex_0 5 rfl rfl)
theorem dJ14_checkIndex_6 : decode cJ14_checkIndex 6 = .ok (.if_icmp .lt 10, 3) := dk_161 0 10 (dk_at dksJ14_checkIndex_0 6 rfl rfl)
theorem dJ14_checkIndex_9 : decode cJ14_checkIndex 9 = .ok (.aload_n 2, 1) := dk_44 (dk_at dksJ14_checkIndex_0 9 rfl rfl)
theorem dJ14_checkIndex_10 : decode cJ14_checkIndex 10 = .ok (.iload_n 0, 1) := dk_26 (dk_at dksJ14_checkIndex_0 10 rfl rfl)
theorem dJ14_checkIndex_11 : decode cJ14_checkIndex 11 = .ok (.iload_n 1, 1) := dk_27 (dk_at dksJ14_checkIndex_0 11 rfl rfl)
theorem dJ14_checkIndex_12 : decode cJ14_checkIndex 12 = .ok (.invokestatic 95, 3) := dk_184 0 95 (dk_at dksJ14_checkIndex_0 12 rfl rfl)
theorem dJ14_checkIndex_15 : decode cJ14_checkIndex 15 = .ok (.athrow, 1) := dk_191 (dk_at dksJ14_checkIndex_0 15 rfl rfl)
theorem dJ14_checkIndex_16 : decode cJ14_checkIndex 16 = .ok (.iload_n 0, 1) := dk_26 (dk_at dksJ14_checkIndex_0 16 rfl rfl)
theorem dJ14_checkIndex_17 : decode cJ14_checkIndex 17 = .ok (.ireturn, 1) := dk_172 (dk_at dksJ14_checkIndex_0 17 rfl rfl)
theorem q124 : (Jvm.Cond.initialized "jdk/internal/util/Preconditions") ∈ lw_all := lw_g (lw_at lw_m1 17 rfl) rfl
theorem q329 : (Jvm.Cond.laysStatic "jdk/internal/util/Preconditions" "SIOOBE_FORMATTER" "Ljava/util/function/BiFunction;") ∈ lw_tbl := lw_at lw_m1 222 rfl
theorem q331 : (Jvm.Cond.static ({ cls := "jdk/internal/util/Preconditions", name := "checkFromToIndex", desc := "(IIILjava/util/function/BiFunction;)I" } : Jvm.MethodName)) ∈ lw_all := lw_g (lw_at lw_m1 224 rfl) rfl
theorem q332 : (Jvm.Cond.code ({ cls := "jdk/internal/util/Preconditions", name := "checkFromToIndex", desc := "(IIILjava/util/function/BiFunction;)I" } : Jvm.MethodName) prog_78_method_12_code (4 : Nat) (Option.some Jvm.ClassFile.FieldType.int)) ∈ lw_all := lw_g (lw_at lw_m1 225 rfl) rfl
theorem q377 : (Jvm.Cond.static ({ cls := "jdk/internal/util/Preconditions", name := "checkFromIndexSize", desc := "(IIILjava/util/function/BiFunction;)I" } : Jvm.MethodName)) ∈ lw_all := lw_g (lw_at lw_m2 30 rfl) rfl
theorem q378 : (Jvm.Cond.code ({ cls := "jdk/internal/util/Preconditions", name := "checkFromIndexSize", desc := "(IIILjava/util/function/BiFunction;)I" } : Jvm.MethodName) prog_78_method_13_code (4 : Nat) (Option.some Jvm.ClassFile.FieldType.int)) ∈ lw_all := lw_g (lw_at lw_m2 31 rfl) rfl
theorem q680 : (Jvm.Cond.static ({ cls := "jdk/internal/util/Preconditions", name := "checkIndex", desc := "(IILjava/util/function/BiFunction;)I" } : Jvm.MethodName)) ∈ lw_all := lw_g (lw_at lw_m3 93 rfl) rfl
theorem q681 : (Jvm.Cond.code ({ cls := "jdk/internal/util/Preconditions", name := "checkIndex", desc := "(IILjava/util/function/BiFunction;)I" } : Jvm.MethodName) prog_78_method_11_code (3 : Nat) (Option.some Jvm.ClassFile.FieldType.int)) ∈ lw_all := lw_g (lw_at lw_m3 94 rfl) rfl

/-! java/lang/StringLatin1 -/
set_option maxRecDepth 100000
def RJ15 : String := "java/lang/StringLatin1"
abbrev cJ15_inflate : ByteArray := prog_43_method_50_code
def yJ15_inflate : MethodName := ⟨RJ15, "inflate", "([BI[BII)V"⟩
def dkwJ15_inflate_0 : List UInt8 := [42, 27, 44, 29, 21, 4, 184, 0, 240, 177]
abbrev dktJ15_inflate_0 : List UInt8 := dkwJ15_inflate_0 ++ []
theorem dksJ15_inflate_0 : cJ15_inflate.data.toList.drop 0 = dktJ15_inflate_0 := by decide +kernel
theorem dJ15_inflate_0 : decode cJ15_inflate 0 = .ok (.aload_n 0, 1) := dk_42 (dk_at dksJ15_inflate_0 0 rfl rfl)
theorem dJ15_inflate_1 : decode cJ15_inflate 1 = .ok (.iload_n 1, 1) := dk_27 (dk_at dksJ15_inflate_0 1 rfl rfl)
theorem dJ15_inflate_2 : decode cJ15_inflate 2 = .ok (.aload_n 2, 1) := dk_44 (dk_at dksJ15_inflate_0 2 rfl rfl)
theorem dJ15_inflate_3 : decode cJ15_inflate 3 = .ok (.iload_n 3, 1) := dk_29 (dk_at dksJ15_inflate_0 3 rfl rfl)
theorem dJ15_inflate_4 : decode cJ15_inflate 4 = .ok (.iload 4, 2) := dk_21 4 (dk_at dksJ15_inflate_0 4 rfl rfl)
theorem dJ15_inflate_6 : decode cJ15_inflate 6 = .ok (.invokestatic 240, 3) := dk_184 0 240 (dk_at dksJ15_inflate_0 6 rfl rfl)
theorem dJ15_inflate_9 : decode cJ15_inflate 9 = .ok (.return_, 1) := dk_177 (dk_at dksJ15_inflate_0 9 rfl rfl)
abbrev cJ15_fillNull : ByteArray := prog_43_method_48_code
def yJ15_fillNull : MethodName := ⟨RJ15, "fillNull", "([BII)V"⟩
def dkwJ15_fillNull_0 : List UInt8 := [42, 27, 28, 3, 184, 0, 236, 177]
abbrev dktJ15_fillNull_0 : List UInt8 := dkwJ15_fillNull_0 ++ []
theorem dksJ15_fillNull_0 : cJ15_fillNull.data.toList.drop 0 = dktJ15_fillNull_0 := by decide +kernel
theorem dJ15_fillNull_0 : decode cJ15_fillNull 0 = .ok (.aload_n 0, 1) := dk_42 (dk_at dksJ15_fillNull_0 0 rfl rfl)
theorem dJ15_fillNull_1 : decode cJ15_fillNull 1 = .ok (.iload_n 1, 1) := dk_27 (dk_at dksJ15_fillNull_0 1 rfl rfl)
theorem dJ15_fillNull_2 : decode cJ15_fillNull 2 = .ok (.iload_n 2, 1) := dk_28 (dk_at dksJ15_fillNull_0 2 rfl rfl)
theorem dJ15_fillNull_3 : decode cJ15_fillNull 3 = .ok (.iconst 0, 1) := dk_3 (dk_at dksJ15_fillNull_0 3 rfl rfl)
theorem dJ15_fillNull_4 : decode cJ15_fillNull 4 = .ok (.invokestatic 236, 3) := dk_184 0 236 (dk_at dksJ15_fillNull_0 4 rfl rfl)
theorem dJ15_fillNull_7 : decode cJ15_fillNull 7 = .ok (.return_, 1) := dk_177 (dk_at dksJ15_fillNull_0 7 rfl rfl)
abbrev cJ15_indexOf : ByteArray := prog_43_method_22_code
def yJ15_indexOf : MethodName := ⟨RJ15, "indexOf", "([BIII)I"⟩
def dkwJ15_indexOf_1 : List UInt8 := [161, 0, 5, 2, 172, 42, 27, 28, 29, 184, 0, 95, 172]
abbrev dktJ15_indexOf_1 : List UInt8 := dkwJ15_indexOf_1 ++ []
def dkwJ15_indexOf_0 : List UInt8 := [27, 184, 0, 88, 154, 0, 5, 2, 172, 28, 3, 184, 0, 92, 61, 29, 42, 190, 184, 0, 38, 62, 28, 29]
abbrev dktJ15_indexOf_0 : List UInt8 := dkwJ15_indexOf_0 ++ dktJ15_indexOf_1
theorem dksJ15_indexOf_0 : cJ15_indexOf.data.toList.drop 0 = dktJ15_indexOf_0 := by decide +kernel
theorem dksJ15_indexOf_1 : cJ15_indexOf.data.toList.drop 24 = dktJ15_indexOf_1 := dk_seg dksJ15_indexOf_0 24 rfl rfl
theorem dJ15_indexOf_0 : decode cJ15_indexOf 0 = .ok (.iload_n 1, 1) := dk_27 (dk_at dksJ15_indexOf_0 0 rfl rfl)
theorem dJ15_indexOf_1 : decode cJ15_indexOf 1 = .ok (.invokestatic 88, 3) := dk_184 0 88 (dk_at dksJ15_indexOf_0 1 rfl rfl)
theorem dJ15_indexOf_4 : decode cJ15_indexOf 4 = .ok (.ifCond .ne 5, 3) := dk_154 0 5 (dk_at dksJ15_indexOf_0 4 rfl rfl)
theorem dJ15_indexOf_7 : decode cJ15_indexOf 7 = .ok (.iconst (-1), 1) := dk_2 (dk_at dksJ15_indexOf_0 7 rfl rfl)
theorem dJ15_indexOf_8 : decode cJ15_indexOf 8 = .ok (.ireturn, 1) := dk_172 (dk_at dksJ15_indexOf_0 8 rfl rfl)
theorem dJ15_indexOf_9 : decode cJ15_indexOf 9 = .ok (.iload_n 2, 1) := dk_28 (dk_at dksJ15_indexOf_0 9 rfl rfl)
theorem dJ15_indexOf_10 : decode cJ15_indexOf 10 = .ok (.iconst 0, 1) := dk_3 (dk_at dksJ15_indexOf_0 10 rfl rfl)
theorem dJ15_indexOf_11 : decode cJ15_indexOf 11 = .ok (.invokestatic 92, 3) := dk_184 0 92 (dk_at dksJ15_indexOf_0 11 rfl rfl)
theorem dJ15_indexOf_14 : decode cJ15_indexOf 14 = .ok (.istore_n 2, 1) := dk_61 (dk_at dksJ15_indexOf_0 14 rfl rfl)
theorem dJ15_indexOf_15 : decode cJ15_indexOf 15 = .ok (.iload_n 3, 1) := dk_29 (dk_at dksJ15_indexOf_0 15 rfl rfl)
theorem dJ15_indexOf_16 : decode cJ15_indexOf 16 = .ok (.aload_n 0, 1) := dk_42 (dk_at dksJ15_indexOf_0 16 rfl rfl)
theorem dJ15_indexOf_17 : decode cJ15_indexOf 17 = .ok (.arraylength, 1) := dk_190 (dk_at dksJ15_indexOf_0 17 rfl rfl)
theorem dJ15_indexOf_18 : decode cJ15_indexOf 18 = .ok (.invokestatic 38, 3) := dk_184 0 38 (dk_at dksJ15_indexOf_0 18 rfl rfl)
theorem dJ15_indexOf_21 : decode cJ15_indexOf 21 = .ok (.istore_n 3, 1) := dk_62 (dk_at dksJ15_indexOf_0 21 rfl rfl)
theorem dJ15_indexOf_22 : decode cJ15_indexOf 22 = .ok (.iload_n 2, 1) := dk_28 (dk_at dksJ15_indexOf_0 22 rfl rfl)
theorem dJ15_indexOf_23 : decode cJ15_indexOf 23 = .ok (.iload_n 3, 1) := dk_29 (dk_at dksJ15_indexOf_0 23 rfl rfl)
theorem dJ15_indexOf_24 : decode cJ15_indexOf 24 = .ok (.if_icmp .lt 5, 3) := dk_161 0 5 (dk_at dksJ15_indexOf_1 0 rfl rfl)
theorem dJ15_indexOf_27 : decode cJ15_indexOf 27 = .ok (.iconst (-1), 1) := dk_2 (dk_at dksJ15_indexOf_1 3 rfl rfl)
theorem dJ15_indexOf_28 : decode cJ15_indexOf 28 = .ok (.ireturn, 1) := dk_172 (dk_at dksJ15_indexOf_1 4 rfl rfl)
theorem dJ15_indexOf_29 : decode cJ15_indexOf 29 = .ok (.aload_n 0, 1) := dk_42 (dk_at dksJ15_indexOf_1 5 rfl rfl)
theorem dJ15_indexOf_30 : decode cJ15_indexOf 30 = .ok (.iload_n 1, 1) := dk_27 (dk_at dksJ15_indexOf_1 6 rfl rfl)
theorem dJ15_indexOf_31 : decode cJ15_indexOf 31 = .ok (.iload_n 2, 1) := dk_28 (dk_at dksJ15_indexOf_1 7 rfl rfl)
theorem dJ15_indexOf_32 : decode cJ15_indexOf 32 = .ok (.iload_n 3, 1) := dk_29 (dk_at dksJ15_indexOf_1 8 rfl rfl)
theorem dJ15_indexOf_33 : decode cJ15_indexOf 33 = .ok (.invokestatic 95, 3) := dk_184 0 95 (dk_at dksJ15_indexOf_1 9 rfl rfl)
theorem dJ15_indexOf_36 : decode cJ15_indexOf 36 = .ok (.ireturn, 1) := dk_172 (dk_at dksJ15_indexOf_1 12 rfl rfl)
abbrev cJ15_canEncode : ByteArray := prog_43_method_4_code
def yJ15_canEncode : MethodName := ⟨RJ15, "canEncode", "(I)Z"⟩
def dkwJ15_canEncode_0 : List UInt8 := [26, 155, 0, 14, 26, 17, 0, 255, 163, 0, 7, 4, 167, 0, 4, 3, 172]
abbrev dktJ15_canEncode_0 : List UInt8 := dkwJ15_canEncode_0 ++ []
theorem dksJ15_canEncode_0 : cJ15_canEncode.data.toList.drop 0 = dktJ15_canEncode_0 := by decide +kernel
theorem dJ15_canEncode_0 : decode cJ15_canEncode 0 = .ok (.iload_n 0, 1) := dk_26 (dk_at dksJ15_canEncode_0 0 rfl rfl)
theorem dJ15_canEncode_1 : decode cJ15_canEncode 1 = .ok (.ifCond .lt 14, 3) := dk_155 0 14 (dk_at dksJ15_canEncode_0 1 rfl rfl)
theorem dJ15_canEncode_4 : decode cJ15_canEncode 4 = .ok (.iload_n 0, 1) := dk_26 (dk_at dksJ15_canEncode_0 4 rfl rfl)
theorem dJ15_canEncode_5 : decode cJ15_canEncode 5 = .ok (.sipush 255, 3) := dk_17 0 255 (dk_at dksJ15_canEncode_0 5 rfl rfl)
theorem dJ15_canEncode_8 : decode cJ15_canEncode 8 = .ok (.if_icmp .gt 7, 3) := dk_163 0 7 (dk_at dksJ15_canEncode_0 8 rfl rfl)
theorem dJ15_canEncode_11 : decode cJ15_canEncode 11 = .ok (.iconst 1, 1) := dk_4 (dk_at dksJ15_canEncode_0 11 rfl rfl)
theorem dJ15_canEncode_12 : decode cJ15_canEncode 12 = .ok (.goto 4, 3) := dk_167 0 4 (dk_at dksJ15_canEncode_0 12 rfl rfl)
theorem dJ15_canEncode_15 : decode cJ15_canEncode 15 = .ok (.iconst 0, 1) := dk_3 (dk_at dksJ15_canEncode_0 15 rfl rfl)
theorem dJ15_canEncode_16 : decode cJ15_canEncode 16 = .ok (.ireturn, 1) := dk_172 (dk_at dksJ15_canEncode_0 16 rfl rfl)
abbrev cJ15_indexOfChar : ByteArray := prog_43_method_23_code
def yJ15_indexOfChar : MethodName := ⟨RJ15, "indexOfChar", "([BIII)I"⟩
def dkwJ15_indexOfChar_1 : List UInt8 := [172, 132, 5, 1, 167, 255, 235, 2, 172]
abbrev dktJ15_indexOfChar_1 : List UInt8 := dkwJ15_indexOfChar_1 ++ []
def dkwJ15_indexOfChar_0 : List UInt8 := [27, 145, 54, 4, 28, 54, 5, 21, 5, 29, 162, 0, 21, 42, 21, 5, 51, 21, 4, 160, 0, 6, 21, 5]
abbrev dktJ15_indexOfChar_0 : List UInt8 := dkwJ15_indexOfChar_0 ++ dktJ15_indexOfChar_1
theorem dksJ15_indexOfChar_0 : cJ15_indexOfChar.data.toList.drop 0 = dktJ15_indexOfChar_0 := by decide +kernel
theorem dksJ15_indexOfChar_1 : cJ15_indexOfChar.data.toList.drop 24 = dktJ15_indexOfChar_1 := dk_seg dksJ15_indexOfChar_0 24 rfl rfl
theorem dJ15_indexOfChar_0 : decode cJ15_indexOfChar 0 = .ok (.iload_n 1, 1) := dk_27 (dk_at dksJ15_indexOfChar_0 0 rfl rfl)
theorem dJ15_indexOfChar_1 : decode cJ15_indexOfChar 1 = .ok (.i2b, 1) := dk_145 (dk_at dksJ15_indexOfChar_0 1 rfl rfl)
theorem dJ15_indexOfChar_2 : decode cJ15_indexOfChar 2 = .ok (.istore 4, 2) := dk_54 4 (dk_at dksJ15_indexOfChar_0 2 rfl rfl)
theorem dJ15_indexOfChar_4 : decode cJ15_indexOfChar 4 = .ok (.iload_n 2, 1) := dk_28 (dk_at dksJ15_indexOfChar_0 4 rfl rfl)
theorem dJ15_indexOfChar_5 : decode cJ15_indexOfChar 5 = .ok (.istore 5, 2) := dk_54 5 (dk_at dksJ15_indexOfChar_0 5 rfl rfl)
theorem dJ15_indexOfChar_7 : decode cJ15_indexOfChar 7 = .ok (.iload 5, 2) := dk_21 5 (dk_at dksJ15_indexOfChar_0 7 rfl rfl)
theorem dJ15_indexOfChar_9 : decode cJ15_indexOfChar 9 = .ok (.iload_n 3, 1) := dk_29 (dk_at dksJ15_indexOfChar_0 9 rfl rfl)
theorem dJ15_indexOfChar_10 : decode cJ15_indexOfChar 10 = .ok (.if_icmp .ge 21, 3) := dk_162 0 21 (dk_at dksJ15_indexOfChar_0 10 rfl rfl)
theorem dJ15_indexOfChar_13 : decode cJ15_indexOfChar 13 = .ok (.aload_n 0, 1) := dk_42 (dk_at dksJ15_indexOfChar_0 13 rfl rfl)
theorem dJ15_indexOfChar_14 : decode cJ15_indexOfChar 14 = .ok (.iload 5, 2) := dk_21 5 (dk_at dksJ15_indexOfChar_0 14 rfl rfl)
theorem dJ15_indexOfChar_16 : decode cJ15_indexOfChar 16 = .ok (.baload, 1) := dk_51 (dk_at dksJ15_indexOfChar_0 16 rfl rfl)
theorem dJ15_indexOfChar_17 : decode cJ15_indexOfChar 17 = .ok (.iload 4, 2) := dk_21 4 (dk_at dksJ15_indexOfChar_0 17 rfl rfl)
theorem dJ15_indexOfChar_19 : decode cJ15_indexOfChar 19 = .ok (.if_icmp .ne 6, 3) := dk_160 0 6 (dk_at dksJ15_indexOfChar_0 19 rfl rfl)
theorem dJ15_indexOfChar_22 : decode cJ15_indexOfChar 22 = .ok (.iload 5, 2) := dk_21 5 (dk_at dksJ15_indexOfChar_0 22 rfl rfl)
theorem dJ15_indexOfChar_24 : decode cJ15_indexOfChar 24 = .ok (.ireturn, 1) := dk_172 (dk_at dksJ15_indexOfChar_1 0 rfl rfl)
theorem dJ15_indexOfChar_25 : decode cJ15_indexOfChar 25 = .ok (.iinc 5 1, 3) := dk_132 5 1 (dk_at dksJ15_indexOfChar_1 1 rfl rfl)
theorem dJ15_indexOfChar_28 : decode cJ15_indexOfChar 28 = .ok (.goto (-21), 3) := dk_167 255 235 (dk_at dksJ15_indexOfChar_1 4 rfl rfl)
theorem dJ15_indexOfChar_31 : decode cJ15_indexOfChar 31 = .ok (.iconst (-1), 1) := dk_2 (dk_at dksJ15_indexOfChar_1 7 rfl rfl)
theorem dJ15_indexOfChar_32 : decode cJ15_indexOfChar 32 = .ok (.ireturn, 1) := dk_172 (dk_at dksJ15_indexOfChar_1 8 rfl rfl)
abbrev cJ15_hashCode : ByteArray := prog_43_method_21_code
def yJ15_hashCode : MethodName := ⟨RJ15, "hashCode", "([B)I"⟩
def dkwJ15_hashCode_2 : List UInt8 := [3, 167, 0, 22, 42, 3, 51, 17, 0, 255, 126, 167, 0, 12, 42, 3, 42, 190, 3, 7, 184, 0, 84, 172]
abbrev dktJ15_hashCode_2 : List UInt8 := dkwJ15_hashCode_2 ++ []
def dkwJ15_hashCode_1 : List UInt8 := [171, 0, 0, 0, 0, 40, 0, 0, 0, 2, 0, 0, 0, 0, 0, 0, 0, 26, 0, 0, 0, 1, 0, 0, 0, 30]
abbrev dktJ15_hashCode_1 : List UInt8 := dkwJ15_hashCode_1 ++ dktJ15_hashCode_2
def dkwJ15_hashCode_0 : List UInt8 := [42, 190]
abbrev dktJ15_hashCode_0 : List UInt8 := dkwJ15_hashCode_0 ++ dktJ15_hashCode_1
theorem dksJ15_hashCode_0 : cJ15_hashCode.data.toList.drop 0 = dktJ15_hashCode_0 := by decide +kernel
theorem dksJ15_hashCode_1 : cJ15_hashCode.data.toList.drop 2 = dktJ15_hashCode_1 := dk_seg dksJ15_hashCode_0 2 rfl rfl
theorem dksJ15_hashCode_2 : cJ15_hashCode.data.toList.drop 28 = dktJ15_hashCode_2 := dk_seg dksJ15_hashCode_1 26 rfl rfl
theorem dJ15_hashCode_0 : decode cJ15_hashCode 0 = .ok (.aload_n 0, 1) := dk_42 (dk_at dksJ15_hashCode_0 0 rfl rfl)
theorem dJ15_hashCode_1 : decode cJ15_hashCode 1 = .ok (.arraylength, 1) := dk_190 (dk_at dksJ15_hashCode_0 1 rfl rfl)
theorem dJ15_hashCode_2 : decode cJ15_hashCode 2 = .ok (.lookupswitch 40 #[(0, 26), (1, 30)], 26) := by decide +kernel
theorem dJ15_hashCode_28 : decode cJ15_hashCode 28 = .ok (.iconst 0, 1) := dk_3 (dk_at dksJ15_hashCode_2 0 rfl rfl)
theorem dJ15_hashCode_29 : decode cJ15_hashCode 29 = .ok (.goto 22, 3) := dk_167 0 22 (dk_at dksJ15_hashCode_2 1 rfl rfl)
theorem dJ15_hashCode_32 : decode cJ15_hashCode 32 = .ok (.aload_n 0, 1) := dk_42 (dk_at dksJ15_hashCode_2 4 rfl rfl)
theorem dJ15_hashCode_33 : decode cJ15_hashCode 33 = .ok (.iconst 0, 1) := dk_3 (dk_at dksJ15_hashCode_2 5 rfl rfl)
theorem dJ15_hashCode_34 : decode cJ15_hashCode 34 = .ok (.baload, 1) := dk_51 (dk_at dksJ15_hashCode_2 6 rfl rfl)
theorem dJ15_hashCode_35 : decode cJ15_hashCode 35 = .ok (.sipush 255, 3) := dk_17 0 255 (dk_at dksJ15_hashCode_2 7 rfl rfl)
theorem dJ15_hashCode_38 : decode cJ15_hashCode 38 = .ok (.iand, 1) := dk_126 (dk_at dksJ15_hashCode_2 10 rfl rfl)
theorem dJ15_hashCode_39 : decode cJ15_hashCode 39 = .ok (.goto 12, 3) := dk_167 0 12 (dk_at dksJ15_hashCode_2 11 rfl rfl)
theorem dJ15_hashCode_42 : decode cJ15_hashCode 42 = .ok (.aload_n 0, 1) := dk_42 (dk_at dksJ15_hashCode_2 14 rfl rfl)
theorem dJ15_hashCode_43 : decode cJ15_hashCode 43 = .ok (.iconst 0, 1) := dk_3 (dk_at dksJ15_hashCode_2 15 rfl rfl)
theorem dJ15_hashCode_44 : decode cJ15_hashCode 44 = .ok (.aload_n 0, 1) := dk_42 (dk_at dksJ15_hashCode_2 16 rfl rfl)
theorem dJ15_hashCode_45 : decode cJ15_hashCode 45 = .ok (.arraylength, 1) := dk_190 (dk_at dksJ15_hashCode_2 17 rfl rfl)
theorem dJ15_hashCode_46 : decode cJ15_hashCode 46 = .ok (.iconst 0, 1) := dk_3 (dk_at dksJ15_hashCode_2 18 rfl rfl)
theorem dJ15_hashCode_47 : decode cJ15_hashCode 47 = .ok (.iconst 4, 1) := dk_7 (dk_at dksJ15_hashCode_2 19 rfl rfl)
theorem dJ15_hashCode_48 : decode cJ15_hashCode 48 = .ok (.invokestatic 84, 3) := dk_184 0 84 (dk_at dksJ15_hashCode_2 20 rfl rfl)
theorem dJ15_hashCode_51 : decode cJ15_hashCode 51 = .ok (.ireturn, 1) := dk_172 (dk_at dksJ15_hashCode_2 23 rfl rfl)
abbrev cJ15_equals : ByteArray := prog_43_method_13_code
def yJ15_equals : MethodName := ⟨RJ15, "equals", "([B[B)Z"⟩
def dkwJ15_equals_1 : List UInt8 := [3, 172, 132, 2, 1, 167, 255, 236, 4, 172, 3, 172]
abbrev dktJ15_equals_1 : List UInt8 := dkwJ15_equals_1 ++ []
def dkwJ15_equals_0 : List UInt8 := [42, 190, 43, 190, 160, 0, 30, 3, 61, 28, 42, 190, 162, 0, 20, 42, 28, 51, 43, 28, 51, 159, 0, 5]
abbrev dktJ15_equals_0 : List UInt8 := dkwJ15_equals_0 ++ dktJ15_equals_1
theorem dksJ15_equals_0 : cJ15_equals.data.toList.drop 0 = dktJ15_equals_0 := by decide +kernel
theorem dksJ15_equals_1 : cJ15_equals.data.toList.drop 24 = dktJ15_equals_1 := dk_seg dksJ15_equals_0 24 rfl rfl
theorem dJ15_equals_0 : decode cJ15_equals 0 = .ok (.aload_n 0, 1) := dk_42 (dk_at dksJ15_equals_0 0 rfl rfl)
theorem dJ15_equals_1 : decode cJ15_equals 1 = .ok (.arraylength, 1) := dk_190 (dk_at dksJ15_equals_0 1 rfl rfl)
theorem dJ15_equals_2 : decode cJ15_equals 2 = .ok (.aload_n 1, 1) := dk_43 (dk_at dksJ15_equals_0 2 rfl rfl)
theorem dJ15_equals_3 : decode cJ15_equals 3 = .ok (.arraylength, 1) := dk_190 (dk_at dksJ15_equals_0 3 rfl rfl)
theorem dJ15_equals_4 : decode cJ15_equals 4 = .ok (.if_icmp .ne 30, 3) := dk_160 0 30 (dk_at dksJ15_equals_0 4 rfl rfl)
theorem dJ15_equals_7 : decode cJ15_equals 7 = .ok (.iconst 0, 1) := dk_3 (dk_at dksJ15_equals_0 7 rfl rfl)
theorem dJ15_equals_8 : decode cJ15_equals 8 = .ok (.istore_n 2, 1) := dk_61 (dk_at dksJ15_equals_0 8 rfl rfl)
theorem dJ15_equals_9 : decode cJ15_equals 9 = .ok (.iload_n 2, 1) := dk_28 (dk_at dksJ15_equals_0 9 rfl rfl)
theorem dJ15_equals_10 : decode cJ15_equals 10 = .ok (.aload_n 0, 1) := dk_42 (dk_at dksJ15_equals_0 10 rfl rfl)
theorem dJ15_equals_11 : decode cJ15_equals 11 = .ok (.arraylength, 1) := dk_190 (dk_at dksJ15_equals_0 11 rfl rfl)
theorem dJ15_equals_12 : decode cJ15_equals 12 = .ok (.if_icmp .ge 20, 3) := dk_162 0 20 (dk_at dksJ15_equals_0 12 rfl rfl)
theorem dJ15_equals_15 : decode cJ15_equals 15 = .ok (.aload_n 0, 1) := dk_42 (dk_at dksJ15_equals_0 15 rfl rfl)
theorem dJ15_equals_16 : decode cJ15_equals 16 = .ok (.iload_n 2, 1) := dk_28 (dk_at dksJ15_equals_0 16 rfl rfl)
theorem dJ15_equals_17 : decode cJ15_equals 17 = .ok (.baload, 1) := dk_51 (dk_at dksJ15_equals_0 17 rfl rfl)
theorem dJ15_equals_18 : decode cJ15_equals 18 = .ok (.aload_n 1, 1) := dk_43 (dk_at dksJ15_equals_0 18 rfl rfl)
theorem dJ15_equals_19 : decode cJ15_equals 19 = .ok (.iload_n 2, 1) := dk_28 (dk_at dksJ15_equals_0 19 rfl rfl)
theorem dJ15_equals_20 : decode cJ15_equals 20 = .ok (.baload, 1) := dk_51 (dk_at dksJ15_equals_0 20 rfl rfl)
theorem dJ15_equals_21 : decode cJ15_equals 21 = .ok (.if_icmp .eq 5, 3) := dk_159 0 5 (dk_at dksJ15_equals_0 21 rfl rfl)
theorem dJ15_equals_24 : decode cJ15_equals 24 = .ok (.iconst 0, 1) := dk_3 (dk_at dksJ15_equals_1 0 rfl rfl)
theorem dJ15_equals_25 : decode cJ15_equals 25 = .ok (.ireturn, 1) := dk_172 (dk_at dksJ15_equals_1 1 rfl rfl)
theorem dJ15_equals_26 : decode cJ15_equals 26 = .ok (.iinc 2 1, 3) := dk_132 2 1 (dk_at dksJ15_equals_1 2 rfl rfl)
theorem dJ15_equals_29 : decode cJ15_equals 29 = .ok (.goto (-20), 3) := dk_167 255 236 (dk_at dksJ15_equals_1 5 rfl rfl)
theorem dJ15_equals_32 : decode cJ15_equals 32 = .ok (.iconst 1, 1) := dk_4 (dk_at dksJ15_equals_1 8 rfl rfl)
theorem dJ15_equals_33 : decode cJ15_equals 33 = .ok (.ireturn, 1) := dk_172 (dk_at dksJ15_equals_1 9 rfl rfl)
theorem dJ15_equals_34 : decode cJ15_equals 34 = .ok (.iconst 0, 1) := dk_3 (dk_at dksJ15_equals_1 10 rfl rfl)
theorem dJ15_equals_35 : decode cJ15_equals 35 = .ok (.ireturn, 1) := dk_172 (dk_at dksJ15_equals_1 11 rfl rfl)
abbrev cJ15_compareTo : ByteArray := prog_43_method_14_code
def yJ15_compareTo : MethodName := ⟨RJ15, "compareTo", "([B[B)I"⟩
def dkwJ15_compareTo_0 : List UInt8 := [42, 190, 61, 43, 190, 62, 42, 43, 28, 29, 184, 0, 34, 172]
abbrev dktJ15_compareTo_0 : List UInt8 := dkwJ15_compareTo_0 ++ []
theorem dksJ15_compareTo_0 : cJ15_compareTo.data.toList.drop 0 = dktJ15_compareTo_0 := by decide +kernel
theorem dJ15_compareTo_0 : decode cJ15_compareTo 0 = .ok (.aload_n 0, 1) := dk_42 (dk_at dksJ15_compareTo_0 0 rfl rfl)
theorem dJ15_compareTo_1 : decode cJ15_compareTo 1 = .ok (.arraylength, 1) := dk_190 (dk_at dksJ15_compareTo_0 1 rfl rfl)
theorem dJ15_compareTo_2 : decode cJ15_compareTo 2 = .ok (.istore_n 2, 1) := dk_61 (dk_at dksJ15_compareTo_0 2 rfl rfl)
theorem dJ15_compareTo_3 : decode cJ15_compareTo 3 = .ok (.aload_n 1, 1) := dk_43 (dk_at dksJ15_compareTo_0 3 rfl rfl)
theorem dJ15_compareTo_4 : decode cJ15_compareTo 4 = .ok (.arraylength, 1) := dk_190 (dk_at dksJ15_compareTo_0 4 rfl rfl)
theorem dJ15_compareTo_5 : decode cJ15_compareTo 5 = .ok (.istore_n 3, 1) := dk_62 (dk_at dksJ15_compareTo_0 5 rfl rfl)
theorem dJ15_compareTo_6 : decode cJ15_compareTo 6 = .ok (.aload_n 0, 1) := dk_42 (dk_at dksJ15_compareTo_0 6 rfl rfl)
theorem dJ15_compareTo_7 : decode cJ15_compareTo 7 = .ok (.aload_n 1, 1) := dk_43 (dk_at dksJ15_compareTo_0 7 rfl rfl)
theorem dJ15_compareTo_8 : decode cJ15_compareTo 8 = .ok (.iload_n 2, 1) := dk_28 (dk_at dksJ15_compareTo_0 8 rfl rfl)
theorem dJ15_compareTo_9 : decode cJ15_compareTo 9 = .ok (.iload_n 3, 1) := dk_29 (dk_at dksJ15_compareTo_0 9 rfl rfl)
theorem dJ15_compareTo_10 : decode cJ15_compareTo 10 = .ok (.invokestatic 34, 3) := dk_184 0 34 (dk_at dksJ15_compareTo_0 10 rfl rfl)
theorem dJ15_compareTo_13 : decode cJ15_compareTo 13 = .ok (.ireturn, 1) := dk_172 (dk_at dksJ15_compareTo_0 13 rfl rfl)
abbrev cJ15_compareTo_2 : ByteArray := prog_43_method_15_code
def yJ15_compareTo_2 : MethodName := ⟨RJ15, "compareTo", "([B[BII)I"⟩
def dkwJ15_compareTo_2_1 : List UInt8 := [167, 0, 16, 42, 21, 5, 184, 0, 50, 43, 21, 5, 184, 0, 50, 100, 172]
abbrev dktJ15_compareTo_2_1 : List UInt8 := dkwJ15_compareTo_2_1 ++ []
def dkwJ15_compareTo_2_0 : List UInt8 := [28, 29, 184, 0, 38, 54, 4, 42, 43, 21, 4, 184, 0, 44, 54, 5, 21, 5, 156, 0, 9, 28, 29, 100]
abbrev dktJ15_compareTo_2_0 : List UInt8 := dkwJ15_compareTo_2_0 ++ dktJ15_compareTo_2_1
theorem dksJ15_compareTo_2_0 : cJ15_compareTo_2.data.toList.drop 0 = dktJ15_compareTo_2_0 := by decide +kernel
theorem dksJ15_compareTo_2_1 : cJ15_compareTo_2.data.toList.drop 24 = dktJ15_compareTo_2_1 := dk_seg dksJ15_compareTo_2_0 24 rfl rfl
theorem dJ15_compareTo_2_0 : decode cJ15_compareTo_2 0 = .ok (.iload_n 2, 1) := dk_28 (dk_at dksJ15_compareTo_2_0 0 rfl rfl)
theorem dJ15_compareTo_2_1 : decode cJ15_compareTo_2 1 = .ok (.iload_n 3, 1) := dk_29 (dk_at dksJ15_compareTo_2_0 1 rfl rfl)
theorem dJ15_compareTo_2_2 : decode cJ15_compareTo_2 2 = .ok (.invokestatic 38, 3) := dk_184 0 38 (dk_at dksJ15_compareTo_2_0 2 rfl rfl)
theorem dJ15_compareTo_2_5 : decode cJ15_compareTo_2 5 = .ok (.istore 4, 2) := dk_54 4 (dk_at dksJ15_compareTo_2_0 5 rfl rfl)
theorem dJ15_compareTo_2_7 : decode cJ15_compareTo_2 7 = .ok (.aload_n 0, 1) := dk_42 (dk_at dksJ15_compareTo_2_0 7 rfl rfl)
theorem dJ15_compareTo_2_8 : decode cJ15_compareTo_2 8 = .ok (.aload_n 1, 1) := dk_43 (dk_at dksJ15_compareTo_2_0 8 rfl rfl)
theorem dJ15_compareTo_2_9 : decode cJ15_compareTo_2 9 = .ok (.iload 4, 2) := dk_21 4 (dk_at dksJ15_compareTo_2_0 9 rfl rfl)
theorem dJ15_compareTo_2_11 : decode cJ15_compareTo_2 11 = .ok (.invokestatic 44, 3) := dk_184 0 44 (dk_at dksJ15_compareTo_2_0 11 rfl rfl)
theorem dJ15_compareTo_2_14 : decode cJ15_compareTo_2 14 = .ok (.istore 5, 2) := dk_54 5 (dk_at dksJ15_compareTo_2_0 14 rfl rfl)
theorem dJ15_compareTo_2_16 : decode cJ15_compareTo_2 16 = .ok (.iload 5, 2) := dk_21 5 (dk_at dksJ15_compareTo_2_0 16 rfl rfl)
theorem dJ15_compareTo_2_18 : decode cJ15_compareTo_2 18 = .ok (.ifCond .ge 9, 3) := dk_156 0 9 (dk_at dksJ15_compareTo_2_0 18 rfl rfl)
theorem dJ15_compareTo_2_21 : decode cJ15_compareTo_2 21 = .ok (.iload_n 2, 1) := dk_28 (dk_at dksJ15_compareTo_2_0 21 rfl rfl)
theorem dJ15_compareTo_2_22 : decode cJ15_compareTo_2 22 = .ok (.iload_n 3, 1) := dk_29 (dk_at dksJ15_compareTo_2_0 22 rfl rfl)
theorem dJ15_compareTo_2_23 : decode cJ15_compareTo_2 23 = .ok (.isub, 1) := dk_100 (dk_at dksJ15_compareTo_2_0 23 rfl rfl)
theorem dJ15_compareTo_2_24 : decode cJ15_compareTo_2 24 = .ok (.goto 16, 3) := dk_167 0 16 (dk_at dksJ15_compareTo_2_1 0 rfl rfl)
theorem dJ15_compareTo_2_27 : decode cJ15_compareTo_2 27 = .ok (.aload_n 0, 1) := dk_42 (dk_at dksJ15_compareTo_2_1 3 rfl rfl)
theorem dJ15_compareTo_2_28 : decode cJ15_compareTo_2 28 = .ok (.iload 5, 2) := dk_21 5 (dk_at dksJ15_compareTo_2_1 4 rfl rfl)
theorem dJ15_compareTo_2_30 : decode cJ15_compareTo_2 30 = .ok (.invokestatic 50, 3) := dk_184 0 50 (dk_at dksJ15_compareTo_2_1 6 rfl rfl)
theorem dJ15_compareTo_2_33 : decode cJ15_compareTo_2 33 = .ok (.aload_n 1, 1) := dk_43 (dk_at dksJ15_compareTo_2_1 9 rfl rfl)
theorem dJ15_compareTo_2_34 : decode cJ15_compareTo_2 34 = .ok (.iload 5, 2) := dk_21 5 (dk_at dksJ15_compareTo_2_1 10 rfl rfl)
theorem dJ15_compareTo_2_36 : decode cJ15_compareTo_2 36 = .ok (.invokestatic 50, 3) := dk_184 0 50 (dk_at dksJ15_compareTo_2_1 12 rfl rfl)
theorem dJ15_compareTo_2_39 : decode cJ15_compareTo_2 39 = .ok (.isub, 1) := dk_100 (dk_at dksJ15_compareTo_2_1 15 rfl rfl)
theorem dJ15_compareTo_2_40 : decode cJ15_compareTo_2 40 = .ok (.ireturn, 1) := dk_172 (dk_at dksJ15_compareTo_2_1 16 rfl rfl)
abbrev cJ15_getChar : ByteArray := prog_43_method_44_code
def yJ15_getChar : MethodName := ⟨RJ15, "getChar", "([BI)C"⟩
def dkwJ15_getChar_0 : List UInt8 := [42, 27, 51, 17, 0, 255, 126, 146, 172]
abbrev dktJ15_getChar_0 : List UInt8 := dkwJ15_getChar_0 ++ []
theorem dksJ15_getChar_0 : cJ15_getChar.data.toList.drop 0 = dktJ15_getChar_0 := by decide +kernel
theorem dJ15_getChar_0 : decode cJ15_getChar 0 = .ok (.aload_n 0, 1) := dk_42 (dk_at dksJ15_getChar_0 0 rfl rfl)
theorem dJ15_getChar_1 : decode cJ15_getChar 1 = .ok (.iload_n 1, 1) := dk_27 (dk_at dksJ15_getChar_0 1 rfl rfl)
theorem dJ15_getChar_2 : decode cJ15_getChar 2 = .ok (.baload, 1) := dk_51 (dk_at dksJ15_getChar_0 2 rfl rfl)
theorem dJ15_getChar_3 : decode cJ15_getChar 3 = .ok (.sipush 255, 3) := dk_17 0 255 (dk_at dksJ15_getChar_0 3 rfl rfl)
theorem dJ15_getChar_6 : decode cJ15_getChar 6 = .ok (.iand, 1) := dk_126 (dk_at dksJ15_getChar_0 6 rfl rfl)
theorem dJ15_getChar_7 : decode cJ15_getChar 7 = .ok (.i2c, 1) := dk_146 (dk_at dksJ15_getChar_0 7 rfl rfl)
theorem dJ15_getChar_8 : decode cJ15_getChar 8 = .ok (.ireturn, 1) := dk_172 (dk_at dksJ15_getChar_0 8 rfl rfl)
abbrev cJ15_compareToUTF16 : ByteArray := prog_43_method_16_code
def yJ15_compareToUTF16 : MethodName := ⟨RJ15, "compareToUTF16", "([B[B)I"⟩
def dkwJ15_compareToUTF16_0 : List UInt8 := [42, 184, 0, 54, 61, 43, 184, 0, 58, 62, 42, 43, 28, 29, 184, 0, 59, 172]
abbrev dktJ15_compareToUTF16_0 : List UInt8 := dkwJ15_compareToUTF16_0 ++ []
theorem dksJ15_compareToUTF16_0 : cJ15_compareToUTF16.data.toList.drop 0 = dktJ15_compareToUTF16_0 := by decide +kernel
theorem dJ15_compareToUTF16_0 : decode cJ15_compareToUTF16 0 = .ok (.aload_n 0, 1) := dk_42 (dk_at dksJ15_compareToUTF16_0 0 rfl rfl)
theorem dJ15_compareToUTF16_1 : decode cJ15_compareToUTF16 1 = .ok (.invokestatic 54, 3) := dk_184 0 54 (dk_at dksJ15_compareToUTF16_0 1 rfl rfl)
theorem dJ15_compareToUTF16_4 : decode cJ15_compareToUTF16 4 = .ok (.istore_n 2, 1) := dk_61 (dk_at dksJ15_compareToUTF16_0 4 rfl rfl)
theorem dJ15_compareToUTF16_5 : decode cJ15_compareToUTF16 5 = .ok (.aload_n 1, 1) := dk_43 (dk_at dksJ15_compareToUTF16_0 5 rfl rfl)
theorem dJ15_compareToUTF16_6 : decode cJ15_compareToUTF16 6 = .ok (.invokestatic 58, 3) := dk_184 0 58 (dk_at dksJ15_compareToUTF16_0 6 rfl rfl)
theorem dJ15_compareToUTF16_9 : decode cJ15_compareToUTF16 9 = .ok (.istore_n 3, 1) := dk_62 (dk_at dksJ15_compareToUTF16_0 9 rfl rfl)
theorem dJ15_compareToUTF16_10 : decode cJ15_compareToUTF16 10 = .ok (.aload_n 0, 1) := dk_42 (dk_at dksJ15_compareToUTF16_0 10 rfl rfl)
theorem dJ15_compareToUTF16_11 : decode cJ15_compareToUTF16 11 = .ok (.aload_n 1, 1) := dk_43 (dk_at dksJ15_compareToUTF16_0 11 rfl rfl)
theorem dJ15_compareToUTF16_12 : decode cJ15_compareToUTF16 12 = .ok (.iload_n 2, 1) := dk_28 (dk_at dksJ15_compareToUTF16_0 12 rfl rfl)
theorem dJ15_compareToUTF16_13 : decode cJ15_compareToUTF16 13 = .ok (.iload_n 3, 1) := dk_29 (dk_at dksJ15_compareToUTF16_0 13 rfl rfl)
theorem dJ15_compareToUTF16_14 : decode cJ15_compareToUTF16 14 = .ok (.invokestatic 59, 3) := dk_184 0 59 (dk_at dksJ15_compareToUTF16_0 14 rfl rfl)
theorem dJ15_compareToUTF16_17 : decode cJ15_compareToUTF16 17 = .ok (.ireturn, 1) := dk_172 (dk_at dksJ15_compareToUTF16_0 17 rfl rfl)
abbrev cJ15_length : ByteArray := prog_43_method_5_code
def yJ15_length : MethodName := ⟨RJ15, "length", "([B)I"⟩
theorem dJ15_length_0 : decode cJ15_length 0 = .ok (.aload_n 0, 1) := by decide +kernel
theorem dJ15_length_1 : decode cJ15_length 1 = .ok (.arraylength, 1) := by decide +kernel
theorem dJ15_length_2 : decode cJ15_length 2 = .ok (.ireturn, 1) := by decide +kernel
abbrev cJ15_compareToUTF16Values : ByteArray := prog_43_method_18_code
def yJ15_compareToUTF16Values : MethodName := ⟨RJ15, "compareToUTF16Values", "([B[BII)I"⟩
def dkwJ15_compareToUTF16Values_2 : List UInt8 := [132, 5, 1, 167, 255, 217, 28, 29, 100, 172]
abbrev dktJ15_compareToUTF16Values_2 : List UInt8 := dkwJ15_compareToUTF16Values_2 ++ []
def dkwJ15_compareToUTF16Values_1 : List UInt8 := [54, 6, 43, 21, 5, 184, 0, 65, 54, 7, 21, 6, 21, 7, 159, 0, 9, 21, 6, 21, 7, 100, 172]
abbrev dktJ15_compareToUTF16Values_1 : List UInt8 := dkwJ15_compareToUTF16Values_1 ++ dktJ15_compareToUTF16Values_2
def dkwJ15_compareToUTF16Values_0 : List UInt8 := [28, 29, 184, 0, 38, 54, 4, 3, 54, 5, 21, 5, 21, 4, 162, 0, 38, 42, 21, 5, 184, 0, 50]
abbrev dktJ15_compareToUTF16Values_0 : List UInt8 := dkwJ15_compareToUTF16Values_0 ++ dktJ15_compareToUTF16Values_1
theorem dksJ15_compareToUTF16Values_0 : cJ15_compareToUTF16Values.data.toList.drop 0 = dktJ15_compareToUTF16Values_0 := by decide +kernel
theorem dksJ15_compareToUTF16Values_1 : cJ15_compareToUTF16Values.data.toList.drop 23 = dktJ15_compareToUTF16Values_1 := dk_seg dksJ15_compareToUTF16Values_0 23 rfl rfl
theorem dksJ15_compareToUTF16Values_2 : cJ15_compareToUTF16Values.data.toList.drop 46 = dktJ15_compareToUTF16Values_2 := dk_seg dksJ15_compareToUTF16Values_1 23 rfl rfl
theorem dJ15_compareToUTF16Values_0 : decode cJ15_compareToUTF16Values 0 = .ok (.iload_n 2, 1) := dk_28 (dk_at dksJ15_compareToUTF16Values_0 0 rfl rfl)
theorem dJ15_compareToUTF16Values_1 : decode cJ15_compareToUTF16Values 1 = .ok (.iload_n 3, 1) := dk_29 (dk_at dksJ15_compareToUTF16Values_0 1 rfl rfl)
theorem dJ15_compareToUTF16Values_2 : decode cJ15_compareToUTF16Values 2 = .ok (.invokestatic 38, 3) := dk_184 0 38 (dk_at dksJ15_compareToUTF16Values_0 2 rfl rfl)
theorem dJ15_compareToUTF16Values_5 : decode cJ15_compareToUTF16Values 5 = .ok (.istore 4, 2) := dk_54 4 (dk_at dksJ15_compareToUTF16Values_0 5 rfl rfl)
theorem dJ15_compareToUTF16Values_7 : decode cJ15_compareToUTF16Values 7 = .ok (.iconst 0, 1) := dk_3 (dk_at dksJ15_compareToUTF16Values_0 7 rfl rfl)
theorem dJ15_compareToUTF16Values_8 : decode cJ15_compareToUTF16Values 8 = .ok (.istore 5, 2) := dk_54 5 (dk_at dksJ15_compareToUTF16Values_0 8 rfl rfl)
theorem dJ15_compareToUTF16Values_10 : decode cJ15_compareToUTF16Values 10 = .ok (.iload 5, 2) := dk_21 5 (dk_at dksJ15_compareToUTF16Values_0 10 rfl rfl)
theorem dJ15_compareToUTF16Values_12 : decode cJ15_compareToUTF16Values 12 = .ok (.iload 4, 2) := dk_21 4 (dk_at dksJ15_compareToUTF16Values_0 12 rfl rfl)
theorem dJ15_compareToUTF16Values_14 : decode cJ15_compareToUTF16Values 14 = .ok (.if_icmp .ge 38, 3) := dk_162 0 38 (dk_at dksJ15_compareToUTF16Values_0 14 rfl rfl)
theorem dJ15_compareToUTF16Values_17 : decode cJ15_compareToUTF16Values 17 = .ok (.aload_n 0, 1) := dk_42 (dk_at dksJ15_compareToUTF16Values_0 17 rfl rfl)
theorem dJ15_compareToUTF16Values_18 : decode cJ15_compareToUTF16Values 18 = .ok (.iload 5, 2) := dk_21 5 (dk_at dksJ15_compareToUTF16Values_0 18 rfl rfl)
theorem dJ15_compareToUTF16Values_20 : decode cJ15_compareToUTF16Values 20 = .ok (.invokestatic 50, 3) := dk_184 0 50 (dk_at dksJ15_compareToUTF16Values_0 20 rfl rfl)
theorem dJ15_compareToUTF16Values_23 : decode cJ15_compareToUTF16Values 23 = .ok (.istore 6, 2) := dk_54 6 (dk_at dksJ15_compareToUTF16Values_1 0 rfl rfl)
theorem dJ15_compareToUTF16Values_25 : decode cJ15_compareToUTF16Values 25 = .ok (.aload_n 1, 1) := dk_43 (dk_at dksJ15_compareToUTF16Values_1 2 rfl rfl)
theorem dJ15_compareToUTF16Values_26 : decode cJ15_compareToUTF16Values 26 = .ok (.iload 5, 2) := dk_21 5 (dk_at dksJ15_compareToUTF16Values_1 3 rfl rfl)
theorem dJ15_compareToUTF16Values_28 : decode cJ15_compareToUTF16Values 28 = .ok (.invokestatic 65, 3) := dk_184 0 65 (dk_at dksJ15_compareToUTF16Values_1 5 rfl rfl)
theorem dJ15_compareToUTF16Values_31 : decode cJ15_compareToUTF16Values 31 = .ok (.istore 7, 2) := dk_54 7 (dk_at dksJ15_compareToUTF16Values_1 8 rfl rfl)
theorem dJ15_compareToUTF16Values_33 : decode cJ15_compareToUTF16Values 33 = .ok (.iload 6, 2) := dk_21 6 (dk_at dksJ15_compareToUTF16Values_1 10 rfl rfl)
theorem dJ15_compareToUTF16Values_35 : decode cJ15_compareToUTF16Values 35 = .ok (.iload 7, 2) := dk_21 7 (dk_at dksJ15_compareToUTF16Values_1 12 rfl rfl)
theorem dJ15_compareToUTF16Values_37 : decode cJ15_compareToUTF16Values 37 = .ok (.if_icmp .eq 9, 3) := dk_159 0 9 (dk_at dksJ15_compareToUTF16Values_1 14 rfl rfl)
theorem dJ15_compareToUTF16Values_40 : decode cJ15_compareToUTF16Values 40 = .ok (.iload 6, 2) := dk_21 6 (dk_at dksJ15_compareToUTF16Values_1 17 rfl rfl)
theorem dJ15_compareToUTF16Values_42 : decode cJ15_compareToUTF16Values 42 = .ok (.iload 7, 2) := dk_21 7 (dk_at dksJ15_compareToUTF16Values_1 19 rfl rfl)
theorem dJ15_compareToUTF16Values_44 : decode cJ15_compareToUTF16Values 44 = .ok (.isub, 1) := dk_100 (dk_at dksJ15_compareToUTF16Values_1 21 rfl rfl)
theorem dJ15_compareToUTF16Values_45 : decode cJ15_compareToUTF16Values 45 = .ok (.ireturn, 1) := dk_172 (dk_at dksJ15_compareToUTF16Values_1 22 rfl rfl)
theorem dJ15_compareToUTF16Values_46 : decode cJ15_compareToUTF16Values 46 = .ok (.iinc 5 1, 3) := dk_132 5 1 (dk_at dksJ15_compareToUTF16Values_2 0 rfl rfl)
theorem dJ15_compareToUTF16Values_49 : decode cJ15_compareToUTF16Values 49 = .ok (.goto (-39), 3) := dk_167 255 217 (dk_at dksJ15_compareToUTF16Values_2 3 rfl rfl)
theorem dJ15_compareToUTF16Values_52 : decode cJ15_compareToUTF16Values 52 = .ok (.iload_n 2, 1) := dk_28 (dk_at dksJ15_compareToUTF16Values_2 6 rfl rfl)
theorem dJ15_compareToUTF16Values_53 : decode cJ15_compareToUTF16Values 53 = .ok (.iload_n 3, 1) := dk_29 (dk_at dksJ15_compareToUTF16Values_2 7 rfl rfl)
theorem dJ15_compareToUTF16Values_54 : decode cJ15_compareToUTF16Values 54 = .ok (.isub, 1) := dk_100 (dk_at dksJ15_compareToUTF16Values_2 8 rfl rfl)
theorem dJ15_compareToUTF16Values_55 : decode cJ15_compareToUTF16Values 55 = .ok (.ireturn, 1) := dk_172 (dk_at dksJ15_compareToUTF16Values_2 9 rfl rfl)
abbrev cJ15_compareToUTF16_2 : ByteArray := prog_43_method_17_code
def yJ15_compareToUTF16_2 : MethodName := ⟨RJ15, "compareToUTF16", "([B[BII)I"⟩
def dkwJ15_compareToUTF16_2_0 : List UInt8 := [28, 42, 184, 0, 54, 184, 0, 62, 29, 43, 184, 0, 58, 184, 0, 62, 42, 43, 28, 29, 184, 0, 59, 172]
abbrev dktJ15_compareToUTF16_2_0 : List UInt8 := dkwJ15_compareToUTF16_2_0 ++ []
theorem dksJ15_compareToUTF16_2_0 : cJ15_compareToUTF16_2.data.toList.drop 0 = dktJ15_compareToUTF16_2_0 := by decide +kernel
theorem dJ15_compareToUTF16_2_0 : decode cJ15_compareToUTF16_2 0 = .ok (.iload_n 2, 1) := dk_28 (dk_at dksJ15_compareToUTF16_2_0 0 rfl rfl)
theorem dJ15_compareToUTF16_2_1 : decode cJ15_compareToUTF16_2 1 = .ok (.aload_n 0, 1) := dk_42 (dk_at dksJ15_compareToUTF16_2_0 1 rfl rfl)
theorem dJ15_compareToUTF16_2_2 : decode cJ15_compareToUTF16_2 2 = .ok (.invokestatic 54, 3) := dk_184 0 54 (dk_at dksJ15_compareToUTF16_2_0 2 rfl rfl)
theorem dJ15_compareToUTF16_2_5 : decode cJ15_compareToUTF16_2 5 = .ok (.invokestatic 62, 3) := dk_184 0 62 (dk_at dksJ15_compareToUTF16_2_0 5 rfl rfl)
theorem dJ15_compareToUTF16_2_8 : decode cJ15_compareToUTF16_2 8 = .ok (.iload_n 3, 1) := dk_29 (dk_at dksJ15_compareToUTF16_2_0 8 rfl rfl)
theorem dJ15_compareToUTF16_2_9 : decode cJ15_compareToUTF16_2 9 = .ok (.aload_n 1, 1) := dk_43 (dk_at dksJ15_compareToUTF16_2_0 9 rfl rfl)
theorem dJ15_compareToUTF16_2_10 : decode cJ15_compareToUTF16_2 10 = .ok (.invokestatic 58, 3) := dk_184 0 58 (dk_at dksJ15_compareToUTF16_2_0 10 rfl rfl)
theorem dJ15_compareToUTF16_2_13 : decode cJ15_compareToUTF16_2 13 = .ok (.invokestatic 62, 3) := dk_184 0 62 (dk_at dksJ15_compareToUTF16_2_0 13 rfl rfl)
theorem dJ15_compareToUTF16_2_16 : decode cJ15_compareToUTF16_2 16 = .ok (.aload_n 0, 1) := dk_42 (dk_at dksJ15_compareToUTF16_2_0 16 rfl rfl)
theorem dJ15_compareToUTF16_2_17 : decode cJ15_compareToUTF16_2 17 = .ok (.aload_n 1, 1) := dk_43 (dk_at dksJ15_compareToUTF16_2_0 17 rfl rfl)
theorem dJ15_compareToUTF16_2_18 : decode cJ15_compareToUTF16_2 18 = .ok (.iload_n 2, 1) := dk_28 (dk_at dksJ15_compareToUTF16_2_0 18 rfl rfl)
theorem dJ15_compareToUTF16_2_19 : decode cJ15_compareToUTF16_2 19 = .ok (.iload_n 3, 1) := dk_29 (dk_at dksJ15_compareToUTF16_2_0 19 rfl rfl)
theorem dJ15_compareToUTF16_2_20 : decode cJ15_compareToUTF16_2 20 = .ok (.invokestatic 59, 3) := dk_184 0 59 (dk_at dksJ15_compareToUTF16_2_0 20 rfl rfl)
theorem dJ15_compareToUTF16_2_23 : decode cJ15_compareToUTF16_2 23 = .ok (.ireturn, 1) := dk_172 (dk_at dksJ15_compareToUTF16_2_0 23 rfl rfl)
abbrev cJ15_canEncode_2 : ByteArray := prog_43_method_3_code
def yJ15_canEncode_2 : MethodName := ⟨RJ15, "canEncode", "(C)Z"⟩
def dkwJ15_canEncode_2_0 : List UInt8 := [26, 17, 0, 255, 163, 0, 7, 4, 167, 0, 4, 3, 172]
abbrev dktJ15_canEncode_2_0 : List UInt8 := dkwJ15_canEncode_2_0 ++ []
theorem dksJ15_canEncode_2_0 : cJ15_canEncode_2.data.toList.drop 0 = dktJ15_canEncode_2_0 := by decide +kernel
theorem dJ15_canEncode_2_0 : decode cJ15_canEncode_2 0 = .ok (.iload_n 0, 1) := dk_26 (dk_at dksJ15_canEncode_2_0 0 rfl rfl)
theorem dJ15_canEncode_2_1 : decode cJ15_canEncode_2 1 = .ok (.sipush 255, 3) := dk_17 0 255 (dk_at dksJ15_canEncode_2_0 1 rfl rfl)
theorem dJ15_canEncode_2_4 : decode cJ15_canEncode_2 4 = .ok (.if_icmp .gt 7, 3) := dk_163 0 7 (dk_at dksJ15_canEncode_2_0 4 rfl rfl)
theorem dJ15_canEncode_2_7 : decode cJ15_canEncode_2 7 = .ok (.iconst 1, 1) := dk_4 (dk_at dksJ15_canEncode_2_0 7 rfl rfl)
theorem dJ15_canEncode_2_8 : decode cJ15_canEncode_2 8 = .ok (.goto 4, 3) := dk_167 0 4 (dk_at dksJ15_canEncode_2_0 8 rfl rfl)
theorem dJ15_canEncode_2_11 : decode cJ15_canEncode_2 11 = .ok (.iconst 0, 1) := dk_3 (dk_at dksJ15_canEncode_2_0 11 rfl rfl)
theorem dJ15_canEncode_2_12 : decode cJ15_canEncode_2 12 = .ok (.ireturn, 1) := dk_172 (dk_at dksJ15_canEncode_2_0 12 rfl rfl)
theorem q125 : (Jvm.Cond.initialized "java/lang/StringLatin1") ∈ lw_all := lw_g (lw_at lw_m1 18 rfl) rfl
theorem q365 : (Jvm.Cond.static ({ cls := "java/lang/StringLatin1", name := "inflate", desc := "([BI[BII)V" } : Jvm.MethodName)) ∈ lw_all := lw_g (lw_at lw_m2 18 rfl) rfl
theorem q366 : (Jvm.Cond.code ({ cls := "java/lang/StringLatin1", name := "inflate", desc := "([BI[BII)V" } : Jvm.MethodName) prog_43_method_50_code (5 : Nat) (Option.none : Option Jvm.ClassFile.FieldType)) ∈ lw_all := lw_g (lw_at lw_m2 19 rfl) rfl
theorem q367 : (Jvm.Cond.methodLink "java/lang/StringLatin1" (240 : Nat) ({ cls := "java/lang/StringUTF16", name := "inflate", desc := "([BI[BII)V" } : Jvm.MethodName)) ∈ lw_all := lw_g (lw_at lw_m2 20 rfl) rfl
theorem q919 : (Jvm.Cond.static ({ cls := "java/lang/StringLatin1", name := "fillNull", desc := "([BII)V" } : Jvm.MethodName)) ∈ lw_all := lw_g (lw_at lw_m4 92 rfl) rfl
theorem q920 : (Jvm.Cond.code ({ cls := "java/lang/StringLatin1", name := "fillNull", desc := "([BII)V" } : Jvm.MethodName) prog_43_method_48_code (3 : Nat) (Option.none : Option Jvm.ClassFile.FieldType)) ∈ lw_all := lw_g (lw_at lw_m4 93 rfl) rfl
theorem q921 : (Jvm.Cond.methodLink "java/lang/StringLatin1" (236 : Nat) ({ cls := "java/util/Arrays", name := "fill", desc := "([BIIB)V" } : Jvm.MethodName)) ∈ lw_all := lw_g (lw_at lw_m4 94 rfl) rfl
theorem q1200 : (Jvm.Cond.static ({ cls := "java/lang/StringLatin1", name := "indexOf", desc := "([BIII)I" } : Jvm.MethodName)) ∈ lw_all := lw_g (lw_at lw_m5 133 rfl) rfl
theorem q1201 : (Jvm.Cond.code ({ cls := "java/lang/StringLatin1", name := "indexOf", desc := "([BIII)I" } : Jvm.MethodName) prog_43_method_22_code (4 : Nat) (Option.some Jvm.ClassFile.FieldType.int)) ∈ lw_all := lw_g (lw_at lw_m5 134 rfl) rfl
theorem q1202 : (Jvm.Cond.methodLink "java/lang/StringLatin1" (88 : Nat) ({ cls := "java/lang/StringLatin1", name := "canEncode", desc := "(I)Z" } : Jvm.MethodName)) ∈ lw_all := lw_g (lw_at lw_m5 135 rfl) rfl
theorem q1203 : (Jvm.Cond.static ({ cls := "java/lang/StringLatin1", name := "canEncode", desc := "(I)Z" } : Jvm.MethodName)) ∈ lw_all := lw_g (lw_at lw_m5 136 rfl) rfl
theorem q1204 : (Jvm.Cond.code ({ cls := "java/lang/StringLatin1", name := "canEncode", desc := "(I)Z" } : Jvm.MethodName) prog_43_method_4_code (1 : Nat) (Option.some Jvm.ClassFile.FieldType.boolean)) ∈ lw_all := lw_g (lw_at lw_m5 137 rfl) rfl
theorem q1205 : (Jvm.Cond.methodLink "java/lang/StringLatin1" (92 : Nat) ({ cls := "java/lang/Math", name := "max", desc := "(II)I" } : Jvm.MethodName)) ∈ lw_all := lw_g (lw_at lw_m5 138 rfl) rfl
theorem q1206 : (Jvm.Cond.methodLink "java/lang/StringLatin1" (38 : Nat) ({ cls := "java/lang/Math", name := "min", desc := "(II)I" } : Jvm.MethodName)) ∈ lw_all := lw_g (lw_at lw_m5 139 rfl) rfl
theorem q1207 : (Jvm.Cond.methodLink "java/lang/StringLatin1" (95 : Nat) ({ cls := "java/lang/StringLatin1", name := "indexOfChar", desc := "([BIII)I" } : Jvm.MethodName)) ∈ lw_all := lw_g (lw_at lw_m5 140 rfl) rfl
theorem q1208 : (Jvm.Cond.static ({ cls := "java/lang/StringLatin1", name := "indexOfChar", desc := "([BIII)I" } : Jvm.MethodName)) ∈ lw_all := lw_g (lw_at lw_m5 141 rfl) rfl
theorem q1209 : (Jvm.Cond.code ({ cls := "java/lang/StringLatin1", name := "indexOfChar", desc := "([BIII)I" } : Jvm.MethodName) prog_43_method_23_code (6 : Nat) (Option.some Jvm.ClassFile.FieldType.int)) ∈ lw_all := lw_g (lw_at lw_m5 142 rfl) rfl
theorem q1310 : (Jvm.Cond.static ({ cls := "java/lang/StringLatin1", name := "hashCode", desc := "([B)I" } : Jvm.MethodName)) ∈ lw_all := lw_g (lw_at lw_m6 3 rfl) rfl
theorem q1311 : (Jvm.Cond.code ({ cls := "java/lang/StringLatin1", name := "hashCode", desc := "([B)I" } : Jvm.MethodName) prog_43_method_21_code (1 : Nat) (Option.some Jvm.ClassFile.FieldType.int)) ∈ lw_all := lw_g (lw_at lw_m6 4 rfl) rfl
theorem q1312 : (Jvm.Cond.methodLink "java/lang/StringLatin1" (84 : Nat) ({ cls := "jdk/internal/util/ArraysSupport", name := "vectorizedHashCode", desc := "(Ljava/lang/Object;IIII)I" } : Jvm.MethodName)) ∈ lw_all := lw_g (lw_at lw_m6 5 rfl) rfl
theorem q1411 : (Jvm.Cond.static ({ cls := "java/lang/StringLatin1", name := "equals", desc := "([B[B)Z" } : Jvm.MethodName)) ∈ lw_all := lw_g (lw_at lw_m6 104 rfl) rfl
theorem q1412 : (Jvm.Cond.code ({ cls := "java/lang/StringLatin1", name := "equals", desc := "([B[B)Z" } : Jvm.MethodName) prog_43_method_13_code (3 : Nat) (Option.some Jvm.ClassFile.FieldType.boolean)) ∈ lw_all := lw_g (lw_at lw_m6 105 rfl) rfl
theorem q1480 : (Jvm.Cond.static ({ cls := "java/lang/StringLatin1", name := "compareTo", desc := "([B[B)I" } : Jvm.MethodName)) ∈ lw_all := lw_g (lw_at lw_m6 173 rfl) rfl
theorem q1481 : (Jvm.Cond.code ({ cls := "java/lang/StringLatin1", name := "compareTo", desc := "([B[B)I" } : Jvm.MethodName) prog_43_method_14_code (4 : Nat) (Option.some Jvm.ClassFile.FieldType.int)) ∈ lw_all := lw_g (lw_at lw_m6 174 rfl) rfl
theorem q1482 : (Jvm.Cond.methodLink "java/lang/StringLatin1" (34 : Nat) ({ cls := "java/lang/StringLatin1", name := "compareTo", desc := "([B[BII)I" } : Jvm.MethodName)) ∈ lw_all := lw_g (lw_at lw_m6 175 rfl) rfl
theorem q1483 : (Jvm.Cond.static ({ cls := "java/lang/StringLatin1", name := "compareTo", desc := "([B[BII)I" } : Jvm.MethodName)) ∈ lw_all := lw_g (lw_at lw_m6 176 rfl) rfl
theorem q1484 : (Jvm.Cond.code ({ cls := "java/lang/StringLatin1", name := "compareTo", desc := "([B[BII)I" } : Jvm.MethodName) prog_43_method_15_code (6 : Nat) (Option.some Jvm.ClassFile.FieldType.int)) ∈ lw_all := lw_g (lw_at lw_m6 177 rfl) rfl
theorem q1485 : (Jvm.Cond.methodLink "java/lang/StringLatin1" (44 : Nat) ({ cls := "jdk/internal/util/ArraysSupport", name := "mismatch", desc := "([B[BI)I" } : Jvm.MethodName)) ∈ lw_all := lw_g (lw_at lw_m6 178 rfl) rfl
theorem q1589 : (Jvm.Cond.methodLink "java/lang/StringLatin1" (50 : Nat) ({ cls := "java/lang/StringLatin1", name := "getChar", desc := "([BI)C" } : Jvm.MethodName)) ∈ lw_all := lw_g (lw_at lw_m7 42 rfl) rfl
theorem q1590 : (Jvm.Cond.static ({ cls := "java/lang/StringLatin1", name := "getChar", desc := "([BI)C" } : Jvm.MethodName)) ∈ lw_all := lw_g (lw_at lw_m7 43 rfl) rfl
theorem q1591 : (Jvm.Cond.code ({ cls := "java/lang/StringLatin1", name := "getChar", desc := "([BI)C" } : Jvm.MethodName) prog_43_method_44_code (2 : Nat) (Option.some Jvm.ClassFile.FieldType.char)) ∈ lw_all := lw_g (lw_at lw_m7 44 rfl) rfl
theorem q1599 : (Jvm.Cond.static ({ cls := "java/lang/StringLatin1", name := "compareToUTF16", desc := "([B[B)I" } : Jvm.MethodName)) ∈ lw_all := lw_g (lw_at lw_m7 52 rfl) rfl
theorem q1600 : (Jvm.Cond.code ({ cls := "java/lang/StringLatin1", name := "compareToUTF16", desc := "([B[B)I" } : Jvm.MethodName) prog_43_method_16_code (4 : Nat) (Option.some Jvm.ClassFile.FieldType.int)) ∈ lw_all := lw_g (lw_at lw_m7 53 rfl) rfl
theorem q1601 : (Jvm.Cond.methodLink "java/lang/StringLatin1" (54 : Nat) ({ cls := "java/lang/StringLatin1", name := "length", desc := "([B)I" } : Jvm.MethodName)) ∈ lw_all := lw_g (lw_at lw_m7 54 rfl) rfl
theorem q1602 : (Jvm.Cond.static ({ cls := "java/lang/StringLatin1", name := "length", desc := "([B)I" } : Jvm.MethodName)) ∈ lw_all := lw_g (lw_at lw_m7 55 rfl) rfl
theorem q1603 : (Jvm.Cond.code ({ cls := "java/lang/StringLatin1", name := "length", desc := "([B)I" } : Jvm.MethodName) prog_43_method_5_code (1 : Nat) (Option.some Jvm.ClassFile.FieldType.int)) ∈ lw_all := lw_g (lw_at lw_m7 56 rfl) rfl
theorem q1604 : (Jvm.Cond.methodLink "java/lang/StringLatin1" (58 : Nat) ({ cls := "java/lang/StringUTF16", name := "length", desc := "([B)I" } : Jvm.MethodName)) ∈ lw_all := lw_g (lw_at lw_m7 57 rfl) rfl
theorem q1605 : (Jvm.Cond.methodLink "java/lang/StringLatin1" (59 : Nat) ({ cls := "java/lang/StringLatin1", name := "compareToUTF16Values", desc := "([B[BII)I" } : Jvm.MethodName)) ∈ lw_all := lw_g (lw_at lw_m7 58 rfl) rfl
theorem q1606 : (Jvm.Cond.static ({ cls := "java/lang/StringLatin1", name := "compareToUTF16Values", desc := "([B[BII)I" } : Jvm.MethodName)) ∈ lw_all := lw_g (lw_at lw_m7 59 rfl) rfl
theorem q1607 : (Jvm.Cond.code ({ cls := "java/lang/StringLatin1", name := "compareToUTF16Values", desc := "([B[BII)I" } : Jvm.MethodName) prog_43_method_18_code (8 : Nat) (Option.some Jvm.ClassFile.FieldType.int)) ∈ lw_all := lw_g (lw_at lw_m7 60 rfl) rfl
theorem q1608 : (Jvm.Cond.methodLink "java/lang/StringLatin1" (65 : Nat) ({ cls := "java/lang/StringUTF16", name := "getChar", desc := "([BI)C" } : Jvm.MethodName)) ∈ lw_all := lw_g (lw_at lw_m7 61 rfl) rfl
theorem q1638 : (Jvm.Cond.static ({ cls := "java/lang/StringLatin1", name := "compareToUTF16", desc := "([B[BII)I" } : Jvm.MethodName)) ∈ lw_all := lw_g (lw_at lw_m7 91 rfl) rfl
theorem q1639 : (Jvm.Cond.code ({ cls := "java/lang/StringLatin1", name := "compareToUTF16", desc := "([B[BII)I" } : Jvm.MethodName) prog_43_method_17_code (4 : Nat) (Option.some Jvm.ClassFile.FieldType.int)) ∈ lw_all := lw_g (lw_at lw_m7 92 rfl) rfl
theorem q1640 : (Jvm.Cond.methodLink "java/lang/StringLatin1" (62 : Nat) ({ cls := "java/lang/String", name := "checkOffset", desc := "(II)V" } : Jvm.MethodName)) ∈ lw_all := lw_g (lw_at lw_m7 93 rfl) rfl
theorem q2301 : (Jvm.Cond.static ({ cls := "java/lang/StringLatin1", name := "canEncode", desc := "(C)Z" } : Jvm.MethodName)) ∈ lw_all := lw_g (lw_at lw_m10 34 rfl) rfl
theorem q2302 : (Jvm.Cond.code ({ cls := "java/lang/StringLatin1", name := "canEncode", desc := "(C)Z" } : Jvm.MethodName) prog_43_method_3_code (1 : Nat) (Option.some Jvm.ClassFile.FieldType.boolean)) ∈ lw_all := lw_g (lw_at lw_m10 35 rfl) rfl

/-! java/lang/Number -/
set_option maxRecDepth 100000
def RJ16 : String := "java/lang/Number"
abbrev cJ16_init : ByteArray := prog_38_method_1_code
def yJ16_init : MethodName := ⟨RJ16, "<init>", "()V"⟩
theorem dJ16_init_0 : decode cJ16_init 0 = .ok (.aload_n 0, 1) := by decide +kernel
theorem dJ16_init_1 : decode cJ16_init 1 = .ok (.invokespecial 1, 3) := by decide +kernel
theorem dJ16_init_4 : decode cJ16_init 4 = .ok (.return_, 1) := by decide +kernel
theorem q126 : (Jvm.Cond.initialized "java/lang/Number") ∈ lw_all := lw_g (lw_at lw_m1 19 rfl) rfl
theorem q2616 : (Jvm.Cond.instanceMethod ({ cls := "java/lang/Number", name := "<init>", desc := "()V" } : Jvm.MethodName)) ∈ lw_all := lw_g (lw_at lw_m11 109 rfl) rfl
theorem q2617 : (Jvm.Cond.code ({ cls := "java/lang/Number", name := "<init>", desc := "()V" } : Jvm.MethodName) prog_38_method_1_code (1 : Nat) (Option.none : Option Jvm.ClassFile.FieldType)) ∈ lw_all := lw_g (lw_at lw_m11 110 rfl) rfl
theorem q2618 : (Jvm.Cond.methodLink "java/lang/Number" (1 : Nat) ({ cls := "java/lang/Object", name := "<init>", desc := "()V" } : Jvm.MethodName)) ∈ lw_all := lw_g (lw_at lw_m11 111 rfl) rfl

/-! java/lang/Integer -/
set_option maxRecDepth 100000
def RJ17 : String := "java/lang/Integer"
def TJ17 : u_T := fun k => match k with
  | _ => ("java/lang/Integer", "value", "I", true)
def tyJ17 : Nat → FieldType := fun k => match k with
  | _ => .int
abbrev wsJ170 : List Cond := u_ws RJ17 TJ17 1
theorem nmJ17 : ∀ a, a < 1 → ∀ b, b < 1 → a ≠ b → (TJ17 a).2.1 ≠ (TJ17 b).2.1 := by decide +kernel
theorem tyJ17_ok : ∀ k, k < 1 → parseFieldDescriptor (TJ17 k).2.2.1 = some (tyJ17 k) := by decide +kernel
abbrev cJ17_stringSize : ByteArray := prog_33_method_13_code
def yJ17_stringSize : MethodName := ⟨RJ17, "stringSize", "(I)I"⟩
def dkwJ17_stringSize_1 : List UInt8 := [164, 0, 7, 29, 27, 96, 172, 16, 10, 28, 104, 61, 132, 3, 1, 167, 255, 233, 16, 10, 27, 96, 172]
abbrev dktJ17_stringSize_1 : List UInt8 := dkwJ17_stringSize_1 ++ []
def dkwJ17_stringSize_0 : List UInt8 := [4, 60, 26, 155, 0, 8, 3, 60, 26, 116, 59, 16, 246, 61, 4, 62, 29, 16, 10, 162, 0, 23, 26, 28]
abbrev dktJ17_stringSize_0 : List UInt8 := dkwJ17_stringSize_0 ++ dktJ17_stringSize_1
theorem dksJ17_stringSize_0 : cJ17_stringSize.data.toList.drop 0 = dktJ17_stringSize_0 := by decide +kernel
theorem dksJ17_stringSize_1 : cJ17_stringSize.data.toList.drop 24 = dktJ17_stringSize_1 := dk_seg dksJ17_stringSize_0 24 rfl rfl
theorem dJ17_stringSize_0 : decode cJ17_stringSize 0 = .ok (.iconst 1, 1) := dk_4 (dk_at dksJ17_stringSize_0 0 rfl rfl)
theorem dJ17_stringSize_1 : decode cJ17_stringSize 1 = .ok (.istore_n 1, 1) := dk_60 (dk_at dksJ17_stringSize_0 1 rfl rfl)
theorem dJ17_stringSize_2 : decode cJ17_stringSize 2 = .ok (.iload_n 0, 1) := dk_26 (dk_at dksJ17_stringSize_0 2 rfl rfl)
theorem dJ17_stringSize_3 : decode cJ17_stringSize 3 = .ok (.ifCond .lt 8, 3) := dk_155 0 8 (dk_at dksJ17_stringSize_0 3 rfl rfl)
theorem dJ17_stringSize_6 : decode cJ17_stringSize 6 = .ok (.iconst 0, 1) := dk_3 (dk_at dksJ17_stringSize_0 6 rfl rfl)
theorem dJ17_stringSize_7 : decode cJ17_stringSize 7 = .ok (.istore_n 1, 1) := dk_60 (dk_at dksJ17_stringSize_0 7 rfl rfl)
theorem dJ17_stringSize_8 : decode cJ17_stringSize 8 = .ok (.iload_n 0, 1) := dk_26 (dk_at dksJ17_stringSize_0 8 rfl rfl)
theorem dJ17_stringSize_9 : decode cJ17_stringSize 9 = .ok (.ineg, 1) := dk_116 (dk_at dksJ17_stringSize_0 9 rfl rfl)
theorem dJ17_stringSize_10 : decode cJ17_stringSize 10 = .ok (.istore_n 0, 1) := dk_59 (dk_at dksJ17_stringSize_0 10 rfl rfl)
theorem dJ17_stringSize_11 : decode cJ17_stringSize 11 = .ok (.bipush (-10), 2) := dk_16 246 (dk_at dksJ17_stringSize_0 11 rfl rfl)
theorem dJ17_stringSize_13 : decode cJ17_stringSize 13 = .ok (.istore_n 2, 1) := dk_61 (dk_at dksJ17_stringSize_0 13 rfl rfl)
theorem dJ17_stringSize_14 : decode cJ17_stringSize 14 = .ok (.iconst 1, 1) := dk_4 (dk_at dksJ17_stringSize_0 14 rfl rfl)
theorem dJ17_stringSize_15 : decode cJ17_stringSize 15 = .ok (.istore_n 3, 1) := dk_62 (dk_at dksJ17_stringSize_0 15 rfl rfl)
theorem dJ17_stringSize_16 : decode cJ17_stringSize 16 = .ok (.iload_n 3, 1) := dk_29 (dk_at dksJ17_stringSize_0 16 rfl rfl)
theorem dJ17_stringSize_17 : decode cJ17_stringSize 17 = .ok (.bipush 10, 2) := dk_16 10 (dk_at dksJ17_stringSize_0 17 rfl rfl)
theorem dJ17_stringSize_19 : decode cJ17_stringSize 19 = .ok (.if_icmp .ge 23, 3) := dk_162 0 23 (dk_at dksJ17_stringSize_0 19 rfl rfl)
theorem dJ17_stringSize_22 : decode cJ17_stringSize 22 = .ok (.iload_n 0, 1) := dk_26 (dk_at dksJ17_stringSize_0 22 rfl rfl)
theorem dJ17_stringSize_23 : decode cJ17_stringSize 23 = .ok (.iload_n 2, 1) := dk_28 (dk_at dksJ17_stringSize_0 23 rfl rfl)
theorem dJ17_stringSize_24 : decode cJ17_stringSize 24 = .ok (.if_icmp .le 7, 3) := dk_164 0 7 (dk_at dksJ17_stringSize_1 0 rfl rfl)
theorem dJ17_stringSize_27 : decode cJ17_stringSize 27 = .ok (.iload_n 3, 1) := dk_29 (dk_at dksJ17_stringSize_1 3 rfl rfl)
theorem dJ17_stringSize_28 : decode cJ17_stringSize 28 = .ok (.iload_n 1, 1) := dk_27 (dk_at dksJ17_stringSize_1 4 rfl rfl)
theorem dJ17_stringSize_29 : decode cJ17_stringSize 29 = .ok (.iadd, 1) := dk_96 (dk_at dksJ17_stringSize_1 5 rfl rfl)
theorem dJ17_stringSize_30 : decode cJ17_stringSize 30 = .ok (.ireturn, 1) := dk_172 (dk_at dksJ17_stringSize_1 6 rfl rfl)
theorem dJ17_stringSize_31 : decode cJ17_stringSize 31 = .ok (.bipush 10, 2) := dk_16 10 (dk_at dksJ17_stringSize_1 7 rfl rfl)
theorem dJ17_stringSize_33 : decode cJ17_stringSize 33 = .ok (.iload_n 2, 1) := dk_28 (dk_at dksJ17_stringSize_1 9 rfl rfl)
theorem dJ17_stringSize_34 : decode cJ17_stringSize 34 = .ok (.imul, 1) := dk_104 (dk_at dksJ17_stringSize_1 10 rfl rfl)
theorem dJ17_stringSize_35 : decode cJ17_stringSize 35 = .ok (.istore_n 2, 1) := dk_61 (dk_at dksJ17_stringSize_1 11 rfl rfl)
theorem dJ17_stringSize_36 : decode cJ17_stringSize 36 = .ok (.iinc 3 1, 3) := dk_132 3 1 (dk_at dksJ17_stringSize_1 12 rfl rfl)
theorem dJ17_stringSize_39 : decode cJ17_stringSize 39 = .ok (.goto (-23), 3) := dk_167 255 233 (dk_at dksJ17_stringSize_1 15 rfl rfl)
theorem dJ17_stringSize_42 : decode cJ17_stringSize 42 = .ok (.bipush 10, 2) := dk_16 10 (dk_at dksJ17_stringSize_1 18 rfl rfl)
theorem dJ17_stringSize_44 : decode cJ17_stringSize 44 = .ok (.iload_n 1, 1) := dk_27 (dk_at dksJ17_stringSize_1 20 rfl rfl)
theorem dJ17_stringSize_45 : decode cJ17_stringSize 45 = .ok (.iadd, 1) := dk_96 (dk_at dksJ17_stringSize_1 21 rfl rfl)
theorem dJ17_stringSize_46 : decode cJ17_stringSize 46 = .ok (.ireturn, 1) := dk_172 (dk_at dksJ17_stringSize_1 22 rfl rfl)
abbrev cJ17_getChars : ByteArray := prog_33_method_12_code
def yJ17_getChars : MethodName := ⟨RJ17, "getChars", "(II[B)I"⟩
def dkwJ17_getChars_5 : List UInt8 := [16, 45, 84, 21, 5, 172]
abbrev dktJ17_getChars_5 : List UInt8 := dkwJ17_getChars_5 ++ []
def dkwJ17_getChars_4 : List UInt8 := [132, 5, 255, 21, 5, 178, 0, 87, 26, 116, 51, 84, 21, 6, 153, 0, 12, 44, 132, 5, 255, 21, 5]
abbrev dktJ17_getChars_4 : List UInt8 := dkwJ17_getChars_4 ++ dktJ17_getChars_5
def dkwJ17_getChars_3 : List UInt8 := [167, 255, 209, 44, 132, 5, 255, 21, 5, 178, 0, 83, 26, 116, 51, 84, 26, 16, 247, 162, 0, 16, 44]
abbrev dktJ17_getChars_3 : List UInt8 := dkwJ17_getChars_3 ++ dktJ17_getChars_4
def dkwJ17_getChars_2 : List UInt8 := [21, 5, 178, 0, 83, 21, 4, 51, 84, 44, 132, 5, 255, 21, 5, 178, 0, 87, 21, 4, 51, 84]
abbrev dktJ17_getChars_2 : List UInt8 := dkwJ17_getChars_2 ++ dktJ17_getChars_3
def dkwJ17_getChars_1 : List UInt8 := [16, 156, 163, 0, 47, 26, 16, 100, 108, 62, 29, 16, 100, 104, 26, 100, 54, 4, 29, 59, 44, 132, 5, 255]
abbrev dktJ17_getChars_1 : List UInt8 := dkwJ17_getChars_1 ++ dktJ17_getChars_2
def dkwJ17_getChars_0 : List UInt8 := [27, 54, 5, 26, 156, 0, 7, 4, 167, 0, 4, 3, 54, 6, 21, 6, 154, 0, 6, 26, 116, 59, 26]
abbrev dktJ17_getChars_0 : List UInt8 := dkwJ17_getChars_0 ++ dktJ17_getChars_1
theorem dksJ17_getChars_0 : cJ17_getChars.data.toList.drop 0 = dktJ17_getChars_0 := by decide +kernel
theorem dksJ17_getChars_1 : cJ17_getChars.data.toList.drop 23 = dktJ17_getChars_1 := dk_seg dksJ17_getChars_0 23 rfl rfl
theorem dksJ17_getChars_2 : cJ17_getChars.data.toList.drop 47 = dktJ17_getChars_2 := dk_seg dksJ17_getChars_1 24 rfl rfl
theorem dksJ17_getChars_3 : cJ17_getChars.data.toList.drop 69 = dktJ17_getChars_3 := dk_seg dksJ17_getChars_2 22 rfl rfl
theorem dksJ17_getChars_4 : cJ17_getChars.data.toList.drop 92 = dktJ17_getChars_4 := dk_seg dksJ17_getChars_3 23 rfl rfl
theorem dksJ17_getChars_5 : cJ17_getChars.data.toList.drop 115 = dktJ17_getChars_5 := dk_seg dksJ17_getChars_4 23 rfl rfl
theorem dJ17_getChars_0 : decode cJ17_getChars 0 = .ok (.iload_n 1, 1) := dk_27 (dk_at dksJ17_getChars_0 0 rfl rfl)
theorem dJ17_getChars_1 : decode cJ17_getChars 1 = .ok (.istore 5, 2) := dk_54 5 (dk_at dksJ17_getChars_0 1 rfl rfl)
theorem dJ17_getChars_3 : decode cJ17_getChars 3 = .ok (.iload_n 0, 1) := dk_26 (dk_at dksJ17_getChars_0 3 rfl rfl)
theorem dJ17_getChars_4 : decode cJ17_getChars 4 = .ok (.ifCond .ge 7, 3) := dk_156 0 7 (dk_at dksJ17_getChars_0 4 rfl rfl)
theorem dJ17_getChars_7 : decode cJ17_getChars 7 = .ok (.iconst 1, 1) := dk_4 (dk_at dksJ17_getChars_0 7 rfl rfl)
theorem dJ17_getChars_8 : decode cJ17_getChars 8 = .ok (.goto 4, 3) := dk_167 0 4 (dk_at dksJ17_getChars_0 8 rfl rfl)
theorem dJ17_getChars_11 : decode cJ17_getChars 11 = .ok (.iconst 0, 1) := dk_3 (dk_at dksJ17_getChars_0 11 rfl rfl)
theorem dJ17_getChars_12 : decode cJ17_getChars 12 = .ok (.istore 6, 2) := dk_54 6 (dk_at dksJ17_getChars_0 12 rfl rfl)
theorem dJ17_getChars_14 : decode cJ17_getChars 14 = .ok (.iload 6, 2) := dk_21 6 (dk_at dksJ17_getChars_0 14 rfl rfl)
theorem dJ17_getChars_16 : decode cJ17_getChars 16 = .ok (.ifCond .ne 6, 3) := dk_154 0 6 (dk_at dksJ17_getChars_0 16 rfl rfl)
theorem dJ17_getChars_19 : decode cJ17_getChars 19 = .ok (.iload_n 0, 1) := dk_26 (dk_at dksJ17_getChars_0 19 rfl rfl)
theorem dJ17_getChars_20 : decode cJ17_getChars 20 = .ok (.ineg, 1) := dk_116 (dk_at dksJ17_getChars_0 20 rfl rfl)
theorem dJ17_getChars_21 : decode cJ17_getChars 21 = .ok (.istore_n 0, 1) := dk_59 (dk_at dksJ17_getChars_0 21 rfl rfl)
theorem dJ17_getChars_22 : decode cJ17_getChars 22 = .ok (.iload_n 0, 1) := dk_26 (dk_at dksJ17_getChars_0 22 rfl rfl)
theorem dJ17_getChars_23 : decode cJ17_getChars 23 = .ok (.bipush (-100), 2) := dk_16 156 (dk_at dksJ17_getChars_1 0 rfl rfl)
theorem dJ17_getChars_25 : decode cJ17_getChars 25 = .ok (.if_icmp .gt 47, 3) := dk_163 0 47 (dk_at dksJ17_getChars_1 2 rfl rfl)
theorem dJ17_getChars_28 : decode cJ17_getChars 28 = .ok (.iload_n 0, 1) := dk_26 (dk_at dksJ17_getChars_1 5 rfl rfl)
theorem dJ17_getChars_29 : decode cJ17_getChars 29 = .ok (.bipush 100, 2) := dk_16 100 (dk_at dksJ17_getChars_1 6 rfl rfl)
theorem dJ17_getChars_31 : decode cJ17_getChars 31 = .ok (.idiv, 1) := dk_108 (dk_at dksJ17_getChars_1 8 rfl rfl)
theorem dJ17_getChars_32 : decode cJ17_getChars 32 = .ok (.istore_n 3, 1) := dk_62 (dk_at dksJ17_getChars_1 9 rfl rfl)
theorem dJ17_getChars_33 : decode cJ17_getChars 33 = .ok (.iload_n 3, 1) := dk_29 (dk_at dksJ17_getChars_1 10 rfl rfl)
theorem dJ17_getChars_34 : decode cJ17_getChars 34 = .ok (.bipush 100, 2) := dk_16 100 (dk_at dksJ17_getChars_1 11 rfl rfl)
theorem dJ17_getChars_36 : decode cJ17_getChars 36 = .ok (.imul, 1) := dk_104 (dk_at dksJ17_getChars_1 13 rfl rfl)
theorem dJ17_getChars_37 : decode cJ17_getChars 37 = .ok (.iload_n 0, 1) := dk_26 (dk_at dksJ17_getChars_1 14 rfl rfl)
theorem dJ17_getChars_38 : decode cJ17_getChars 38 = .ok (.isub, 1) := dk_100 (dk_at dksJ17_getChars_1 15 rfl rfl)
theorem dJ17_getChars_39 : decode cJ17_getChars 39 = .ok (.istore 4, 2) := dk_54 4 (dk_at dksJ17_getChars_1 16 rfl rfl)
theorem dJ17_getChars_41 : decode cJ17_getChars 41 = .ok (.iload_n 3, 1) := dk_29 (dk_at dksJ17_getChars_1 18 rfl rfl)
theorem dJ17_getChars_42 : decode cJ17_getChars 42 = .ok (.istore_n 0, 1) := dk_59 (dk_at dksJ17_getChars_1 19 rfl rfl)
theorem dJ17_getChars_43 : decode cJ17_getChars 43 = .ok (.aload_n 2, 1) := dk_44 (dk_at dksJ17_getChars_1 20 rfl rfl)
theorem dJ17_getChars_44 : decode cJ17_getChars 44 = .ok (.iinc 5 (-1), 3) := dk_132 5 255 (dk_at dksJ17_getChars_1 21 rfl rfl)
theorem dJ17_getChars_47 : decode cJ17_getChars 47 = .ok (.iload 5, 2) := dk_21 5 (dk_at dksJ17_getChars_2 0 rfl rfl)
theorem dJ17_getChars_49 : decode cJ17_getChars 49 = .ok (.getstatic 83, 3) := dk_178 0 83 (dk_at dksJ17_getChars_2 2 rfl rfl)
theorem dJ17_getChars_52 : decode cJ17_getChars 52 = .ok (.iload 4, 2) := dk_21 4 (dk_at dksJ17_getChars_2 5 rfl rfl)
theorem dJ17_getChars_54 : decode cJ17_getChars 54 = .ok (.baload, 1) := dk_51 (dk_at dksJ17_getChars_2 7 rfl rfl)
theorem dJ17_getChars_55 : decode cJ17_getChars 55 = .ok (.bastore, 1) := dk_84 (dk_at dksJ17_getChars_2 8 rfl rfl)
theorem dJ17_getChars_56 : decode cJ17_getChars 56 = .ok (.aload_n 2, 1) := dk_44 (dk_at dksJ17_getChars_2 9 rfl rfl)
theorem dJ17_getChars_57 : decode cJ17_getChars 57 = .ok (.iinc 5 (-1), 3) := dk_132 5 255 (dk_at dksJ17_getChars_2 10 rfl rfl)
theorem dJ17_getChars_60 : decode cJ17_getChars 60 = .ok (.iload 5, 2) := dk_21 5 (dk_at dksJ17_getChars_2 13 rfl rfl)
theorem dJ17_getChars_62 : decode cJ17_getChars 62 = .ok (.getstatic 87, 3) := dk_178 0 87 (dk_at dksJ17_getChars_2 15 rfl rfl)
theorem dJ17_getChars_65 : decode cJ17_getChars 65 = .ok (.iload 4, 2) := dk_21 4 (dk_at dksJ17_getChars_2 18 rfl rfl)
theorem dJ17_getChars_67 : decode cJ17_getChars 67 = .ok (.baload, 1) := dk_51 (dk_at dksJ17_getChars_2 20 rfl rfl)
theorem dJ17_getChars_68 : decode cJ17_getChars 68 = .ok (.bastore, 1) := dk_84 (dk_at dksJ17_getChars_2 21 rfl rfl)
theorem dJ17_getChars_69 : decode cJ17_getChars 69 = .ok (.goto (-47), 3) := dk_167 255 209 (dk_at dksJ17_getChars_3 0 rfl rfl)
theorem dJ17_getChars_72 : decode cJ17_getChars 72 = .ok (.aload_n 2, 1) := dk_44 (dk_at dksJ17_getChars_3 3 rfl rfl)
theorem dJ17_getChars_73 : decode cJ17_getChars 73 = .ok (.iinc 5 (-1), 3) := dk_132 5 255 (dk_at dksJ17_getChars_3 4 rfl rfl)
theorem dJ17_getChars_76 : decode cJ17_getChars 76 = .ok (.iload 5, 2) := dk_21 5 (dk_at dksJ17_getChars_3 7 rfl rfl)
theorem dJ17_getChars_78 : decode cJ17_getChars 78 = .ok (.getstatic 83, 3) := dk_178 0 83 (dk_at dksJ17_getChars_3 9 rfl rfl)
theorem dJ17_getChars_81 : decode cJ17_getChars 81 = .ok (.iload_n 0, 1) := dk_26 (dk_at dksJ17_getChars_3 12 rfl rfl)
theorem dJ17_getChars_82 : decode cJ17_getChars 82 = .ok (.ineg, 1) := dk_116 (dk_at dksJ17_getChars_3 13 rfl rfl)
theorem dJ17_getChars_83 : decode cJ17_getChars 83 = .ok (.baload, 1) := dk_51 (dk_at dksJ17_getChars_3 14 rfl rfl)
theorem dJ17_getChars_84 : decode cJ17_getChars 84 = .ok (.bastore, 1) := dk_84 (dk_at dksJ17_getChars_3 15 rfl rfl)
theorem dJ17_getChars_85 : decode cJ17_getChars 85 = .ok (.iload_n 0, 1) := dk_26 (dk_at dksJ17_getChars_3 16 rfl rfl)
theorem dJ17_getChars_86 : decode cJ17_getChars 86 = .ok (.bipush (-9), 2) := dk_16 247 (dk_at dksJ17_getChars_3 17 rfl rfl)
theorem dJ17_getChars_88 : decode cJ17_getChars 88 = .ok (.if_icmp .ge 16, 3) := dk_162 0 16 (dk_at dksJ17_getChars_3 19 rfl rfl)
theorem dJ17_getChars_91 : decode cJ17_getChars 91 = .ok (.aload_n 2, 1) := dk_44 (dk_at dksJ17_getChars_3 22 rfl rfl)
theorem dJ17_getChars_92 : decode cJ17_getChars 92 = .ok (.iinc 5 (-1), 3) := dk_132 5 255 (dk_at dksJ17_getChars_4 0 rfl rfl)
theorem dJ17_getChars_95 : decode cJ17_getChars 95 = .ok (.iload 5, 2) := dk_21 5 (dk_at dksJ17_getChars_4 3 rfl rfl)
theorem dJ17_getChars_97 : decode cJ17_getChars 97 = .ok (.getstatic 87, 3) := dk_178 0 87 (dk_at dksJ17_getChars_4 5 rfl rfl)
theorem dJ17_getChars_100 : decode cJ17_getChars 100 = .ok (.iload_n 0, 1) := dk_26 (dk_at dksJ17_getChars_4 8 rfl rfl)
theorem dJ17_getChars_101 : decode cJ17_getChars 101 = .ok (.ineg, 1) := dk_116 (dk_at dksJ17_getChars_4 9 rfl rfl)
theorem dJ17_getChars_102 : decode cJ17_getChars 102 = .ok (.baload, 1) := dk_51 (dk_at dksJ17_getChars_4 10 rfl rfl)
theorem dJ17_getChars_103 : decode cJ17_getChars 103 = .ok (.bastore, 1) := dk_84 (dk_at dksJ17_getChars_4 11 rfl rfl)
theorem dJ17_getChars_104 : decode cJ17_getChars 104 = .ok (.iload 6, 2) := dk_21 6 (dk_at dksJ17_getChars_4 12 rfl rfl)
theorem dJ17_getChars_106 : decode cJ17_getChars 106 = .ok (.ifCond .eq 12, 3) := dk_153 0 12 (dk_at dksJ17_getChars_4 14 rfl rfl)
theorem dJ17_getChars_109 : decode cJ17_getChars 109 = .ok (.aload_n 2, 1) := dk_44 (dk_at dksJ17_getChars_4 17 rfl rfl)
theorem dJ17_getChars_110 : decode cJ17_getChars 110 = .ok (.iinc 5 (-1), 3) := dk_132 5 255 (dk_at dksJ17_getChars_4 18 rfl rfl)
theorem dJ17_getChars_113 : decode cJ17_getChars 113 = .ok (.iload 5, 2) := dk_21 5 (dk_at dksJ17_getChars_4 21 rfl rfl)
theorem dJ17_getChars_115 : decode cJ17_getChars 115 = .ok (.bipush 45, 2) := dk_16 45 (dk_at dksJ17_getChars_5 0 rfl rfl)
theorem dJ17_getChars_117 : decode cJ17_getChars 117 = .ok (.bastore, 1) := dk_84 (dk_at dksJ17_getChars_5 2 rfl rfl)
theorem dJ17_getChars_118 : decode cJ17_getChars 118 = .ok (.iload 5, 2) := dk_21 5 (dk_at dksJ17_getChars_5 3 rfl rfl)
theorem dJ17_getChars_120 : decode cJ17_getChars 120 = .ok (.ireturn, 1) := dk_172 (dk_at dksJ17_getChars_5 5 rfl rfl)
abbrev cJ17_compare : ByteArray := prog_33_method_40_code
def yJ17_compare : MethodName := ⟨RJ17, "compare", "(II)I"⟩
def dkwJ17_compare_0 : List UInt8 := [26, 27, 162, 0, 7, 2, 167, 0, 13, 26, 27, 160, 0, 7, 3, 167, 0, 4, 4, 172]
abbrev dktJ17_compare_0 : List UInt8 := dkwJ17_compare_0 ++ []
theorem dksJ17_compare_0 : cJ17_compare.data.toList.drop 0 = dktJ17_compare_0 := by decide +kernel
theorem dJ17_compare_0 : decode cJ17_compare 0 = .ok (.iload_n 0, 1) := dk_26 (dk_at dksJ17_compare_0 0 rfl rfl)
theorem dJ17_compare_1 : decode cJ17_compare 1 = .ok (.iload_n 1, 1) := dk_27 (dk_at dksJ17_compare_0 1 rfl rfl)
theorem dJ17_compare_2 : decode cJ17_compare 2 = .ok (.if_icmp .ge 7, 3) := dk_162 0 7 (dk_at dksJ17_compare_0 2 rfl rfl)
theorem dJ17_compare_5 : decode cJ17_compare 5 = .ok (.iconst (-1), 1) := dk_2 (dk_at dksJ17_compare_0 5 rfl rfl)
theorem dJ17_compare_6 : decode cJ17_compare 6 = .ok (.goto 13, 3) := dk_167 0 13 (dk_at dksJ17_compare_0 6 rfl rfl)
theorem dJ17_compare_9 : decode cJ17_compare 9 = .ok (.iload_n 0, 1) := dk_26 (dk_at dksJ17_compare_0 9 rfl rfl)
theorem dJ17_compare_10 : decode cJ17_compare 10 = .ok (.iload_n 1, 1) := dk_27 (dk_at dksJ17_compare_0 10 rfl rfl)
theorem dJ17_compare_11 : decode cJ17_compare 11 = .ok (.if_icmp .ne 7, 3) := dk_160 0 7 (dk_at dksJ17_compare_0 11 rfl rfl)
theorem dJ17_compare_14 : decode cJ17_compare 14 = .ok (.iconst 0, 1) := dk_3 (dk_at dksJ17_compare_0 14 rfl rfl)
theorem dJ17_compare_15 : decode cJ17_compare 15 = .ok (.goto 4, 3) := dk_167 0 4 (dk_at dksJ17_compare_0 15 rfl rfl)
theorem dJ17_compare_18 : decode cJ17_compare 18 = .ok (.iconst 1, 1) := dk_4 (dk_at dksJ17_compare_0 18 rfl rfl)
theorem dJ17_compare_19 : decode cJ17_compare 19 = .ok (.ireturn, 1) := dk_172 (dk_at dksJ17_compare_0 19 rfl rfl)
abbrev cJ17_hashCode : ByteArray := prog_33_method_32_code
def yJ17_hashCode : MethodName := ⟨RJ17, "hashCode", "()I"⟩
def dkwJ17_hashCode_0 : List UInt8 := [42, 180, 0, 205, 184, 0, 208, 172]
abbrev dktJ17_hashCode_0 : List UInt8 := dkwJ17_hashCode_0 ++ []
theorem dksJ17_hashCode_0 : cJ17_hashCode.data.toList.drop 0 = dktJ17_hashCode_0 := by decide +kernel
theorem dJ17_hashCode_0 : decode cJ17_hashCode 0 = .ok (.aload_n 0, 1) := dk_42 (dk_at dksJ17_hashCode_0 0 rfl rfl)
theorem dJ17_hashCode_1 : decode cJ17_hashCode 1 = .ok (.getfield 205, 3) := dk_180 0 205 (dk_at dksJ17_hashCode_0 1 rfl rfl)
theorem dJ17_hashCode_4 : decode cJ17_hashCode 4 = .ok (.invokestatic 208, 3) := dk_184 0 208 (dk_at dksJ17_hashCode_0 4 rfl rfl)
theorem dJ17_hashCode_7 : decode cJ17_hashCode 7 = .ok (.ireturn, 1) := dk_172 (dk_at dksJ17_hashCode_0 7 rfl rfl)
abbrev cJ17_hashCode_2 : ByteArray := prog_33_method_33_code
def yJ17_hashCode_2 : MethodName := ⟨RJ17, "hashCode", "(I)I"⟩
theorem dJ17_hashCode_2_0 : decode cJ17_hashCode_2 0 = .ok (.iload_n 0, 1) := by decide +kernel
theorem dJ17_hashCode_2_1 : decode cJ17_hashCode_2 1 = .ok (.ireturn, 1) := by decide +kernel
abbrev cJ17_equals : ByteArray := prog_33_method_34_code
def yJ17_equals : MethodName := ⟨RJ17, "equals", "(Ljava/lang/Object;)Z"⟩
def dkwJ17_equals_1 : List UInt8 := [167, 0, 4, 3, 172, 3, 172]
abbrev dktJ17_equals_1 : List UInt8 := dkwJ17_equals_1 ++ []
def dkwJ17_equals_0 : List UInt8 := [43, 193, 0, 1, 153, 0, 23, 42, 180, 0, 205, 43, 192, 0, 1, 182, 0, 211, 160, 0, 7, 4]
abbrev dktJ17_equals_0 : List UInt8 := dkwJ17_equals_0 ++ dktJ17_equals_1
theorem dksJ17_equals_0 : cJ17_equals.data.toList.drop 0 = dktJ17_equals_0 := by decide +kernel
theorem dksJ17_equals_1 : cJ17_equals.data.toList.drop 22 = dktJ17_equals_1 := dk_seg dksJ17_equals_0 22 rfl rfl
theorem dJ17_equals_0 : decode cJ17_equals 0 = .ok (.aload_n 1, 1) := dk_43 (dk_at dksJ17_equals_0 0 rfl rfl)
theorem dJ17_equals_1 : decode cJ17_equals 1 = .ok (.instanceof 1, 3) := dk_193 0 1 (dk_at dksJ17_equals_0 1 rfl rfl)
theorem dJ17_equals_4 : decode cJ17_equals 4 = .ok (.ifCond .eq 23, 3) := dk_153 0 23 (dk_at dksJ17_equals_0 4 rfl rfl)
theorem dJ17_equals_7 : decode cJ17_equals 7 = .ok (.aload_n 0, 1) := dk_42 (dk_at dksJ17_equals_0 7 rfl rfl)
theorem dJ17_equals_8 : decode cJ17_equals 8 = .ok (.getfield 205, 3) := dk_180 0 205 (dk_at dksJ17_equals_0 8 rfl rfl)
theorem dJ17_equals_11 : decode cJ17_equals 11 = .ok (.aload_n 1, 1) := dk_43 (dk_at dksJ17_equals_0 11 rfl rfl)
theorem dJ17_equals_12 : decode cJ17_equals 12 = .ok (.checkcast 1, 3) := dk_192 0 1 (dk_at dksJ17_equals_0 12 rfl rfl)
theorem dJ17_equals_15 : decode cJ17_equals 15 = .ok (.invokevirtual 211, 3) := dk_182 0 211 (dk_at dksJ17_equals_0 15 rfl rfl)
theorem dJ17_equals_18 : decode cJ17_equals 18 = .ok (.if_icmp .ne 7, 3) := dk_160 0 7 (dk_at dksJ17_equals_0 18 rfl rfl)
theorem dJ17_equals_21 : decode cJ17_equals 21 = .ok (.iconst 1, 1) := dk_4 (dk_at dksJ17_equals_0 21 rfl rfl)
theorem dJ17_equals_22 : decode cJ17_equals 22 = .ok (.goto 4, 3) := dk_167 0 4 (dk_at dksJ17_equals_1 0 rfl rfl)
theorem dJ17_equals_25 : decode cJ17_equals 25 = .ok (.iconst 0, 1) := dk_3 (dk_at dksJ17_equals_1 3 rfl rfl)
theorem dJ17_equals_26 : decode cJ17_equals 26 = .ok (.ireturn, 1) := dk_172 (dk_at dksJ17_equals_1 4 rfl rfl)
theorem dJ17_equals_27 : decode cJ17_equals 27 = .ok (.iconst 0, 1) := dk_3 (dk_at dksJ17_equals_1 5 rfl rfl)
theorem dJ17_equals_28 : decode cJ17_equals 28 = .ok (.ireturn, 1) := dk_172 (dk_at dksJ17_equals_1 6 rfl rfl)
abbrev cJ17_intValue : ByteArray := prog_33_method_27_code
def yJ17_intValue : MethodName := ⟨RJ17, "intValue", "()I"⟩
theorem dJ17_intValue_0 : decode cJ17_intValue 0 = .ok (.aload_n 0, 1) := by decide +kernel
theorem dJ17_intValue_1 : decode cJ17_intValue 1 = .ok (.getfield 205, 3) := by decide +kernel
theorem dJ17_intValue_4 : decode cJ17_intValue 4 = .ok (.ireturn, 1) := by decide +kernel
abbrev cJ17_compareTo : ByteArray := prog_33_method_63_code
def yJ17_compareTo : MethodName := ⟨RJ17, "compareTo", "(Ljava/lang/Object;)I"⟩
def dkwJ17_compareTo_0 : List UInt8 := [42, 43, 192, 0, 1, 182, 1, 28, 172]
abbrev dktJ17_compareTo_0 : List UInt8 := dkwJ17_compareTo_0 ++ []
theorem dksJ17_compareTo_0 : cJ17_compareTo.data.toList.drop 0 = dktJ17_compareTo_0 := by decide +kernel
theorem dJ17_compareTo_0 : decode cJ17_compareTo 0 = .ok (.aload_n 0, 1) := dk_42 (dk_at dksJ17_compareTo_0 0 rfl rfl)
theorem dJ17_compareTo_1 : decode cJ17_compareTo 1 = .ok (.aload_n 1, 1) := dk_43 (dk_at dksJ17_compareTo_0 1 rfl rfl)
theorem dJ17_compareTo_2 : decode cJ17_compareTo 2 = .ok (.checkcast 1, 3) := dk_192 0 1 (dk_at dksJ17_compareTo_0 2 rfl rfl)
theorem dJ17_compareTo_5 : decode cJ17_compareTo 5 = .ok (.invokevirtual 284, 3) := dk_182 1 28 (dk_at dksJ17_compareTo_0 5 rfl rfl)
theorem dJ17_compareTo_8 : decode cJ17_compareTo 8 = .ok (.ireturn, 1) := dk_172 (dk_at dksJ17_compareTo_0 8 rfl rfl)
abbrev cJ17_compareTo_2 : ByteArray := prog_33_method_39_code
def yJ17_compareTo_2 : MethodName := ⟨RJ17, "compareTo", "(Ljava/lang/Integer;)I"⟩
def dkwJ17_compareTo_2_0 : List UInt8 := [42, 180, 0, 205, 43, 180, 0, 205, 184, 1, 3, 172]
abbrev dktJ17_compareTo_2_0 : List UInt8 := dkwJ17_compareTo_2_0 ++ []
theorem dksJ17_compareTo_2_0 : cJ17_compareTo_2.data.toList.drop 0 = dktJ17_compareTo_2_0 := by decide +kernel
theorem dJ17_compareTo_2_0 : decode cJ17_compareTo_2 0 = .ok (.aload_n 0, 1) := dk_42 (dk_at dksJ17_compareTo_2_0 0 rfl rfl)
theorem dJ17_compareTo_2_1 : decode cJ17_compareTo_2 1 = .ok (.getfield 205, 3) := dk_180 0 205 (dk_at dksJ17_compareTo_2_0 1 rfl rfl)
theorem dJ17_compareTo_2_4 : decode cJ17_compareTo_2 4 = .ok (.aload_n 1, 1) := dk_43 (dk_at dksJ17_compareTo_2_0 4 rfl rfl)
theorem dJ17_compareTo_2_5 : decode cJ17_compareTo_2 5 = .ok (.getfield 205, 3) := dk_180 0 205 (dk_at dksJ17_compareTo_2_0 5 rfl rfl)
theorem dJ17_compareTo_2_8 : decode cJ17_compareTo_2 8 = .ok (.invokestatic 259, 3) := dk_184 1 3 (dk_at dksJ17_compareTo_2_0 8 rfl rfl)
theorem dJ17_compareTo_2_11 : decode cJ17_compareTo_2 11 = .ok (.ireturn, 1) := dk_172 (dk_at dksJ17_compareTo_2_0 11 rfl rfl)
abbrev cJ17_numberOfLeadingZeros : ByteArray := prog_33_method_47_code
def yJ17_numberOfLeadingZeros : MethodName := ⟨RJ17, "numberOfLeadingZeros", "(I)I"⟩
def dkwJ17_numberOfLeadingZeros_3 : List UInt8 := [5, 124, 59, 27, 26, 4, 124, 100, 172]
abbrev dktJ17_numberOfLeadingZeros_3 : List UInt8 := dkwJ17_numberOfLeadingZeros_3 ++ []
def dkwJ17_numberOfLeadingZeros_2 : List UInt8 := [124, 59, 26, 16, 16, 161, 0, 10, 132, 1, 252, 26, 7, 124, 59, 26, 7, 161, 0, 10, 132, 1, 254, 26]
abbrev dktJ17_numberOfLeadingZeros_2 : List UInt8 := dkwJ17_numberOfLeadingZeros_2 ++ dktJ17_numberOfLeadingZeros_3
def dkwJ17_numberOfLeadingZeros_1 : List UInt8 := [161, 0, 11, 132, 1, 240, 26, 16, 16, 124, 59, 26, 17, 1, 0, 161, 0, 11, 132, 1, 248, 26, 16, 8]
abbrev dktJ17_numberOfLeadingZeros_1 : List UInt8 := dkwJ17_numberOfLeadingZeros_1 ++ dktJ17_numberOfLeadingZeros_2
def dkwJ17_numberOfLeadingZeros_0 : List UInt8 := [26, 157, 0, 14, 26, 154, 0, 8, 16, 32, 167, 0, 4, 3, 172, 16, 31, 60, 26, 19, 1, 8]
abbrev dktJ17_numberOfLeadingZeros_0 : List UInt8 := dkwJ17_numberOfLeadingZeros_0 ++ dktJ17_numberOfLeadingZeros_1
theorem dksJ17_numberOfLeadingZeros_0 : cJ17_numberOfLeadingZeros.data.toList.drop 0 = dktJ17_numberOfLeadingZeros_0 := by decide +kernel
theorem dksJ17_numberOfLeadingZeros_1 : cJ17_numberOfLeadingZeros.data.toList.drop 22 = dktJ17_numberOfLeadingZeros_1 := dk_seg dksJ17_numberOfLeadingZeros_0 22 rfl rfl
theorem dksJ17_numberOfLeadingZeros_2 : cJ17_numberOfLeadingZeros.data.toList.drop 46 = dktJ17_numberOfLeadingZeros_2 := dk_seg dksJ17_numberOfLeadingZeros_1 24 rfl rfl
theorem dksJ17_numberOfLeadingZeros_3 : cJ17_numberOfLeadingZeros.data.toList.drop 70 = dktJ17_numberOfLeadingZeros_3 := dk_seg dksJ17_numberOfLeadingZeros_2 24 rfl rfl
theorem dJ17_numberOfLeadingZeros_0 : decode cJ17_numberOfLeadingZeros 0 = .ok (.iload_n 0, 1) := dk_26 (dk_at dksJ17_numberOfLeadingZeros_0 0 rfl rfl)
theorem dJ17_numberOfLeadingZeros_1 : decode cJ17_numberOfLeadingZeros 1 = .ok (.ifCond .gt 14, 3) := dk_157 0 14 (dk_at dksJ17_numberOfLeadingZeros_0 1 rfl rfl)
theorem dJ17_numberOfLeadingZeros_4 : decode cJ17_numberOfLeadingZeros 4 = .ok (.iload_n 0, 1) := dk_26 (dk_at dksJ17_numberOfLeadingZeros_0 4 rfl rfl)
theorem dJ17_numberOfLeadingZeros_5 : decode cJ17_numberOfLeadingZeros 5 = .ok (.ifCond .ne 8, 3) := dk_154 0 8 (dk_at dksJ17_numberOfLeadingZeros_0 5 rfl rfl)
theorem dJ17_numberOfLeadingZeros_8 : decode cJ17_numberOfLeadingZeros 8 = .ok (.bipush 32, 2) := dk_16 32 (dk_at dksJ17_numberOfLeadingZeros_0 8 rfl rfl)
theorem dJ17_numberOfLeadingZeros_10 : decode cJ17_numberOfLeadingZeros 10 = .ok (.goto 4, 3) := dk_167 0 4 (dk_at dksJ17_numberOfLeadingZeros_0 10 rfl rfl)
theorem dJ17_numberOfLeadingZeros_13 : decode cJ17_numberOfLeadingZeros 13 = .ok (.iconst 0, 1) := dk_3 (dk_at dksJ17_numberOfLeadingZeros_0 13 rfl rfl)
theorem dJ17_numberOfLeadingZeros_14 : decode cJ17_numberOfLeadingZeros 14 = .ok (.ireturn, 1) := dk_172 (dk_at dksJ17_numberOfLeadingZeros_0 14 rfl rfl)
theorem dJ17_numberOfLeadingZeros_15 : decode cJ17_numberOfLeadingZeros 15 = .ok (.bipush 31, 2) := dk_16 31 (dk_at dksJ17_numberOfLeadingZeros_0 15 rfl rfl)
theorem dJ17_numberOfLeadingZeros_17 : decode cJ17_numberOfLeadingZeros 17 = .ok (.istore_n 1, 1) := dk_60 (dk_at dksJ17_numberOfLeadingZeros_0 17 rfl rfl)
theorem dJ17_numberOfLeadingZeros_18 : decode cJ17_numberOfLeadingZeros 18 = .ok (.iload_n 0, 1) := dk_26 (dk_at dksJ17_numberOfLeadingZeros_0 18 rfl rfl)
theorem dJ17_numberOfLeadingZeros_19 : decode cJ17_numberOfLeadingZeros 19 = .ok (.ldc_w 264, 3) := dk_19 1 8 (dk_at dksJ17_numberOfLeadingZeros_0 19 rfl rfl)
theorem dJ17_numberOfLeadingZeros_22 : decode cJ17_numberOfLeadingZeros 22 = .ok (.if_icmp .lt 11, 3) := dk_161 0 11 (dk_at dksJ17_numberOfLeadingZeros_1 0 rfl rfl)
theorem dJ17_numberOfLeadingZeros_25 : decode cJ17_numberOfLeadingZeros 25 = .ok (.iinc 1 (-16), 3) := dk_132 1 240 (dk_at dksJ17_numberOfLeadingZeros_1 3 rfl rfl)
theorem dJ17_numberOfLeadingZeros_28 : decode cJ17_numberOfLeadingZeros 28 = .ok (.iload_n 0, 1) := dk_26 (dk_at dksJ17_numberOfLeadingZeros_1 6 rfl rfl)
theorem dJ17_numberOfLeadingZeros_29 : decode cJ17_numberOfLeadingZeros 29 = .ok (.bipush 16, 2) := dk_16 16 (dk_at dksJ17_numberOfLeadingZeros_1 7 rfl rfl)
theorem dJ17_numberOfLeadingZeros_31 : decode cJ17_numberOfLeadingZeros 31 = .ok (.iushr, 1) := dk_124 (dk_at dksJ17_numberOfLeadingZeros_1 9 rfl rfl)
theorem dJ17_numberOfLeadingZeros_32 : decode cJ17_numberOfLeadingZeros 32 = .ok (.istore_n 0, 1) := dk_59 (dk_at dksJ17_numberOfLeadingZeros_1 10 rfl rfl)
theorem dJ17_numberOfLeadingZeros_33 : decode cJ17_numberOfLeadingZeros 33 = .ok (.iload_n 0, 1) := dk_26 (dk_at dksJ17_numberOfLeadingZeros_1 11 rfl rfl)
theorem dJ17_numberOfLeadingZeros_34 : decode cJ17_numberOfLeadingZeros 34 = .ok (.sipush 256, 3) := dk_17 1 0 (dk_at dksJ17_numberOfLeadingZeros_1 12 rfl rfl)
theorem dJ17_numberOfLeadingZeros_37 : decode cJ17_numberOfLeadingZeros 37 = .ok (.if_icmp .lt 11, 3) := dk_161 0 11 (dk_at dksJ17_numberOfLeadingZeros_1 15 rfl rfl)
theorem dJ17_numberOfLeadingZeros_40 : decode cJ17_numberOfLeadingZeros 40 = .ok (.iinc 1 (-8), 3) := dk_132 1 248 (dk_at dksJ17_numberOfLeadingZeros_1 18 rfl rfl)
theorem dJ17_numberOfLeadingZeros_43 : decode cJ17_numberOfLeadingZeros 43 = .ok (.iload_n 0, 1) := dk_26 (dk_at dksJ17_numberOfLeadingZeros_1 21 rfl rfl)
theorem dJ17_numberOfLeadingZeros_44 : decode cJ17_numberOfLeadingZeros 44 = .ok (.bipush 8, 2) := dk_16 8 (dk_at dksJ17_numberOfLeadingZeros_1 22 rfl rfl)
theorem dJ17_numberOfLeadingZeros_46 : decode cJ17_numberOfLeadingZeros 46 = .ok (.iushr, 1) := dk_124 (dk_at dksJ17_numberOfLeadingZeros_2 0 rfl rfl)
theorem dJ17_numberOfLeadingZeros_47 : decode cJ17_numberOfLeadingZeros 47 = .ok (.istore_n 0, 1) := dk_59 (dk_at dksJ17_numberOfLeadingZeros_2 1 rfl rfl)
theorem dJ17_numberOfLeadingZeros_48 : decode cJ17_numberOfLeadingZeros 48 = .ok (.iload_n 0, 1) := dk_26 (dk_at dksJ17_numberOfLeadingZeros_2 2 rfl rfl)
theorem dJ17_numberOfLeadingZeros_49 : decode cJ17_numberOfLeadingZeros 49 = .ok (.bipush 16, 2) := dk_16 16 (dk_at dksJ17_numberOfLeadingZeros_2 3 rfl rfl)
theorem dJ17_numberOfLeadingZeros_51 : decode cJ17_numberOfLeadingZeros 51 = .ok (.if_icmp .lt 10, 3) := dk_161 0 10 (dk_at dksJ17_numberOfLeadingZeros_2 5 rfl rfl)
theorem dJ17_numberOfLeadingZeros_54 : decode cJ17_numberOfLeadingZeros 54 = .ok (.iinc 1 (-4), 3) := dk_132 1 252 (dk_at dksJ17_numberOfLeadingZeros_2 8 rfl rfl)
theorem dJ17_numberOfLeadingZeros_57 : decode cJ17_numberOfLeadingZeros 57 = .ok (.iload_n 0, 1) := dk_26 (dk_at dksJ17_numberOfLeadingZeros_2 11 rfl rfl)
theorem dJ17_numberOfLeadingZeros_58 : decode cJ17_numberOfLeadingZeros 58 = .ok (.iconst 4, 1) := dk_7 (dk_at dksJ17_numberOfLeadingZeros_2 12 rfl rfl)
theorem dJ17_numberOfLeadingZeros_59 : decode cJ17_numberOfLeadingZeros 59 = .ok (.iushr, 1) := dk_124 (dk_at dksJ17_numberOfLeadingZeros_2 13 rfl rfl)
theorem dJ17_numberOfLeadingZeros_60 : decode cJ17_numberOfLeadingZeros 60 = .ok (.istore_n 0, 1) := dk_59 (dk_at dksJ17_numberOfLeadingZeros_2 14 rfl rfl)
theorem dJ17_numberOfLeadingZeros_61 : decode cJ17_numberOfLeadingZeros 61 = .ok (.iload_n 0, 1) := dk_26 (dk_at dksJ17_numberOfLeadingZeros_2 15 rfl rfl)
theorem dJ17_numberOfLeadingZeros_62 : decode cJ17_numberOfLeadingZeros 62 = .ok (.iconst 4, 1) := dk_7 (dk_at dksJ17_numberOfLeadingZeros_2 16 rfl rfl)
theorem dJ17_numberOfLeadingZeros_63 : decode cJ17_numberOfLeadingZeros 63 = .ok (.if_icmp .lt 10, 3) := dk_161 0 10 (dk_at dksJ17_numberOfLeadingZeros_2 17 rfl rfl)
theorem dJ17_numberOfLeadingZeros_66 : decode cJ17_numberOfLeadingZeros 66 = .ok (.iinc 1 (-2), 3) := dk_132 1 254 (dk_at dksJ17_numberOfLeadingZeros_2 20 rfl rfl)
theorem dJ17_numberOfLeadingZeros_69 : decode cJ17_numberOfLeadingZeros 69 = .ok (.iload_n 0, 1) := dk_26 (dk_at dksJ17_numberOfLeadingZeros_2 23 rfl rfl)
theorem dJ17_numberOfLeadingZeros_70 : decode cJ17_numberOfLeadingZeros 70 = .ok (.iconst 2, 1) := dk_5 (dk_at dksJ17_numberOfLeadingZeros_3 0 rfl rfl)
theorem dJ17_numberOfLeadingZeros_71 : decode cJ17_numberOfLeadingZeros 71 = .ok (.iushr, 1) := dk_124 (dk_at dksJ17_numberOfLeadingZeros_3 1 rfl rfl)
theorem dJ17_numberOfLeadingZeros_72 : decode cJ17_numberOfLeadingZeros 72 = .ok (.istore_n 0, 1) := dk_59 (dk_at dksJ17_numberOfLeadingZeros_3 2 rfl rfl)
theorem dJ17_numberOfLeadingZeros_73 : decode cJ17_numberOfLeadingZeros 73 = .ok (.iload_n 1, 1) := dk_27 (dk_at dksJ17_numberOfLeadingZeros_3 3 rfl rfl)
theorem dJ17_numberOfLeadingZeros_74 : decode cJ17_numberOfLeadingZeros 74 = .ok (.iload_n 0, 1) := dk_26 (dk_at dksJ17_numberOfLeadingZeros_3 4 rfl rfl)
theorem dJ17_numberOfLeadingZeros_75 : decode cJ17_numberOfLeadingZeros 75 = .ok (.iconst 1, 1) := dk_4 (dk_at dksJ17_numberOfLeadingZeros_3 5 rfl rfl)
theorem dJ17_numberOfLeadingZeros_76 : decode cJ17_numberOfLeadingZeros 76 = .ok (.iushr, 1) := dk_124 (dk_at dksJ17_numberOfLeadingZeros_3 6 rfl rfl)
theorem dJ17_numberOfLeadingZeros_77 : decode cJ17_numberOfLeadingZeros 77 = .ok (.isub, 1) := dk_100 (dk_at dksJ17_numberOfLeadingZeros_3 7 rfl rfl)
theorem dJ17_numberOfLeadingZeros_78 : decode cJ17_numberOfLeadingZeros 78 = .ok (.ireturn, 1) := dk_172 (dk_at dksJ17_numberOfLeadingZeros_3 8 rfl rfl)
abbrev cJ17_numberOfTrailingZeros : ByteArray := prog_33_method_48_code
def yJ17_numberOfTrailingZeros : MethodName := ⟨RJ17, "numberOfTrailingZeros", "(I)I"⟩
def dkwJ17_numberOfTrailingZeros_3 : List UInt8 := [5, 124, 59, 27, 26, 4, 124, 96, 172]
abbrev dktJ17_numberOfTrailingZeros_3 : List UInt8 := dkwJ17_numberOfTrailingZeros_3 ++ []
def dkwJ17_numberOfTrailingZeros_2 : List UInt8 := [124, 59, 26, 16, 16, 164, 0, 10, 132, 1, 4, 26, 7, 124, 59, 26, 7, 164, 0, 10, 132, 1, 2, 26]
abbrev dktJ17_numberOfTrailingZeros_2 : List UInt8 := dkwJ17_numberOfTrailingZeros_2 ++ dktJ17_numberOfTrailingZeros_3
def dkwJ17_numberOfTrailingZeros_1 : List UInt8 := [164, 0, 11, 132, 1, 16, 26, 16, 16, 124, 59, 26, 17, 1, 0, 164, 0, 11, 132, 1, 8, 26, 16, 8]
abbrev dktJ17_numberOfTrailingZeros_1 : List UInt8 := dkwJ17_numberOfTrailingZeros_1 ++ dktJ17_numberOfTrailingZeros_2
def dkwJ17_numberOfTrailingZeros_0 : List UInt8 := [26, 2, 130, 26, 4, 100, 126, 59, 26, 157, 0, 8, 26, 16, 32, 126, 172, 4, 60, 26, 19, 1, 8]
abbrev dktJ17_numberOfTrailingZeros_0 : List UInt8 := dkwJ17_numberOfTrailingZeros_0 ++ dktJ17_numberOfTrailingZeros_1
theorem dksJ17_numberOfTrailingZeros_0 : cJ17_numberOfTrailingZeros.data.toList.drop 0 = dktJ17_numberOfTrailingZeros_0 := by decide +kernel
theorem dksJ17_numberOfTrailingZeros_1 : cJ17_numberOfTrailingZeros.data.toList.drop 23 = dktJ17_numberOfTrailingZeros_1 := dk_seg dksJ17_numberOfTrailingZeros_0 23 rfl rfl
theorem dksJ17_numberOfTrailingZeros_2 : cJ17_numberOfTrailingZeros.data.toList.drop 47 = dktJ17_numberOfTrailingZeros_2 := dk_seg dksJ17_numberOfTrailingZeros_1 24 rfl rfl
theorem dksJ17_numberOfTrailingZeros_3 : cJ17_numberOfTrailingZeros.data.toList.drop 71 = dktJ17_numberOfTrailingZeros_3 := dk_seg dksJ17_numberOfTrailingZeros_2 24 rfl rfl
theorem dJ17_numberOfTrailingZeros_0 : decode cJ17_numberOfTrailingZeros 0 = .ok (.iload_n 0, 1) := dk_26 (dk_at dksJ17_numberOfTrailingZeros_0 0 rfl rfl)
theorem dJ17_numberOfTrailingZeros_1 : decode cJ17_numberOfTrailingZeros 1 = .ok (.iconst (-1), 1) := dk_2 (dk_at dksJ17_numberOfTrailingZeros_0 1 rfl rfl)
theorem dJ17_numberOfTrailingZeros_2 : decode cJ17_numberOfTrailingZeros 2 = .ok (.ixor, 1) := dk_130 (dk_at dksJ17_numberOfTrailingZeros_0 2 rfl rfl)
theorem dJ17_numberOfTrailingZeros_3 : decode cJ17_numberOfTrailingZeros 3 = .ok (.iload_n 0, 1) := dk_26 (dk_at dksJ17_numberOfTrailingZeros_0 3 rfl rfl)
theorem dJ17_numberOfTrailingZeros_4 : decode cJ17_numberOfTrailingZeros 4 = .ok (.iconst 1, 1) := dk_4 (dk_at dksJ17_numberOfTrailingZeros_0 4 rfl rfl)
theorem dJ17_numberOfTrailingZeros_5 : decode cJ17_numberOfTrailingZeros 5 = .ok (.isub, 1) := dk_100 (dk_at dksJ17_numberOfTrailingZeros_0 5 rfl rfl)
theorem dJ17_numberOfTrailingZeros_6 : decode cJ17_numberOfTrailingZeros 6 = .ok (.iand, 1) := dk_126 (dk_at dksJ17_numberOfTrailingZeros_0 6 rfl rfl)
theorem dJ17_numberOfTrailingZeros_7 : decode cJ17_numberOfTrailingZeros 7 = .ok (.istore_n 0, 1) := dk_59 (dk_at dksJ17_numberOfTrailingZeros_0 7 rfl rfl)
theorem dJ17_numberOfTrailingZeros_8 : decode cJ17_numberOfTrailingZeros 8 = .ok (.iload_n 0, 1) := dk_26 (dk_at dksJ17_numberOfTrailingZeros_0 8 rfl rfl)
theorem dJ17_numberOfTrailingZeros_9 : decode cJ17_numberOfTrailingZeros 9 = .ok (.ifCond .gt 8, 3) := dk_157 0 8 (dk_at dksJ17_numberOfTrailingZeros_0 9 rfl rfl)
theorem dJ17_numberOfTrailingZeros_12 : decode cJ17_numberOfTrailingZeros 12 = .ok (.iload_n 0, 1) := dk_26 (dk_at dksJ17_numberOfTrailingZeros_0 12 rfl rfl)
theorem dJ17_numberOfTrailingZeros_13 : decode cJ17_numberOfTrailingZeros 13 = .ok (.bipush 32, 2) := dk_16 32 (dk_at dksJ17_numberOfTrailingZeros_0 13 rfl rfl)
theorem dJ17_numberOfTrailingZeros_15 : decode cJ17_numberOfTrailingZeros 15 = .ok (.iand, 1) := dk_126 (dk_at dksJ17_numberOfTrailingZeros_0 15 rfl rfl)
theorem dJ17_numberOfTrailingZeros_16 : decode cJ17_numberOfTrailingZeros 16 = .ok (.ireturn, 1) := dk_172 (dk_at dksJ17_numberOfTrailingZeros_0 16 rfl rfl)
theorem dJ17_numberOfTrailingZeros_17 : decode cJ17_numberOfTrailingZeros 17 = .ok (.iconst 1, 1) := dk_4 (dk_at dksJ17_numberOfTrailingZeros_0 17 rfl rfl)
theorem dJ17_numberOfTrailingZeros_18 : decode cJ17_numberOfTrailingZeros 18 = .ok (.istore_n 1, 1) := dk_60 (dk_at dksJ17_numberOfTrailingZeros_0 18 rfl rfl)
theorem dJ17_numberOfTrailingZeros_19 : decode cJ17_numberOfTrailingZeros 19 = .ok (.iload_n 0, 1) := dk_26 (dk_at dksJ17_numberOfTrailingZeros_0 19 rfl rfl)
theorem dJ17_numberOfTrailingZeros_20 : decode cJ17_numberOfTrailingZeros 20 = .ok (.ldc_w 264, 3) := dk_19 1 8 (dk_at dksJ17_numberOfTrailingZeros_0 20 rfl rfl)
theorem dJ17_numberOfTrailingZeros_23 : decode cJ17_numberOfTrailingZeros 23 = .ok (.if_icmp .le 11, 3) := dk_164 0 11 (dk_at dksJ17_numberOfTrailingZeros_1 0 rfl rfl)
theorem dJ17_numberOfTrailingZeros_26 : decode cJ17_numberOfTrailingZeros 26 = .ok (.iinc 1 16, 3) := dk_132 1 16 (dk_at dksJ17_numberOfTrailingZeros_1 3 rfl rfl)
theorem dJ17_numberOfTrailingZeros_29 : decode cJ17_numberOfTrailingZeros 29 = .ok (.iload_n 0, 1) := dk_26 (dk_at dksJ17_numberOfTrailingZeros_1 6 rfl rfl)
theorem dJ17_numberOfTrailingZeros_30 : decode cJ17_numberOfTrailingZeros 30 = .ok (.bipush 16, 2) := dk_16 16 (dk_at dksJ17_numberOfTrailingZeros_1 7 rfl rfl)
theorem dJ17_numberOfTrailingZeros_32 : decode cJ17_numberOfTrailingZeros 32 = .ok (.iushr, 1) := dk_124 (dk_at dksJ17_numberOfTrailingZeros_1 9 rfl rfl)
theorem dJ17_numberOfTrailingZeros_33 : decode cJ17_numberOfTrailingZeros 33 = .ok (.istore_n 0, 1) := dk_59 (dk_at dksJ17_numberOfTrailingZeros_1 10 rfl rfl)
theorem dJ17_numberOfTrailingZeros_34 : decode cJ17_numberOfTrailingZeros 34 = .ok (.iload_n 0, 1) := dk_26 (dk_at dksJ17_numberOfTrailingZeros_1 11 rfl rfl)
theorem dJ17_numberOfTrailingZeros_35 : decode cJ17_numberOfTrailingZeros 35 = .ok (.sipush 256, 3) := dk_17 1 0 (dk_at dksJ17_numberOfTrailingZeros_1 12 rfl rfl)
theorem dJ17_numberOfTrailingZeros_38 : decode cJ17_numberOfTrailingZeros 38 = .ok (.if_icmp .le 11, 3) := dk_164 0 11 (dk_at dksJ17_numberOfTrailingZeros_1 15 rfl rfl)
theorem dJ17_numberOfTrailingZeros_41 : decode cJ17_numberOfTrailingZeros 41 = .ok (.iinc 1 8, 3) := dk_132 1 8 (dk_at dksJ17_numberOfTrailingZeros_1 18 rfl rfl)
theorem dJ17_numberOfTrailingZeros_44 : decode cJ17_numberOfTrailingZeros 44 = .ok (.iload_n 0, 1) := dk_26 (dk_at dksJ17_numberOfTrailingZeros_1 21 rfl rfl)
theorem dJ17_numberOfTrailingZeros_45 : decode cJ17_numberOfTrailingZeros 45 = .ok (.bipush 8, 2) := dk_16 8 (dk_at dksJ17_numberOfTrailingZeros_1 22 rfl rfl)
theorem dJ17_numberOfTrailingZeros_47 : decode cJ17_numberOfTrailingZeros 47 = .ok (.iushr, 1) := dk_124 (dk_at dksJ17_numberOfTrailingZeros_2 0 rfl rfl)
theorem dJ17_numberOfTrailingZeros_48 : decode cJ17_numberOfTrailingZeros 48 = .ok (.istore_n 0, 1) := dk_59 (dk_at dksJ17_numberOfTrailingZeros_2 1 rfl rfl)
theorem dJ17_numberOfTrailingZeros_49 : decode cJ17_numberOfTrailingZeros 49 = .ok (.iload_n 0, 1) := dk_26 (dk_at dksJ17_numberOfTrailingZeros_2 2 rfl rfl)
theorem dJ17_numberOfTrailingZeros_50 : decode cJ17_numberOfTrailingZeros 50 = .ok (.bipush 16, 2) := dk_16 16 (dk_at dksJ17_numberOfTrailingZeros_2 3 rfl rfl)
theorem dJ17_numberOfTrailingZeros_52 : decode cJ17_numberOfTrailingZeros 52 = .ok (.if_icmp .le 10, 3) := dk_164 0 10 (dk_at dksJ17_numberOfTrailingZeros_2 5 rfl rfl)
theorem dJ17_numberOfTrailingZeros_55 : decode cJ17_numberOfTrailingZeros 55 = .ok (.iinc 1 4, 3) := dk_132 1 4 (dk_at dksJ17_numberOfTrailingZeros_2 8 rfl rfl)
theorem dJ17_numberOfTrailingZeros_58 : decode cJ17_numberOfTrailingZeros 58 = .ok (.iload_n 0, 1) := dk_26 (dk_at dksJ17_numberOfTrailingZeros_2 11 rfl rfl)
theorem dJ17_numberOfTrailingZeros_59 : decode cJ17_numberOfTrailingZeros 59 = .ok (.iconst 4, 1) := dk_7 (dk_at dksJ17_numberOfTrailingZeros_2 12 rfl rfl)
theorem dJ17_numberOfTrailingZeros_60 : decode cJ17_numberOfTrailingZeros 60 = .ok (.iushr, 1) := dk_124 (dk_at dksJ17_numberOfTrailingZeros_2 13 rfl rfl)
theorem dJ17_numberOfTrailingZeros_61 : decode cJ17_numberOfTrailingZeros 61 = .ok (.istore_n 0, 1) := dk_59 (dk_at dksJ17_numberOfTrailingZeros_2 14 rfl rfl)
theorem dJ17_numberOfTrailingZeros_62 : decode cJ17_numberOfTrailingZeros 62 = .ok (.iload_n 0, 1) := dk_26 (dk_at dksJ17_numberOfTrailingZeros_2 15 rfl rfl)
theorem dJ17_numberOfTrailingZeros_63 : decode cJ17_numberOfTrailingZeros 63 = .ok (.iconst 4, 1) := dk_7 (dk_at dksJ17_numberOfTrailingZeros_2 16 rfl rfl)
theorem dJ17_numberOfTrailingZeros_64 : decode cJ17_numberOfTrailingZeros 64 = .ok (.if_icmp .le 10, 3) := dk_164 0 10 (dk_at dksJ17_numberOfTrailingZeros_2 17 rfl rfl)
theorem dJ17_numberOfTrailingZeros_67 : decode cJ17_numberOfTrailingZeros 67 = .ok (.iinc 1 2, 3) := dk_132 1 2 (dk_at dksJ17_numberOfTrailingZeros_2 20 rfl rfl)
theorem dJ17_numberOfTrailingZeros_70 : decode cJ17_numberOfTrailingZeros 70 = .ok (.iload_n 0, 1) := dk_26 (dk_at dksJ17_numberOfTrailingZeros_2 23 rfl rfl)
theorem dJ17_numberOfTrailingZeros_71 : decode cJ17_numberOfTrailingZeros 71 = .ok (.iconst 2, 1) := dk_5 (dk_at dksJ17_numberOfTrailingZeros_3 0 rfl rfl)
theorem dJ17_numberOfTrailingZeros_72 : decode cJ17_numberOfTrailingZeros 72 = .ok (.iushr, 1) := dk_124 (dk_at dksJ17_numberOfTrailingZeros_3 1 rfl rfl)
theorem dJ17_numberOfTrailingZeros_73 : decode cJ17_numberOfTrailingZeros 73 = .ok (.istore_n 0, 1) := dk_59 (dk_at dksJ17_numberOfTrailingZeros_3 2 rfl rfl)
theorem dJ17_numberOfTrailingZeros_74 : decode cJ17_numberOfTrailingZeros 74 = .ok (.iload_n 1, 1) := dk_27 (dk_at dksJ17_numberOfTrailingZeros_3 3 rfl rfl)
theorem dJ17_numberOfTrailingZeros_75 : decode cJ17_numberOfTrailingZeros 75 = .ok (.iload_n 0, 1) := dk_26 (dk_at dksJ17_numberOfTrailingZeros_3 4 rfl rfl)
theorem dJ17_numberOfTrailingZeros_76 : decode cJ17_numberOfTrailingZeros 76 = .ok (.iconst 1, 1) := dk_4 (dk_at dksJ17_numberOfTrailingZeros_3 5 rfl rfl)
theorem dJ17_numberOfTrailingZeros_77 : decode cJ17_numberOfTrailingZeros 77 = .ok (.iushr, 1) := dk_124 (dk_at dksJ17_numberOfTrailingZeros_3 6 rfl rfl)
theorem dJ17_numberOfTrailingZeros_78 : decode cJ17_numberOfTrailingZeros 78 = .ok (.iadd, 1) := dk_96 (dk_at dksJ17_numberOfTrailingZeros_3 7 rfl rfl)
theorem dJ17_numberOfTrailingZeros_79 : decode cJ17_numberOfTrailingZeros 79 = .ok (.ireturn, 1) := dk_172 (dk_at dksJ17_numberOfTrailingZeros_3 8 rfl rfl)
abbrev cJ17_valueOf : ByteArray := prog_33_method_22_code
def yJ17_valueOf : MethodName := ⟨RJ17, "valueOf", "(I)Ljava/lang/Integer;"⟩
def dkwJ17_valueOf_1 : List UInt8 := [187, 0, 1, 89, 26, 183, 0, 199, 176]
abbrev dktJ17_valueOf_1 : List UInt8 := dkwJ17_valueOf_1 ++ []
def dkwJ17_valueOf_0 : List UInt8 := [26, 16, 128, 161, 0, 20, 26, 178, 0, 191, 163, 0, 13, 178, 0, 195, 26, 17, 0, 128, 96, 50, 176]
abbrev dktJ17_valueOf_0 : List UInt8 := dkwJ17_valueOf_0 ++ dktJ17_valueOf_1
theorem dksJ17_valueOf_0 : cJ17_valueOf.data.toList.drop 0 = dktJ17_valueOf_0 := by decide +kernel
theorem dksJ17_valueOf_1 : cJ17_valueOf.data.toList.drop 23 = dktJ17_valueOf_1 := dk_seg dksJ17_valueOf_0 23 rfl rfl
theorem dJ17_valueOf_0 : decode cJ17_valueOf 0 = .ok (.iload_n 0, 1) := dk_26 (dk_at dksJ17_valueOf_0 0 rfl rfl)
theorem dJ17_valueOf_1 : decode cJ17_valueOf 1 = .ok (.bipush (-128), 2) := dk_16 128 (dk_at dksJ17_valueOf_0 1 rfl rfl)
theorem dJ17_valueOf_3 : decode cJ17_valueOf 3 = .ok (.if_icmp .lt 20, 3) := dk_161 0 20 (dk_at dksJ17_valueOf_0 3 rfl rfl)
theorem dJ17_valueOf_6 : decode cJ17_valueOf 6 = .ok (.iload_n 0, 1) := dk_26 (dk_at dksJ17_valueOf_0 6 rfl rfl)
theorem dJ17_valueOf_7 : decode cJ17_valueOf 7 = .ok (.getstatic 191, 3) := dk_178 0 191 (dk_at dksJ17_valueOf_0 7 rfl rfl)
theorem dJ17_valueOf_10 : decode cJ17_valueOf 10 = .ok (.if_icmp .gt 13, 3) := dk_163 0 13 (dk_at dksJ17_valueOf_0 10 rfl rfl)
theorem dJ17_valueOf_13 : decode cJ17_valueOf 13 = .ok (.getstatic 195, 3) := dk_178 0 195 (dk_at dksJ17_valueOf_0 13 rfl rfl)
theorem dJ17_valueOf_16 : decode cJ17_valueOf 16 = .ok (.iload_n 0, 1) := dk_26 (dk_at dksJ17_valueOf_0 16 rfl rfl)
theorem dJ17_valueOf_17 : decode cJ17_valueOf 17 = .ok (.sipush 128, 3) := dk_17 0 128 (dk_at dksJ17_valueOf_0 17 rfl rfl)
theorem dJ17_valueOf_20 : decode cJ17_valueOf 20 = .ok (.iadd, 1) := dk_96 (dk_at dksJ17_valueOf_0 20 rfl rfl)
theorem dJ17_valueOf_21 : decode cJ17_valueOf 21 = .ok (.aaload, 1) := dk_50 (dk_at dksJ17_valueOf_0 21 rfl rfl)
theorem dJ17_valueOf_22 : decode cJ17_valueOf 22 = .ok (.areturn, 1) := dk_176 (dk_at dksJ17_valueOf_0 22 rfl rfl)
theorem dJ17_valueOf_23 : decode cJ17_valueOf 23 = .ok (.new 1, 3) := dk_187 0 1 (dk_at dksJ17_valueOf_1 0 rfl rfl)
theorem dJ17_valueOf_26 : decode cJ17_valueOf 26 = .ok (.dup, 1) := dk_89 (dk_at dksJ17_valueOf_1 3 rfl rfl)
theorem dJ17_valueOf_27 : decode cJ17_valueOf 27 = .ok (.iload_n 0, 1) := dk_26 (dk_at dksJ17_valueOf_1 4 rfl rfl)
theorem dJ17_valueOf_28 : decode cJ17_valueOf 28 = .ok (.invokespecial 199, 3) := dk_183 0 199 (dk_at dksJ17_valueOf_1 5 rfl rfl)
theorem dJ17_valueOf_31 : decode cJ17_valueOf 31 = .ok (.areturn, 1) := dk_176 (dk_at dksJ17_valueOf_1 8 rfl rfl)
abbrev cJ17_init : ByteArray := prog_33_method_23_code
def yJ17_init : MethodName := ⟨RJ17, "<init>", "(I)V"⟩
def dkwJ17_init_0 : List UInt8 := [42, 183, 0, 202, 42, 27, 181, 0, 205, 177]
abbrev dktJ17_init_0 : List UInt8 := dkwJ17_init_0 ++ []
theorem dksJ17_init_0 : cJ17_init.data.toList.drop 0 = dktJ17_init_0 := by decide +kernel
theorem dJ17_init_0 : decode cJ17_init 0 = .ok (.aload_n 0, 1) := dk_42 (dk_at dksJ17_init_0 0 rfl rfl)
theorem dJ17_init_1 : decode cJ17_init 1 = .ok (.invokespecial 202, 3) := dk_183 0 202 (dk_at dksJ17_init_0 1 rfl rfl)
theorem dJ17_init_4 : decode cJ17_init 4 = .ok (.aload_n 0, 1) := dk_42 (dk_at dksJ17_init_0 4 rfl rfl)
theorem dJ17_init_5 : decode cJ17_init 5 = .ok (.iload_n 1, 1) := dk_27 (dk_at dksJ17_init_0 5 rfl rfl)
theorem dJ17_init_6 : decode cJ17_init 6 = .ok (.putfield 205, 3) := dk_181 0 205 (dk_at dksJ17_init_0 6 rfl rfl)
theorem dJ17_init_9 : decode cJ17_init 9 = .ok (.return_, 1) := dk_177 (dk_at dksJ17_init_0 9 rfl rfl)
theorem q127 : (Jvm.Cond.initialized "java/lang/Integer") ∈ lw_all := lw_g (lw_at lw_m1 20 rfl) rfl
theorem q393 : (Jvm.Cond.static ({ cls := "java/lang/Integer", name := "stringSize", desc := "(I)I" } : Jvm.MethodName)) ∈ lw_all := lw_g (lw_at lw_m2 46 rfl) rfl
theorem q394 : (Jvm.Cond.code ({ cls := "java/lang/Integer", name := "stringSize", desc := "(I)I" } : Jvm.MethodName) prog_33_method_13_code (4 : Nat) (Option.some Jvm.ClassFile.FieldType.int)) ∈ lw_all := lw_g (lw_at lw_m2 47 rfl) rfl
theorem q396 : (Jvm.Cond.static ({ cls := "java/lang/Integer", name := "getChars", desc := "(II[B)I" } : Jvm.MethodName)) ∈ lw_all := lw_g (lw_at lw_m2 49 rfl) rfl
theorem q397 : (Jvm.Cond.code ({ cls := "java/lang/Integer", name := "getChars", desc := "(II[B)I" } : Jvm.MethodName) prog_33_method_12_code (7 : Nat) (Option.some Jvm.ClassFile.FieldType.int)) ∈ lw_all := lw_g (lw_at lw_m2 50 rfl) rfl
theorem q398 : (Jvm.Cond.fieldLink "java/lang/Integer" (83 : Nat) "java/lang/Integer" "DigitOnes" "[B") ∈ lw_all := lw_g (lw_at lw_m2 51 rfl) rfl
theorem q399 : (Jvm.Cond.laysStatic "java/lang/Integer" "DigitOnes" "[B") ∈ lw_tbl := lw_at lw_m2 52 rfl
theorem q400 : (Jvm.Cond.fieldLink "java/lang/Integer" (87 : Nat) "java/lang/Integer" "DigitTens" "[B") ∈ lw_all := lw_g (lw_at lw_m2 53 rfl) rfl
theorem q401 : (Jvm.Cond.laysStatic "java/lang/Integer" "DigitTens" "[B") ∈ lw_tbl := lw_at lw_m2 54 rfl
theorem q842 : (Jvm.Cond.static ({ cls := "java/lang/Integer", name := "compare", desc := "(II)I" } : Jvm.MethodName)) ∈ lw_all := lw_g (lw_at lw_m4 15 rfl) rfl
theorem q843 : (Jvm.Cond.code ({ cls := "java/lang/Integer", name := "compare", desc := "(II)I" } : Jvm.MethodName) prog_33_method_40_code (2 : Nat) (Option.some Jvm.ClassFile.FieldType.int)) ∈ lw_all := lw_g (lw_at lw_m4 16 rfl) rfl
theorem q1135 : (Jvm.Cond.selects "java/lang/Integer" ({ cls := "java/lang/Object", name := "getClass", desc := "()Ljava/lang/Class;" } : Jvm.MethodName) ({ cls := "java/lang/Object", name := "getClass", desc := "()Ljava/lang/Class;" } : Jvm.MethodName)) ∈ lw_all := lw_g (lw_at lw_m5 68 rfl) rfl
theorem q1300 : (Jvm.Cond.selects "java/lang/Integer" ({ cls := "java/lang/Object", name := "hashCode", desc := "()I" } : Jvm.MethodName) ({ cls := "java/lang/Integer", name := "hashCode", desc := "()I" } : Jvm.MethodName)) ∈ lw_all := lw_g (lw_at lw_m5 233 rfl) rfl
theorem q1301 : (Jvm.Cond.instanceMethod ({ cls := "java/lang/Integer", name := "hashCode", desc := "()I" } : Jvm.MethodName)) ∈ lw_all := lw_g (lw_at lw_m5 234 rfl) rfl
theorem q1302 : (Jvm.Cond.code ({ cls := "java/lang/Integer", name := "hashCode", desc := "()I" } : Jvm.MethodName) prog_33_method_32_code (1 : Nat) (Option.some Jvm.ClassFile.FieldType.int)) ∈ lw_all := lw_g (lw_at lw_m5 235 rfl) rfl
theorem q1303 : (Jvm.Cond.methodLink "java/lang/Integer" (208 : Nat) ({ cls := "java/lang/Integer", name := "hashCode", desc := "(I)I" } : Jvm.MethodName)) ∈ lw_all := lw_g (lw_at lw_m5 236 rfl) rfl
theorem q1304 : (Jvm.Cond.static ({ cls := "java/lang/Integer", name := "hashCode", desc := "(I)I" } : Jvm.MethodName)) ∈ lw_all := lw_g (lw_at lw_m5 237 rfl) rfl
theorem q1305 : (Jvm.Cond.code ({ cls := "java/lang/Integer", name := "hashCode", desc := "(I)I" } : Jvm.MethodName) prog_33_method_33_code (1 : Nat) (Option.some Jvm.ClassFile.FieldType.int)) ∈ lw_all := lw_g (lw_at lw_m5 238 rfl) rfl
theorem q1398 : (Jvm.Cond.selects "java/lang/Integer" ({ cls := "java/lang/Object", name := "equals", desc := "(Ljava/lang/Object;)Z" } : Jvm.MethodName) ({ cls := "java/lang/Integer", name := "equals", desc := "(Ljava/lang/Object;)Z" } : Jvm.MethodName)) ∈ lw_all := lw_g (lw_at lw_m6 91 rfl) rfl
theorem q1399 : (Jvm.Cond.instanceMethod ({ cls := "java/lang/Integer", name := "equals", desc := "(Ljava/lang/Object;)Z" } : Jvm.MethodName)) ∈ lw_all := lw_g (lw_at lw_m6 92 rfl) rfl
theorem q1400 : (Jvm.Cond.code ({ cls := "java/lang/Integer", name := "equals", desc := "(Ljava/lang/Object;)Z" } : Jvm.MethodName) prog_33_method_34_code (2 : Nat) (Option.some Jvm.ClassFile.FieldType.boolean)) ∈ lw_all := lw_g (lw_at lw_m6 93 rfl) rfl
theorem q1401 : (Jvm.Cond.classLink "java/lang/Integer" (1 : Nat) "java/lang/Integer") ∈ lw_all := lw_g (lw_at lw_m6 94 rfl) rfl
theorem q1402 : (Jvm.Cond.methodLink "java/lang/Integer" (211 : Nat) ({ cls := "java/lang/Integer", name := "intValue", desc := "()I" } : Jvm.MethodName)) ∈ lw_all := lw_g (lw_at lw_m6 95 rfl) rfl
theorem q1403 : (Jvm.Cond.instanceMethod ({ cls := "java/lang/Integer", name := "intValue", desc := "()I" } : Jvm.MethodName)) ∈ lw_all := lw_g (lw_at lw_m6 96 rfl) rfl
theorem q1404 : (Jvm.Cond.selects "java/lang/Integer" ({ cls := "java/lang/Integer", name := "intValue", desc := "()I" } : Jvm.MethodName) ({ cls := "java/lang/Integer", name := "intValue", desc := "()I" } : Jvm.MethodName)) ∈ lw_all := lw_g (lw_at lw_m6 97 rfl) rfl
theorem q1405 : (Jvm.Cond.code ({ cls := "java/lang/Integer", name := "intValue", desc := "()I" } : Jvm.MethodName) prog_33_method_27_code (1 : Nat) (Option.some Jvm.ClassFile.FieldType.int)) ∈ lw_all := lw_g (lw_at lw_m6 98 rfl) rfl
theorem q1458 : (Jvm.Cond.castable "java/lang/Integer" "java/lang/Comparable") ∈ lw_tbl := lw_at lw_m6 151 rfl
theorem q1459 : (Jvm.Cond.selects "java/lang/Integer" ({ cls := "java/lang/Comparable", name := "compareTo", desc := "(Ljava/lang/Object;)I" } : Jvm.MethodName) ({ cls := "java/lang/Integer", name := "compareTo", desc := "(Ljava/lang/Object;)I" } : Jvm.MethodName)) ∈ lw_all := lw_g (lw_at lw_m6 152 rfl) rfl
theorem q1460 : (Jvm.Cond.unhidden "java/lang/Integer" "compareTo" "(Ljava/lang/Object;)I") ∈ lw_tbl := lw_at lw_m6 153 rfl
theorem q1461 : (Jvm.Cond.instanceMethod ({ cls := "java/lang/Integer", name := "compareTo", desc := "(Ljava/lang/Object;)I" } : Jvm.MethodName)) ∈ lw_all := lw_g (lw_at lw_m6 154 rfl) rfl
theorem q1462 : (Jvm.Cond.publicMethod ({ cls := "java/lang/Integer", name := "compareTo", desc := "(Ljava/lang/Object;)I" } : Jvm.MethodName)) ∈ lw_tbl := lw_at lw_m6 155 rfl
theorem q1463 : (Jvm.Cond.code ({ cls := "java/lang/Integer", name := "compareTo", desc := "(Ljava/lang/Object;)I" } : Jvm.MethodName) prog_33_method_63_code (2 : Nat) (Option.some Jvm.ClassFile.FieldType.int)) ∈ lw_all := lw_g (lw_at lw_m6 156 rfl) rfl
theorem q1464 : (Jvm.Cond.methodLink "java/lang/Integer" (284 : Nat) ({ cls := "java/lang/Integer", name := "compareTo", desc := "(Ljava/lang/Integer;)I" } : Jvm.MethodName)) ∈ lw_all := lw_g (lw_at lw_m6 157 rfl) rfl
theorem q1465 : (Jvm.Cond.instanceMethod ({ cls := "java/lang/Integer", name := "compareTo", desc := "(Ljava/lang/Integer;)I" } : Jvm.MethodName)) ∈ lw_all := lw_g (lw_at lw_m6 158 rfl) rfl
theorem q1466 : (Jvm.Cond.selects "java/lang/Integer" ({ cls := "java/lang/Integer", name := "compareTo", desc := "(Ljava/lang/Integer;)I" } : Jvm.MethodName) ({ cls := "java/lang/Integer", name := "compareTo", desc := "(Ljava/lang/Integer;)I" } : Jvm.MethodName)) ∈ lw_all := lw_g (lw_at lw_m6 159 rfl) rfl
theorem q1467 : (Jvm.Cond.code ({ cls := "java/lang/Integer", name := "compareTo", desc := "(Ljava/lang/Integer;)I" } : Jvm.MethodName) prog_33_method_39_code (2 : Nat) (Option.some Jvm.ClassFile.FieldType.int)) ∈ lw_all := lw_g (lw_at lw_m6 160 rfl) rfl
theorem q1468 : (Jvm.Cond.methodLink "java/lang/Integer" (259 : Nat) ({ cls := "java/lang/Integer", name := "compare", desc := "(II)I" } : Jvm.MethodName)) ∈ lw_all := lw_g (lw_at lw_m6 161 rfl) rfl
theorem q1557 : (Jvm.Cond.static ({ cls := "java/lang/Integer", name := "numberOfLeadingZeros", desc := "(I)I" } : Jvm.MethodName)) ∈ lw_all := lw_g (lw_at lw_m7 10 rfl) rfl
theorem q1558 : (Jvm.Cond.code ({ cls := "java/lang/Integer", name := "numberOfLeadingZeros", desc := "(I)I" } : Jvm.MethodName) prog_33_method_47_code (2 : Nat) (Option.some Jvm.ClassFile.FieldType.int)) ∈ lw_all := lw_g (lw_at lw_m7 11 rfl) rfl
theorem q1559 : (Jvm.Cond.constant "java/lang/Integer" (264 : Nat) (65536 : Int32)) ∈ lw_all := lw_g (lw_at lw_m7 12 rfl) rfl
theorem q1566 : (Jvm.Cond.static ({ cls := "java/lang/Integer", name := "numberOfTrailingZeros", desc := "(I)I" } : Jvm.MethodName)) ∈ lw_all := lw_g (lw_at lw_m7 19 rfl) rfl
theorem q1567 : (Jvm.Cond.code ({ cls := "java/lang/Integer", name := "numberOfTrailingZeros", desc := "(I)I" } : Jvm.MethodName) prog_33_method_48_code (2 : Nat) (Option.some Jvm.ClassFile.FieldType.int)) ∈ lw_all := lw_g (lw_at lw_m7 20 rfl) rfl
theorem q2605 : (Jvm.Cond.static ({ cls := "java/lang/Integer", name := "valueOf", desc := "(I)Ljava/lang/Integer;" } : Jvm.MethodName)) ∈ lw_all := lw_g (lw_at lw_m11 98 rfl) rfl
theorem q2606 : (Jvm.Cond.code ({ cls := "java/lang/Integer", name := "valueOf", desc := "(I)Ljava/lang/Integer;" } : Jvm.MethodName) prog_33_method_22_code (1 : Nat) (Option.some (Jvm.ClassFile.FieldType.object "java/lang/Integer"))) ∈ lw_all := lw_g (lw_at lw_m11 99 rfl) rfl
theorem q2607 : (Jvm.Cond.fieldLink "java/lang/Integer" (191 : Nat) "java/lang/Integer$IntegerCache" "high" "I") ∈ lw_all := lw_g (lw_at lw_m11 100 rfl) rfl
theorem q2609 : (Jvm.Cond.fieldLink "java/lang/Integer" (195 : Nat) "java/lang/Integer$IntegerCache" "cache" "[Ljava/lang/Integer;") ∈ lw_all := lw_g (lw_at lw_m11 102 rfl) rfl
theorem q2611 : (Jvm.Cond.instantiable "java/lang/Integer" (1 : Nat)) ∈ lw_all := lw_g (lw_at lw_m11 104 rfl) rfl
theorem q2612 : (Jvm.Cond.methodLink "java/lang/Integer" (199 : Nat) ({ cls := "java/lang/Integer", name := "<init>", desc := "(I)V" } : Jvm.MethodName)) ∈ lw_all := lw_g (lw_at lw_m11 105 rfl) rfl
theorem q2613 : (Jvm.Cond.instanceMethod ({ cls := "java/lang/Integer", name := "<init>", desc := "(I)V" } : Jvm.MethodName)) ∈ lw_all := lw_g (lw_at lw_m11 106 rfl) rfl
theorem q2614 : (Jvm.Cond.code ({ cls := "java/lang/Integer", name := "<init>", desc := "(I)V" } : Jvm.MethodName) prog_33_method_23_code (2 : Nat) (Option.none : Option Jvm.ClassFile.FieldType)) ∈ lw_all := lw_g (lw_at lw_m11 107 rfl) rfl
theorem q2615 : (Jvm.Cond.methodLink "java/lang/Integer" (202 : Nat) ({ cls := "java/lang/Number", name := "<init>", desc := "()V" } : Jvm.MethodName)) ∈ lw_all := lw_g (lw_at lw_m11 108 rfl) rfl
theorem q2619 : (Jvm.Cond.fieldLink "java/lang/Integer" (205 : Nat) "java/lang/Integer" "value" "I") ∈ lw_all := lw_g (lw_at lw_m11 112 rfl) rfl
theorem q2620 : (Jvm.Cond.laysFinal "java/lang/Integer" "java/lang/Integer" "value" "I") ∈ lw_all := lw_g (lw_at lw_m11 113 rfl) rfl
theorem q2621 : (Jvm.Cond.soleField "java/lang/Integer" "value") ∈ lw_all := lw_g (lw_at lw_m11 114 rfl) rfl
theorem q2622 : (Jvm.Cond.superclass "java/lang/Integer" "java/lang/Number") ∈ lw_all := lw_g (lw_at lw_m11 115 rfl) rfl
theorem q3323 : (Jvm.Cond.castable "java/lang/Integer" "java/lang/Object") ∈ lw_tbl := lw_at lw_m14 96 rfl
theorem in_J17 : ∀ w ∈ wsJ170, w ∈ lw_all := lw_in wsJ170 [2620] (by decide +kernel) (by decide +kernel)

/-! java/util/AbstractMap -/
set_option maxRecDepth 100000
def RJ18 : String := "java/util/AbstractMap"
abbrev cJ18_init : ByteArray := prog_52_method_1_code
def yJ18_init : MethodName := ⟨RJ18, "<init>", "()V"⟩
theorem dJ18_init_0 : decode cJ18_init 0 = .ok (.aload_n 0, 1) := by decide +kernel
theorem dJ18_init_1 : decode cJ18_init 1 = .ok (.invokespecial 1, 3) := by decide +kernel
theorem dJ18_init_4 : decode cJ18_init 4 = .ok (.return_, 1) := by decide +kernel
theorem q130 : (Jvm.Cond.initialized "java/util/AbstractMap") ∈ lw_all := lw_g (lw_at lw_m1 23 rfl) rfl
theorem q569 : (Jvm.Cond.instanceMethod ({ cls := "java/util/AbstractMap", name := "<init>", desc := "()V" } : Jvm.MethodName)) ∈ lw_all := lw_g (lw_at lw_m2 222 rfl) rfl
theorem q570 : (Jvm.Cond.code ({ cls := "java/util/AbstractMap", name := "<init>", desc := "()V" } : Jvm.MethodName) prog_52_method_1_code (1 : Nat) (Option.none : Option Jvm.ClassFile.FieldType)) ∈ lw_all := lw_g (lw_at lw_m2 223 rfl) rfl
theorem q571 : (Jvm.Cond.methodLink "java/util/AbstractMap" (1 : Nat) ({ cls := "java/lang/Object", name := "<init>", desc := "()V" } : Jvm.MethodName)) ∈ lw_all := lw_g (lw_at lw_m2 224 rfl) rfl
theorem q605 : (Jvm.Cond.soleField "java/util/AbstractMap" "keySet") ∈ lw_all := lw_g (lw_at lw_m3 18 rfl) rfl
theorem q607 : (Jvm.Cond.soleField "java/util/AbstractMap" "values") ∈ lw_all := lw_g (lw_at lw_m3 20 rfl) rfl

/-! java/util/HashMap -/
set_option maxRecDepth 100000
def RJ19 : String := "java/util/HashMap"
def TJ19 : u_T := fun k => match k with
  | 0 => ("java/util/AbstractMap", "keySet", "Ljava/util/Set;", false)
  | 1 => ("java/util/AbstractMap", "values", "Ljava/util/Collection;", false)
  | 2 => ("java/util/HashMap", "table", "[Ljava/util/HashMap$Node;", false)
  | 3 => ("java/util/HashMap", "entrySet", "Ljava/util/Set;", false)
  | 4 => ("java/util/HashMap", "size", "I", false)
  | 5 => ("java/util/HashMap", "modCount", "I", false)
  | 6 => ("java/util/HashMap", "threshold", "I", false)
  | _ => ("java/util/HashMap", "loadFactor", "F", true)
def tyJ19 : Nat → FieldType := fun k => match k with
  | 0 => .object "java/util/Set"
  | 1 => .object "java/util/Collection"
  | 2 => .array (.object "java/util/HashMap$Node")
  | 3 => .object "java/util/Set"
  | 4 => .int
  | 5 => .int
  | 6 => .int
  | _ => .float
abbrev wsJ190 : List Cond := u_ws RJ19 TJ19 8
theorem nmJ19 : ∀ a, a < 8 → ∀ b, b < 8 → a ≠ b → (TJ19 a).2.1 ≠ (TJ19 b).2.1 := by decide +kernel
theorem tyJ19_ok : ∀ k, k < 8 → parseFieldDescriptor (TJ19 k).2.2.1 = some (tyJ19 k) := by decide +kernel
abbrev cJ19_init : ByteArray := prog_59_method_7_code
def yJ19_init : MethodName := ⟨RJ19, "<init>", "()V"⟩
def dkwJ19_init_0 : List UInt8 := [42, 183, 0, 43, 42, 18, 92, 181, 0, 81, 177]
abbrev dktJ19_init_0 : List UInt8 := dkwJ19_init_0 ++ []
theorem dksJ19_init_0 : cJ19_init.data.toList.drop 0 = dktJ19_init_0 := by decide +kernel
theorem dJ19_init_0 : decode cJ19_init 0 = .ok (.aload_n 0, 1) := dk_42 (dk_at dksJ19_init_0 0 rfl rfl)
theorem dJ19_init_1 : decode cJ19_init 1 = .ok (.invokespecial 43, 3) := dk_183 0 43 (dk_at dksJ19_init_0 1 rfl rfl)
theorem dJ19_init_4 : decode cJ19_init 4 = .ok (.aload_n 0, 1) := dk_42 (dk_at dksJ19_init_0 4 rfl rfl)
theorem dJ19_init_5 : decode cJ19_init 5 = .ok (.ldc 92, 2) := dk_18 92 (dk_at dksJ19_init_0 5 rfl rfl)
theorem dJ19_init_7 : decode cJ19_init 7 = .ok (.putfield 81, 3) := dk_181 0 81 (dk_at dksJ19_init_0 7 rfl rfl)
theorem dJ19_init_10 : decode cJ19_init 10 = .ok (.return_, 1) := dk_177 (dk_at dksJ19_init_0 10 rfl rfl)
abbrev cJ19_containsKey : ByteArray := prog_59_method_14_code
def yJ19_containsKey : MethodName := ⟨RJ19, "containsKey", "(Ljava/lang/Object;)Z"⟩
def dkwJ19_containsKey_0 : List UInt8 := [42, 43, 182, 0, 158, 198, 0, 7, 4, 167, 0, 4, 3, 172]
abbrev dktJ19_containsKey_0 : List UInt8 := dkwJ19_containsKey_0 ++ []
theorem dksJ19_containsKey_0 : cJ19_containsKey.data.toList.drop 0 = dktJ19_containsKey_0 := by decide +kernel
theorem dJ19_containsKey_0 : decode cJ19_containsKey 0 = .ok (.aload_n 0, 1) := dk_42 (dk_at dksJ19_containsKey_0 0 rfl rfl)
theorem dJ19_containsKey_1 : decode cJ19_containsKey 1 = .ok (.aload_n 1, 1) := dk_43 (dk_at dksJ19_containsKey_0 1 rfl rfl)
theorem dJ19_containsKey_2 : decode cJ19_containsKey 2 = .ok (.invokevirtual 158, 3) := dk_182 0 158 (dk_at dksJ19_containsKey_0 2 rfl rfl)
theorem dJ19_containsKey_5 : decode cJ19_containsKey 5 = .ok (.ifnull 7, 3) := dk_198 0 7 (dk_at dksJ19_containsKey_0 5 rfl rfl)
theorem dJ19_containsKey_8 : decode cJ19_containsKey 8 = .ok (.iconst 1, 1) := dk_4 (dk_at dksJ19_containsKey_0 8 rfl rfl)
theorem dJ19_containsKey_9 : decode cJ19_containsKey 9 = .ok (.goto 4, 3) := dk_167 0 4 (dk_at dksJ19_containsKey_0 9 rfl rfl)
theorem dJ19_containsKey_12 : decode cJ19_containsKey 12 = .ok (.iconst 0, 1) := dk_3 (dk_at dksJ19_containsKey_0 12 rfl rfl)
theorem dJ19_containsKey_13 : decode cJ19_containsKey 13 = .ok (.ireturn, 1) := dk_172 (dk_at dksJ19_containsKey_0 13 rfl rfl)
abbrev cJ19_getNode : ByteArray := prog_59_method_13_code
def yJ19_getNode : MethodName := ⟨RJ19, "getNode", "(Ljava/lang/Object;)Ljava/util/HashMap$Node;"⟩
def dkwJ19_getNode_6 : List UInt8 := [89, 58, 4, 199, 255, 210, 1, 176]
abbrev dktJ19_getNode_6 : List UInt8 := dkwJ19_getNode_6 ++ []
def dkwJ19_getNode_5 : List UInt8 := [165, 0, 16, 43, 198, 0, 15, 43, 25, 7, 182, 0, 173, 153, 0, 6, 25, 4, 176, 25, 4, 180, 0, 177]
abbrev dktJ19_getNode_5 : List UInt8 := dkwJ19_getNode_5 ++ dktJ19_getNode_6
def dkwJ19_getNode_4 : List UInt8 := [43, 182, 0, 182, 176, 25, 4, 180, 0, 168, 21, 6, 160, 0, 31, 25, 4, 180, 0, 170, 89, 58, 7, 43]
abbrev dktJ19_getNode_4 : List UInt8 := dkwJ19_getNode_4 ++ dktJ19_getNode_5
def dkwJ19_getNode_3 : List UInt8 := [176, 45, 180, 0, 177, 89, 58, 4, 198, 0, 70, 45, 193, 0, 180, 153, 0, 14, 45, 192, 0, 180, 21, 6]
abbrev dktJ19_getNode_3 : List UInt8 := dkwJ19_getNode_3 ++ dktJ19_getNode_4
def dkwJ19_getNode_2 : List UInt8 := [180, 0, 170, 89, 58, 7, 43, 165, 0, 16, 43, 198, 0, 14, 43, 25, 7, 182, 0, 173, 153, 0, 5, 45]
abbrev dktJ19_getNode_2 : List UInt8 := dkwJ19_getNode_2 ++ dktJ19_getNode_3
def dkwJ19_getNode_1 : List UInt8 := [184, 0, 149, 89, 54, 6, 126, 50, 89, 78, 198, 0, 115, 45, 180, 0, 168, 21, 6, 160, 0, 29, 45]
abbrev dktJ19_getNode_1 : List UInt8 := dkwJ19_getNode_1 ++ dktJ19_getNode_2
def dkwJ19_getNode_0 : List UInt8 := [42, 180, 0, 105, 89, 77, 198, 0, 142, 44, 190, 89, 54, 5, 158, 0, 134, 44, 21, 5, 4, 100, 43]
abbrev dktJ19_getNode_0 : List UInt8 := dkwJ19_getNode_0 ++ dktJ19_getNode_1
theorem dksJ19_getNode_0 : cJ19_getNode.data.toList.drop 0 = dktJ19_getNode_0 := by decide +kernel
theorem dksJ19_getNode_1 : cJ19_getNode.data.toList.drop 23 = dktJ19_getNode_1 := dk_seg dksJ19_getNode_0 23 rfl rfl
theorem dksJ19_getNode_2 : cJ19_getNode.data.toList.drop 46 = dktJ19_getNode_2 := dk_seg dksJ19_getNode_1 23 rfl rfl
theorem dksJ19_getNode_3 : cJ19_getNode.data.toList.drop 70 = dktJ19_getNode_3 := dk_seg dksJ19_getNode_2 24 rfl rfl
theorem dksJ19_getNode_4 : cJ19_getNode.data.toList.drop 94 = dktJ19_getNode_4 := dk_seg dksJ19_getNode_3 24 rfl rfl
theorem dksJ19_getNode_5 : cJ19_getNode.data.toList.drop 118 = dktJ19_getNode_5 := dk_seg dksJ19_getNode_4 24 rfl rfl
theorem dksJ19_getNode_6 : cJ19_getNode.data.toList.drop 142 = dktJ19_getNode_6 := dk_seg dksJ19_getNode_5 24 rfl rfl
theorem dJ19_getNode_0 : decode cJ19_getNode 0 = .ok (.aload_n 0, 1) := dk_42 (dk_at dksJ19_getNode_0 0 rfl rfl)
theorem dJ19_getNode_1 : decode cJ19_getNode 1 = .ok (.getfield 105, 3) := dk_180 0 105 (dk_at dksJ19_getNode_0 1 rfl rfl)
theorem dJ19_getNode_4 : decode cJ19_getNode 4 = .ok (.dup, 1) := dk_89 (dk_at dksJ19_getNode_0 4 rfl rfl)
theorem dJ19_getNode_5 : decode cJ19_getNode 5 = .ok (.astore_n 2, 1) := dk_77 (dk_at dksJ19_getNode_0 5 rfl rfl)
theorem dJ19_getNode_6 : decode cJ19_getNode 6 = .ok (.ifnull 142, 3) := dk_198 0 142 (dk_at dksJ19_getNode_0 6 rfl rfl)
theorem dJ19_getNode_9 : decode cJ19_getNode 9 = .ok (.aload_n 2, 1) := dk_44 (dk_at dksJ19_getNode_0 9 rfl rfl)
theorem dJ19_getNode_10 : decode cJ19_getNode 10 = .ok (.arraylength, 1) := dk_190 (dk_at dksJ19_getNode_0 10 rfl rfl)
theorem dJ19_getNode_11 : decode cJ19_getNode 11 = .ok (.dup, 1) := dk_89 (dk_at dksJ19_getNode_0 11 rfl rfl)
theorem dJ19_getNode_12 : decode cJ19_getNode 12 = .ok (.istore 5, 2) := dk_54 5 (dk_at dksJ19_getNode_0 12 rfl rfl)
theorem dJ19_getNode_14 : decode cJ19_getNode 14 = .ok (.ifCond .le 134, 3) := dk_158 0 134 (dk_at dksJ19_getNode_0 14 rfl rfl)
theorem dJ19_getNode_17 : decode cJ19_getNode 17 = .ok (.aload_n 2, 1) := dk_44 (dk_at dksJ19_getNode_0 17 rfl rfl)
theorem dJ19_getNode_18 : decode cJ19_getNode 18 = .ok (.iload 5, 2) := dk_21 5 (dk_at dksJ19_getNode_0 18 rfl rfl)
theorem dJ19_getNode_20 : decode cJ19_getNode 20 = .ok (.iconst 1, 1) := dk_4 (dk_at dksJ19_getNode_0 20 rfl rfl)
theorem dJ19_getNode_21 : decode cJ19_getNode 21 = .ok (.isub, 1) := dk_100 (dk_at dksJ19_getNode_0 21 rfl rfl)
theorem dJ19_getNode_22 : decode cJ19_getNode 22 = .ok (.aload_n 1, 1) := dk_43 (dk_at dksJ19_getNode_0 22 rfl rfl)
theorem dJ19_getNode_23 : decode cJ19_getNode 23 = .ok (.invokestatic 149, 3) := dk_184 0 149 (dk_at dksJ19_getNode_1 0 rfl rfl)
theorem dJ19_getNode_26 : decode cJ19_getNode 26 = .ok (.dup, 1) := dk_89 (dk_at dksJ19_getNode_1 3 rfl rfl)
theorem dJ19_getNode_27 : decode cJ19_getNode 27 = .ok (.istore 6, 2) := dk_54 6 (dk_at dksJ19_getNode_1 4 rfl rfl)
theorem dJ19_getNode_29 : decode cJ19_getNode 29 = .ok (.iand, 1) := dk_126 (dk_at dksJ19_getNode_1 6 rfl rfl)
theorem dJ19_getNode_30 : decode cJ19_getNode 30 = .ok (.aaload, 1) := dk_50 (dk_at dksJ19_getNode_1 7 rfl rfl)
theorem dJ19_getNode_31 : decode cJ19_getNode 31 = .ok (.dup, 1) := dk_89 (dk_at dksJ19_getNode_1 8 rfl rfl)
theorem dJ19_getNode_32 : decode cJ19_getNode 32 = .ok (.astore_n 3, 1) := dk_78 (dk_at dksJ19_getNode_1 9 rfl rfl)
theorem dJ19_getNode_33 : decode cJ19_getNode 33 = .ok (.ifnull 115, 3) := dk_198 0 115 (dk_at dksJ19_getNode_1 10 rfl rfl)
theorem dJ19_getNode_36 : decode cJ19_getNode 36 = .ok (.aload_n 3, 1) := dk_45 (dk_at dksJ19_getNode_1 13 rfl rfl)
theorem dJ19_getNode_37 : decode cJ19_getNode 37 = .ok (.getfield 168, 3) := dk_180 0 168 (dk_at dksJ19_getNode_1 14 rfl rfl)
theorem dJ19_getNode_40 : decode cJ19_getNode 40 = .ok (.iload 6, 2) := dk_21 6 (dk_at dksJ19_getNode_1 17 rfl rfl)
theorem dJ19_getNode_42 : decode cJ19_getNode 42 = .ok (.if_icmp .ne 29, 3) := dk_160 0 29 (dk_at dksJ19_getNode_1 19 rfl rfl)
theorem dJ19_getNode_45 : decode cJ19_getNode 45 = .ok (.aload_n 3, 1) := dk_45 (dk_at dksJ19_getNode_1 22 rfl rfl)
theorem dJ19_getNode_46 : decode cJ19_getNode 46 = .ok (.getfield 170, 3) := dk_180 0 170 (dk_at dksJ19_getNode_2 0 rfl rfl)
theorem dJ19_getNode_49 : decode cJ19_getNode 49 = .ok (.dup, 1) := dk_89 (dk_at dksJ19_getNode_2 3 rfl rfl)
theorem dJ19_getNode_50 : decode cJ19_getNode 50 = .ok (.astore 7, 2) := dk_58 7 (dk_at dksJ19_getNode_2 4 rfl rfl)
theorem dJ19_getNode_52 : decode cJ19_getNode 52 = .ok (.aload_n 1, 1) := dk_43 (dk_at dksJ19_getNode_2 6 rfl rfl)
theorem dJ19_getNode_53 : decode cJ19_getNode 53 = .ok (.if_acmp .eq 16, 3) := dk_165 0 16 (dk_at dksJ19_getNode_2 7 rfl rfl)
theorem dJ19_getNode_56 : decode cJ19_getNode 56 = .ok (.aload_n 1, 1) := dk_43 (dk_at dksJ19_getNode_2 10 rfl rfl)
theorem dJ19_getNode_57 : decode cJ19_getNode 57 = .ok (.ifnull 14, 3) := dk_198 0 14 (dk_at dksJ19_getNode_2 11 rfl rfl)
theorem dJ19_getNode_60 : decode cJ19_getNode 60 = .ok (.aload_n 1, 1) := dk_43 (dk_at dksJ19_getNode_2 14 rfl rfl)
theorem dJ19_getNode_61 : decode cJ19_getNode 61 = .ok (.aload 7, 2) := dk_25 7 (dk_at dksJ19_getNode_2 15 rfl rfl)
theorem dJ19_getNode_63 : decode cJ19_getNode 63 = .ok (.invokevirtual 173, 3) := dk_182 0 173 (dk_at dksJ19_getNode_2 17 rfl rfl)
theorem dJ19_getNode_66 : decode cJ19_getNode 66 = .ok (.ifCond .eq 5, 3) := dk_153 0 5 (dk_at dksJ19_getNode_2 20 rfl rfl)
theorem dJ19_getNode_69 : decode cJ19_getNode 69 = .ok (.aload_n 3, 1) := dk_45 (dk_at dksJ19_getNode_2 23 rfl rfl)
theorem dJ19_getNode_70 : decode cJ19_getNode 70 = .ok (.areturn, 1) := dk_176 (dk_at dksJ19_getNode_3 0 rfl rfl)
theorem dJ19_getNode_71 : decode cJ19_getNode 71 = .ok (.aload_n 3, 1) := dk_45 (dk_at dksJ19_getNode_3 1 rfl rfl)
theorem dJ19_getNode_72 : decode cJ19_getNode 72 = .ok (.getfield 177, 3) := dk_180 0 177 (dk_at dksJ19_getNode_3 2 rfl rfl)
theorem dJ19_getNode_75 : decode cJ19_getNode 75 = .ok (.dup, 1) := dk_89 (dk_at dksJ19_getNode_3 5 rfl rfl)
theorem dJ19_getNode_76 : decode cJ19_getNode 76 = .ok (.astore 4, 2) := dk_58 4 (dk_at dksJ19_getNode_3 6 rfl rfl)
theorem dJ19_getNode_78 : decode cJ19_getNode 78 = .ok (.ifnull 70, 3) := dk_198 0 70 (dk_at dksJ19_getNode_3 8 rfl rfl)
theorem dJ19_getNode_81 : decode cJ19_getNode 81 = .ok (.aload_n 3, 1) := dk_45 (dk_at dksJ19_getNode_3 11 rfl rfl)
theorem dJ19_getNode_82 : decode cJ19_getNode 82 = .ok (.instanceof 180, 3) := dk_193 0 180 (dk_at dksJ19_getNode_3 12 rfl rfl)
theorem dJ19_getNode_85 : decode cJ19_getNode 85 = .ok (.ifCond .eq 14, 3) := dk_153 0 14 (dk_at dksJ19_getNode_3 15 rfl rfl)
theorem dJ19_getNode_88 : decode cJ19_getNode 88 = .ok (.aload_n 3, 1) := dk_45 (dk_at dksJ19_getNode_3 18 rfl rfl)
theorem dJ19_getNode_89 : decode cJ19_getNode 89 = .ok (.checkcast 180, 3) := dk_192 0 180 (dk_at dksJ19_getNode_3 19 rfl rfl)
theorem dJ19_getNode_92 : decode cJ19_getNode 92 = .ok (.iload 6, 2) := dk_21 6 (dk_at dksJ19_getNode_3 22 rfl rfl)
theorem dJ19_getNode_94 : decode cJ19_getNode 94 = .ok (.aload_n 1, 1) := dk_43 (dk_at dksJ19_getNode_4 0 rfl rfl)
theorem dJ19_getNode_95 : decode cJ19_getNode 95 = .ok (.invokevirtual 182, 3) := dk_182 0 182 (dk_at dksJ19_getNode_4 1 rfl rfl)
theorem dJ19_getNode_98 : decode cJ19_getNode 98 = .ok (.areturn, 1) := dk_176 (dk_at dksJ19_getNode_4 4 rfl rfl)
theorem dJ19_getNode_99 : decode cJ19_getNode 99 = .ok (.aload 4, 2) := dk_25 4 (dk_at dksJ19_getNode_4 5 rfl rfl)
theorem dJ19_getNode_101 : decode cJ19_getNode 101 = .ok (.getfield 168, 3) := dk_180 0 168 (dk_at dksJ19_getNode_4 7 rfl rfl)
theorem dJ19_getNode_104 : decode cJ19_getNode 104 = .ok (.iload 6, 2) := dk_21 6 (dk_at dksJ19_getNode_4 10 rfl rfl)
theorem dJ19_getNode_106 : decode cJ19_getNode 106 = .ok (.if_icmp .ne 31, 3) := dk_160 0 31 (dk_at dksJ19_getNode_4 12 rfl rfl)
theorem dJ19_getNode_109 : decode cJ19_getNode 109 = .ok (.aload 4, 2) := dk_25 4 (dk_at dksJ19_getNode_4 15 rfl rfl)
theorem dJ19_getNode_111 : decode cJ19_getNode 111 = .ok (.getfield 170, 3) := dk_180 0 170 (dk_at dksJ19_getNode_4 17 rfl rfl)
theorem dJ19_getNode_114 : decode cJ19_getNode 114 = .ok (.dup, 1) := dk_89 (dk_at dksJ19_getNode_4 20 rfl rfl)
theorem dJ19_getNode_115 : decode cJ19_getNode 115 = .ok (.astore 7, 2) := dk_58 7 (dk_at dksJ19_getNode_4 21 rfl rfl)
theorem dJ19_getNode_117 : decode cJ19_getNode 117 = .ok (.aload_n 1, 1) := dk_43 (dk_at dksJ19_getNode_4 23 rfl rfl)
theorem dJ19_getNode_118 : decode cJ19_getNode 118 = .ok (.if_acmp .eq 16, 3) := dk_165 0 16 (dk_at dksJ19_getNode_5 0 rfl rfl)
theorem dJ19_getNode_121 : decode cJ19_getNode 121 = .ok (.aload_n 1, 1) := dk_43 (dk_at dksJ19_getNode_5 3 rfl rfl)
theorem dJ19_getNode_122 : decode cJ19_getNode 122 = .ok (.ifnull 15, 3) := dk_198 0 15 (dk_at dksJ19_getNode_5 4 rfl rfl)
theorem dJ19_getNode_125 : decode cJ19_getNode 125 = .ok (.aload_n 1, 1) := dk_43 (dk_at dksJ19_getNode_5 7 rfl rfl)
theorem dJ19_getNode_126 : decode cJ19_getNode 126 = .ok (.aload 7, 2) := dk_25 7 (dk_at dksJ19_getNode_5 8 rfl rfl)
theorem dJ19_getNode_128 : decode cJ19_getNode 128 = .ok (.invokevirtual 173, 3) := dk_182 0 173 (dk_at dksJ19_getNode_5 10 rfl rfl)
theorem dJ19_getNode_131 : decode cJ19_getNode 131 = .ok (.ifCond .eq 6, 3) := dk_153 0 6 (dk_at dksJ19_getNode_5 13 rfl rfl)
theorem dJ19_getNode_134 : decode cJ19_getNode 134 = .ok (.aload 4, 2) := dk_25 4 (dk_at dksJ19_getNode_5 16 rfl rfl)
theorem dJ19_getNode_136 : decode cJ19_getNode 136 = .ok (.areturn, 1) := dk_176 (dk_at dksJ19_getNode_5 18 rfl rfl)
theorem dJ19_getNode_137 : decode cJ19_getNode 137 = .ok (.aload 4, 2) := dk_25 4 (dk_at dksJ19_getNode_5 19 rfl rfl)
theorem dJ19_getNode_139 : decode cJ19_getNode 139 = .ok (.getfield 177, 3) := dk_180 0 177 (dk_at dksJ19_getNode_5 21 rfl rfl)
theorem dJ19_getNode_142 : decode cJ19_getNode 142 = .ok (.dup, 1) := dk_89 (dk_at dksJ19_getNode_6 0 rfl rfl)
theorem dJ19_getNode_143 : decode cJ19_getNode 143 = .ok (.astore 4, 2) := dk_58 4 (dk_at dksJ19_getNode_6 1 rfl rfl)
theorem dJ19_getNode_145 : decode cJ19_getNode 145 = .ok (.ifnonnull (-46), 3) := dk_199 255 210 (dk_at dksJ19_getNode_6 3 rfl rfl)
theorem dJ19_getNode_148 : decode cJ19_getNode 148 = .ok (.aconst_null, 1) := dk_1 (dk_at dksJ19_getNode_6 6 rfl rfl)
theorem dJ19_getNode_149 : decode cJ19_getNode 149 = .ok (.areturn, 1) := dk_176 (dk_at dksJ19_getNode_6 7 rfl rfl)
abbrev cJ19_hash : ByteArray := prog_59_method_1_code
def yJ19_hash : MethodName := ⟨RJ19, "hash", "(Ljava/lang/Object;)I"⟩
def dkwJ19_hash_0 : List UInt8 := [42, 199, 0, 7, 3, 167, 0, 14, 42, 182, 0, 1, 89, 60, 27, 16, 16, 124, 130, 172]
abbrev dktJ19_hash_0 : List UInt8 := dkwJ19_hash_0 ++ []
theorem dksJ19_hash_0 : cJ19_hash.data.toList.drop 0 = dktJ19_hash_0 := by decide +kernel
theorem dJ19_hash_0 : decode cJ19_hash 0 = .ok (.aload_n 0, 1) := dk_42 (dk_at dksJ19_hash_0 0 rfl rfl)
theorem dJ19_hash_1 : decode cJ19_hash 1 = .ok (.ifnonnull 7, 3) := dk_199 0 7 (dk_at dksJ19_hash_0 1 rfl rfl)
theorem dJ19_hash_4 : decode cJ19_hash 4 = .ok (.iconst 0, 1) := dk_3 (dk_at dksJ19_hash_0 4 rfl rfl)
theorem dJ19_hash_5 : decode cJ19_hash 5 = .ok (.goto 14, 3) := dk_167 0 14 (dk_at dksJ19_hash_0 5 rfl rfl)
theorem dJ19_hash_8 : decode cJ19_hash 8 = .ok (.aload_n 0, 1) := dk_42 (dk_at dksJ19_hash_0 8 rfl rfl)
theorem dJ19_hash_9 : decode cJ19_hash 9 = .ok (.invokevirtual 1, 3) := dk_182 0 1 (dk_at dksJ19_hash_0 9 rfl rfl)
theorem dJ19_hash_12 : decode cJ19_hash 12 = .ok (.dup, 1) := dk_89 (dk_at dksJ19_hash_0 12 rfl rfl)
theorem dJ19_hash_13 : decode cJ19_hash 13 = .ok (.istore_n 1, 1) := dk_60 (dk_at dksJ19_hash_0 13 rfl rfl)
theorem dJ19_hash_14 : decode cJ19_hash 14 = .ok (.iload_n 1, 1) := dk_27 (dk_at dksJ19_hash_0 14 rfl rfl)
theorem dJ19_hash_15 : decode cJ19_hash 15 = .ok (.bipush 16, 2) := dk_16 16 (dk_at dksJ19_hash_0 15 rfl rfl)
theorem dJ19_hash_17 : decode cJ19_hash 17 = .ok (.iushr, 1) := dk_124 (dk_at dksJ19_hash_0 17 rfl rfl)
theorem dJ19_hash_18 : decode cJ19_hash 18 = .ok (.ixor, 1) := dk_130 (dk_at dksJ19_hash_0 18 rfl rfl)
theorem dJ19_hash_19 : decode cJ19_hash 19 = .ok (.ireturn, 1) := dk_172 (dk_at dksJ19_hash_0 19 rfl rfl)
abbrev cJ19_comparableClassFor : ByteArray := prog_59_method_2_code
def yJ19_comparableClassFor : MethodName := ⟨RJ19, "comparableClassFor", "(Ljava/lang/Object;)Ljava/lang/Class;"⟩
def dkwJ19_comparableClassFor_4 : List UInt8 := [4, 160, 0, 12, 45, 3, 50, 43, 166, 0, 5, 43, 176, 132, 7, 1, 167, 255, 186, 1, 176]
abbrev dktJ19_comparableClassFor_4 : List UInt8 := dkwJ19_comparableClassFor_4 ++ []
def dkwJ19_comparableClassFor_3 : List UInt8 := [185, 0, 23, 1, 0, 18, 7, 166, 0, 30, 25, 4, 185, 0, 27, 1, 0, 89, 78, 198, 0, 18, 45, 190]
abbrev dktJ19_comparableClassFor_3 : List UInt8 := dkwJ19_comparableClassFor_3 ++ dktJ19_comparableClassFor_4
def dkwJ19_comparableClassFor_2 : List UInt8 := [25, 5, 21, 7, 50, 58, 8, 25, 8, 193, 0, 21, 153, 0, 48, 25, 8, 192, 0, 21, 89, 58, 4]
abbrev dktJ19_comparableClassFor_2 : List UInt8 := dkwJ19_comparableClassFor_2 ++ dktJ19_comparableClassFor_3
def dkwJ19_comparableClassFor_1 : List UInt8 := [89, 77, 198, 0, 87, 44, 58, 5, 25, 5, 190, 54, 6, 3, 54, 7, 21, 7, 21, 6, 162, 0, 69]
abbrev dktJ19_comparableClassFor_1 : List UInt8 := dkwJ19_comparableClassFor_1 ++ dktJ19_comparableClassFor_2
def dkwJ19_comparableClassFor_0 : List UInt8 := [42, 193, 0, 7, 153, 0, 109, 42, 182, 0, 9, 89, 76, 18, 13, 166, 0, 5, 43, 176, 43, 182, 0, 15]
abbrev dktJ19_comparableClassFor_0 : List UInt8 := dkwJ19_comparableClassFor_0 ++ dktJ19_comparableClassFor_1
theorem dksJ19_comparableClassFor_0 : cJ19_comparableClassFor.data.toList.drop 0 = dktJ19_comparableClassFor_0 := by decide +kernel
theorem dksJ19_comparableClassFor_1 : cJ19_comparableClassFor.data.toList.drop 24 = dktJ19_comparableClassFor_1 := dk_seg dksJ19_comparableClassFor_0 24 rfl rfl
theorem dksJ19_comparableClassFor_2 : cJ19_comparableClassFor.data.toList.drop 47 = dktJ19_comparableClassFor_2 := dk_seg dksJ19_comparableClassFor_1 23 rfl rfl
theorem dksJ19_comparableClassFor_3 : cJ19_comparableClassFor.data.toList.drop 70 = dktJ19_comparableClassFor_3 := dk_seg dksJ19_comparableClassFor_2 23 rfl rfl
theorem dksJ19_comparableClassFor_4 : cJ19_comparableClassFor.data.toList.drop 94 = dktJ19_comparableClassFor_4 := dk_seg dksJ19_comparableClassFor_3 24 rfl rfl
theorem dJ19_comparableClassFor_0 : decode cJ19_comparableClassFor 0 = .ok (.aload_n 0, 1) := dk_42 (dk_at dksJ19_comparableClassFor_0 0 rfl rfl)
theorem dJ19_comparableClassFor_1 : decode cJ19_comparableClassFor 1 = .ok (.instanceof 7, 3) := dk_193 0 7 (dk_at dksJ19_comparableClassFor_0 1 rfl rfl)
theorem dJ19_comparableClassFor_4 : decode cJ19_comparableClassFor 4 = .ok (.ifCond .eq 109, 3) := dk_153 0 109 (dk_at dksJ19_comparableClassFor_0 4 rfl rfl)
theorem dJ19_comparableClassFor_7 : decode cJ19_comparableClassFor 7 = .ok (.aload_n 0, 1) := dk_42 (dk_at dksJ19_comparableClassFor_0 7 rfl rfl)
theorem dJ19_comparableClassFor_8 : decode cJ19_comparableClassFor 8 = .ok (.invokevirtual 9, 3) := dk_182 0 9 (dk_at dksJ19_comparableClassFor_0 8 rfl rfl)
theorem dJ19_comparableClassFor_11 : decode cJ19_comparableClassFor 11 = .ok (.dup, 1) := dk_89 (dk_at dksJ19_comparableClassFor_0 11 rfl rfl)
theorem dJ19_comparableClassFor_12 : decode cJ19_comparableClassFor 12 = .ok (.astore_n 1, 1) := dk_76 (dk_at dksJ19_comparableClassFor_0 12 rfl rfl)
theorem dJ19_comparableClassFor_13 : decode cJ19_comparableClassFor 13 = .ok (.ldc 13, 2) := dk_18 13 (dk_at dksJ19_comparableClassFor_0 13 rfl rfl)
theorem dJ19_comparableClassFor_15 : decode cJ19_comparableClassFor 15 = .ok (.if_acmp .ne 5, 3) := dk_166 0 5 (dk_at dksJ19_comparableClassFor_0 15 rfl rfl)
theorem dJ19_comparableClassFor_18 : decode cJ19_comparableClassFor 18 = .ok (.aload_n 1, 1) := dk_43 (dk_at dksJ19_comparableClassFor_0 18 rfl rfl)
theorem dJ19_comparableClassFor_19 : decode cJ19_comparableClassFor 19 = .ok (.areturn, 1) := dk_176 (dk_at dksJ19_comparableClassFor_0 19 rfl rfl)
theorem dJ19_comparableClassFor_20 : decode cJ19_comparableClassFor 20 = .ok (.aload_n 1, 1) := dk_43 (dk_at dksJ19_comparableClassFor_0 20 rfl rfl)
theorem dJ19_comparableClassFor_21 : decode cJ19_comparableClassFor 21 = .ok (.invokevirtual 15, 3) := dk_182 0 15 (dk_at dksJ19_comparableClassFor_0 21 rfl rfl)
theorem dJ19_comparableClassFor_24 : decode cJ19_comparableClassFor 24 = .ok (.dup, 1) := dk_89 (dk_at dksJ19_comparableClassFor_1 0 rfl rfl)
theorem dJ19_comparableClassFor_25 : decode cJ19_comparableClassFor 25 = .ok (.astore_n 2, 1) := dk_77 (dk_at dksJ19_comparableClassFor_1 1 rfl rfl)
theorem dJ19_comparableClassFor_26 : decode cJ19_comparableClassFor 26 = .ok (.ifnull 87, 3) := dk_198 0 87 (dk_at dksJ19_comparableClassFor_1 2 rfl rfl)
theorem dJ19_comparableClassFor_29 : decode cJ19_comparableClassFor 29 = .ok (.aload_n 2, 1) := dk_44 (dk_at dksJ19_comparableClassFor_1 5 rfl rfl)
theorem dJ19_comparableClassFor_30 : decode cJ19_comparableClassFor 30 = .ok (.astore 5, 2) := dk_58 5 (dk_at dksJ19_comparableClassFor_1 6 rfl rfl)
theorem dJ19_comparableClassFor_32 : decode cJ19_comparableClassFor 32 = .ok (.aload 5, 2) := dk_25 5 (dk_at dksJ19_comparableClassFor_1 8 rfl rfl)
theorem dJ19_comparableClassFor_34 : decode cJ19_comparableClassFor 34 = .ok (.arraylength, 1) := dk_190 (dk_at dksJ19_comparableClassFor_1 10 rfl rfl)
theorem dJ19_comparableClassFor_35 : decode cJ19_comparableClassFor 35 = .ok (.istore 6, 2) := dk_54 6 (dk_at dksJ19_comparableClassFor_1 11 rfl rfl)
theorem dJ19_comparableClassFor_37 : decode cJ19_comparableClassFor 37 = .ok (.iconst 0, 1) := dk_3 (dk_at dksJ19_comparableClassFor_1 13 rfl rfl)
theorem dJ19_comparableClassFor_38 : decode cJ19_comparableClassFor 38 = .ok (.istore 7, 2) := dk_54 7 (dk_at dksJ19_comparableClassFor_1 14 rfl rfl)
theorem dJ19_comparableClassFor_40 : decode cJ19_comparableClassFor 40 = .ok (.iload 7, 2) := dk_21 7 (dk_at dksJ19_comparableClassFor_1 16 rfl rfl)
theorem dJ19_comparableClassFor_42 : decode cJ19_comparableClassFor 42 = .ok (.iload 6, 2) := dk_21 6 (dk_at dksJ19_comparableClassFor_1 18 rfl rfl)
theorem dJ19_comparableClassFor_44 : decode cJ19_comparableClassFor 44 = .ok (.if_icmp .ge 69, 3) := dk_162 0 69 (dk_at dksJ19_comparableClassFor_1 20 rfl rfl)
theorem dJ19_comparableClassFor_47 : decode cJ19_comparableClassFor 47 = .ok (.aload 5, 2) := dk_25 5 (dk_at dksJ19_comparableClassFor_2 0 rfl rfl)
theorem dJ19_comparableClassFor_49 : decode cJ19_comparableClassFor 49 = .ok (.iload 7, 2) := dk_21 7 (dk_at dksJ19_comparableClassFor_2 2 rfl rfl)
theorem dJ19_comparableClassFor_51 : decode cJ19_comparableClassFor 51 = .ok (.aaload, 1) := dk_50 (dk_at dksJ19_comparableClassFor_2 4 rfl rfl)
theorem dJ19_comparableClassFor_52 : decode cJ19_comparableClassFor 52 = .ok (.astore 8, 2) := dk_58 8 (dk_at dksJ19_comparableClassFor_2 5 rfl rfl)
theorem dJ19_comparableClassFor_54 : decode cJ19_comparableClassFor 54 = .ok (.aload 8, 2) := dk_25 8 (dk_at dksJ19_comparableClassFor_2 7 rfl rfl)
theorem dJ19_comparableClassFor_56 : decode cJ19_comparableClassFor 56 = .ok (.instanceof 21, 3) := dk_193 0 21 (dk_at dksJ19_comparableClassFor_2 9 rfl rfl)
theorem dJ19_comparableClassFor_59 : decode cJ19_comparableClassFor 59 = .ok (.ifCond .eq 48, 3) := dk_153 0 48 (dk_at dksJ19_comparableClassFor_2 12 rfl rfl)
theorem dJ19_comparableClassFor_62 : decode cJ19_comparableClassFor 62 = .ok (.aload 8, 2) := dk_25 8 (dk_at dksJ19_comparableClassFor_2 15 rfl rfl)
theorem dJ19_comparableClassFor_64 : decode cJ19_comparableClassFor 64 = .ok (.checkcast 21, 3) := dk_192 0 21 (dk_at dksJ19_comparableClassFor_2 17 rfl rfl)
theorem dJ19_comparableClassFor_67 : decode cJ19_comparableClassFor 67 = .ok (.dup, 1) := dk_89 (dk_at dksJ19_comparableClassFor_2 20 rfl rfl)
theorem dJ19_comparableClassFor_68 : decode cJ19_comparableClassFor 68 = .ok (.astore 4, 2) := dk_58 4 (dk_at dksJ19_comparableClassFor_2 21 rfl rfl)
theorem dJ19_comparableClassFor_70 : decode cJ19_comparableClassFor 70 = .ok (.invokeinterface 23 1, 5) := by decide +kernel
theorem dJ19_comparableClassFor_75 : decode cJ19_comparableClassFor 75 = .ok (.ldc 7, 2) := dk_18 7 (dk_at dksJ19_comparableClassFor_3 5 rfl rfl)
theorem dJ19_comparableClassFor_77 : decode cJ19_comparableClassFor 77 = .ok (.if_acmp .ne 30, 3) := dk_166 0 30 (dk_at dksJ19_comparableClassFor_3 7 rfl rfl)
theorem dJ19_comparableClassFor_80 : decode cJ19_comparableClassFor 80 = .ok (.aload 4, 2) := dk_25 4 (dk_at dksJ19_comparableClassFor_3 10 rfl rfl)
theorem dJ19_comparableClassFor_82 : decode cJ19_comparableClassFor 82 = .ok (.invokeinterface 27 1, 5) := by decide +kernel
theorem dJ19_comparableClassFor_87 : decode cJ19_comparableClassFor 87 = .ok (.dup, 1) := dk_89 (dk_at dksJ19_comparableClassFor_3 17 rfl rfl)
theorem dJ19_comparableClassFor_88 : decode cJ19_comparableClassFor 88 = .ok (.astore_n 3, 1) := dk_78 (dk_at dksJ19_comparableClassFor_3 18 rfl rfl)
theorem dJ19_comparableClassFor_89 : decode cJ19_comparableClassFor 89 = .ok (.ifnull 18, 3) := dk_198 0 18 (dk_at dksJ19_comparableClassFor_3 19 rfl rfl)
theorem dJ19_comparableClassFor_92 : decode cJ19_comparableClassFor 92 = .ok (.aload_n 3, 1) := dk_45 (dk_at dksJ19_comparableClassFor_3 22 rfl rfl)
theorem dJ19_comparableClassFor_93 : decode cJ19_comparableClassFor 93 = .ok (.arraylength, 1) := dk_190 (dk_at dksJ19_comparableClassFor_3 23 rfl rfl)
theorem dJ19_comparableClassFor_94 : decode cJ19_comparableClassFor 94 = .ok (.iconst 1, 1) := dk_4 (dk_at dksJ19_comparableClassFor_4 0 rfl rfl)
theorem dJ19_comparableClassFor_95 : decode cJ19_comparableClassFor 95 = .ok (.if_icmp .ne 12, 3) := dk_160 0 12 (dk_at dksJ19_comparableClassFor_4 1 rfl rfl)
theorem dJ19_comparableClassFor_98 : decode cJ19_comparableClassFor 98 = .ok (.aload_n 3, 1) := dk_45 (dk_at dksJ19_comparableClassFor_4 4 rfl rfl)
theorem dJ19_comparableClassFor_99 : decode cJ19_comparableClassFor 99 = .ok (.iconst 0, 1) := dk_3 (dk_at dksJ19_comparableClassFor_4 5 rfl rfl)
theorem dJ19_comparableClassFor_100 : decode cJ19_comparableClassFor 100 = .ok (.aaload, 1) := dk_50 (dk_at dksJ19_comparableClassFor_4 6 rfl rfl)
theorem dJ19_comparableClassFor_101 : decode cJ19_comparableClassFor 101 = .ok (.aload_n 1, 1) := dk_43 (dk_at dksJ19_comparableClassFor_4 7 rfl rfl)
theorem dJ19_comparableClassFor_102 : decode cJ19_comparableClassFor 102 = .ok (.if_acmp .ne 5, 3) := dk_166 0 5 (dk_at dksJ19_comparableClassFor_4 8 rfl rfl)
theorem dJ19_comparableClassFor_105 : decode cJ19_comparableClassFor 105 = .ok (.aload_n 1, 1) := dk_43 (dk_at dksJ19_comparableClassFor_4 11 rfl rfl)
theorem dJ19_comparableClassFor_106 : decode cJ19_comparableClassFor 106 = .ok (.areturn, 1) := dk_176 (dk_at dksJ19_comparableClassFor_4 12 rfl rfl)
theorem dJ19_comparableClassFor_107 : decode cJ19_comparableClassFor 107 = .ok (.iinc 7 1, 3) := dk_132 7 1 (dk_at dksJ19_comparableClassFor_4 13 rfl rfl)
theorem dJ19_comparableClassFor_110 : decode cJ19_comparableClassFor 110 = .ok (.goto (-70), 3) := dk_167 255 186 (dk_at dksJ19_comparableClassFor_4 16 rfl rfl)
theorem dJ19_comparableClassFor_113 : decode cJ19_comparableClassFor 113 = .ok (.aconst_null, 1) := dk_1 (dk_at dksJ19_comparableClassFor_4 19 rfl rfl)
theorem dJ19_comparableClassFor_114 : decode cJ19_comparableClassFor 114 = .ok (.areturn, 1) := dk_176 (dk_at dksJ19_comparableClassFor_4 20 rfl rfl)
abbrev cJ19_compareComparables : ByteArray := prog_59_method_3_code
def yJ19_compareComparables : MethodName := ⟨RJ19, "compareComparables", "(Ljava/lang/Class;Ljava/lang/Object;Ljava/lang/Object;)I"⟩
def dkwJ19_compareComparables_1 : List UInt8 := [185, 0, 30, 2, 0, 172]
abbrev dktJ19_compareComparables_1 : List UInt8 := dkwJ19_compareComparables_1 ++ []
def dkwJ19_compareComparables_0 : List UInt8 := [44, 198, 0, 11, 44, 182, 0, 9, 42, 165, 0, 7, 3, 167, 0, 13, 43, 192, 0, 7, 44]
abbrev dktJ19_compareComparables_0 : List UInt8 := dkwJ19_compareComparables_0 ++ dktJ19_compareComparables_1
theorem dksJ19_compareComparables_0 : cJ19_compareComparables.data.toList.drop 0 = dktJ19_compareComparables_0 := by decide +kernel
theorem dksJ19_compareComparables_1 : cJ19_compareComparables.data.toList.drop 21 = dktJ19_compareComparables_1 := dk_seg dksJ19_compareComparables_0 21 rfl rfl
theorem dJ19_compareComparables_0 : decode cJ19_compareComparables 0 = .ok (.aload_n 2, 1) := dk_44 (dk_at dksJ19_compareComparables_0 0 rfl rfl)
theorem dJ19_compareComparables_1 : decode cJ19_compareComparables 1 = .ok (.ifnull 11, 3) := dk_198 0 11 (dk_at dksJ19_compareComparables_0 1 rfl rfl)
theorem dJ19_compareComparables_4 : decode cJ19_compareComparables 4 = .ok (.aload_n 2, 1) := dk_44 (dk_at dksJ19_compareComparables_0 4 rfl rfl)
theorem dJ19_compareComparables_5 : decode cJ19_compareComparables 5 = .ok (.invokevirtual 9, 3) := dk_182 0 9 (dk_at dksJ19_compareComparables_0 5 rfl rfl)
theorem dJ19_compareComparables_8 : decode cJ19_compareComparables 8 = .ok (.aload_n 0, 1) := dk_42 (dk_at dksJ19_compareComparables_0 8 rfl rfl)
theorem dJ19_compareComparables_9 : decode cJ19_compareComparables 9 = .ok (.if_acmp .eq 7, 3) := dk_165 0 7 (dk_at dksJ19_compareComparables_0 9 rfl rfl)
theorem dJ19_compareComparables_12 : decode cJ19_compareComparables 12 = .ok (.iconst 0, 1) := dk_3 (dk_at dksJ19_compareComparables_0 12 rfl rfl)
theorem dJ19_compareComparables_13 : decode cJ19_compareComparables 13 = .ok (.goto 13, 3) := dk_167 0 13 (dk_at dksJ19_compareComparables_0 13 rfl rfl)
theorem dJ19_compareComparables_16 : decode cJ19_compareComparables 16 = .ok (.aload_n 1, 1) := dk_43 (dk_at dksJ19_compareComparables_0 16 rfl rfl)
theorem dJ19_compareComparables_17 : decode cJ19_compareComparables 17 = .ok (.checkcast 7, 3) := dk_192 0 7 (dk_at dksJ19_compareComparables_0 17 rfl rfl)
theorem dJ19_compareComparables_20 : decode cJ19_compareComparables 20 = .ok (.aload_n 2, 1) := dk_44 (dk_at dksJ19_compareComparables_0 20 rfl rfl)
theorem dJ19_compareComparables_21 : decode cJ19_compareComparables 21 = .ok (.invokeinterface 30 2, 5) := by decide +kernel
theorem dJ19_compareComparables_26 : decode cJ19_compareComparables 26 = .ok (.ireturn, 1) := dk_172 (dk_at dksJ19_compareComparables_1 5 rfl rfl)
abbrev cJ19_put : ByteArray := prog_59_method_15_code
def yJ19_put : MethodName := ⟨RJ19, "put", "(Ljava/lang/Object;Ljava/lang/Object;)Ljava/lang/Object;"⟩
def dkwJ19_put_0 : List UInt8 := [42, 43, 184, 0, 149, 43, 44, 3, 4, 182, 0, 152, 176]
abbrev dktJ19_put_0 : List UInt8 := dkwJ19_put_0 ++ []
theorem dksJ19_put_0 : cJ19_put.data.toList.drop 0 = dktJ19_put_0 := by decide +kernel
theorem dJ19_put_0 : decode cJ19_put 0 = .ok (.aload_n 0, 1) := dk_42 (dk_at dksJ19_put_0 0 rfl rfl)
theorem dJ19_put_1 : decode cJ19_put 1 = .ok (.aload_n 1, 1) := dk_43 (dk_at dksJ19_put_0 1 rfl rfl)
theorem dJ19_put_2 : decode cJ19_put 2 = .ok (.invokestatic 149, 3) := dk_184 0 149 (dk_at dksJ19_put_0 2 rfl rfl)
theorem dJ19_put_5 : decode cJ19_put 5 = .ok (.aload_n 1, 1) := dk_43 (dk_at dksJ19_put_0 5 rfl rfl)
theorem dJ19_put_6 : decode cJ19_put 6 = .ok (.aload_n 2, 1) := dk_44 (dk_at dksJ19_put_0 6 rfl rfl)
theorem dJ19_put_7 : decode cJ19_put 7 = .ok (.iconst 0, 1) := dk_3 (dk_at dksJ19_put_0 7 rfl rfl)
theorem dJ19_put_8 : decode cJ19_put 8 = .ok (.iconst 1, 1) := dk_4 (dk_at dksJ19_put_0 8 rfl rfl)
theorem dJ19_put_9 : decode cJ19_put 9 = .ok (.invokevirtual 152, 3) := dk_182 0 152 (dk_at dksJ19_put_0 9 rfl rfl)
theorem dJ19_put_12 : decode cJ19_put 12 = .ok (.areturn, 1) := dk_176 (dk_at dksJ19_put_0 12 rfl rfl)
abbrev cJ19_putVal : ByteArray := prog_59_method_16_code
def yJ19_putVal : MethodName := ⟨RJ19, "putVal", "(ILjava/lang/Object;Ljava/lang/Object;ZZ)Ljava/lang/Object;"⟩
def dkwJ19_putVal_12 : List UInt8 := [181, 0, 156, 42, 180, 0, 88, 164, 0, 8, 42, 182, 0, 117, 87, 42, 21, 5, 182, 0, 205, 1, 176]
abbrev dktJ19_putVal_12 : List UInt8 := dkwJ19_putVal_12 ++ []
def dkwJ19_putVal_11 : List UInt8 := [182, 0, 198, 25, 12, 176, 42, 89, 180, 0, 202, 4, 96, 181, 0, 202, 42, 89, 180, 0, 156, 4, 96, 90]
abbrev dktJ19_putVal_11 : List UInt8 := dkwJ19_putVal_11 ++ dktJ19_putVal_12
def dkwJ19_putVal_10 : List UInt8 := [180, 0, 162, 58, 12, 21, 4, 153, 0, 8, 25, 12, 199, 0, 9, 25, 10, 45, 181, 0, 162, 42, 25, 10]
abbrev dktJ19_putVal_10 : List UInt8 := dkwJ19_putVal_10 ++ dktJ19_putVal_11
def dkwJ19_putVal_9 : List UInt8 := [153, 0, 6, 167, 0, 13, 25, 10, 58, 7, 132, 12, 1, 167, 255, 171, 25, 10, 198, 0, 35, 25, 10]
abbrev dktJ19_putVal_9 : List UInt8 := dkwJ19_putVal_9 ++ dktJ19_putVal_10
def dkwJ19_putVal_8 : List UInt8 := [25, 10, 180, 0, 170, 89, 58, 11, 44, 165, 0, 29, 44, 198, 0, 15, 44, 25, 11, 182, 0, 173]
abbrev dktJ19_putVal_8 : List UInt8 := dkwJ19_putVal_8 ++ dktJ19_putVal_9
def dkwJ19_putVal_7 : List UInt8 := [16, 7, 161, 0, 60, 42, 25, 6, 27, 182, 0, 194, 167, 0, 50, 25, 10, 180, 0, 168, 27, 160, 0, 31]
abbrev dktJ19_putVal_7 : List UInt8 := dkwJ19_putVal_7 ++ dktJ19_putVal_8
def dkwJ19_putVal_6 : List UInt8 := [180, 0, 177, 89, 58, 10, 199, 0, 33, 25, 7, 42, 27, 44, 45, 1, 182, 0, 186, 181, 0, 177, 21, 12]
abbrev dktJ19_putVal_6 : List UInt8 := dkwJ19_putVal_6 ++ dktJ19_putVal_7
def dkwJ19_putVal_5 : List UInt8 := [192, 0, 180, 42, 25, 6, 27, 44, 45, 182, 0, 190, 58, 10, 167, 0, 94, 3, 54, 12, 25, 7]
abbrev dktJ19_putVal_5 : List UInt8 := dkwJ19_putVal_5 ++ dktJ19_putVal_6
def dkwJ19_putVal_4 : List UInt8 := [182, 0, 173, 153, 0, 10, 25, 7, 58, 10, 167, 0, 121, 25, 7, 193, 0, 180, 153, 0, 22, 25, 7]
abbrev dktJ19_putVal_4 : List UInt8 := dkwJ19_putVal_4 ++ dktJ19_putVal_5
def dkwJ19_putVal_3 : List UInt8 := [160, 0, 35, 25, 7, 180, 0, 170, 89, 58, 11, 44, 165, 0, 16, 44, 198, 0, 19, 44, 25, 11]
abbrev dktJ19_putVal_3 : List UInt8 := dkwJ19_putVal_3 ++ dktJ19_putVal_4
def dkwJ19_putVal_2 : List UInt8 := [25, 6, 21, 9, 42, 27, 44, 45, 1, 182, 0, 186, 83, 167, 0, 199, 25, 7, 180, 0, 168, 27]
abbrev dktJ19_putVal_2 : List UInt8 := dkwJ19_putVal_2 ++ dktJ19_putVal_3
def dkwJ19_putVal_1 : List UInt8 := [58, 6, 190, 54, 8, 25, 6, 21, 8, 4, 100, 27, 126, 89, 54, 9, 50, 89, 58, 7, 199, 0, 19]
abbrev dktJ19_putVal_1 : List UInt8 := dkwJ19_putVal_1 ++ dktJ19_putVal_2
def dkwJ19_putVal_0 : List UInt8 := [42, 180, 0, 105, 89, 58, 6, 198, 0, 12, 25, 6, 190, 89, 54, 8, 154, 0, 13, 42, 182, 0, 117, 89]
abbrev dktJ19_putVal_0 : List UInt8 := dkwJ19_putVal_0 ++ dktJ19_putVal_1
theorem dksJ19_putVal_0 : cJ19_putVal.data.toList.drop 0 = dktJ19_putVal_0 := by decide +kernel
theorem dksJ19_putVal_1 : cJ19_putVal.data.toList.drop 24 = dktJ19_putVal_1 := dk_seg dksJ19_putVal_0 24 rfl rfl
theorem dksJ19_putVal_2 : cJ19_putVal.data.toList.drop 47 = dktJ19_putVal_2 := dk_seg dksJ19_putVal_1 23 rfl rfl
theorem dksJ19_putVal_3 : cJ19_putVal.data.toList.drop 69 = dktJ19_putVal_3 := dk_seg dksJ19_putVal_2 22 rfl rfl
theorem dksJ19_putVal_4 : cJ19_putVal.data.toList.drop 91 = dktJ19_putVal_4 := dk_seg dksJ19_putVal_3 22 rfl rfl
theorem dksJ19_putVal_5 : cJ19_putVal.data.toList.drop 114 = dktJ19_putVal_5 := dk_seg dksJ19_putVal_4 23 rfl rfl
theorem dksJ19_putVal_6 : cJ19_putVal.data.toList.drop 136 = dktJ19_putVal_6 := dk_seg dksJ19_putVal_5 22 rfl rfl
theorem dksJ19_putVal_7 : cJ19_putVal.data.toList.drop 160 = dktJ19_putVal_7 := dk_seg dksJ19_putVal_6 24 rfl rfl
theorem dksJ19_putVal_8 : cJ19_putVal.data.toList.drop 184 = dktJ19_putVal_8 := dk_seg dksJ19_putVal_7 24 rfl rfl
theorem dksJ19_putVal_9 : cJ19_putVal.data.toList.drop 206 = dktJ19_putVal_9 := dk_seg dksJ19_putVal_8 22 rfl rfl
theorem dksJ19_putVal_10 : cJ19_putVal.data.toList.drop 229 = dktJ19_putVal_10 := dk_seg dksJ19_putVal_9 23 rfl rfl
theorem dksJ19_putVal_11 : cJ19_putVal.data.toList.drop 253 = dktJ19_putVal_11 := dk_seg dksJ19_putVal_10 24 rfl rfl
theorem dksJ19_putVal_12 : cJ19_putVal.data.toList.drop 277 = dktJ19_putVal_12 := dk_seg dksJ19_putVal_11 24 rfl rfl
theorem dJ19_putVal_0 : decode cJ19_putVal 0 = .ok (.aload_n 0, 1) := dk_42 (dk_at dksJ19_putVal_0 0 rfl rfl)
theorem dJ19_putVal_1 : decode cJ19_putVal 1 = .ok (.getfield 105, 3) := dk_180 0 105 (dk_at dksJ19_putVal_0 1 rfl rfl)
theorem dJ19_putVal_4 : decode cJ19_putVal 4 = .ok (.dup, 1) := dk_89 (dk_at dksJ19_putVal_0 4 rfl rfl)
theorem dJ19_putVal_5 : decode cJ19_putVal 5 = .ok (.astore 6, 2) := dk_58 6 (dk_at dksJ19_putVal_0 5 rfl rfl)
theorem dJ19_putVal_7 : decode cJ19_putVal 7 = .ok (.ifnull 12, 3) := dk_198 0 12 (dk_at dksJ19_putVal_0 7 rfl rfl)
theorem dJ19_putVal_10 : decode cJ19_putVal 10 = .ok (.aload 6, 2) := dk_25 6 (dk_at dksJ19_putVal_0 10 rfl rfl)
theorem dJ19_putVal_12 : decode cJ19_putVal 12 = .ok (.arraylength, 1) := dk_190 (dk_at dksJ19_putVal_0 12 rfl rfl)
theorem dJ19_putVal_13 : decode cJ19_putVal 13 = .ok (.dup, 1) := dk_89 (dk_at dksJ19_putVal_0 13 rfl rfl)
theorem dJ19_putVal_14 : decode cJ19_putVal 14 = .ok (.istore 8, 2) := dk_54 8 (dk_at dksJ19_putVal_0 14 rfl rfl)
theorem dJ19_putVal_16 : decode cJ19_putVal 16 = .ok (.ifCond .ne 13, 3) := dk_154 0 13 (dk_at dksJ19_putVal_0 16 rfl rfl)
theorem dJ19_putVal_19 : decode cJ19_putVal 19 = .ok (.aload_n 0, 1) := dk_42 (dk_at dksJ19_putVal_0 19 rfl rfl)
theorem dJ19_putVal_20 : decode cJ19_putVal 20 = .ok (.invokevirtual 117, 3) := dk_182 0 117 (dk_at dksJ19_putVal_0 20 rfl rfl)
theorem dJ19_putVal_23 : decode cJ19_putVal 23 = .ok (.dup, 1) := dk_89 (dk_at dksJ19_putVal_0 23 rfl rfl)
theorem dJ19_putVal_24 : decode cJ19_putVal 24 = .ok (.astore 6, 2) := dk_58 6 (dk_at dksJ19_putVal_1 0 rfl rfl)
theorem dJ19_putVal_26 : decode cJ19_putVal 26 = .ok (.arraylength, 1) := dk_190 (dk_at dksJ19_putVal_1 2 rfl rfl)
theorem dJ19_putVal_27 : decode cJ19_putVal 27 = .ok (.istore 8, 2) := dk_54 8 (dk_at dksJ19_putVal_1 3 rfl rfl)
theorem dJ19_putVal_29 : decode cJ19_putVal 29 = .ok (.aload 6, 2) := dk_25 6 (dk_at dksJ19_putVal_1 5 rfl rfl)
theorem dJ19_putVal_31 : decode cJ19_putVal 31 = .ok (.iload 8, 2) := dk_21 8 (dk_at dksJ19_putVal_1 7 rfl rfl)
theorem dJ19_putVal_33 : decode cJ19_putVal 33 = .ok (.iconst 1, 1) := dk_4 (dk_at dksJ19_putVal_1 9 rfl rfl)
theorem dJ19_putVal_34 : decode cJ19_putVal 34 = .ok (.isub, 1) := dk_100 (dk_at dksJ19_putVal_1 10 rfl rfl)
theorem dJ19_putVal_35 : decode cJ19_putVal 35 = .ok (.iload_n 1, 1) := dk_27 (dk_at dksJ19_putVal_1 11 rfl rfl)
theorem dJ19_putVal_36 : decode cJ19_putVal 36 = .ok (.iand, 1) := dk_126 (dk_at dksJ19_putVal_1 12 rfl rfl)
theorem dJ19_putVal_37 : decode cJ19_putVal 37 = .ok (.dup, 1) := dk_89 (dk_at dksJ19_putVal_1 13 rfl rfl)
theorem dJ19_putVal_38 : decode cJ19_putVal 38 = .ok (.istore 9, 2) := dk_54 9 (dk_at dksJ19_putVal_1 14 rfl rfl)
theorem dJ19_putVal_40 : decode cJ19_putVal 40 = .ok (.aaload, 1) := dk_50 (dk_at dksJ19_putVal_1 16 rfl rfl)
theorem dJ19_putVal_41 : decode cJ19_putVal 41 = .ok (.dup, 1) := dk_89 (dk_at dksJ19_putVal_1 17 rfl rfl)
theorem dJ19_putVal_42 : decode cJ19_putVal 42 = .ok (.astore 7, 2) := dk_58 7 (dk_at dksJ19_putVal_1 18 rfl rfl)
theorem dJ19_putVal_44 : decode cJ19_putVal 44 = .ok (.ifnonnull 19, 3) := dk_199 0 19 (dk_at dksJ19_putVal_1 20 rfl rfl)
theorem dJ19_putVal_47 : decode cJ19_putVal 47 = .ok (.aload 6, 2) := dk_25 6 (dk_at dksJ19_putVal_2 0 rfl rfl)
theorem dJ19_putVal_49 : decode cJ19_putVal 49 = .ok (.iload 9, 2) := dk_21 9 (dk_at dksJ19_putVal_2 2 rfl rfl)
theorem dJ19_putVal_51 : decode cJ19_putVal 51 = .ok (.aload_n 0, 1) := dk_42 (dk_at dksJ19_putVal_2 4 rfl rfl)
theorem dJ19_putVal_52 : decode cJ19_putVal 52 = .ok (.iload_n 1, 1) := dk_27 (dk_at dksJ19_putVal_2 5 rfl rfl)
theorem dJ19_putVal_53 : decode cJ19_putVal 53 = .ok (.aload_n 2, 1) := dk_44 (dk_at dksJ19_putVal_2 6 rfl rfl)
theorem dJ19_putVal_54 : decode cJ19_putVal 54 = .ok (.aload_n 3, 1) := dk_45 (dk_at dksJ19_putVal_2 7 rfl rfl)
theorem dJ19_putVal_55 : decode cJ19_putVal 55 = .ok (.aconst_null, 1) := dk_1 (dk_at dksJ19_putVal_2 8 rfl rfl)
theorem dJ19_putVal_56 : decode cJ19_putVal 56 = .ok (.invokevirtual 186, 3) := dk_182 0 186 (dk_at dksJ19_putVal_2 9 rfl rfl)
theorem dJ19_putVal_59 : decode cJ19_putVal 59 = .ok (.aastore, 1) := dk_83 (dk_at dksJ19_putVal_2 12 rfl rfl)
theorem dJ19_putVal_60 : decode cJ19_putVal 60 = .ok (.goto 199, 3) := dk_167 0 199 (dk_at dksJ19_putVal_2 13 rfl rfl)
theorem dJ19_putVal_63 : decode cJ19_putVal 63 = .ok (.aload 7, 2) := dk_25 7 (dk_at dksJ19_putVal_2 16 rfl rfl)
theorem dJ19_putVal_65 : decode cJ19_putVal 65 = .ok (.getfield 168, 3) := dk_180 0 168 (dk_at dksJ19_putVal_2 18 rfl rfl)
theorem dJ19_putVal_68 : decode cJ19_putVal 68 = .ok (.iload_n 1, 1) := dk_27 (dk_at dksJ19_putVal_2 21 rfl rfl)
theorem dJ19_putVal_69 : decode cJ19_putVal 69 = .ok (.if_icmp .ne 35, 3) := dk_160 0 35 (dk_at dksJ19_putVal_3 0 rfl rfl)
theorem dJ19_putVal_72 : decode cJ19_putVal 72 = .ok (.aload 7, 2) := dk_25 7 (dk_at dksJ19_putVal_3 3 rfl rfl)
theorem dJ19_putVal_74 : decode cJ19_putVal 74 = .ok (.getfield 170, 3) := dk_180 0 170 (dk_at dksJ19_putVal_3 5 rfl rfl)
theorem dJ19_putVal_77 : decode cJ19_putVal 77 = .ok (.dup, 1) := dk_89 (dk_at dksJ19_putVal_3 8 rfl rfl)
theorem dJ19_putVal_78 : decode cJ19_putVal 78 = .ok (.astore 11, 2) := dk_58 11 (dk_at dksJ19_putVal_3 9 rfl rfl)
theorem dJ19_putVal_80 : decode cJ19_putVal 80 = .ok (.aload_n 2, 1) := dk_44 (dk_at dksJ19_putVal_3 11 rfl rfl)
theorem dJ19_putVal_81 : decode cJ19_putVal 81 = .ok (.if_acmp .eq 16, 3) := dk_165 0 16 (dk_at dksJ19_putVal_3 12 rfl rfl)
theorem dJ19_putVal_84 : decode cJ19_putVal 84 = .ok (.aload_n 2, 1) := dk_44 (dk_at dksJ19_putVal_3 15 rfl rfl)
theorem dJ19_putVal_85 : decode cJ19_putVal 85 = .ok (.ifnull 19, 3) := dk_198 0 19 (dk_at dksJ19_putVal_3 16 rfl rfl)
theorem dJ19_putVal_88 : decode cJ19_putVal 88 = .ok (.aload_n 2, 1) := dk_44 (dk_at dksJ19_putVal_3 19 rfl rfl)
theorem dJ19_putVal_89 : decode cJ19_putVal 89 = .ok (.aload 11, 2) := dk_25 11 (dk_at dksJ19_putVal_3 20 rfl rfl)
theorem dJ19_putVal_91 : decode cJ19_putVal 91 = .ok (.invokevirtual 173, 3) := dk_182 0 173 (dk_at dksJ19_putVal_4 0 rfl rfl)
theorem dJ19_putVal_94 : decode cJ19_putVal 94 = .ok (.ifCond .eq 10, 3) := dk_153 0 10 (dk_at dksJ19_putVal_4 3 rfl rfl)
theorem dJ19_putVal_97 : decode cJ19_putVal 97 = .ok (.aload 7, 2) := dk_25 7 (dk_at dksJ19_putVal_4 6 rfl rfl)
theorem dJ19_putVal_99 : decode cJ19_putVal 99 = .ok (.astore 10, 2) := dk_58 10 (dk_at dksJ19_putVal_4 8 rfl rfl)
theorem dJ19_putVal_101 : decode cJ19_putVal 101 = .ok (.goto 121, 3) := dk_167 0 121 (dk_at dksJ19_putVal_4 10 rfl rfl)
theorem dJ19_putVal_104 : decode cJ19_putVal 104 = .ok (.aload 7, 2) := dk_25 7 (dk_at dksJ19_putVal_4 13 rfl rfl)
theorem dJ19_putVal_106 : decode cJ19_putVal 106 = .ok (.instanceof 180, 3) := dk_193 0 180 (dk_at dksJ19_putVal_4 15 rfl rfl)
theorem dJ19_putVal_109 : decode cJ19_putVal 109 = .ok (.ifCond .eq 22, 3) := dk_153 0 22 (dk_at dksJ19_putVal_4 18 rfl rfl)
theorem dJ19_putVal_112 : decode cJ19_putVal 112 = .ok (.aload 7, 2) := dk_25 7 (dk_at dksJ19_putVal_4 21 rfl rfl)
theorem dJ19_putVal_114 : decode cJ19_putVal 114 = .ok (.checkcast 180, 3) := dk_192 0 180 (dk_at dksJ19_putVal_5 0 rfl rfl)
theorem dJ19_putVal_117 : decode cJ19_putVal 117 = .ok (.aload_n 0, 1) := dk_42 (dk_at dksJ19_putVal_5 3 rfl rfl)
theorem dJ19_putVal_118 : decode cJ19_putVal 118 = .ok (.aload 6, 2) := dk_25 6 (dk_at dksJ19_putVal_5 4 rfl rfl)
theorem dJ19_putVal_120 : decode cJ19_putVal 120 = .ok (.iload_n 1, 1) := dk_27 (dk_at dksJ19_putVal_5 6 rfl rfl)
theorem dJ19_putVal_121 : decode cJ19_putVal 121 = .ok (.aload_n 2, 1) := dk_44 (dk_at dksJ19_putVal_5 7 rfl rfl)
theorem dJ19_putVal_122 : decode cJ19_putVal 122 = .ok (.aload_n 3, 1) := dk_45 (dk_at dksJ19_putVal_5 8 rfl rfl)
theorem dJ19_putVal_123 : decode cJ19_putVal 123 = .ok (.invokevirtual 190, 3) := dk_182 0 190 (dk_at dksJ19_putVal_5 9 rfl rfl)
theorem dJ19_putVal_126 : decode cJ19_putVal 126 = .ok (.astore 10, 2) := dk_58 10 (dk_at dksJ19_putVal_5 12 rfl rfl)
theorem dJ19_putVal_128 : decode cJ19_putVal 128 = .ok (.goto 94, 3) := dk_167 0 94 (dk_at dksJ19_putVal_5 14 rfl rfl)
theorem dJ19_putVal_131 : decode cJ19_putVal 131 = .ok (.iconst 0, 1) := dk_3 (dk_at dksJ19_putVal_5 17 rfl rfl)
theorem dJ19_putVal_132 : decode cJ19_putVal 132 = .ok (.istore 12, 2) := dk_54 12 (dk_at dksJ19_putVal_5 18 rfl rfl)
theorem dJ19_putVal_134 : decode cJ19_putVal 134 = .ok (.aload 7, 2) := dk_25 7 (dk_at dksJ19_putVal_5 20 rfl rfl)
theorem dJ19_putVal_136 : decode cJ19_putVal 136 = .ok (.getfield 177, 3) := dk_180 0 177 (dk_at dksJ19_putVal_6 0 rfl rfl)
theorem dJ19_putVal_139 : decode cJ19_putVal 139 = .ok (.dup, 1) := dk_89 (dk_at dksJ19_putVal_6 3 rfl rfl)
theorem dJ19_putVal_140 : decode cJ19_putVal 140 = .ok (.astore 10, 2) := dk_58 10 (dk_at dksJ19_putVal_6 4 rfl rfl)
theorem dJ19_putVal_142 : decode cJ19_putVal 142 = .ok (.ifnonnull 33, 3) := dk_199 0 33 (dk_at dksJ19_putVal_6 6 rfl rfl)
theorem dJ19_putVal_145 : decode cJ19_putVal 145 = .ok (.aload 7, 2) := dk_25 7 (dk_at dksJ19_putVal_6 9 rfl rfl)
theorem dJ19_putVal_147 : decode cJ19_putVal 147 = .ok (.aload_n 0, 1) := dk_42 (dk_at dksJ19_putVal_6 11 rfl rfl)
theorem dJ19_putVal_148 : decode cJ19_putVal 148 = .ok (.iload_n 1, 1) := dk_27 (dk_at dksJ19_putVal_6 12 rfl rfl)
theorem dJ19_putVal_149 : decode cJ19_putVal 149 = .ok (.aload_n 2, 1) := dk_44 (dk_at dksJ19_putVal_6 13 rfl rfl)
theorem dJ19_putVal_150 : decode cJ19_putVal 150 = .ok (.aload_n 3, 1) := dk_45 (dk_at dksJ19_putVal_6 14 rfl rfl)
theorem dJ19_putVal_151 : decode cJ19_putVal 151 = .ok (.aconst_null, 1) := dk_1 (dk_at dksJ19_putVal_6 15 rfl rfl)
theorem dJ19_putVal_152 : decode cJ19_putVal 152 = .ok (.invokevirtual 186, 3) := dk_182 0 186 (dk_at dksJ19_putVal_6 16 rfl rfl)
theorem dJ19_putVal_155 : decode cJ19_putVal 155 = .ok (.putfield 177, 3) := dk_181 0 177 (dk_at dksJ19_putVal_6 19 rfl rfl)
theorem dJ19_putVal_158 : decode cJ19_putVal 158 = .ok (.iload 12, 2) := dk_21 12 (dk_at dksJ19_putVal_6 22 rfl rfl)
theorem dJ19_putVal_160 : decode cJ19_putVal 160 = .ok (.bipush 7, 2) := dk_16 7 (dk_at dksJ19_putVal_7 0 rfl rfl)
theorem dJ19_putVal_162 : decode cJ19_putVal 162 = .ok (.if_icmp .lt 60, 3) := dk_161 0 60 (dk_at dksJ19_putVal_7 2 rfl rfl)
theorem dJ19_putVal_165 : decode cJ19_putVal 165 = .ok (.aload_n 0, 1) := dk_42 (dk_at dksJ19_putVal_7 5 rfl rfl)
theorem dJ19_putVal_166 : decode cJ19_putVal 166 = .ok (.aload 6, 2) := dk_25 6 (dk_at dksJ19_putVal_7 6 rfl rfl)
theorem dJ19_putVal_168 : decode cJ19_putVal 168 = .ok (.iload_n 1, 1) := dk_27 (dk_at dksJ19_putVal_7 8 rfl rfl)
theorem dJ19_putVal_169 : decode cJ19_putVal 169 = .ok (.invokevirtual 194, 3) := dk_182 0 194 (dk_at dksJ19_putVal_7 9 rfl rfl)
theorem dJ19_putVal_172 : decode cJ19_putVal 172 = .ok (.goto 50, 3) := dk_167 0 50 (dk_at dksJ19_putVal_7 12 rfl rfl)
theorem dJ19_putVal_175 : decode cJ19_putVal 175 = .ok (.aload 10, 2) := dk_25 10 (dk_at dksJ19_putVal_7 15 rfl rfl)
theorem dJ19_putVal_177 : decode cJ19_putVal 177 = .ok (.getfield 168, 3) := dk_180 0 168 (dk_at dksJ19_putVal_7 17 rfl rfl)
theorem dJ19_putVal_180 : decode cJ19_putVal 180 = .ok (.iload_n 1, 1) := dk_27 (dk_at dksJ19_putVal_7 20 rfl rfl)
theorem dJ19_putVal_181 : decode cJ19_putVal 181 = .ok (.if_icmp .ne 31, 3) := dk_160 0 31 (dk_at dksJ19_putVal_7 21 rfl rfl)
theorem dJ19_putVal_184 : decode cJ19_putVal 184 = .ok (.aload 10, 2) := dk_25 10 (dk_at dksJ19_putVal_8 0 rfl rfl)
theorem dJ19_putVal_186 : decode cJ19_putVal 186 = .ok (.getfield 170, 3) := dk_180 0 170 (dk_at dksJ19_putVal_8 2 rfl rfl)
theorem dJ19_putVal_189 : decode cJ19_putVal 189 = .ok (.dup, 1) := dk_89 (dk_at dksJ19_putVal_8 5 rfl rfl)
theorem dJ19_putVal_190 : decode cJ19_putVal 190 = .ok (.astore 11, 2) := dk_58 11 (dk_at dksJ19_putVal_8 6 rfl rfl)
theorem dJ19_putVal_192 : decode cJ19_putVal 192 = .ok (.aload_n 2, 1) := dk_44 (dk_at dksJ19_putVal_8 8 rfl rfl)
theorem dJ19_putVal_193 : decode cJ19_putVal 193 = .ok (.if_acmp .eq 29, 3) := dk_165 0 29 (dk_at dksJ19_putVal_8 9 rfl rfl)
theorem dJ19_putVal_196 : decode cJ19_putVal 196 = .ok (.aload_n 2, 1) := dk_44 (dk_at dksJ19_putVal_8 12 rfl rfl)
theorem dJ19_putVal_197 : decode cJ19_putVal 197 = .ok (.ifnull 15, 3) := dk_198 0 15 (dk_at dksJ19_putVal_8 13 rfl rfl)
theorem dJ19_putVal_200 : decode cJ19_putVal 200 = .ok (.aload_n 2, 1) := dk_44 (dk_at dksJ19_putVal_8 16 rfl rfl)
theorem dJ19_putVal_201 : decode cJ19_putVal 201 = .ok (.aload 11, 2) := dk_25 11 (dk_at dksJ19_putVal_8 17 rfl rfl)
theorem dJ19_putVal_203 : decode cJ19_putVal 203 = .ok (.invokevirtual 173, 3) := dk_182 0 173 (dk_at dksJ19_putVal_8 19 rfl rfl)
theorem dJ19_putVal_206 : decode cJ19_putVal 206 = .ok (.ifCond .eq 6, 3) := dk_153 0 6 (dk_at dksJ19_putVal_9 0 rfl rfl)
theorem dJ19_putVal_209 : decode cJ19_putVal 209 = .ok (.goto 13, 3) := dk_167 0 13 (dk_at dksJ19_putVal_9 3 rfl rfl)
theorem dJ19_putVal_212 : decode cJ19_putVal 212 = .ok (.aload 10, 2) := dk_25 10 (dk_at dksJ19_putVal_9 6 rfl rfl)
theorem dJ19_putVal_214 : decode cJ19_putVal 214 = .ok (.astore 7, 2) := dk_58 7 (dk_at dksJ19_putVal_9 8 rfl rfl)
theorem dJ19_putVal_216 : decode cJ19_putVal 216 = .ok (.iinc 12 1, 3) := dk_132 12 1 (dk_at dksJ19_putVal_9 10 rfl rfl)
theorem dJ19_putVal_219 : decode cJ19_putVal 219 = .ok (.goto (-85), 3) := dk_167 255 171 (dk_at dksJ19_putVal_9 13 rfl rfl)
theorem dJ19_putVal_222 : decode cJ19_putVal 222 = .ok (.aload 10, 2) := dk_25 10 (dk_at dksJ19_putVal_9 16 rfl rfl)
theorem dJ19_putVal_224 : decode cJ19_putVal 224 = .ok (.ifnull 35, 3) := dk_198 0 35 (dk_at dksJ19_putVal_9 18 rfl rfl)
theorem dJ19_putVal_227 : decode cJ19_putVal 227 = .ok (.aload 10, 2) := dk_25 10 (dk_at dksJ19_putVal_9 21 rfl rfl)
theorem dJ19_putVal_229 : decode cJ19_putVal 229 = .ok (.getfield 162, 3) := dk_180 0 162 (dk_at dksJ19_putVal_10 0 rfl rfl)
theorem dJ19_putVal_232 : decode cJ19_putVal 232 = .ok (.astore 12, 2) := dk_58 12 (dk_at dksJ19_putVal_10 3 rfl rfl)
theorem dJ19_putVal_234 : decode cJ19_putVal 234 = .ok (.iload 4, 2) := dk_21 4 (dk_at dksJ19_putVal_10 5 rfl rfl)
theorem dJ19_putVal_236 : decode cJ19_putVal 236 = .ok (.ifCond .eq 8, 3) := dk_153 0 8 (dk_at dksJ19_putVal_10 7 rfl rfl)
theorem dJ19_putVal_239 : decode cJ19_putVal 239 = .ok (.aload 12, 2) := dk_25 12 (dk_at dksJ19_putVal_10 10 rfl rfl)
theorem dJ19_putVal_241 : decode cJ19_putVal 241 = .ok (.ifnonnull 9, 3) := dk_199 0 9 (dk_at dksJ19_putVal_10 12 rfl rfl)
theorem dJ19_putVal_244 : decode cJ19_putVal 244 = .ok (.aload 10, 2) := dk_25 10 (dk_at dksJ19_putVal_10 15 rfl rfl)
theorem dJ19_putVal_246 : decode cJ19_putVal 246 = .ok (.aload_n 3, 1) := dk_45 (dk_at dksJ19_putVal_10 17 rfl rfl)
theorem dJ19_putVal_247 : decode cJ19_putVal 247 = .ok (.putfield 162, 3) := dk_181 0 162 (dk_at dksJ19_putVal_10 18 rfl rfl)
theorem dJ19_putVal_250 : decode cJ19_putVal 250 = .ok (.aload_n 0, 1) := dk_42 (dk_at dksJ19_putVal_10 21 rfl rfl)
theorem dJ19_putVal_251 : decode cJ19_putVal 251 = .ok (.aload 10, 2) := dk_25 10 (dk_at dksJ19_putVal_10 22 rfl rfl)
theorem dJ19_putVal_253 : decode cJ19_putVal 253 = .ok (.invokevirtual 198, 3) := dk_182 0 198 (dk_at dksJ19_putVal_11 0 rfl rfl)
theorem dJ19_putVal_256 : decode cJ19_putVal 256 = .ok (.aload 12, 2) := dk_25 12 (dk_at dksJ19_putVal_11 3 rfl rfl)
theorem dJ19_putVal_258 : decode cJ19_putVal 258 = .ok (.areturn, 1) := dk_176 (dk_at dksJ19_putVal_11 5 rfl rfl)
theorem dJ19_putVal_259 : decode cJ19_putVal 259 = .ok (.aload_n 0, 1) := dk_42 (dk_at dksJ19_putVal_11 6 rfl rfl)
theorem dJ19_putVal_260 : decode cJ19_putVal 260 = .ok (.dup, 1) := dk_89 (dk_at dksJ19_putVal_11 7 rfl rfl)
theorem dJ19_putVal_261 : decode cJ19_putVal 261 = .ok (.getfield 202, 3) := dk_180 0 202 (dk_at dksJ19_putVal_11 8 rfl rfl)
theorem dJ19_putVal_264 : decode cJ19_putVal 264 = .ok (.iconst 1, 1) := dk_4 (dk_at dksJ19_putVal_11 11 rfl rfl)
theorem dJ19_putVal_265 : decode cJ19_putVal 265 = .ok (.iadd, 1) := dk_96 (dk_at dksJ19_putVal_11 12 rfl rfl)
theorem dJ19_putVal_266 : decode cJ19_putVal 266 = .ok (.putfield 202, 3) := dk_181 0 202 (dk_at dksJ19_putVal_11 13 rfl rfl)
theorem dJ19_putVal_269 : decode cJ19_putVal 269 = .ok (.aload_n 0, 1) := dk_42 (dk_at dksJ19_putVal_11 16 rfl rfl)
theorem dJ19_putVal_270 : decode cJ19_putVal 270 = .ok (.dup, 1) := dk_89 (dk_at dksJ19_putVal_11 17 rfl rfl)
theorem dJ19_putVal_271 : decode cJ19_putVal 271 = .ok (.getfield 156, 3) := dk_180 0 156 (dk_at dksJ19_putVal_11 18 rfl rfl)
theorem dJ19_putVal_274 : decode cJ19_putVal 274 = .ok (.iconst 1, 1) := dk_4 (dk_at dksJ19_putVal_11 21 rfl rfl)
theorem dJ19_putVal_275 : decode cJ19_putVal 275 = .ok (.iadd, 1) := dk_96 (dk_at dksJ19_putVal_11 22 rfl rfl)
theorem dJ19_putVal_276 : decode cJ19_putVal 276 = .ok (.dup_x1, 1) := dk_90 (dk_at dksJ19_putVal_11 23 rfl rfl)
theorem dJ19_putVal_277 : decode cJ19_putVal 277 = .ok (.putfield 156, 3) := dk_181 0 156 (dk_at dksJ19_putVal_12 0 rfl rfl)
theorem dJ19_putVal_280 : decode cJ19_putVal 280 = .ok (.aload_n 0, 1) := dk_42 (dk_at dksJ19_putVal_12 3 rfl rfl)
theorem dJ19_putVal_281 : decode cJ19_putVal 281 = .ok (.getfield 88, 3) := dk_180 0 88 (dk_at dksJ19_putVal_12 4 rfl rfl)
theorem dJ19_putVal_284 : decode cJ19_putVal 284 = .ok (.if_icmp .le 8, 3) := dk_164 0 8 (dk_at dksJ19_putVal_12 7 rfl rfl)
theorem dJ19_putVal_287 : decode cJ19_putVal 287 = .ok (.aload_n 0, 1) := dk_42 (dk_at dksJ19_putVal_12 10 rfl rfl)
theorem dJ19_putVal_288 : decode cJ19_putVal 288 = .ok (.invokevirtual 117, 3) := dk_182 0 117 (dk_at dksJ19_putVal_12 11 rfl rfl)
theorem dJ19_putVal_291 : decode cJ19_putVal 291 = .ok (.pop, 1) := dk_87 (dk_at dksJ19_putVal_12 14 rfl rfl)
theorem dJ19_putVal_292 : decode cJ19_putVal 292 = .ok (.aload_n 0, 1) := dk_42 (dk_at dksJ19_putVal_12 15 rfl rfl)
theorem dJ19_putVal_293 : decode cJ19_putVal 293 = .ok (.iload 5, 2) := dk_21 5 (dk_at dksJ19_putVal_12 16 rfl rfl)
theorem dJ19_putVal_295 : decode cJ19_putVal 295 = .ok (.invokevirtual 205, 3) := dk_182 0 205 (dk_at dksJ19_putVal_12 18 rfl rfl)
theorem dJ19_putVal_298 : decode cJ19_putVal 298 = .ok (.aconst_null, 1) := dk_1 (dk_at dksJ19_putVal_12 21 rfl rfl)
theorem dJ19_putVal_299 : decode cJ19_putVal 299 = .ok (.areturn, 1) := dk_176 (dk_at dksJ19_putVal_12 22 rfl rfl)
abbrev cJ19_resize : ByteArray := prog_59_method_17_code
def yJ19_resize : MethodName := ⟨RJ19, "resize", "()[Ljava/util/HashMap$Node;"⟩
def dkwJ19_resize_15 : List UInt8 := [25, 6, 176]
abbrev dktJ19_resize_15 : List UInt8 := dkwJ19_resize_15 ++ []
def dkwJ19_resize_14 : List UInt8 := [198, 0, 18, 25, 12, 1, 181, 0, 177, 25, 6, 21, 7, 28, 96, 25, 11, 83, 132, 7, 1, 167, 255, 57]
abbrev dktJ19_resize_14 : List UInt8 := dkwJ19_resize_14 ++ dktJ19_resize_15
def dkwJ19_resize_13 : List UInt8 := [199, 255, 185, 25, 10, 198, 0, 16, 25, 10, 1, 181, 0, 177, 25, 6, 21, 7, 25, 9, 83, 25, 12]
abbrev dktJ19_resize_13 : List UInt8 := dkwJ19_resize_13 ++ dktJ19_resize_14
def dkwJ19_resize_12 : List UInt8 := [25, 8, 58, 11, 167, 0, 10, 25, 12, 25, 8, 181, 0, 177, 25, 8, 58, 12, 25, 13, 89, 58, 8]
abbrev dktJ19_resize_12 : List UInt8 := dkwJ19_resize_12 ++ dktJ19_resize_13
def dkwJ19_resize_11 : List UInt8 := [58, 9, 167, 0, 10, 25, 10, 25, 8, 181, 0, 177, 25, 8, 58, 10, 167, 0, 26, 25, 12, 199, 0, 10]
abbrev dktJ19_resize_11 : List UInt8 := dkwJ19_resize_11 ++ dktJ19_resize_12
def dkwJ19_resize_10 : List UInt8 := [25, 8, 180, 0, 177, 58, 13, 25, 8, 180, 0, 168, 28, 126, 154, 0, 29, 25, 10, 199, 0, 10, 25, 8]
abbrev dktJ19_resize_10 : List UInt8 := dkwJ19_resize_10 ++ dktJ19_resize_11
def dkwJ19_resize_9 : List UInt8 := [42, 25, 6, 21, 7, 28, 182, 0, 211, 167, 0, 127, 1, 58, 9, 1, 58, 10, 1, 58, 11, 1, 58, 12]
abbrev dktJ19_resize_9 : List UInt8 := dkwJ19_resize_9 ++ dktJ19_resize_10
def dkwJ19_resize_8 : List UInt8 := [21, 4, 4, 100, 126, 25, 8, 83, 167, 0, 152, 25, 8, 193, 0, 180, 153, 0, 20, 25, 8, 192, 0, 180]
abbrev dktJ19_resize_8 : List UInt8 := dkwJ19_resize_8 ++ dktJ19_resize_9
def dkwJ19_resize_7 : List UInt8 := [198, 0, 183, 43, 21, 7, 1, 83, 25, 8, 180, 0, 177, 199, 0, 21, 25, 6, 25, 8, 180, 0, 168]
abbrev dktJ19_resize_7 : List UInt8 := dkwJ19_resize_7 ++ dktJ19_resize_8
def dkwJ19_resize_6 : List UInt8 := [181, 0, 105, 43, 198, 0, 208, 3, 54, 7, 21, 7, 28, 162, 0, 199, 43, 21, 7, 50, 89, 58, 8]
abbrev dktJ19_resize_6 : List UInt8 := dkwJ19_resize_6 ++ dktJ19_resize_7
def dkwJ19_resize_5 : List UInt8 := [167, 0, 5, 18, 209, 54, 5, 42, 21, 5, 181, 0, 88, 21, 4, 189, 0, 163, 58, 6, 42, 25, 6]
abbrev dktJ19_resize_5 : List UInt8 := dkwJ19_resize_5 ++ dktJ19_resize_6
def dkwJ19_resize_4 : List UInt8 := [180, 0, 81, 106, 56, 6, 21, 4, 18, 42, 162, 0, 17, 23, 6, 18, 210, 150, 156, 0, 9, 23, 6, 139]
abbrev dktJ19_resize_4 : List UInt8 := dkwJ19_resize_4 ++ dktJ19_resize_5
def dkwJ19_resize_3 : List UInt8 := [54, 4, 167, 0, 11, 16, 16, 54, 4, 16, 12, 54, 5, 21, 5, 154, 0, 38, 21, 4, 134, 42]
abbrev dktJ19_resize_3 : List UInt8 := dkwJ19_resize_3 ++ dktJ19_resize_4
def dkwJ19_resize_2 : List UInt8 := [18, 42, 162, 0, 35, 28, 16, 16, 161, 0, 29, 29, 4, 120, 54, 5, 167, 0, 21, 29, 158, 0, 9, 29]
abbrev dktJ19_resize_2 : List UInt8 := dkwJ19_resize_2 ++ dktJ19_resize_3
def dkwJ19_resize_1 : List UInt8 := [28, 158, 0, 42, 28, 18, 42, 161, 0, 11, 42, 18, 209, 181, 0, 88, 43, 176, 28, 4, 120, 89, 54, 4]
abbrev dktJ19_resize_1 : List UInt8 := dkwJ19_resize_1 ++ dktJ19_resize_2
def dkwJ19_resize_0 : List UInt8 := [42, 180, 0, 105, 76, 43, 199, 0, 7, 3, 167, 0, 5, 43, 190, 61, 42, 180, 0, 88, 62, 3, 54, 5]
abbrev dktJ19_resize_0 : List UInt8 := dkwJ19_resize_0 ++ dktJ19_resize_1
theorem dksJ19_resize_0 : cJ19_resize.data.toList.drop 0 = dktJ19_resize_0 := by decide +kernel
theorem dksJ19_resize_1 : cJ19_resize.data.toList.drop 24 = dktJ19_resize_1 := dk_seg dksJ19_resize_0 24 rfl rfl
theorem dksJ19_resize_2 : cJ19_resize.data.toList.drop 48 = dktJ19_resize_2 := dk_seg dksJ19_resize_1 24 rfl rfl
theorem dksJ19_resize_3 : cJ19_resize.data.toList.drop 72 = dktJ19_resize_3 := dk_seg dksJ19_resize_2 24 rfl rfl
theorem dksJ19_resize_4 : cJ19_resize.data.toList.drop 94 = dktJ19_resize_4 := dk_seg dksJ19_resize_3 22 rfl rfl
theorem dksJ19_resize_5 : cJ19_resize.data.toList.drop 118 = dktJ19_resize_5 := dk_seg dksJ19_resize_4 24 rfl rfl
theorem dksJ19_resize_6 : cJ19_resize.data.toList.drop 141 = dktJ19_resize_6 := dk_seg dksJ19_resize_5 23 rfl rfl
theorem dksJ19_resize_7 : cJ19_resize.data.toList.drop 164 = dktJ19_resize_7 := dk_seg dksJ19_resize_6 23 rfl rfl
theorem dksJ19_resize_8 : cJ19_resize.data.toList.drop 187 = dktJ19_resize_8 := dk_seg dksJ19_resize_7 23 rfl rfl
theorem dksJ19_resize_9 : cJ19_resize.data.toList.drop 211 = dktJ19_resize_9 := dk_seg dksJ19_resize_8 24 rfl rfl
theorem dksJ19_resize_10 : cJ19_resize.data.toList.drop 235 = dktJ19_resize_10 := dk_seg dksJ19_resize_9 24 rfl rfl
theorem dksJ19_resize_11 : cJ19_resize.data.toList.drop 259 = dktJ19_resize_11 := dk_seg dksJ19_resize_10 24 rfl rfl
theorem dksJ19_resize_12 : cJ19_resize.data.toList.drop 283 = dktJ19_resize_12 := dk_seg dksJ19_resize_11 24 rfl rfl
theorem dksJ19_resize_13 : cJ19_resize.data.toList.drop 306 = dktJ19_resize_13 := dk_seg dksJ19_resize_12 23 rfl rfl
theorem dksJ19_resize_14 : cJ19_resize.data.toList.drop 329 = dktJ19_resize_14 := dk_seg dksJ19_resize_13 23 rfl rfl
theorem dksJ19_resize_15 : cJ19_resize.data.toList.drop 353 = dktJ19_resize_15 := dk_seg dksJ19_resize_14 24 rfl rfl
theorem dJ19_resize_0 : decode cJ19_resize 0 = .ok (.aload_n 0, 1) := dk_42 (dk_at dksJ19_resize_0 0 rfl rfl)
theorem dJ19_resize_1 : decode cJ19_resize 1 = .ok (.getfield 105, 3) := dk_180 0 105 (dk_at dksJ19_resize_0 1 rfl rfl)
theorem dJ19_resize_4 : decode cJ19_resize 4 = .ok (.astore_n 1, 1) := dk_76 (dk_at dksJ19_resize_0 4 rfl rfl)
theorem dJ19_resize_5 : decode cJ19_resize 5 = .ok (.aload_n 1, 1) := dk_43 (dk_at dksJ19_resize_0 5 rfl rfl)
theorem dJ19_resize_6 : decode cJ19_resize 6 = .ok (.ifnonnull 7, 3) := dk_199 0 7 (dk_at dksJ19_resize_0 6 rfl rfl)
theorem dJ19_resize_9 : decode cJ19_resize 9 = .ok (.iconst 0, 1) := dk_3 (dk_at dksJ19_resize_0 9 rfl rfl)
theorem dJ19_resize_10 : decode cJ19_resize 10 = .ok (.goto 5, 3) := dk_167 0 5 (dk_at dksJ19_resize_0 10 rfl rfl)
theorem dJ19_resize_13 : decode cJ19_resize 13 = .ok (.aload_n 1, 1) := dk_43 (dk_at dksJ19_resize_0 13 rfl rfl)
theorem dJ19_resize_14 : decode cJ19_resize 14 = .ok (.arraylength, 1) := dk_190 (dk_at dksJ19_resize_0 14 rfl rfl)
theorem dJ19_resize_15 : decode cJ19_resize 15 = .ok (.istore_n 2, 1) := dk_61 (dk_at dksJ19_resize_0 15 rfl rfl)
theorem dJ19_resize_16 : decode cJ19_resize 16 = .ok (.aload_n 0, 1) := dk_42 (dk_at dksJ19_resize_0 16 rfl rfl)
theorem dJ19_resize_17 : decode cJ19_resize 17 = .ok (.getfield 88, 3) := dk_180 0 88 (dk_at dksJ19_resize_0 17 rfl rfl)
theorem dJ19_resize_20 : decode cJ19_resize 20 = .ok (.istore_n 3, 1) := dk_62 (dk_at dksJ19_resize_0 20 rfl rfl)
theorem dJ19_resize_21 : decode cJ19_resize 21 = .ok (.iconst 0, 1) := dk_3 (dk_at dksJ19_resize_0 21 rfl rfl)
theorem dJ19_resize_22 : decode cJ19_resize 22 = .ok (.istore 5, 2) := dk_54 5 (dk_at dksJ19_resize_0 22 rfl rfl)
theorem dJ19_resize_24 : decode cJ19_resize 24 = .ok (.iload_n 2, 1) := dk_28 (dk_at dksJ19_resize_1 0 rfl rfl)
theorem dJ19_resize_25 : decode cJ19_resize 25 = .ok (.ifCond .le 42, 3) := dk_158 0 42 (dk_at dksJ19_resize_1 1 rfl rfl)
theorem dJ19_resize_28 : decode cJ19_resize 28 = .ok (.iload_n 2, 1) := dk_28 (dk_at dksJ19_resize_1 4 rfl rfl)
theorem dJ19_resize_29 : decode cJ19_resize 29 = .ok (.ldc 42, 2) := dk_18 42 (dk_at dksJ19_resize_1 5 rfl rfl)
theorem dJ19_resize_31 : decode cJ19_resize 31 = .ok (.if_icmp .lt 11, 3) := dk_161 0 11 (dk_at dksJ19_resize_1 7 rfl rfl)
theorem dJ19_resize_34 : decode cJ19_resize 34 = .ok (.aload_n 0, 1) := dk_42 (dk_at dksJ19_resize_1 10 rfl rfl)
theorem dJ19_resize_35 : decode cJ19_resize 35 = .ok (.ldc 209, 2) := dk_18 209 (dk_at dksJ19_resize_1 11 rfl rfl)
theorem dJ19_resize_37 : decode cJ19_resize 37 = .ok (.putfield 88, 3) := dk_181 0 88 (dk_at dksJ19_resize_1 13 rfl rfl)
theorem dJ19_resize_40 : decode cJ19_resize 40 = .ok (.aload_n 1, 1) := dk_43 (dk_at dksJ19_resize_1 16 rfl rfl)
theorem dJ19_resize_41 : decode cJ19_resize 41 = .ok (.areturn, 1) := dk_176 (dk_at dksJ19_resize_1 17 rfl rfl)
theorem dJ19_resize_42 : decode cJ19_resize 42 = .ok (.iload_n 2, 1) := dk_28 (dk_at dksJ19_resize_1 18 rfl rfl)
theorem dJ19_resize_43 : decode cJ19_resize 43 = .ok (.iconst 1, 1) := dk_4 (dk_at dksJ19_resize_1 19 rfl rfl)
theorem dJ19_resize_44 : decode cJ19_resize 44 = .ok (.ishl, 1) := dk_120 (dk_at dksJ19_resize_1 20 rfl rfl)
theorem dJ19_resize_45 : decode cJ19_resize 45 = .ok (.dup, 1) := dk_89 (dk_at dksJ19_resize_1 21 rfl rfl)
theorem dJ19_resize_46 : decode cJ19_resize 46 = .ok (.istore 4, 2) := dk_54 4 (dk_at dksJ19_resize_1 22 rfl rfl)
theorem dJ19_resize_48 : decode cJ19_resize 48 = .ok (.ldc 42, 2) := dk_18 42 (dk_at dksJ19_resize_2 0 rfl rfl)
theorem dJ19_resize_50 : decode cJ19_resize 50 = .ok (.if_icmp .ge 35, 3) := dk_162 0 35 (dk_at dksJ19_resize_2 2 rfl rfl)
theorem dJ19_resize_53 : decode cJ19_resize 53 = .ok (.iload_n 2, 1) := dk_28 (dk_at dksJ19_resize_2 5 rfl rfl)
theorem dJ19_resize_54 : decode cJ19_resize 54 = .ok (.bipush 16, 2) := dk_16 16 (dk_at dksJ19_resize_2 6 rfl rfl)
theorem dJ19_resize_56 : decode cJ19_resize 56 = .ok (.if_icmp .lt 29, 3) := dk_161 0 29 (dk_at dksJ19_resize_2 8 rfl rfl)
theorem dJ19_resize_59 : decode cJ19_resize 59 = .ok (.iload_n 3, 1) := dk_29 (dk_at dksJ19_resize_2 11 rfl rfl)
theorem dJ19_resize_60 : decode cJ19_resize 60 = .ok (.iconst 1, 1) := dk_4 (dk_at dksJ19_resize_2 12 rfl rfl)
theorem dJ19_resize_61 : decode cJ19_resize 61 = .ok (.ishl, 1) := dk_120 (dk_at dksJ19_resize_2 13 rfl rfl)
theorem dJ19_resize_62 : decode cJ19_resize 62 = .ok (.istore 5, 2) := dk_54 5 (dk_at dksJ19_resize_2 14 rfl rfl)
theorem dJ19_resize_64 : decode cJ19_resize 64 = .ok (.goto 21, 3) := dk_167 0 21 (dk_at dksJ19_resize_2 16 rfl rfl)
theorem dJ19_resize_67 : decode cJ19_resize 67 = .ok (.iload_n 3, 1) := dk_29 (dk_at dksJ19_resize_2 19 rfl rfl)
theorem dJ19_resize_68 : decode cJ19_resize 68 = .ok (.ifCond .le 9, 3) := dk_158 0 9 (dk_at dksJ19_resize_2 20 rfl rfl)
theorem dJ19_resize_71 : decode cJ19_resize 71 = .ok (.iload_n 3, 1) := dk_29 (dk_at dksJ19_resize_2 23 rfl rfl)
theorem dJ19_resize_72 : decode cJ19_resize 72 = .ok (.istore 4, 2) := dk_54 4 (dk_at dksJ19_resize_3 0 rfl rfl)
theorem dJ19_resize_74 : decode cJ19_resize 74 = .ok (.goto 11, 3) := dk_167 0 11 (dk_at dksJ19_resize_3 2 rfl rfl)
theorem dJ19_resize_77 : decode cJ19_resize 77 = .ok (.bipush 16, 2) := dk_16 16 (dk_at dksJ19_resize_3 5 rfl rfl)
theorem dJ19_resize_79 : decode cJ19_resize 79 = .ok (.istore 4, 2) := dk_54 4 (dk_at dksJ19_resize_3 7 rfl rfl)
theorem dJ19_resize_81 : decode cJ19_resize 81 = .ok (.bipush 12, 2) := dk_16 12 (dk_at dksJ19_resize_3 9 rfl rfl)
theorem dJ19_resize_83 : decode cJ19_resize 83 = .ok (.istore 5, 2) := dk_54 5 (dk_at dksJ19_resize_3 11 rfl rfl)
theorem dJ19_resize_85 : decode cJ19_resize 85 = .ok (.iload 5, 2) := dk_21 5 (dk_at dksJ19_resize_3 13 rfl rfl)
theorem dJ19_resize_87 : decode cJ19_resize 87 = .ok (.ifCond .ne 38, 3) := dk_154 0 38 (dk_at dksJ19_resize_3 15 rfl rfl)
theorem dJ19_resize_90 : decode cJ19_resize 90 = .ok (.iload 4, 2) := dk_21 4 (dk_at dksJ19_resize_3 18 rfl rfl)
theorem dJ19_resize_92 : decode cJ19_resize 92 = .ok (.i2f, 1) := dk_134 (dk_at dksJ19_resize_3 20 rfl rfl)
theorem dJ19_resize_93 : decode cJ19_resize 93 = .ok (.aload_n 0, 1) := dk_42 (dk_at dksJ19_resize_3 21 rfl rfl)
theorem dJ19_resize_94 : decode cJ19_resize 94 = .ok (.getfield 81, 3) := dk_180 0 81 (dk_at dksJ19_resize_4 0 rfl rfl)
theorem dJ19_resize_97 : decode cJ19_resize 97 = .ok (.fmul, 1) := dk_106 (dk_at dksJ19_resize_4 3 rfl rfl)
theorem dJ19_resize_98 : decode cJ19_resize 98 = .ok (.fstore 6, 2) := dk_56 6 (dk_at dksJ19_resize_4 4 rfl rfl)
theorem dJ19_resize_100 : decode cJ19_resize 100 = .ok (.iload 4, 2) := dk_21 4 (dk_at dksJ19_resize_4 6 rfl rfl)
theorem dJ19_resize_102 : decode cJ19_resize 102 = .ok (.ldc 42, 2) := dk_18 42 (dk_at dksJ19_resize_4 8 rfl rfl)
theorem dJ19_resize_104 : decode cJ19_resize 104 = .ok (.if_icmp .ge 17, 3) := dk_162 0 17 (dk_at dksJ19_resize_4 10 rfl rfl)
theorem dJ19_resize_107 : decode cJ19_resize 107 = .ok (.fload 6, 2) := dk_23 6 (dk_at dksJ19_resize_4 13 rfl rfl)
theorem dJ19_resize_109 : decode cJ19_resize 109 = .ok (.ldc 210, 2) := dk_18 210 (dk_at dksJ19_resize_4 15 rfl rfl)
theorem dJ19_resize_111 : decode cJ19_resize 111 = .ok (.fcmp .g, 1) := dk_150 (dk_at dksJ19_resize_4 17 rfl rfl)
theorem dJ19_resize_112 : decode cJ19_resize 112 = .ok (.ifCond .ge 9, 3) := dk_156 0 9 (dk_at dksJ19_resize_4 18 rfl rfl)
theorem dJ19_resize_115 : decode cJ19_resize 115 = .ok (.fload 6, 2) := dk_23 6 (dk_at dksJ19_resize_4 21 rfl rfl)
theorem dJ19_resize_117 : decode cJ19_resize 117 = .ok (.f2i, 1) := dk_139 (dk_at dksJ19_resize_4 23 rfl rfl)
theorem dJ19_resize_118 : decode cJ19_resize 118 = .ok (.goto 5, 3) := dk_167 0 5 (dk_at dksJ19_resize_5 0 rfl rfl)
theorem dJ19_resize_121 : decode cJ19_resize 121 = .ok (.ldc 209, 2) := dk_18 209 (dk_at dksJ19_resize_5 3 rfl rfl)
theorem dJ19_resize_123 : decode cJ19_resize 123 = .ok (.istore 5, 2) := dk_54 5 (dk_at dksJ19_resize_5 5 rfl rfl)
theorem dJ19_resize_125 : decode cJ19_resize 125 = .ok (.aload_n 0, 1) := dk_42 (dk_at dksJ19_resize_5 7 rfl rfl)
theorem dJ19_resize_126 : decode cJ19_resize 126 = .ok (.iload 5, 2) := dk_21 5 (dk_at dksJ19_resize_5 8 rfl rfl)
theorem dJ19_resize_128 : decode cJ19_resize 128 = .ok (.putfield 88, 3) := dk_181 0 88 (dk_at dksJ19_resize_5 10 rfl rfl)
theorem dJ19_resize_131 : decode cJ19_resize 131 = .ok (.iload 4, 2) := dk_21 4 (dk_at dksJ19_resize_5 13 rfl rfl)
theorem dJ19_resize_133 : decode cJ19_resize 133 = .ok (.anewarray 163, 3) := dk_189 0 163 (dk_at dksJ19_resize_5 15 rfl rfl)
theorem dJ19_resize_136 : decode cJ19_resize 136 = .ok (.astore 6, 2) := dk_58 6 (dk_at dksJ19_resize_5 18 rfl rfl)
theorem dJ19_resize_138 : decode cJ19_resize 138 = .ok (.aload_n 0, 1) := dk_42 (dk_at dksJ19_resize_5 20 rfl rfl)
theorem dJ19_resize_139 : decode cJ19_resize 139 = .ok (.aload 6, 2) := dk_25 6 (dk_at dksJ19_resize_5 21 rfl rfl)
theorem dJ19_resize_141 : decode cJ19_resize 141 = .ok (.putfield 105, 3) := dk_181 0 105 (dk_at dksJ19_resize_6 0 rfl rfl)
theorem dJ19_resize_144 : decode cJ19_resize 144 = .ok (.aload_n 1, 1) := dk_43 (dk_at dksJ19_resize_6 3 rfl rfl)
theorem dJ19_resize_145 : decode cJ19_resize 145 = .ok (.ifnull 208, 3) := dk_198 0 208 (dk_at dksJ19_resize_6 4 rfl rfl)
theorem dJ19_resize_148 : decode cJ19_resize 148 = .ok (.iconst 0, 1) := dk_3 (dk_at dksJ19_resize_6 7 rfl rfl)
theorem dJ19_resize_149 : decode cJ19_resize 149 = .ok (.istore 7, 2) := dk_54 7 (dk_at dksJ19_resize_6 8 rfl rfl)
theorem dJ19_resize_151 : decode cJ19_resize 151 = .ok (.iload 7, 2) := dk_21 7 (dk_at dksJ19_resize_6 10 rfl rfl)
theorem dJ19_resize_153 : decode cJ19_resize 153 = .ok (.iload_n 2, 1) := dk_28 (dk_at dksJ19_resize_6 12 rfl rfl)
theorem dJ19_resize_154 : decode cJ19_resize 154 = .ok (.if_icmp .ge 199, 3) := dk_162 0 199 (dk_at dksJ19_resize_6 13 rfl rfl)
theorem dJ19_resize_157 : decode cJ19_resize 157 = .ok (.aload_n 1, 1) := dk_43 (dk_at dksJ19_resize_6 16 rfl rfl)
theorem dJ19_resize_158 : decode cJ19_resize 158 = .ok (.iload 7, 2) := dk_21 7 (dk_at dksJ19_resize_6 17 rfl rfl)
theorem dJ19_resize_160 : decode cJ19_resize 160 = .ok (.aaload, 1) := dk_50 (dk_at dksJ19_resize_6 19 rfl rfl)
theorem dJ19_resize_161 : decode cJ19_resize 161 = .ok (.dup, 1) := dk_89 (dk_at dksJ19_resize_6 20 rfl rfl)
theorem dJ19_resize_162 : decode cJ19_resize 162 = .ok (.astore 8, 2) := dk_58 8 (dk_at dksJ19_resize_6 21 rfl rfl)
theorem dJ19_resize_164 : decode cJ19_resize 164 = .ok (.ifnull 183, 3) := dk_198 0 183 (dk_at dksJ19_resize_7 0 rfl rfl)
theorem dJ19_resize_167 : decode cJ19_resize 167 = .ok (.aload_n 1, 1) := dk_43 (dk_at dksJ19_resize_7 3 rfl rfl)
theorem dJ19_resize_168 : decode cJ19_resize 168 = .ok (.iload 7, 2) := dk_21 7 (dk_at dksJ19_resize_7 4 rfl rfl)
theorem dJ19_resize_170 : decode cJ19_resize 170 = .ok (.aconst_null, 1) := dk_1 (dk_at dksJ19_resize_7 6 rfl rfl)
theorem dJ19_resize_171 : decode cJ19_resize 171 = .ok (.aastore, 1) := dk_83 (dk_at dksJ19_resize_7 7 rfl rfl)
theorem dJ19_resize_172 : decode cJ19_resize 172 = .ok (.aload 8, 2) := dk_25 8 (dk_at dksJ19_resize_7 8 rfl rfl)
theorem dJ19_resize_174 : decode cJ19_resize 174 = .ok (.getfield 177, 3) := dk_180 0 177 (dk_at dksJ19_resize_7 10 rfl rfl)
theorem dJ19_resize_177 : decode cJ19_resize 177 = .ok (.ifnonnull 21, 3) := dk_199 0 21 (dk_at dksJ19_resize_7 13 rfl rfl)
theorem dJ19_resize_180 : decode cJ19_resize 180 = .ok (.aload 6, 2) := dk_25 6 (dk_at dksJ19_resize_7 16 rfl rfl)
theorem dJ19_resize_182 : decode cJ19_resize 182 = .ok (.aload 8, 2) := dk_25 8 (dk_at dksJ19_resize_7 18 rfl rfl)
theorem dJ19_resize_184 : decode cJ19_resize 184 = .ok (.getfield 168, 3) := dk_180 0 168 (dk_at dksJ19_resize_7 20 rfl rfl)
theorem dJ19_resize_187 : decode cJ19_resize 187 = .ok (.iload 4, 2) := dk_21 4 (dk_at dksJ19_resize_8 0 rfl rfl)
theorem dJ19_resize_189 : decode cJ19_resize 189 = .ok (.iconst 1, 1) := dk_4 (dk_at dksJ19_resize_8 2 rfl rfl)
theorem dJ19_resize_190 : decode cJ19_resize 190 = .ok (.isub, 1) := dk_100 (dk_at dksJ19_resize_8 3 rfl rfl)
theorem dJ19_resize_191 : decode cJ19_resize 191 = .ok (.iand, 1) := dk_126 (dk_at dksJ19_resize_8 4 rfl rfl)
theorem dJ19_resize_192 : decode cJ19_resize 192 = .ok (.aload 8, 2) := dk_25 8 (dk_at dksJ19_resize_8 5 rfl rfl)
theorem dJ19_resize_194 : decode cJ19_resize 194 = .ok (.aastore, 1) := dk_83 (dk_at dksJ19_resize_8 7 rfl rfl)
theorem dJ19_resize_195 : decode cJ19_resize 195 = .ok (.goto 152, 3) := dk_167 0 152 (dk_at dksJ19_resize_8 8 rfl rfl)
theorem dJ19_resize_198 : decode cJ19_resize 198 = .ok (.aload 8, 2) := dk_25 8 (dk_at dksJ19_resize_8 11 rfl rfl)
theorem dJ19_resize_200 : decode cJ19_resize 200 = .ok (.instanceof 180, 3) := dk_193 0 180 (dk_at dksJ19_resize_8 13 rfl rfl)
theorem dJ19_resize_203 : decode cJ19_resize 203 = .ok (.ifCond .eq 20, 3) := dk_153 0 20 (dk_at dksJ19_resize_8 16 rfl rfl)
theorem dJ19_resize_206 : decode cJ19_resize 206 = .ok (.aload 8, 2) := dk_25 8 (dk_at dksJ19_resize_8 19 rfl rfl)
theorem dJ19_resize_208 : decode cJ19_resize 208 = .ok (.checkcast 180, 3) := dk_192 0 180 (dk_at dksJ19_resize_8 21 rfl rfl)
theorem dJ19_resize_211 : decode cJ19_resize 211 = .ok (.aload_n 0, 1) := dk_42 (dk_at dksJ19_resize_9 0 rfl rfl)
theorem dJ19_resize_212 : decode cJ19_resize 212 = .ok (.aload 6, 2) := dk_25 6 (dk_at dksJ19_resize_9 1 rfl rfl)
theorem dJ19_resize_214 : decode cJ19_resize 214 = .ok (.iload 7, 2) := dk_21 7 (dk_at dksJ19_resize_9 3 rfl rfl)
theorem dJ19_resize_216 : decode cJ19_resize 216 = .ok (.iload_n 2, 1) := dk_28 (dk_at dksJ19_resize_9 5 rfl rfl)
theorem dJ19_resize_217 : decode cJ19_resize 217 = .ok (.invokevirtual 211, 3) := dk_182 0 211 (dk_at dksJ19_resize_9 6 rfl rfl)
theorem dJ19_resize_220 : decode cJ19_resize 220 = .ok (.goto 127, 3) := dk_167 0 127 (dk_at dksJ19_resize_9 9 rfl rfl)
theorem dJ19_resize_223 : decode cJ19_resize 223 = .ok (.aconst_null, 1) := dk_1 (dk_at dksJ19_resize_9 12 rfl rfl)
theorem dJ19_resize_224 : decode cJ19_resize 224 = .ok (.astore 9, 2) := dk_58 9 (dk_at dksJ19_resize_9 13 rfl rfl)
theorem dJ19_resize_226 : decode cJ19_resize 226 = .ok (.aconst_null, 1) := dk_1 (dk_at dksJ19_resize_9 15 rfl rfl)
theorem dJ19_resize_227 : decode cJ19_resize 227 = .ok (.astore 10, 2) := dk_58 10 (dk_at dksJ19_resize_9 16 rfl rfl)
theorem dJ19_resize_229 : decode cJ19_resize 229 = .ok (.aconst_null, 1) := dk_1 (dk_at dksJ19_resize_9 18 rfl rfl)
theorem dJ19_resize_230 : decode cJ19_resize 230 = .ok (.astore 11, 2) := dk_58 11 (dk_at dksJ19_resize_9 19 rfl rfl)
theorem dJ19_resize_232 : decode cJ19_resize 232 = .ok (.aconst_null, 1) := dk_1 (dk_at dksJ19_resize_9 21 rfl rfl)
theorem dJ19_resize_233 : decode cJ19_resize 233 = .ok (.astore 12, 2) := dk_58 12 (dk_at dksJ19_resize_9 22 rfl rfl)
theorem dJ19_resize_235 : decode cJ19_resize 235 = .ok (.aload 8, 2) := dk_25 8 (dk_at dksJ19_resize_10 0 rfl rfl)
theorem dJ19_resize_237 : decode cJ19_resize 237 = .ok (.getfield 177, 3) := dk_180 0 177 (dk_at dksJ19_resize_10 2 rfl rfl)
theorem dJ19_resize_240 : decode cJ19_resize 240 = .ok (.astore 13, 2) := dk_58 13 (dk_at dksJ19_resize_10 5 rfl rfl)
theorem dJ19_resize_242 : decode cJ19_resize 242 = .ok (.aload 8, 2) := dk_25 8 (dk_at dksJ19_resize_10 7 rfl rfl)
theorem dJ19_resize_244 : decode cJ19_resize 244 = .ok (.getfield 168, 3) := dk_180 0 168 (dk_at dksJ19_resize_10 9 rfl rfl)
theorem dJ19_resize_247 : decode cJ19_resize 247 = .ok (.iload_n 2, 1) := dk_28 (dk_at dksJ19_resize_10 12 rfl rfl)
theorem dJ19_resize_248 : decode cJ19_resize 248 = .ok (.iand, 1) := dk_126 (dk_at dksJ19_resize_10 13 rfl rfl)
theorem dJ19_resize_249 : decode cJ19_resize 249 = .ok (.ifCond .ne 29, 3) := dk_154 0 29 (dk_at dksJ19_resize_10 14 rfl rfl)
theorem dJ19_resize_252 : decode cJ19_resize 252 = .ok (.aload 10, 2) := dk_25 10 (dk_at dksJ19_resize_10 17 rfl rfl)
theorem dJ19_resize_254 : decode cJ19_resize 254 = .ok (.ifnonnull 10, 3) := dk_199 0 10 (dk_at dksJ19_resize_10 19 rfl rfl)
theorem dJ19_resize_257 : decode cJ19_resize 257 = .ok (.aload 8, 2) := dk_25 8 (dk_at dksJ19_resize_10 22 rfl rfl)
theorem dJ19_resize_259 : decode cJ19_resize 259 = .ok (.astore 9, 2) := dk_58 9 (dk_at dksJ19_resize_11 0 rfl rfl)
theorem dJ19_resize_261 : decode cJ19_resize 261 = .ok (.goto 10, 3) := dk_167 0 10 (dk_at dksJ19_resize_11 2 rfl rfl)
theorem dJ19_resize_264 : decode cJ19_resize 264 = .ok (.aload 10, 2) := dk_25 10 (dk_at dksJ19_resize_11 5 rfl rfl)
theorem dJ19_resize_266 : decode cJ19_resize 266 = .ok (.aload 8, 2) := dk_25 8 (dk_at dksJ19_resize_11 7 rfl rfl)
theorem dJ19_resize_268 : decode cJ19_resize 268 = .ok (.putfield 177, 3) := dk_181 0 177 (dk_at dksJ19_resize_11 9 rfl rfl)
theorem dJ19_resize_271 : decode cJ19_resize 271 = .ok (.aload 8, 2) := dk_25 8 (dk_at dksJ19_resize_11 12 rfl rfl)
theorem dJ19_resize_273 : decode cJ19_resize 273 = .ok (.astore 10, 2) := dk_58 10 (dk_at dksJ19_resize_11 14 rfl rfl)
theorem dJ19_resize_275 : decode cJ19_resize 275 = .ok (.goto 26, 3) := dk_167 0 26 (dk_at dksJ19_resize_11 16 rfl rfl)
theorem dJ19_resize_278 : decode cJ19_resize 278 = .ok (.aload 12, 2) := dk_25 12 (dk_at dksJ19_resize_11 19 rfl rfl)
theorem dJ19_resize_280 : decode cJ19_resize 280 = .ok (.ifnonnull 10, 3) := dk_199 0 10 (dk_at dksJ19_resize_11 21 rfl rfl)
theorem dJ19_resize_283 : decode cJ19_resize 283 = .ok (.aload 8, 2) := dk_25 8 (dk_at dksJ19_resize_12 0 rfl rfl)
theorem dJ19_resize_285 : decode cJ19_resize 285 = .ok (.astore 11, 2) := dk_58 11 (dk_at dksJ19_resize_12 2 rfl rfl)
theorem dJ19_resize_287 : decode cJ19_resize 287 = .ok (.goto 10, 3) := dk_167 0 10 (dk_at dksJ19_resize_12 4 rfl rfl)
theorem dJ19_resize_290 : decode cJ19_resize 290 = .ok (.aload 12, 2) := dk_25 12 (dk_at dksJ19_resize_12 7 rfl rfl)
theorem dJ19_resize_292 : decode cJ19_resize 292 = .ok (.aload 8, 2) := dk_25 8 (dk_at dksJ19_resize_12 9 rfl rfl)
theorem dJ19_resize_294 : decode cJ19_resize 294 = .ok (.putfield 177, 3) := dk_181 0 177 (dk_at dksJ19_resize_12 11 rfl rfl)
theorem dJ19_resize_297 : decode cJ19_resize 297 = .ok (.aload 8, 2) := dk_25 8 (dk_at dksJ19_resize_12 14 rfl rfl)
theorem dJ19_resize_299 : decode cJ19_resize 299 = .ok (.astore 12, 2) := dk_58 12 (dk_at dksJ19_resize_12 16 rfl rfl)
theorem dJ19_resize_301 : decode cJ19_resize 301 = .ok (.aload 13, 2) := dk_25 13 (dk_at dksJ19_resize_12 18 rfl rfl)
theorem dJ19_resize_303 : decode cJ19_resize 303 = .ok (.dup, 1) := dk_89 (dk_at dksJ19_resize_12 20 rfl rfl)
theorem dJ19_resize_304 : decode cJ19_resize 304 = .ok (.astore 8, 2) := dk_58 8 (dk_at dksJ19_resize_12 21 rfl rfl)
theorem dJ19_resize_306 : decode cJ19_resize 306 = .ok (.ifnonnull (-71), 3) := dk_199 255 185 (dk_at dksJ19_resize_13 0 rfl rfl)
theorem dJ19_resize_309 : decode cJ19_resize 309 = .ok (.aload 10, 2) := dk_25 10 (dk_at dksJ19_resize_13 3 rfl rfl)
theorem dJ19_resize_311 : decode cJ19_resize 311 = .ok (.ifnull 16, 3) := dk_198 0 16 (dk_at dksJ19_resize_13 5 rfl rfl)
theorem dJ19_resize_314 : decode cJ19_resize 314 = .ok (.aload 10, 2) := dk_25 10 (dk_at dksJ19_resize_13 8 rfl rfl)
theorem dJ19_resize_316 : decode cJ19_resize 316 = .ok (.aconst_null, 1) := dk_1 (dk_at dksJ19_resize_13 10 rfl rfl)
theorem dJ19_resize_317 : decode cJ19_resize 317 = .ok (.putfield 177, 3) := dk_181 0 177 (dk_at dksJ19_resize_13 11 rfl rfl)
theorem dJ19_resize_320 : decode cJ19_resize 320 = .ok (.aload 6, 2) := dk_25 6 (dk_at dksJ19_resize_13 14 rfl rfl)
theorem dJ19_resize_322 : decode cJ19_resize 322 = .ok (.iload 7, 2) := dk_21 7 (dk_at dksJ19_resize_13 16 rfl rfl)
theorem dJ19_resize_324 : decode cJ19_resize 324 = .ok (.aload 9, 2) := dk_25 9 (dk_at dksJ19_resize_13 18 rfl rfl)
theorem dJ19_resize_326 : decode cJ19_resize 326 = .ok (.aastore, 1) := dk_83 (dk_at dksJ19_resize_13 20 rfl rfl)
theorem dJ19_resize_327 : decode cJ19_resize 327 = .ok (.aload 12, 2) := dk_25 12 (dk_at dksJ19_resize_13 21 rfl rfl)
theorem dJ19_resize_329 : decode cJ19_resize 329 = .ok (.ifnull 18, 3) := dk_198 0 18 (dk_at dksJ19_resize_14 0 rfl rfl)
theorem dJ19_resize_332 : decode cJ19_resize 332 = .ok (.aload 12, 2) := dk_25 12 (dk_at dksJ19_resize_14 3 rfl rfl)
theorem dJ19_resize_334 : decode cJ19_resize 334 = .ok (.aconst_null, 1) := dk_1 (dk_at dksJ19_resize_14 5 rfl rfl)
theorem dJ19_resize_335 : decode cJ19_resize 335 = .ok (.putfield 177, 3) := dk_181 0 177 (dk_at dksJ19_resize_14 6 rfl rfl)
theorem dJ19_resize_338 : decode cJ19_resize 338 = .ok (.aload 6, 2) := dk_25 6 (dk_at dksJ19_resize_14 9 rfl rfl)
theorem dJ19_resize_340 : decode cJ19_resize 340 = .ok (.iload 7, 2) := dk_21 7 (dk_at dksJ19_resize_14 11 rfl rfl)
theorem dJ19_resize_342 : decode cJ19_resize 342 = .ok (.iload_n 2, 1) := dk_28 (dk_at dksJ19_resize_14 13 rfl rfl)
theorem dJ19_resize_343 : decode cJ19_resize 343 = .ok (.iadd, 1) := dk_96 (dk_at dksJ19_resize_14 14 rfl rfl)
theorem dJ19_resize_344 : decode cJ19_resize 344 = .ok (.aload 11, 2) := dk_25 11 (dk_at dksJ19_resize_14 15 rfl rfl)
theorem dJ19_resize_346 : decode cJ19_resize 346 = .ok (.aastore, 1) := dk_83 (dk_at dksJ19_resize_14 17 rfl rfl)
theorem dJ19_resize_347 : decode cJ19_resize 347 = .ok (.iinc 7 1, 3) := dk_132 7 1 (dk_at dksJ19_resize_14 18 rfl rfl)
theorem dJ19_resize_350 : decode cJ19_resize 350 = .ok (.goto (-199), 3) := dk_167 255 57 (dk_at dksJ19_resize_14 21 rfl rfl)
theorem dJ19_resize_353 : decode cJ19_resize 353 = .ok (.aload 6, 2) := dk_25 6 (dk_at dksJ19_resize_15 0 rfl rfl)
theorem dJ19_resize_355 : decode cJ19_resize 355 = .ok (.areturn, 1) := dk_176 (dk_at dksJ19_resize_15 2 rfl rfl)
abbrev cJ19_replacementNode : ByteArray := prog_59_method_47_code
def yJ19_replacementNode : MethodName := ⟨RJ19, "replacementNode", "(Ljava/util/HashMap$Node;Ljava/util/HashMap$Node;)Ljava/util/HashMap$Node;"⟩
def dkwJ19_replacementNode_0 : List UInt8 := [187, 0, 163, 89, 43, 180, 0, 168, 43, 180, 0, 170, 43, 180, 0, 162, 44, 183, 1, 119, 176]
abbrev dktJ19_replacementNode_0 : List UInt8 := dkwJ19_replacementNode_0 ++ []
theorem dksJ19_replacementNode_0 : cJ19_replacementNode.data.toList.drop 0 = dktJ19_replacementNode_0 := by decide +kernel
theorem dJ19_replacementNode_0 : decode cJ19_replacementNode 0 = .ok (.new 163, 3) := dk_187 0 163 (dk_at dksJ19_replacementNode_0 0 rfl rfl)
theorem dJ19_replacementNode_3 : decode cJ19_replacementNode 3 = .ok (.dup, 1) := dk_89 (dk_at dksJ19_replacementNode_0 3 rfl rfl)
theorem dJ19_replacementNode_4 : decode cJ19_replacementNode 4 = .ok (.aload_n 1, 1) := dk_43 (dk_at dksJ19_replacementNode_0 4 rfl rfl)
theorem dJ19_replacementNode_5 : decode cJ19_replacementNode 5 = .ok (.getfield 168, 3) := dk_180 0 168 (dk_at dksJ19_replacementNode_0 5 rfl rfl)
theorem dJ19_replacementNode_8 : decode cJ19_replacementNode 8 = .ok (.aload_n 1, 1) := dk_43 (dk_at dksJ19_replacementNode_0 8 rfl rfl)
theorem dJ19_replacementNode_9 : decode cJ19_replacementNode 9 = .ok (.getfield 170, 3) := dk_180 0 170 (dk_at dksJ19_replacementNode_0 9 rfl rfl)
theorem dJ19_replacementNode_12 : decode cJ19_replacementNode 12 = .ok (.aload_n 1, 1) := dk_43 (dk_at dksJ19_replacementNode_0 12 rfl rfl)
theorem dJ19_replacementNode_13 : decode cJ19_replacementNode 13 = .ok (.getfield 162, 3) := dk_180 0 162 (dk_at dksJ19_replacementNode_0 13 rfl rfl)
theorem dJ19_replacementNode_16 : decode cJ19_replacementNode 16 = .ok (.aload_n 2, 1) := dk_44 (dk_at dksJ19_replacementNode_0 16 rfl rfl)
theorem dJ19_replacementNode_17 : decode cJ19_replacementNode 17 = .ok (.invokespecial 375, 3) := dk_183 1 119 (dk_at dksJ19_replacementNode_0 17 rfl rfl)
theorem dJ19_replacementNode_20 : decode cJ19_replacementNode 20 = .ok (.areturn, 1) := dk_176 (dk_at dksJ19_replacementNode_0 20 rfl rfl)
abbrev cJ19_newNode : ByteArray := prog_59_method_46_code
def yJ19_newNode : MethodName := ⟨RJ19, "newNode", "(ILjava/lang/Object;Ljava/lang/Object;Ljava/util/HashMap$Node;)Ljava/util/HashMap$Node;"⟩
def dkwJ19_newNode_0 : List UInt8 := [187, 0, 163, 89, 27, 44, 45, 25, 4, 183, 1, 119, 176]
abbrev dktJ19_newNode_0 : List UInt8 := dkwJ19_newNode_0 ++ []
theorem dksJ19_newNode_0 : cJ19_newNode.data.toList.drop 0 = dktJ19_newNode_0 := by decide +kernel
theorem dJ19_newNode_0 : decode cJ19_newNode 0 = .ok (.new 163, 3) := dk_187 0 163 (dk_at dksJ19_newNode_0 0 rfl rfl)
theorem dJ19_newNode_3 : decode cJ19_newNode 3 = .ok (.dup, 1) := dk_89 (dk_at dksJ19_newNode_0 3 rfl rfl)
theorem dJ19_newNode_4 : decode cJ19_newNode 4 = .ok (.iload_n 1, 1) := dk_27 (dk_at dksJ19_newNode_0 4 rfl rfl)
theorem dJ19_newNode_5 : decode cJ19_newNode 5 = .ok (.aload_n 2, 1) := dk_44 (dk_at dksJ19_newNode_0 5 rfl rfl)
theorem dJ19_newNode_6 : decode cJ19_newNode 6 = .ok (.aload_n 3, 1) := dk_45 (dk_at dksJ19_newNode_0 6 rfl rfl)
theorem dJ19_newNode_7 : decode cJ19_newNode 7 = .ok (.aload 4, 2) := dk_25 4 (dk_at dksJ19_newNode_0 7 rfl rfl)
theorem dJ19_newNode_9 : decode cJ19_newNode 9 = .ok (.invokespecial 375, 3) := dk_183 1 119 (dk_at dksJ19_newNode_0 9 rfl rfl)
theorem dJ19_newNode_12 : decode cJ19_newNode 12 = .ok (.areturn, 1) := dk_176 (dk_at dksJ19_newNode_0 12 rfl rfl)
abbrev cJ19_newTreeNode : ByteArray := prog_59_method_48_code
def yJ19_newTreeNode : MethodName := ⟨RJ19, "newTreeNode", "(ILjava/lang/Object;Ljava/lang/Object;Ljava/util/HashMap$Node;)Ljava/util/HashMap$TreeNode;"⟩
def dkwJ19_newTreeNode_0 : List UInt8 := [187, 0, 180, 89, 27, 44, 45, 25, 4, 183, 1, 122, 176]
abbrev dktJ19_newTreeNode_0 : List UInt8 := dkwJ19_newTreeNode_0 ++ []
theorem dksJ19_newTreeNode_0 : cJ19_newTreeNode.data.toList.drop 0 = dktJ19_newTreeNode_0 := by decide +kernel
theorem dJ19_newTreeNode_0 : decode cJ19_newTreeNode 0 = .ok (.new 180, 3) := dk_187 0 180 (dk_at dksJ19_newTreeNode_0 0 rfl rfl)
theorem dJ19_newTreeNode_3 : decode cJ19_newTreeNode 3 = .ok (.dup, 1) := dk_89 (dk_at dksJ19_newTreeNode_0 3 rfl rfl)
theorem dJ19_newTreeNode_4 : decode cJ19_newTreeNode 4 = .ok (.iload_n 1, 1) := dk_27 (dk_at dksJ19_newTreeNode_0 4 rfl rfl)
theorem dJ19_newTreeNode_5 : decode cJ19_newTreeNode 5 = .ok (.aload_n 2, 1) := dk_44 (dk_at dksJ19_newTreeNode_0 5 rfl rfl)
theorem dJ19_newTreeNode_6 : decode cJ19_newTreeNode 6 = .ok (.aload_n 3, 1) := dk_45 (dk_at dksJ19_newTreeNode_0 6 rfl rfl)
theorem dJ19_newTreeNode_7 : decode cJ19_newTreeNode 7 = .ok (.aload 4, 2) := dk_25 4 (dk_at dksJ19_newTreeNode_0 7 rfl rfl)
theorem dJ19_newTreeNode_9 : decode cJ19_newTreeNode 9 = .ok (.invokespecial 378, 3) := dk_183 1 122 (dk_at dksJ19_newTreeNode_0 9 rfl rfl)
theorem dJ19_newTreeNode_12 : decode cJ19_newTreeNode 12 = .ok (.areturn, 1) := dk_176 (dk_at dksJ19_newTreeNode_0 12 rfl rfl)
abbrev cJ19_treeifyBin : ByteArray := prog_59_method_18_code
def yJ19_treeifyBin : MethodName := ⟨RJ19, "treeifyBin", "([Ljava/util/HashMap$Node;I)V"⟩
def dkwJ19_treeifyBin_4 : List UInt8 := [21, 4, 25, 6, 91, 83, 198, 0, 9, 25, 6, 43, 182, 0, 224, 177]
abbrev dktJ19_treeifyBin_4 : List UInt8 := dkwJ19_treeifyBin_4 ++ []
def dkwJ19_treeifyBin_3 : List UInt8 := [25, 7, 25, 8, 181, 0, 223, 25, 8, 58, 7, 25, 5, 180, 0, 177, 89, 58, 5, 199, 255, 209, 43]
abbrev dktJ19_treeifyBin_3 : List UInt8 := dkwJ19_treeifyBin_3 ++ dktJ19_treeifyBin_4
def dkwJ19_treeifyBin_2 : List UInt8 := [182, 0, 215, 58, 8, 25, 7, 199, 0, 10, 25, 8, 58, 6, 167, 0, 17, 25, 8, 25, 7, 181, 0, 219]
abbrev dktJ19_treeifyBin_2 : List UInt8 := dkwJ19_treeifyBin_2 ++ dktJ19_treeifyBin_3
def dkwJ19_treeifyBin_1 : List UInt8 := [100, 28, 126, 89, 54, 4, 50, 89, 58, 5, 198, 0, 75, 1, 58, 6, 1, 58, 7, 42, 25, 5, 1]
abbrev dktJ19_treeifyBin_1 : List UInt8 := dkwJ19_treeifyBin_1 ++ dktJ19_treeifyBin_2
def dkwJ19_treeifyBin_0 : List UInt8 := [43, 198, 0, 12, 43, 190, 89, 62, 16, 64, 162, 0, 11, 42, 182, 0, 117, 87, 167, 0, 91, 43, 29, 4]
abbrev dktJ19_treeifyBin_0 : List UInt8 := dkwJ19_treeifyBin_0 ++ dktJ19_treeifyBin_1
theorem dksJ19_treeifyBin_0 : cJ19_treeifyBin.data.toList.drop 0 = dktJ19_treeifyBin_0 := by decide +kernel
theorem dksJ19_treeifyBin_1 : cJ19_treeifyBin.data.toList.drop 24 = dktJ19_treeifyBin_1 := dk_seg dksJ19_treeifyBin_0 24 rfl rfl
theorem dksJ19_treeifyBin_2 : cJ19_treeifyBin.data.toList.drop 47 = dktJ19_treeifyBin_2 := dk_seg dksJ19_treeifyBin_1 23 rfl rfl
theorem dksJ19_treeifyBin_3 : cJ19_treeifyBin.data.toList.drop 71 = dktJ19_treeifyBin_3 := dk_seg dksJ19_treeifyBin_2 24 rfl rfl
theorem dksJ19_treeifyBin_4 : cJ19_treeifyBin.data.toList.drop 94 = dktJ19_treeifyBin_4 := dk_seg dksJ19_treeifyBin_3 23 rfl rfl
theorem dJ19_treeifyBin_0 : decode cJ19_treeifyBin 0 = .ok (.aload_n 1, 1) := dk_43 (dk_at dksJ19_treeifyBin_0 0 rfl rfl)
theorem dJ19_treeifyBin_1 : decode cJ19_treeifyBin 1 = .ok (.ifnull 12, 3) := dk_198 0 12 (dk_at dksJ19_treeifyBin_0 1 rfl rfl)
theorem dJ19_treeifyBin_4 : decode cJ19_treeifyBin 4 = .ok (.aload_n 1, 1) := dk_43 (dk_at dksJ19_treeifyBin_0 4 rfl rfl)
theorem dJ19_treeifyBin_5 : decode cJ19_treeifyBin 5 = .ok (.arraylength, 1) := dk_190 (dk_at dksJ19_treeifyBin_0 5 rfl rfl)
theorem dJ19_treeifyBin_6 : decode cJ19_treeifyBin 6 = .ok (.dup, 1) := dk_89 (dk_at dksJ19_treeifyBin_0 6 rfl rfl)
theorem dJ19_treeifyBin_7 : decode cJ19_treeifyBin 7 = .ok (.istore_n 3, 1) := dk_62 (dk_at dksJ19_treeifyBin_0 7 rfl rfl)
theorem dJ19_treeifyBin_8 : decode cJ19_treeifyBin 8 = .ok (.bipush 64, 2) := dk_16 64 (dk_at dksJ19_treeifyBin_0 8 rfl rfl)
theorem dJ19_treeifyBin_10 : decode cJ19_treeifyBin 10 = .ok (.if_icmp .ge 11, 3) := dk_162 0 11 (dk_at dksJ19_treeifyBin_0 10 rfl rfl)
theorem dJ19_treeifyBin_13 : decode cJ19_treeifyBin 13 = .ok (.aload_n 0, 1) := dk_42 (dk_at dksJ19_treeifyBin_0 13 rfl rfl)
theorem dJ19_treeifyBin_14 : decode cJ19_treeifyBin 14 = .ok (.invokevirtual 117, 3) := dk_182 0 117 (dk_at dksJ19_treeifyBin_0 14 rfl rfl)
theorem dJ19_treeifyBin_17 : decode cJ19_treeifyBin 17 = .ok (.pop, 1) := dk_87 (dk_at dksJ19_treeifyBin_0 17 rfl rfl)
theorem dJ19_treeifyBin_18 : decode cJ19_treeifyBin 18 = .ok (.goto 91, 3) := dk_167 0 91 (dk_at dksJ19_treeifyBin_0 18 rfl rfl)
theorem dJ19_treeifyBin_21 : decode cJ19_treeifyBin 21 = .ok (.aload_n 1, 1) := dk_43 (dk_at dksJ19_treeifyBin_0 21 rfl rfl)
theorem dJ19_treeifyBin_22 : decode cJ19_treeifyBin 22 = .ok (.iload_n 3, 1) := dk_29 (dk_at dksJ19_treeifyBin_0 22 rfl rfl)
theorem dJ19_treeifyBin_23 : decode cJ19_treeifyBin 23 = .ok (.iconst 1, 1) := dk_4 (dk_at dksJ19_treeifyBin_0 23 rfl rfl)
theorem dJ19_treeifyBin_24 : decode cJ19_treeifyBin 24 = .ok (.isub, 1) := dk_100 (dk_at dksJ19_treeifyBin_1 0 rfl rfl)
theorem dJ19_treeifyBin_25 : decode cJ19_treeifyBin 25 = .ok (.iload_n 2, 1) := dk_28 (dk_at dksJ19_treeifyBin_1 1 rfl rfl)
theorem dJ19_treeifyBin_26 : decode cJ19_treeifyBin 26 = .ok (.iand, 1) := dk_126 (dk_at dksJ19_treeifyBin_1 2 rfl rfl)
theorem dJ19_treeifyBin_27 : decode cJ19_treeifyBin 27 = .ok (.dup, 1) := dk_89 (dk_at dksJ19_treeifyBin_1 3 rfl rfl)
theorem dJ19_treeifyBin_28 : decode cJ19_treeifyBin 28 = .ok (.istore 4, 2) := dk_54 4 (dk_at dksJ19_treeifyBin_1 4 rfl rfl)
theorem dJ19_treeifyBin_30 : decode cJ19_treeifyBin 30 = .ok (.aaload, 1) := dk_50 (dk_at dksJ19_treeifyBin_1 6 rfl rfl)
theorem dJ19_treeifyBin_31 : decode cJ19_treeifyBin 31 = .ok (.dup, 1) := dk_89 (dk_at dksJ19_treeifyBin_1 7 rfl rfl)
theorem dJ19_treeifyBin_32 : decode cJ19_treeifyBin 32 = .ok (.astore 5, 2) := dk_58 5 (dk_at dksJ19_treeifyBin_1 8 rfl rfl)
theorem dJ19_treeifyBin_34 : decode cJ19_treeifyBin 34 = .ok (.ifnull 75, 3) := dk_198 0 75 (dk_at dksJ19_treeifyBin_1 10 rfl rfl)
theorem dJ19_treeifyBin_37 : decode cJ19_treeifyBin 37 = .ok (.aconst_null, 1) := dk_1 (dk_at dksJ19_treeifyBin_1 13 rfl rfl)
theorem dJ19_treeifyBin_38 : decode cJ19_treeifyBin 38 = .ok (.astore 6, 2) := dk_58 6 (dk_at dksJ19_treeifyBin_1 14 rfl rfl)
theorem dJ19_treeifyBin_40 : decode cJ19_treeifyBin 40 = .ok (.aconst_null, 1) := dk_1 (dk_at dksJ19_treeifyBin_1 16 rfl rfl)
theorem dJ19_treeifyBin_41 : decode cJ19_treeifyBin 41 = .ok (.astore 7, 2) := dk_58 7 (dk_at dksJ19_treeifyBin_1 17 rfl rfl)
theorem dJ19_treeifyBin_43 : decode cJ19_treeifyBin 43 = .ok (.aload_n 0, 1) := dk_42 (dk_at dksJ19_treeifyBin_1 19 rfl rfl)
theorem dJ19_treeifyBin_44 : decode cJ19_treeifyBin 44 = .ok (.aload 5, 2) := dk_25 5 (dk_at dksJ19_treeifyBin_1 20 rfl rfl)
theorem dJ19_treeifyBin_46 : decode cJ19_treeifyBin 46 = .ok (.aconst_null, 1) := dk_1 (dk_at dksJ19_treeifyBin_1 22 rfl rfl)
theorem dJ19_treeifyBin_47 : decode cJ19_treeifyBin 47 = .ok (.invokevirtual 215, 3) := dk_182 0 215 (dk_at dksJ19_treeifyBin_2 0 rfl rfl)
theorem dJ19_treeifyBin_50 : decode cJ19_treeifyBin 50 = .ok (.astore 8, 2) := dk_58 8 (dk_at dksJ19_treeifyBin_2 3 rfl rfl)
theorem dJ19_treeifyBin_52 : decode cJ19_treeifyBin 52 = .ok (.aload 7, 2) := dk_25 7 (dk_at dksJ19_treeifyBin_2 5 rfl rfl)
theorem dJ19_treeifyBin_54 : decode cJ19_treeifyBin 54 = .ok (.ifnonnull 10, 3) := dk_199 0 10 (dk_at dksJ19_treeifyBin_2 7 rfl rfl)
theorem dJ19_treeifyBin_57 : decode cJ19_treeifyBin 57 = .ok (.aload 8, 2) := dk_25 8 (dk_at dksJ19_treeifyBin_2 10 rfl rfl)
theorem dJ19_treeifyBin_59 : decode cJ19_treeifyBin 59 = .ok (.astore 6, 2) := dk_58 6 (dk_at dksJ19_treeifyBin_2 12 rfl rfl)
theorem dJ19_treeifyBin_61 : decode cJ19_treeifyBin 61 = .ok (.goto 17, 3) := dk_167 0 17 (dk_at dksJ19_treeifyBin_2 14 rfl rfl)
theorem dJ19_treeifyBin_64 : decode cJ19_treeifyBin 64 = .ok (.aload 8, 2) := dk_25 8 (dk_at dksJ19_treeifyBin_2 17 rfl rfl)
theorem dJ19_treeifyBin_66 : decode cJ19_treeifyBin 66 = .ok (.aload 7, 2) := dk_25 7 (dk_at dksJ19_treeifyBin_2 19 rfl rfl)
theorem dJ19_treeifyBin_68 : decode cJ19_treeifyBin 68 = .ok (.putfield 219, 3) := dk_181 0 219 (dk_at dksJ19_treeifyBin_2 21 rfl rfl)
theorem dJ19_treeifyBin_71 : decode cJ19_treeifyBin 71 = .ok (.aload 7, 2) := dk_25 7 (dk_at dksJ19_treeifyBin_3 0 rfl rfl)
theorem dJ19_treeifyBin_73 : decode cJ19_treeifyBin 73 = .ok (.aload 8, 2) := dk_25 8 (dk_at dksJ19_treeifyBin_3 2 rfl rfl)
theorem dJ19_treeifyBin_75 : decode cJ19_treeifyBin 75 = .ok (.putfield 223, 3) := dk_181 0 223 (dk_at dksJ19_treeifyBin_3 4 rfl rfl)
theorem dJ19_treeifyBin_78 : decode cJ19_treeifyBin 78 = .ok (.aload 8, 2) := dk_25 8 (dk_at dksJ19_treeifyBin_3 7 rfl rfl)
theorem dJ19_treeifyBin_80 : decode cJ19_treeifyBin 80 = .ok (.astore 7, 2) := dk_58 7 (dk_at dksJ19_treeifyBin_3 9 rfl rfl)
theorem dJ19_treeifyBin_82 : decode cJ19_treeifyBin 82 = .ok (.aload 5, 2) := dk_25 5 (dk_at dksJ19_treeifyBin_3 11 rfl rfl)
theorem dJ19_treeifyBin_84 : decode cJ19_treeifyBin 84 = .ok (.getfield 177, 3) := dk_180 0 177 (dk_at dksJ19_treeifyBin_3 13 rfl rfl)
theorem dJ19_treeifyBin_87 : decode cJ19_treeifyBin 87 = .ok (.dup, 1) := dk_89 (dk_at dksJ19_treeifyBin_3 16 rfl rfl)
theorem dJ19_treeifyBin_88 : decode cJ19_treeifyBin 88 = .ok (.astore 5, 2) := dk_58 5 (dk_at dksJ19_treeifyBin_3 17 rfl rfl)
theorem dJ19_treeifyBin_90 : decode cJ19_treeifyBin 90 = .ok (.ifnonnull (-47), 3) := dk_199 255 209 (dk_at dksJ19_treeifyBin_3 19 rfl rfl)
theorem dJ19_treeifyBin_93 : decode cJ19_treeifyBin 93 = .ok (.aload_n 1, 1) := dk_43 (dk_at dksJ19_treeifyBin_3 22 rfl rfl)
theorem dJ19_treeifyBin_94 : decode cJ19_treeifyBin 94 = .ok (.iload 4, 2) := dk_21 4 (dk_at dksJ19_treeifyBin_4 0 rfl rfl)
theorem dJ19_treeifyBin_96 : decode cJ19_treeifyBin 96 = .ok (.aload 6, 2) := dk_25 6 (dk_at dksJ19_treeifyBin_4 2 rfl rfl)
theorem dJ19_treeifyBin_98 : decode cJ19_treeifyBin 98 = .ok (.dup_x2, 1) := dk_91 (dk_at dksJ19_treeifyBin_4 4 rfl rfl)
theorem dJ19_treeifyBin_99 : decode cJ19_treeifyBin 99 = .ok (.aastore, 1) := dk_83 (dk_at dksJ19_treeifyBin_4 5 rfl rfl)
theorem dJ19_treeifyBin_100 : decode cJ19_treeifyBin 100 = .ok (.ifnull 9, 3) := dk_198 0 9 (dk_at dksJ19_treeifyBin_4 6 rfl rfl)
theorem dJ19_treeifyBin_103 : decode cJ19_treeifyBin 103 = .ok (.aload 6, 2) := dk_25 6 (dk_at dksJ19_treeifyBin_4 9 rfl rfl)
theorem dJ19_treeifyBin_105 : decode cJ19_treeifyBin 105 = .ok (.aload_n 1, 1) := dk_43 (dk_at dksJ19_treeifyBin_4 11 rfl rfl)
theorem dJ19_treeifyBin_106 : decode cJ19_treeifyBin 106 = .ok (.invokevirtual 224, 3) := dk_182 0 224 (dk_at dksJ19_treeifyBin_4 12 rfl rfl)
theorem dJ19_treeifyBin_109 : decode cJ19_treeifyBin 109 = .ok (.return_, 1) := dk_177 (dk_at dksJ19_treeifyBin_4 15 rfl rfl)
abbrev cJ19_replacementTreeNode : ByteArray := prog_59_method_49_code
def yJ19_replacementTreeNode : MethodName := ⟨RJ19, "replacementTreeNode", "(Ljava/util/HashMap$Node;Ljava/util/HashMap$Node;)Ljava/util/HashMap$TreeNode;"⟩
def dkwJ19_replacementTreeNode_0 : List UInt8 := [187, 0, 180, 89, 43, 180, 0, 168, 43, 180, 0, 170, 43, 180, 0, 162, 44, 183, 1, 122, 176]
abbrev dktJ19_replacementTreeNode_0 : List UInt8 := dkwJ19_replacementTreeNode_0 ++ []
theorem dksJ19_replacementTreeNode_0 : cJ19_replacementTreeNode.data.toList.drop 0 = dktJ19_replacementTreeNode_0 := by decide +kernel
theorem dJ19_replacementTreeNode_0 : decode cJ19_replacementTreeNode 0 = .ok (.new 180, 3) := dk_187 0 180 (dk_at dksJ19_replacementTreeNode_0 0 rfl rfl)
theorem dJ19_replacementTreeNode_3 : decode cJ19_replacementTreeNode 3 = .ok (.dup, 1) := dk_89 (dk_at dksJ19_replacementTreeNode_0 3 rfl rfl)
theorem dJ19_replacementTreeNode_4 : decode cJ19_replacementTreeNode 4 = .ok (.aload_n 1, 1) := dk_43 (dk_at dksJ19_replacementTreeNode_0 4 rfl rfl)
theorem dJ19_replacementTreeNode_5 : decode cJ19_replacementTreeNode 5 = .ok (.getfield 168, 3) := dk_180 0 168 (dk_at dksJ19_replacementTreeNode_0 5 rfl rfl)
theorem dJ19_replacementTreeNode_8 : decode cJ19_replacementTreeNode 8 = .ok (.aload_n 1, 1) := dk_43 (dk_at dksJ19_replacementTreeNode_0 8 rfl rfl)
theorem dJ19_replacementTreeNode_9 : decode cJ19_replacementTreeNode 9 = .ok (.getfield 170, 3) := dk_180 0 170 (dk_at dksJ19_replacementTreeNode_0 9 rfl rfl)
theorem dJ19_replacementTreeNode_12 : decode cJ19_replacementTreeNode 12 = .ok (.aload_n 1, 1) := dk_43 (dk_at dksJ19_replacementTreeNode_0 12 rfl rfl)
theorem dJ19_replacementTreeNode_13 : decode cJ19_replacementTreeNode 13 = .ok (.getfield 162, 3) := dk_180 0 162 (dk_at dksJ19_replacementTreeNode_0 13 rfl rfl)
theorem dJ19_replacementTreeNode_16 : decode cJ19_replacementTreeNode 16 = .ok (.aload_n 2, 1) := dk_44 (dk_at dksJ19_replacementTreeNode_0 16 rfl rfl)
theorem dJ19_replacementTreeNode_17 : decode cJ19_replacementTreeNode 17 = .ok (.invokespecial 378, 3) := dk_183 1 122 (dk_at dksJ19_replacementTreeNode_0 17 rfl rfl)
theorem dJ19_replacementTreeNode_20 : decode cJ19_replacementTreeNode 20 = .ok (.areturn, 1) := dk_176 (dk_at dksJ19_replacementTreeNode_0 20 rfl rfl)
abbrev cJ19_afterNodeAccess : ByteArray := prog_59_method_51_code
def yJ19_afterNodeAccess : MethodName := ⟨RJ19, "afterNodeAccess", "(Ljava/util/HashMap$Node;)V"⟩
theorem dJ19_afterNodeAccess_0 : decode cJ19_afterNodeAccess 0 = .ok (.return_, 1) := by decide +kernel
abbrev cJ19_afterNodeInsertion : ByteArray := prog_59_method_52_code
def yJ19_afterNodeInsertion : MethodName := ⟨RJ19, "afterNodeInsertion", "(Z)V"⟩
theorem dJ19_afterNodeInsertion_0 : decode cJ19_afterNodeInsertion 0 = .ok (.return_, 1) := by decide +kernel
abbrev cJ19_get : ByteArray := prog_59_method_12_code
def yJ19_get : MethodName := ⟨RJ19, "get", "(Ljava/lang/Object;)Ljava/lang/Object;"⟩
def dkwJ19_get_0 : List UInt8 := [42, 43, 182, 0, 158, 89, 77, 199, 0, 7, 1, 167, 0, 7, 44, 180, 0, 162, 176]
abbrev dktJ19_get_0 : List UInt8 := dkwJ19_get_0 ++ []
theorem dksJ19_get_0 : cJ19_get.data.toList.drop 0 = dktJ19_get_0 := by decide +kernel
theorem dJ19_get_0 : decode cJ19_get 0 = .ok (.aload_n 0, 1) := dk_42 (dk_at dksJ19_get_0 0 rfl rfl)
theorem dJ19_get_1 : decode cJ19_get 1 = .ok (.aload_n 1, 1) := dk_43 (dk_at dksJ19_get_0 1 rfl rfl)
theorem dJ19_get_2 : decode cJ19_get 2 = .ok (.invokevirtual 158, 3) := dk_182 0 158 (dk_at dksJ19_get_0 2 rfl rfl)
theorem dJ19_get_5 : decode cJ19_get 5 = .ok (.dup, 1) := dk_89 (dk_at dksJ19_get_0 5 rfl rfl)
theorem dJ19_get_6 : decode cJ19_get 6 = .ok (.astore_n 2, 1) := dk_77 (dk_at dksJ19_get_0 6 rfl rfl)
theorem dJ19_get_7 : decode cJ19_get 7 = .ok (.ifnonnull 7, 3) := dk_199 0 7 (dk_at dksJ19_get_0 7 rfl rfl)
theorem dJ19_get_10 : decode cJ19_get 10 = .ok (.aconst_null, 1) := dk_1 (dk_at dksJ19_get_0 10 rfl rfl)
theorem dJ19_get_11 : decode cJ19_get 11 = .ok (.goto 7, 3) := dk_167 0 7 (dk_at dksJ19_get_0 11 rfl rfl)
theorem dJ19_get_14 : decode cJ19_get 14 = .ok (.aload_n 2, 1) := dk_44 (dk_at dksJ19_get_0 14 rfl rfl)
theorem dJ19_get_15 : decode cJ19_get 15 = .ok (.getfield 162, 3) := dk_180 0 162 (dk_at dksJ19_get_0 15 rfl rfl)
theorem dJ19_get_18 : decode cJ19_get 18 = .ok (.areturn, 1) := dk_176 (dk_at dksJ19_get_0 18 rfl rfl)
theorem q131 : (Jvm.Cond.initialized "java/util/HashMap") ∈ lw_all := lw_g (lw_at lw_m1 24 rfl) rfl
theorem q566 : (Jvm.Cond.instanceMethod ({ cls := "java/util/HashMap", name := "<init>", desc := "()V" } : Jvm.MethodName)) ∈ lw_all := lw_g (lw_at lw_m2 219 rfl) rfl
theorem q567 : (Jvm.Cond.code ({ cls := "java/util/HashMap", name := "<init>", desc := "()V" } : Jvm.MethodName) prog_59_method_7_code (1 : Nat) (Option.none : Option Jvm.ClassFile.FieldType)) ∈ lw_all := lw_g (lw_at lw_m2 220 rfl) rfl
theorem q568 : (Jvm.Cond.methodLink "java/util/HashMap" (43 : Nat) ({ cls := "java/util/AbstractMap", name := "<init>", desc := "()V" } : Jvm.MethodName)) ∈ lw_all := lw_g (lw_at lw_m2 221 rfl) rfl
theorem q572 : (Jvm.Cond.constantFloat "java/util/HashMap" (92 : Nat) (1061158912 : UInt32)) ∈ lw_all := lw_g (lw_at lw_m2 225 rfl) rfl
theorem q577 : (Jvm.Cond.fieldLink "java/util/HashMap" (105 : Nat) "java/util/HashMap" "table" "[Ljava/util/HashMap$Node;") ∈ lw_all := lw_g (lw_at lw_m2 230 rfl) rfl
theorem q578 : (Jvm.Cond.fieldLink "java/util/HashMap" (156 : Nat) "java/util/HashMap" "size" "I") ∈ lw_all := lw_g (lw_at lw_m2 231 rfl) rfl
theorem q581 : (Jvm.Cond.fieldLink "java/util/HashMap" (202 : Nat) "java/util/HashMap" "modCount" "I") ∈ lw_all := lw_g (lw_at lw_m2 234 rfl) rfl
theorem q582 : (Jvm.Cond.fieldLink "java/util/HashMap" (88 : Nat) "java/util/HashMap" "threshold" "I") ∈ lw_all := lw_g (lw_at lw_m2 235 rfl) rfl
theorem q583 : (Jvm.Cond.fieldLink "java/util/HashMap" (81 : Nat) "java/util/HashMap" "loadFactor" "F") ∈ lw_all := lw_g (lw_at lw_m2 236 rfl) rfl
theorem q593 : (Jvm.Cond.soleField "java/util/HashMap" "table") ∈ lw_all := lw_g (lw_at lw_m3 6 rfl) rfl
theorem q595 : (Jvm.Cond.soleField "java/util/HashMap" "entrySet") ∈ lw_all := lw_g (lw_at lw_m3 8 rfl) rfl
theorem q597 : (Jvm.Cond.soleField "java/util/HashMap" "size") ∈ lw_all := lw_g (lw_at lw_m3 10 rfl) rfl
theorem q599 : (Jvm.Cond.soleField "java/util/HashMap" "modCount") ∈ lw_all := lw_g (lw_at lw_m3 12 rfl) rfl
theorem q601 : (Jvm.Cond.soleField "java/util/HashMap" "threshold") ∈ lw_all := lw_g (lw_at lw_m3 14 rfl) rfl
theorem q603 : (Jvm.Cond.soleField "java/util/HashMap" "loadFactor") ∈ lw_all := lw_g (lw_at lw_m3 16 rfl) rfl
theorem q1142 : (Jvm.Cond.selects "java/util/HashMap" ({ cls := "java/lang/Object", name := "getClass", desc := "()Ljava/lang/Class;" } : Jvm.MethodName) ({ cls := "java/lang/Object", name := "getClass", desc := "()Ljava/lang/Class;" } : Jvm.MethodName)) ∈ lw_all := lw_g (lw_at lw_m5 75 rfl) rfl
theorem q1170 : (Jvm.Cond.instantiable "java/util/HashMap" (8 : Nat)) ∈ lw_all := lw_g (lw_at lw_m5 103 rfl) rfl
theorem q1172 : (Jvm.Cond.lays "java/util/HashMap" "java/util/HashMap" "table" "[Ljava/util/HashMap$Node;") ∈ lw_all := lw_g (lw_at lw_m5 105 rfl) rfl
theorem q1173 : (Jvm.Cond.lays "java/util/HashMap" "java/util/HashMap" "entrySet" "Ljava/util/Set;") ∈ lw_all := lw_g (lw_at lw_m5 106 rfl) rfl
theorem q1174 : (Jvm.Cond.lays "java/util/HashMap" "java/util/HashMap" "size" "I") ∈ lw_all := lw_g (lw_at lw_m5 107 rfl) rfl
theorem q1175 : (Jvm.Cond.lays "java/util/HashMap" "java/util/HashMap" "modCount" "I") ∈ lw_all := lw_g (lw_at lw_m5 108 rfl) rfl
theorem q1176 : (Jvm.Cond.lays "java/util/HashMap" "java/util/HashMap" "threshold" "I") ∈ lw_all := lw_g (lw_at lw_m5 109 rfl) rfl
theorem q1177 : (Jvm.Cond.laysFinal "java/util/HashMap" "java/util/HashMap" "loadFactor" "F") ∈ lw_all := lw_g (lw_at lw_m5 110 rfl) rfl
theorem q1178 : (Jvm.Cond.lays "java/util/HashMap" "java/util/AbstractMap" "keySet" "Ljava/util/Set;") ∈ lw_all := lw_g (lw_at lw_m5 111 rfl) rfl
theorem q1179 : (Jvm.Cond.lays "java/util/HashMap" "java/util/AbstractMap" "values" "Ljava/util/Collection;") ∈ lw_all := lw_g (lw_at lw_m5 112 rfl) rfl
theorem q1180 : (Jvm.Cond.superclass "java/util/HashMap" "java/util/AbstractMap") ∈ lw_all := lw_g (lw_at lw_m5 113 rfl) rfl
theorem q1256 : (Jvm.Cond.instanceMethod ({ cls := "java/util/HashMap", name := "containsKey", desc := "(Ljava/lang/Object;)Z" } : Jvm.MethodName)) ∈ lw_all := lw_g (lw_at lw_m5 189 rfl) rfl
theorem q1257 : (Jvm.Cond.selects "java/util/HashMap" ({ cls := "java/util/HashMap", name := "containsKey", desc := "(Ljava/lang/Object;)Z" } : Jvm.MethodName) ({ cls := "java/util/HashMap", name := "containsKey", desc := "(Ljava/lang/Object;)Z" } : Jvm.MethodName)) ∈ lw_all := lw_g (lw_at lw_m5 190 rfl) rfl
theorem q1258 : (Jvm.Cond.sameMethod "java/util/HashMap" "java/util/HashMap" "containsKey" "(Ljava/lang/Object;)Z") ∈ lw_all := lw_g (lw_at lw_m5 191 rfl) rfl
theorem q1260 : (Jvm.Cond.code ({ cls := "java/util/HashMap", name := "containsKey", desc := "(Ljava/lang/Object;)Z" } : Jvm.MethodName) prog_59_method_14_code (2 : Nat) (Option.some Jvm.ClassFile.FieldType.boolean)) ∈ lw_all := lw_g (lw_at lw_m5 193 rfl) rfl
theorem q1261 : (Jvm.Cond.methodLink "java/util/HashMap" (158 : Nat) ({ cls := "java/util/HashMap", name := "getNode", desc := "(Ljava/lang/Object;)Ljava/util/HashMap$Node;" } : Jvm.MethodName)) ∈ lw_all := lw_g (lw_at lw_m5 194 rfl) rfl
theorem q1262 : (Jvm.Cond.instanceMethod ({ cls := "java/util/HashMap", name := "getNode", desc := "(Ljava/lang/Object;)Ljava/util/HashMap$Node;" } : Jvm.MethodName)) ∈ lw_all := lw_g (lw_at lw_m5 195 rfl) rfl
theorem q1263 : (Jvm.Cond.selects "java/util/HashMap" ({ cls := "java/util/HashMap", name := "getNode", desc := "(Ljava/lang/Object;)Ljava/util/HashMap$Node;" } : Jvm.MethodName) ({ cls := "java/util/HashMap", name := "getNode", desc := "(Ljava/lang/Object;)Ljava/util/HashMap$Node;" } : Jvm.MethodName)) ∈ lw_all := lw_g (lw_at lw_m5 196 rfl) rfl
theorem q1264 : (Jvm.Cond.sameMethod "java/util/HashMap" "java/util/HashMap" "getNode" "(Ljava/lang/Object;)Ljava/util/HashMap$Node;") ∈ lw_all := lw_g (lw_at lw_m5 197 rfl) rfl
theorem q1266 : (Jvm.Cond.code ({ cls := "java/util/HashMap", name := "getNode", desc := "(Ljava/lang/Object;)Ljava/util/HashMap$Node;" } : Jvm.MethodName) prog_59_method_13_code (8 : Nat) (Option.some (Jvm.ClassFile.FieldType.object "java/util/HashMap$Node"))) ∈ lw_all := lw_g (lw_at lw_m5 199 rfl) rfl
theorem q1267 : (Jvm.Cond.methodLink "java/util/HashMap" (149 : Nat) ({ cls := "java/util/HashMap", name := "hash", desc := "(Ljava/lang/Object;)I" } : Jvm.MethodName)) ∈ lw_all := lw_g (lw_at lw_m5 200 rfl) rfl
theorem q1268 : (Jvm.Cond.static ({ cls := "java/util/HashMap", name := "hash", desc := "(Ljava/lang/Object;)I" } : Jvm.MethodName)) ∈ lw_all := lw_g (lw_at lw_m5 201 rfl) rfl
theorem q1269 : (Jvm.Cond.code ({ cls := "java/util/HashMap", name := "hash", desc := "(Ljava/lang/Object;)I" } : Jvm.MethodName) prog_59_method_1_code (2 : Nat) (Option.some Jvm.ClassFile.FieldType.int)) ∈ lw_all := lw_g (lw_at lw_m5 202 rfl) rfl
theorem q1271 : (Jvm.Cond.methodLink "java/util/HashMap" (1 : Nat) ({ cls := "java/lang/Object", name := "hashCode", desc := "()I" } : Jvm.MethodName)) ∈ lw_all := lw_g (lw_at lw_m5 204 rfl) rfl
theorem q1368 : (Jvm.Cond.methodLink "java/util/HashMap" (173 : Nat) ({ cls := "java/lang/Object", name := "equals", desc := "(Ljava/lang/Object;)Z" } : Jvm.MethodName)) ∈ lw_all := lw_g (lw_at lw_m6 61 rfl) rfl
theorem q1418 : (Jvm.Cond.classLink "java/util/HashMap" (180 : Nat) "java/util/HashMap$TreeNode") ∈ lw_all := lw_g (lw_at lw_m6 111 rfl) rfl
theorem q1419 : (Jvm.Cond.methodLink "java/util/HashMap" (182 : Nat) ({ cls := "java/util/HashMap$TreeNode", name := "getTreeNode", desc := "(ILjava/lang/Object;)Ljava/util/HashMap$TreeNode;" } : Jvm.MethodName)) ∈ lw_all := lw_g (lw_at lw_m6 112 rfl) rfl
theorem q1433 : (Jvm.Cond.static ({ cls := "java/util/HashMap", name := "comparableClassFor", desc := "(Ljava/lang/Object;)Ljava/lang/Class;" } : Jvm.MethodName)) ∈ lw_all := lw_g (lw_at lw_m6 126 rfl) rfl
theorem q1434 : (Jvm.Cond.code ({ cls := "java/util/HashMap", name := "comparableClassFor", desc := "(Ljava/lang/Object;)Ljava/lang/Class;" } : Jvm.MethodName) prog_59_method_2_code (9 : Nat) (Option.some (Jvm.ClassFile.FieldType.object "java/lang/Class"))) ∈ lw_all := lw_g (lw_at lw_m6 127 rfl) rfl
theorem q1435 : (Jvm.Cond.classLink "java/util/HashMap" (7 : Nat) "java/lang/Comparable") ∈ lw_all := lw_g (lw_at lw_m6 128 rfl) rfl
theorem q1436 : (Jvm.Cond.methodLink "java/util/HashMap" (9 : Nat) ({ cls := "java/lang/Object", name := "getClass", desc := "()Ljava/lang/Class;" } : Jvm.MethodName)) ∈ lw_all := lw_g (lw_at lw_m6 129 rfl) rfl
theorem q1437 : (Jvm.Cond.classLink "java/util/HashMap" (13 : Nat) "java/lang/String") ∈ lw_all := lw_g (lw_at lw_m6 130 rfl) rfl
theorem q1439 : (Jvm.Cond.static ({ cls := "java/util/HashMap", name := "compareComparables", desc := "(Ljava/lang/Class;Ljava/lang/Object;Ljava/lang/Object;)I" } : Jvm.MethodName)) ∈ lw_all := lw_g (lw_at lw_m6 132 rfl) rfl
theorem q1440 : (Jvm.Cond.code ({ cls := "java/util/HashMap", name := "compareComparables", desc := "(Ljava/lang/Class;Ljava/lang/Object;Ljava/lang/Object;)I" } : Jvm.MethodName) prog_59_method_3_code (3 : Nat) (Option.some Jvm.ClassFile.FieldType.int)) ∈ lw_all := lw_g (lw_at lw_m6 133 rfl) rfl
theorem q1441 : (Jvm.Cond.interfaceEntry "java/util/HashMap" (30 : Nat)) ∈ lw_tbl := lw_at lw_m6 134 rfl
theorem q1442 : (Jvm.Cond.methodLink "java/util/HashMap" (30 : Nat) ({ cls := "java/lang/Comparable", name := "compareTo", desc := "(Ljava/lang/Object;)I" } : Jvm.MethodName)) ∈ lw_all := lw_g (lw_at lw_m6 135 rfl) rfl
theorem q1652 : (Jvm.Cond.instanceMethod ({ cls := "java/util/HashMap", name := "put", desc := "(Ljava/lang/Object;Ljava/lang/Object;)Ljava/lang/Object;" } : Jvm.MethodName)) ∈ lw_all := lw_g (lw_at lw_m7 105 rfl) rfl
theorem q1653 : (Jvm.Cond.selects "java/util/HashMap" ({ cls := "java/util/HashMap", name := "put", desc := "(Ljava/lang/Object;Ljava/lang/Object;)Ljava/lang/Object;" } : Jvm.MethodName) ({ cls := "java/util/HashMap", name := "put", desc := "(Ljava/lang/Object;Ljava/lang/Object;)Ljava/lang/Object;" } : Jvm.MethodName)) ∈ lw_all := lw_g (lw_at lw_m7 106 rfl) rfl
theorem q1654 : (Jvm.Cond.sameMethod "java/util/HashMap" "java/util/HashMap" "put" "(Ljava/lang/Object;Ljava/lang/Object;)Ljava/lang/Object;") ∈ lw_all := lw_g (lw_at lw_m7 107 rfl) rfl
theorem q1656 : (Jvm.Cond.code ({ cls := "java/util/HashMap", name := "put", desc := "(Ljava/lang/Object;Ljava/lang/Object;)Ljava/lang/Object;" } : Jvm.MethodName) prog_59_method_15_code (3 : Nat) (Option.some (Jvm.ClassFile.FieldType.object "java/lang/Object"))) ∈ lw_all := lw_g (lw_at lw_m7 109 rfl) rfl
theorem q1657 : (Jvm.Cond.methodLink "java/util/HashMap" (152 : Nat) ({ cls := "java/util/HashMap", name := "putVal", desc := "(ILjava/lang/Object;Ljava/lang/Object;ZZ)Ljava/lang/Object;" } : Jvm.MethodName)) ∈ lw_all := lw_g (lw_at lw_m7 110 rfl) rfl
theorem q1658 : (Jvm.Cond.instanceMethod ({ cls := "java/util/HashMap", name := "putVal", desc := "(ILjava/lang/Object;Ljava/lang/Object;ZZ)Ljava/lang/Object;" } : Jvm.MethodName)) ∈ lw_all := lw_g (lw_at lw_m7 111 rfl) rfl
theorem q1659 : (Jvm.Cond.selects "java/util/HashMap" ({ cls := "java/util/HashMap", name := "putVal", desc := "(ILjava/lang/Object;Ljava/lang/Object;ZZ)Ljava/lang/Object;" } : Jvm.MethodName) ({ cls := "java/util/HashMap", name := "putVal", desc := "(ILjava/lang/Object;Ljava/lang/Object;ZZ)Ljava/lang/Object;" } : Jvm.MethodName)) ∈ lw_all := lw_g (lw_at lw_m7 112 rfl) rfl
theorem q1660 : (Jvm.Cond.sameMethod "java/util/HashMap" "java/util/HashMap" "putVal" "(ILjava/lang/Object;Ljava/lang/Object;ZZ)Ljava/lang/Object;") ∈ lw_all := lw_g (lw_at lw_m7 113 rfl) rfl
theorem q1662 : (Jvm.Cond.code ({ cls := "java/util/HashMap", name := "putVal", desc := "(ILjava/lang/Object;Ljava/lang/Object;ZZ)Ljava/lang/Object;" } : Jvm.MethodName) prog_59_method_16_code (13 : Nat) (Option.some (Jvm.ClassFile.FieldType.object "java/lang/Object"))) ∈ lw_all := lw_g (lw_at lw_m7 115 rfl) rfl
theorem q1663 : (Jvm.Cond.methodLink "java/util/HashMap" (117 : Nat) ({ cls := "java/util/HashMap", name := "resize", desc := "()[Ljava/util/HashMap$Node;" } : Jvm.MethodName)) ∈ lw_all := lw_g (lw_at lw_m7 116 rfl) rfl
theorem q1664 : (Jvm.Cond.instanceMethod ({ cls := "java/util/HashMap", name := "resize", desc := "()[Ljava/util/HashMap$Node;" } : Jvm.MethodName)) ∈ lw_all := lw_g (lw_at lw_m7 117 rfl) rfl
theorem q1665 : (Jvm.Cond.selects "java/util/HashMap" ({ cls := "java/util/HashMap", name := "resize", desc := "()[Ljava/util/HashMap$Node;" } : Jvm.MethodName) ({ cls := "java/util/HashMap", name := "resize", desc := "()[Ljava/util/HashMap$Node;" } : Jvm.MethodName)) ∈ lw_all := lw_g (lw_at lw_m7 118 rfl) rfl
theorem q1666 : (Jvm.Cond.sameMethod "java/util/HashMap" "java/util/HashMap" "resize" "()[Ljava/util/HashMap$Node;") ∈ lw_all := lw_g (lw_at lw_m7 119 rfl) rfl
theorem q1668 : (Jvm.Cond.code ({ cls := "java/util/HashMap", name := "resize", desc := "()[Ljava/util/HashMap$Node;" } : Jvm.MethodName) prog_59_method_17_code (14 : Nat) (Option.some (Jvm.ClassFile.FieldType.array (Jvm.ClassFile.FieldType.object "java/util/HashMap$Node")))) ∈ lw_all := lw_g (lw_at lw_m7 121 rfl) rfl
theorem q1669 : (Jvm.Cond.constant "java/util/HashMap" (42 : Nat) (1073741824 : Int32)) ∈ lw_all := lw_g (lw_at lw_m7 122 rfl) rfl
theorem q1670 : (Jvm.Cond.constant "java/util/HashMap" (209 : Nat) (2147483647 : Int32)) ∈ lw_all := lw_g (lw_at lw_m7 123 rfl) rfl
theorem q1671 : (Jvm.Cond.constantFloat "java/util/HashMap" (210 : Nat) (1317011456 : UInt32)) ∈ lw_all := lw_g (lw_at lw_m7 124 rfl) rfl
theorem q1672 : (Jvm.Cond.classLink "java/util/HashMap" (163 : Nat) "java/util/HashMap$Node") ∈ lw_all := lw_g (lw_at lw_m7 125 rfl) rfl
theorem q1674 : (Jvm.Cond.methodLink "java/util/HashMap" (211 : Nat) ({ cls := "java/util/HashMap$TreeNode", name := "split", desc := "(Ljava/util/HashMap;[Ljava/util/HashMap$Node;II)V" } : Jvm.MethodName)) ∈ lw_all := lw_g (lw_at lw_m7 127 rfl) rfl
theorem q1684 : (Jvm.Cond.instanceMethod ({ cls := "java/util/HashMap", name := "replacementNode", desc := "(Ljava/util/HashMap$Node;Ljava/util/HashMap$Node;)Ljava/util/HashMap$Node;" } : Jvm.MethodName)) ∈ lw_all := lw_g (lw_at lw_m7 137 rfl) rfl
theorem q1685 : (Jvm.Cond.selects "java/util/HashMap" ({ cls := "java/util/HashMap", name := "replacementNode", desc := "(Ljava/util/HashMap$Node;Ljava/util/HashMap$Node;)Ljava/util/HashMap$Node;" } : Jvm.MethodName) ({ cls := "java/util/HashMap", name := "replacementNode", desc := "(Ljava/util/HashMap$Node;Ljava/util/HashMap$Node;)Ljava/util/HashMap$Node;" } : Jvm.MethodName)) ∈ lw_all := lw_g (lw_at lw_m7 138 rfl) rfl
theorem q1686 : (Jvm.Cond.sameMethod "java/util/HashMap" "java/util/HashMap" "replacementNode" "(Ljava/util/HashMap$Node;Ljava/util/HashMap$Node;)Ljava/util/HashMap$Node;") ∈ lw_all := lw_g (lw_at lw_m7 139 rfl) rfl
theorem q1706 : (Jvm.Cond.fieldLink "java/util/HashMap" (168 : Nat) "java/util/HashMap$Node" "hash" "I") ∈ lw_all := lw_g (lw_at lw_m7 159 rfl) rfl
theorem q1712 : (Jvm.Cond.fieldLink "java/util/HashMap" (170 : Nat) "java/util/HashMap$Node" "key" "Ljava/lang/Object;") ∈ lw_all := lw_g (lw_at lw_m7 165 rfl) rfl
theorem q1716 : (Jvm.Cond.fieldLink "java/util/HashMap" (162 : Nat) "java/util/HashMap$Node" "value" "Ljava/lang/Object;") ∈ lw_all := lw_g (lw_at lw_m7 169 rfl) rfl
theorem q1722 : (Jvm.Cond.fieldLink "java/util/HashMap" (177 : Nat) "java/util/HashMap$Node" "next" "Ljava/util/HashMap$Node;") ∈ lw_all := lw_g (lw_at lw_m7 175 rfl) rfl
theorem q1723 : (Jvm.Cond.fieldLink "java/util/HashMap" (223 : Nat) "java/util/HashMap$TreeNode" "next" "Ljava/util/HashMap$Node;") ∈ lw_all := lw_g (lw_at lw_m7 176 rfl) rfl
theorem q1741 : (Jvm.Cond.code ({ cls := "java/util/HashMap", name := "replacementNode", desc := "(Ljava/util/HashMap$Node;Ljava/util/HashMap$Node;)Ljava/util/HashMap$Node;" } : Jvm.MethodName) prog_59_method_47_code (3 : Nat) (Option.some (Jvm.ClassFile.FieldType.object "java/util/HashMap$Node"))) ∈ lw_all := lw_g (lw_at lw_m7 194 rfl) rfl
theorem q1743 : (Jvm.Cond.methodLink "java/util/HashMap" (375 : Nat) ({ cls := "java/util/HashMap$Node", name := "<init>", desc := "(ILjava/lang/Object;Ljava/lang/Object;Ljava/util/HashMap$Node;)V" } : Jvm.MethodName)) ∈ lw_all := lw_g (lw_at lw_m7 196 rfl) rfl
theorem q1767 : (Jvm.Cond.methodLink "java/util/HashMap" (186 : Nat) ({ cls := "java/util/HashMap", name := "newNode", desc := "(ILjava/lang/Object;Ljava/lang/Object;Ljava/util/HashMap$Node;)Ljava/util/HashMap$Node;" } : Jvm.MethodName)) ∈ lw_all := lw_g (lw_at lw_m7 220 rfl) rfl
theorem q1768 : (Jvm.Cond.instanceMethod ({ cls := "java/util/HashMap", name := "newNode", desc := "(ILjava/lang/Object;Ljava/lang/Object;Ljava/util/HashMap$Node;)Ljava/util/HashMap$Node;" } : Jvm.MethodName)) ∈ lw_all := lw_g (lw_at lw_m7 221 rfl) rfl
theorem q1769 : (Jvm.Cond.selects "java/util/HashMap" ({ cls := "java/util/HashMap", name := "newNode", desc := "(ILjava/lang/Object;Ljava/lang/Object;Ljava/util/HashMap$Node;)Ljava/util/HashMap$Node;" } : Jvm.MethodName) ({ cls := "java/util/HashMap", name := "newNode", desc := "(ILjava/lang/Object;Ljava/lang/Object;Ljava/util/HashMap$Node;)Ljava/util/HashMap$Node;" } : Jvm.MethodName)) ∈ lw_all := lw_g (lw_at lw_m7 222 rfl) rfl
theorem q1770 : (Jvm.Cond.sameMethod "java/util/HashMap" "java/util/HashMap" "newNode" "(ILjava/lang/Object;Ljava/lang/Object;Ljava/util/HashMap$Node;)Ljava/util/HashMap$Node;") ∈ lw_all := lw_g (lw_at lw_m7 223 rfl) rfl
theorem q1778 : (Jvm.Cond.code ({ cls := "java/util/HashMap", name := "newNode", desc := "(ILjava/lang/Object;Ljava/lang/Object;Ljava/util/HashMap$Node;)Ljava/util/HashMap$Node;" } : Jvm.MethodName) prog_59_method_46_code (5 : Nat) (Option.some (Jvm.ClassFile.FieldType.object "java/util/HashMap$Node"))) ∈ lw_all := lw_g (lw_at lw_m7 231 rfl) rfl
theorem q1779 : (Jvm.Cond.methodLink "java/util/HashMap" (190 : Nat) ({ cls := "java/util/HashMap$TreeNode", name := "putTreeVal", desc := "(Ljava/util/HashMap;[Ljava/util/HashMap$Node;ILjava/lang/Object;Ljava/lang/Object;)Ljava/util/HashMap$TreeNode;" } : Jvm.MethodName)) ∈ lw_all := lw_g (lw_at lw_m7 232 rfl) rfl
theorem q1784 : (Jvm.Cond.instanceMethod ({ cls := "java/util/HashMap", name := "newTreeNode", desc := "(ILjava/lang/Object;Ljava/lang/Object;Ljava/util/HashMap$Node;)Ljava/util/HashMap$TreeNode;" } : Jvm.MethodName)) ∈ lw_all := lw_g (lw_at lw_m7 237 rfl) rfl
theorem q1785 : (Jvm.Cond.selects "java/util/HashMap" ({ cls := "java/util/HashMap", name := "newTreeNode", desc := "(ILjava/lang/Object;Ljava/lang/Object;Ljava/util/HashMap$Node;)Ljava/util/HashMap$TreeNode;" } : Jvm.MethodName) ({ cls := "java/util/HashMap", name := "newTreeNode", desc := "(ILjava/lang/Object;Ljava/lang/Object;Ljava/util/HashMap$Node;)Ljava/util/HashMap$TreeNode;" } : Jvm.MethodName)) ∈ lw_all := lw_g (lw_at lw_m7 238 rfl) rfl
theorem q1786 : (Jvm.Cond.sameMethod "java/util/HashMap" "java/util/HashMap" "newTreeNode" "(ILjava/lang/Object;Ljava/lang/Object;Ljava/util/HashMap$Node;)Ljava/util/HashMap$TreeNode;") ∈ lw_all := lw_g (lw_at lw_m7 239 rfl) rfl
theorem q1800 : (Jvm.Cond.fieldLink "java/util/HashMap" (219 : Nat) "java/util/HashMap$TreeNode" "prev" "Ljava/util/HashMap$TreeNode;") ∈ lw_all := lw_g (lw_at lw_m8 13 rfl) rfl
theorem q1819 : (Jvm.Cond.code ({ cls := "java/util/HashMap", name := "newTreeNode", desc := "(ILjava/lang/Object;Ljava/lang/Object;Ljava/util/HashMap$Node;)Ljava/util/HashMap$TreeNode;" } : Jvm.MethodName) prog_59_method_48_code (5 : Nat) (Option.some (Jvm.ClassFile.FieldType.object "java/util/HashMap$TreeNode"))) ∈ lw_all := lw_g (lw_at lw_m8 32 rfl) rfl
theorem q1820 : (Jvm.Cond.methodLink "java/util/HashMap" (378 : Nat) ({ cls := "java/util/HashMap$TreeNode", name := "<init>", desc := "(ILjava/lang/Object;Ljava/lang/Object;Ljava/util/HashMap$Node;)V" } : Jvm.MethodName)) ∈ lw_all := lw_g (lw_at lw_m8 33 rfl) rfl
theorem q1821 : (Jvm.Cond.methodLink "java/util/HashMap" (194 : Nat) ({ cls := "java/util/HashMap", name := "treeifyBin", desc := "([Ljava/util/HashMap$Node;I)V" } : Jvm.MethodName)) ∈ lw_all := lw_g (lw_at lw_m8 34 rfl) rfl
theorem q1822 : (Jvm.Cond.instanceMethod ({ cls := "java/util/HashMap", name := "treeifyBin", desc := "([Ljava/util/HashMap$Node;I)V" } : Jvm.MethodName)) ∈ lw_all := lw_g (lw_at lw_m8 35 rfl) rfl
theorem q1823 : (Jvm.Cond.selects "java/util/HashMap" ({ cls := "java/util/HashMap", name := "treeifyBin", desc := "([Ljava/util/HashMap$Node;I)V" } : Jvm.MethodName) ({ cls := "java/util/HashMap", name := "treeifyBin", desc := "([Ljava/util/HashMap$Node;I)V" } : Jvm.MethodName)) ∈ lw_all := lw_g (lw_at lw_m8 36 rfl) rfl
theorem q1824 : (Jvm.Cond.sameMethod "java/util/HashMap" "java/util/HashMap" "treeifyBin" "([Ljava/util/HashMap$Node;I)V") ∈ lw_all := lw_g (lw_at lw_m8 37 rfl) rfl
theorem q1826 : (Jvm.Cond.code ({ cls := "java/util/HashMap", name := "treeifyBin", desc := "([Ljava/util/HashMap$Node;I)V" } : Jvm.MethodName) prog_59_method_18_code (9 : Nat) (Option.none : Option Jvm.ClassFile.FieldType)) ∈ lw_all := lw_g (lw_at lw_m8 39 rfl) rfl
theorem q1827 : (Jvm.Cond.methodLink "java/util/HashMap" (215 : Nat) ({ cls := "java/util/HashMap", name := "replacementTreeNode", desc := "(Ljava/util/HashMap$Node;Ljava/util/HashMap$Node;)Ljava/util/HashMap$TreeNode;" } : Jvm.MethodName)) ∈ lw_all := lw_g (lw_at lw_m8 40 rfl) rfl
theorem q1828 : (Jvm.Cond.instanceMethod ({ cls := "java/util/HashMap", name := "replacementTreeNode", desc := "(Ljava/util/HashMap$Node;Ljava/util/HashMap$Node;)Ljava/util/HashMap$TreeNode;" } : Jvm.MethodName)) ∈ lw_all := lw_g (lw_at lw_m8 41 rfl) rfl
theorem q1829 : (Jvm.Cond.selects "java/util/HashMap" ({ cls := "java/util/HashMap", name := "replacementTreeNode", desc := "(Ljava/util/HashMap$Node;Ljava/util/HashMap$Node;)Ljava/util/HashMap$TreeNode;" } : Jvm.MethodName) ({ cls := "java/util/HashMap", name := "replacementTreeNode", desc := "(Ljava/util/HashMap$Node;Ljava/util/HashMap$Node;)Ljava/util/HashMap$TreeNode;" } : Jvm.MethodName)) ∈ lw_all := lw_g (lw_at lw_m8 42 rfl) rfl
theorem q1830 : (Jvm.Cond.sameMethod "java/util/HashMap" "java/util/HashMap" "replacementTreeNode" "(Ljava/util/HashMap$Node;Ljava/util/HashMap$Node;)Ljava/util/HashMap$TreeNode;") ∈ lw_all := lw_g (lw_at lw_m8 43 rfl) rfl
theorem q1834 : (Jvm.Cond.code ({ cls := "java/util/HashMap", name := "replacementTreeNode", desc := "(Ljava/util/HashMap$Node;Ljava/util/HashMap$Node;)Ljava/util/HashMap$TreeNode;" } : Jvm.MethodName) prog_59_method_49_code (3 : Nat) (Option.some (Jvm.ClassFile.FieldType.object "java/util/HashMap$TreeNode"))) ∈ lw_all := lw_g (lw_at lw_m8 47 rfl) rfl
theorem q1835 : (Jvm.Cond.methodLink "java/util/HashMap" (224 : Nat) ({ cls := "java/util/HashMap$TreeNode", name := "treeify", desc := "([Ljava/util/HashMap$Node;)V" } : Jvm.MethodName)) ∈ lw_all := lw_g (lw_at lw_m8 48 rfl) rfl
theorem q1836 : (Jvm.Cond.methodLink "java/util/HashMap" (198 : Nat) ({ cls := "java/util/HashMap", name := "afterNodeAccess", desc := "(Ljava/util/HashMap$Node;)V" } : Jvm.MethodName)) ∈ lw_all := lw_g (lw_at lw_m8 49 rfl) rfl
theorem q1837 : (Jvm.Cond.instanceMethod ({ cls := "java/util/HashMap", name := "afterNodeAccess", desc := "(Ljava/util/HashMap$Node;)V" } : Jvm.MethodName)) ∈ lw_all := lw_g (lw_at lw_m8 50 rfl) rfl
theorem q1838 : (Jvm.Cond.selects "java/util/HashMap" ({ cls := "java/util/HashMap", name := "afterNodeAccess", desc := "(Ljava/util/HashMap$Node;)V" } : Jvm.MethodName) ({ cls := "java/util/HashMap", name := "afterNodeAccess", desc := "(Ljava/util/HashMap$Node;)V" } : Jvm.MethodName)) ∈ lw_all := lw_g (lw_at lw_m8 51 rfl) rfl
theorem q1839 : (Jvm.Cond.sameMethod "java/util/HashMap" "java/util/HashMap" "afterNodeAccess" "(Ljava/util/HashMap$Node;)V") ∈ lw_all := lw_g (lw_at lw_m8 52 rfl) rfl
theorem q1843 : (Jvm.Cond.code ({ cls := "java/util/HashMap", name := "afterNodeAccess", desc := "(Ljava/util/HashMap$Node;)V" } : Jvm.MethodName) prog_59_method_51_code (2 : Nat) (Option.none : Option Jvm.ClassFile.FieldType)) ∈ lw_all := lw_g (lw_at lw_m8 56 rfl) rfl
theorem q1844 : (Jvm.Cond.methodLink "java/util/HashMap" (205 : Nat) ({ cls := "java/util/HashMap", name := "afterNodeInsertion", desc := "(Z)V" } : Jvm.MethodName)) ∈ lw_all := lw_g (lw_at lw_m8 57 rfl) rfl
theorem q1845 : (Jvm.Cond.instanceMethod ({ cls := "java/util/HashMap", name := "afterNodeInsertion", desc := "(Z)V" } : Jvm.MethodName)) ∈ lw_all := lw_g (lw_at lw_m8 58 rfl) rfl
theorem q1846 : (Jvm.Cond.selects "java/util/HashMap" ({ cls := "java/util/HashMap", name := "afterNodeInsertion", desc := "(Z)V" } : Jvm.MethodName) ({ cls := "java/util/HashMap", name := "afterNodeInsertion", desc := "(Z)V" } : Jvm.MethodName)) ∈ lw_all := lw_g (lw_at lw_m8 59 rfl) rfl
theorem q1847 : (Jvm.Cond.sameMethod "java/util/HashMap" "java/util/HashMap" "afterNodeInsertion" "(Z)V") ∈ lw_all := lw_g (lw_at lw_m8 60 rfl) rfl
theorem q1855 : (Jvm.Cond.code ({ cls := "java/util/HashMap", name := "afterNodeInsertion", desc := "(Z)V" } : Jvm.MethodName) prog_59_method_52_code (2 : Nat) (Option.none : Option Jvm.ClassFile.FieldType)) ∈ lw_all := lw_g (lw_at lw_m8 68 rfl) rfl
theorem q2668 : (Jvm.Cond.instanceMethod ({ cls := "java/util/HashMap", name := "get", desc := "(Ljava/lang/Object;)Ljava/lang/Object;" } : Jvm.MethodName)) ∈ lw_all := lw_g (lw_at lw_m11 161 rfl) rfl
theorem q2669 : (Jvm.Cond.selects "java/util/HashMap" ({ cls := "java/util/HashMap", name := "get", desc := "(Ljava/lang/Object;)Ljava/lang/Object;" } : Jvm.MethodName) ({ cls := "java/util/HashMap", name := "get", desc := "(Ljava/lang/Object;)Ljava/lang/Object;" } : Jvm.MethodName)) ∈ lw_all := lw_g (lw_at lw_m11 162 rfl) rfl
theorem q2670 : (Jvm.Cond.sameMethod "java/util/HashMap" "java/util/HashMap" "get" "(Ljava/lang/Object;)Ljava/lang/Object;") ∈ lw_all := lw_g (lw_at lw_m11 163 rfl) rfl
theorem q2676 : (Jvm.Cond.declares ({ cls := "java/util/HashMap", name := "getNode", desc := "(Ljava/lang/Object;)Ljava/util/HashMap$Node;" } : Jvm.MethodName)) ∈ lw_tbl := lw_at lw_m11 169 rfl
theorem q2679 : (Jvm.Cond.code ({ cls := "java/util/HashMap", name := "get", desc := "(Ljava/lang/Object;)Ljava/lang/Object;" } : Jvm.MethodName) prog_59_method_12_code (3 : Nat) (Option.some (Jvm.ClassFile.FieldType.object "java/lang/Object"))) ∈ lw_all := lw_g (lw_at lw_m11 172 rfl) rfl
theorem q2704 : (Jvm.Cond.declares ({ cls := "java/util/HashMap", name := "put", desc := "(Ljava/lang/Object;Ljava/lang/Object;)Ljava/lang/Object;" } : Jvm.MethodName)) ∈ lw_tbl := lw_at lw_m11 197 rfl
theorem q2715 : (Jvm.Cond.declares ({ cls := "java/util/HashMap", name := "containsKey", desc := "(Ljava/lang/Object;)Z" } : Jvm.MethodName)) ∈ lw_tbl := lw_at lw_m11 208 rfl
theorem q3316 : (Jvm.Cond.castable "java/util/HashMap" "java/lang/Object") ∈ lw_tbl := lw_at lw_m14 89 rfl
theorem in_J19 : ∀ w ∈ wsJ190, w ∈ lw_all := lw_in wsJ190 [1178, 1179, 1172, 1173, 1174, 1175, 1176, 1177] (by decide +kernel) (by decide +kernel)

/-! java/util/ArrayList -/
set_option maxRecDepth 100000
def RJ2 : String := "java/util/ArrayList"
def TJ2 : u_T := fun k => match k with
  | 0 => ("java/util/AbstractList", "modCount", "I", false)
  | 1 => ("java/util/ArrayList", "elementData", "[Ljava/lang/Object;", false)
  | _ => ("java/util/ArrayList", "size", "I", false)
def tyJ2 : Nat → FieldType := fun k => match k with
  | 0 => .int
  | 1 => .array (.object "java/lang/Object")
  | _ => .int
abbrev wsJ20 : List Cond := u_ws RJ2 TJ2 3
theorem nmJ2 : ∀ a, a < 3 → ∀ b, b < 3 → a ≠ b → (TJ2 a).2.1 ≠ (TJ2 b).2.1 := by decide +kernel
theorem tyJ2_ok : ∀ k, k < 3 → parseFieldDescriptor (TJ2 k).2.2.1 = some (tyJ2 k) := by decide +kernel
abbrev cJ2_init : ByteArray := prog_55_method_1_code
def yJ2_init : MethodName := ⟨RJ2, "<init>", "(I)V"⟩
def dkwJ2_init_2 : List UInt8 := [182, 0, 25, 27, 182, 0, 29, 182, 0, 32, 183, 0, 36, 191, 177]
abbrev dktJ2_init_2 : List UInt8 := dkwJ2_init_2 ++ []
def dkwJ2_init_1 : List UInt8 := [178, 0, 15, 181, 0, 9, 167, 0, 30, 187, 0, 18, 89, 187, 0, 20, 89, 183, 0, 22, 18, 23]
abbrev dktJ2_init_1 : List UInt8 := dkwJ2_init_1 ++ dktJ2_init_2
def dkwJ2_init_0 : List UInt8 := [42, 183, 0, 1, 27, 158, 0, 14, 42, 27, 189, 0, 7, 181, 0, 9, 167, 0, 44, 27, 154, 0, 13, 42]
abbrev dktJ2_init_0 : List UInt8 := dkwJ2_init_0 ++ dktJ2_init_1
theorem dksJ2_init_0 : cJ2_init.data.toList.drop 0 = dktJ2_init_0 := by decide +kernel
theorem dksJ2_init_1 : cJ2_init.data.toList.drop 24 = dktJ2_init_1 := dk_seg dksJ2_init_0 24 rfl rfl
theorem dksJ2_init_2 : cJ2_init.data.toList.drop 46 = dktJ2_init_2 := dk_seg dksJ2_init_1 22 rfl rfl
theorem dJ2_init_0 : decode cJ2_init 0 = .ok (.aload_n 0, 1) := dk_42 (dk_at dksJ2_init_0 0 rfl rfl)
theorem dJ2_init_1 : decode cJ2_init 1 = .ok (.invokespecial 1, 3) := dk_183 0 1 (dk_at dksJ2_init_0 1 rfl rfl)
theorem dJ2_init_4 : decode cJ2_init 4 = .ok (.iload_n 1, 1) := dk_27 (dk_at dksJ2_init_0 4 rfl rfl)
theorem dJ2_init_5 : decode cJ2_init 5 = .ok (.ifCond .le 14, 3) := dk_158 0 14 (dk_at dksJ2_init_0 5 rfl rfl)
theorem dJ2_init_8 : decode cJ2_init 8 = .ok (.aload_n 0, 1) := dk_42 (dk_at dksJ2_init_0 8 rfl rfl)
theorem dJ2_init_9 : decode cJ2_init 9 = .ok (.iload_n 1, 1) := dk_27 (dk_at dksJ2_init_0 9 rfl rfl)
theorem dJ2_init_10 : decode cJ2_init 10 = .ok (.anewarray 7, 3) := dk_189 0 7 (dk_at dksJ2_init_0 10 rfl rfl)
theorem dJ2_init_13 : decode cJ2_init 13 = .ok (.putfield 9, 3) := dk_181 0 9 (dk_at dksJ2_init_0 13 rfl rfl)
theorem dJ2_init_16 : decode cJ2_init 16 = .ok (.goto 44, 3) := dk_167 0 44 (dk_at dksJ2_init_0 16 rfl rfl)
theorem dJ2_init_19 : decode cJ2_init 19 = .ok (.iload_n 1, 1) := dk_27 (dk_at dksJ2_init_0 19 rfl rfl)
theorem dJ2_init_20 : decode cJ2_init 20 = .ok (.ifCond .ne 13, 3) := dk_154 0 13 (dk_at dksJ2_init_0 20 rfl rfl)
theorem dJ2_init_23 : decode cJ2_init 23 = .ok (.aload_n 0, 1) := dk_42 (dk_at dksJ2_init_0 23 rfl rfl)
theorem dJ2_init_24 : decode cJ2_init 24 = .ok (.getstatic 15, 3) := dk_178 0 15 (dk_at dksJ2_init_1 0 rfl rfl)
theorem dJ2_init_27 : decode cJ2_init 27 = .ok (.putfield 9, 3) := dk_181 0 9 (dk_at dksJ2_init_1 3 rfl rfl)
theorem dJ2_init_30 : decode cJ2_init 30 = .ok (.goto 30, 3) := dk_167 0 30 (dk_at dksJ2_init_1 6 rfl rfl)
theorem dJ2_init_33 : decode cJ2_init 33 = .ok (.new 18, 3) := dk_187 0 18 (dk_at dksJ2_init_1 9 rfl rfl)
theorem dJ2_init_36 : decode cJ2_init 36 = .ok (.dup, 1) := dk_89 (dk_at dksJ2_init_1 12 rfl rfl)
theorem dJ2_init_37 : decode cJ2_init 37 = .ok (.new 20, 3) := dk_187 0 20 (dk_at dksJ2_init_1 13 rfl rfl)
theorem dJ2_init_40 : decode cJ2_init 40 = .ok (.dup, 1) := dk_89 (dk_at dksJ2_init_1 16 rfl rfl)
theorem dJ2_init_41 : decode cJ2_init 41 = .ok (.invokespecial 22, 3) := dk_183 0 22 (dk_at dksJ2_init_1 17 rfl rfl)
theorem dJ2_init_44 : decode cJ2_init 44 = .ok (.ldc 23, 2) := dk_18 23 (dk_at dksJ2_init_1 20 rfl rfl)
theorem dJ2_init_46 : decode cJ2_init 46 = .ok (.invokevirtual 25, 3) := dk_182 0 25 (dk_at dksJ2_init_2 0 rfl rfl)
theorem dJ2_init_49 : decode cJ2_init 49 = .ok (.iload_n 1, 1) := dk_27 (dk_at dksJ2_init_2 3 rfl rfl)
theorem dJ2_init_50 : decode cJ2_init 50 = .ok (.invokevirtual 29, 3) := dk_182 0 29 (dk_at dksJ2_init_2 4 rfl rfl)
theorem dJ2_init_53 : decode cJ2_init 53 = .ok (.invokevirtual 32, 3) := dk_182 0 32 (dk_at dksJ2_init_2 7 rfl rfl)
theorem dJ2_init_56 : decode cJ2_init 56 = .ok (.invokespecial 36, 3) := dk_183 0 36 (dk_at dksJ2_init_2 10 rfl rfl)
theorem dJ2_init_59 : decode cJ2_init 59 = .ok (.athrow, 1) := dk_191 (dk_at dksJ2_init_2 13 rfl rfl)
theorem dJ2_init_60 : decode cJ2_init 60 = .ok (.return_, 1) := dk_177 (dk_at dksJ2_init_2 14 rfl rfl)
abbrev cJ2_size : ByteArray := prog_55_method_8_code
def yJ2_size : MethodName := ⟨RJ2, "size", "()I"⟩
theorem dJ2_size_0 : decode cJ2_size 0 = .ok (.aload_n 0, 1) := by decide +kernel
theorem dJ2_size_1 : decode cJ2_size 1 = .ok (.getfield 48, 3) := by decide +kernel
theorem dJ2_size_4 : decode cJ2_size 4 = .ok (.ireturn, 1) := by decide +kernel
abbrev cJ2_get : ByteArray := prog_55_method_20_code
def yJ2_get : MethodName := ⟨RJ2, "get", "(I)Ljava/lang/Object;"⟩
def dkwJ2_get_0 : List UInt8 := [27, 42, 180, 0, 48, 184, 0, 118, 87, 42, 27, 182, 0, 123, 176]
abbrev dktJ2_get_0 : List UInt8 := dkwJ2_get_0 ++ []
theorem dksJ2_get_0 : cJ2_get.data.toList.drop 0 = dktJ2_get_0 := by decide +kernel
theorem dJ2_get_0 : decode cJ2_get 0 = .ok (.iload_n 1, 1) := dk_27 (dk_at dksJ2_get_0 0 rfl rfl)
theorem dJ2_get_1 : decode cJ2_get 1 = .ok (.aload_n 0, 1) := dk_42 (dk_at dksJ2_get_0 1 rfl rfl)
theorem dJ2_get_2 : decode cJ2_get 2 = .ok (.getfield 48, 3) := dk_180 0 48 (dk_at dksJ2_get_0 2 rfl rfl)
theorem dJ2_get_5 : decode cJ2_get 5 = .ok (.invokestatic 118, 3) := dk_184 0 118 (dk_at dksJ2_get_0 5 rfl rfl)
theorem dJ2_get_8 : decode cJ2_get 8 = .ok (.pop, 1) := dk_87 (dk_at dksJ2_get_0 8 rfl rfl)
theorem dJ2_get_9 : decode cJ2_get 9 = .ok (.aload_n 0, 1) := dk_42 (dk_at dksJ2_get_0 9 rfl rfl)
theorem dJ2_get_10 : decode cJ2_get 10 = .ok (.iload_n 1, 1) := dk_27 (dk_at dksJ2_get_0 10 rfl rfl)
theorem dJ2_get_11 : decode cJ2_get 11 = .ok (.invokevirtual 123, 3) := dk_182 0 123 (dk_at dksJ2_get_0 11 rfl rfl)
theorem dJ2_get_14 : decode cJ2_get 14 = .ok (.areturn, 1) := dk_176 (dk_at dksJ2_get_0 14 rfl rfl)
abbrev cJ2_elementData : ByteArray := prog_55_method_18_code
def yJ2_elementData : MethodName := ⟨RJ2, "elementData", "(I)Ljava/lang/Object;"⟩
def dkwJ2_elementData_0 : List UInt8 := [42, 180, 0, 9, 27, 50, 176]
abbrev dktJ2_elementData_0 : List UInt8 := dkwJ2_elementData_0 ++ []
theorem dksJ2_elementData_0 : cJ2_elementData.data.toList.drop 0 = dktJ2_elementData_0 := by decide +kernel
theorem dJ2_elementData_0 : decode cJ2_elementData 0 = .ok (.aload_n 0, 1) := dk_42 (dk_at dksJ2_elementData_0 0 rfl rfl)
theorem dJ2_elementData_1 : decode cJ2_elementData 1 = .ok (.getfield 9, 3) := dk_180 0 9 (dk_at dksJ2_elementData_0 1 rfl rfl)
theorem dJ2_elementData_4 : decode cJ2_elementData 4 = .ok (.iload_n 1, 1) := dk_27 (dk_at dksJ2_elementData_0 4 rfl rfl)
theorem dJ2_elementData_5 : decode cJ2_elementData 5 = .ok (.aaload, 1) := dk_50 (dk_at dksJ2_elementData_0 5 rfl rfl)
theorem dJ2_elementData_6 : decode cJ2_elementData 6 = .ok (.areturn, 1) := dk_176 (dk_at dksJ2_elementData_0 6 rfl rfl)
abbrev cJ2_init_2 : ByteArray := prog_55_method_2_code
def yJ2_init_2 : MethodName := ⟨RJ2, "<init>", "()V"⟩
def dkwJ2_init_2_0 : List UInt8 := [42, 183, 0, 1, 42, 178, 0, 39, 181, 0, 9, 177]
abbrev dktJ2_init_2_0 : List UInt8 := dkwJ2_init_2_0 ++ []
theorem dksJ2_init_2_0 : cJ2_init_2.data.toList.drop 0 = dktJ2_init_2_0 := by decide +kernel
theorem dJ2_init_2_0 : decode cJ2_init_2 0 = .ok (.aload_n 0, 1) := dk_42 (dk_at dksJ2_init_2_0 0 rfl rfl)
theorem dJ2_init_2_1 : decode cJ2_init_2 1 = .ok (.invokespecial 1, 3) := dk_183 0 1 (dk_at dksJ2_init_2_0 1 rfl rfl)
theorem dJ2_init_2_4 : decode cJ2_init_2 4 = .ok (.aload_n 0, 1) := dk_42 (dk_at dksJ2_init_2_0 4 rfl rfl)
theorem dJ2_init_2_5 : decode cJ2_init_2 5 = .ok (.getstatic 39, 3) := dk_178 0 39 (dk_at dksJ2_init_2_0 5 rfl rfl)
theorem dJ2_init_2_8 : decode cJ2_init_2 8 = .ok (.putfield 9, 3) := dk_181 0 9 (dk_at dksJ2_init_2_0 8 rfl rfl)
theorem dJ2_init_2_11 : decode cJ2_init_2 11 = .ok (.return_, 1) := dk_177 (dk_at dksJ2_init_2_0 11 rfl rfl)
abbrev cJ2_add : ByteArray := prog_55_method_25_code
def yJ2_add : MethodName := ⟨RJ2, "add", "(Ljava/lang/Object;)Z"⟩
def dkwJ2_add_1 : List UInt8 := [172]
abbrev dktJ2_add_1 : List UInt8 := dkwJ2_add_1 ++ []
def dkwJ2_add_0 : List UInt8 := [42, 89, 180, 0, 63, 4, 96, 181, 0, 63, 42, 43, 42, 180, 0, 9, 42, 180, 0, 48, 182, 0, 131, 4]
abbrev dktJ2_add_0 : List UInt8 := dkwJ2_add_0 ++ dktJ2_add_1
theorem dksJ2_add_0 : cJ2_add.data.toList.drop 0 = dktJ2_add_0 := by decide +kernel
theorem dksJ2_add_1 : cJ2_add.data.toList.drop 24 = dktJ2_add_1 := dk_seg dksJ2_add_0 24 rfl rfl
theorem dJ2_add_0 : decode cJ2_add 0 = .ok (.aload_n 0, 1) := dk_42 (dk_at dksJ2_add_0 0 rfl rfl)
theorem dJ2_add_1 : decode cJ2_add 1 = .ok (.dup, 1) := dk_89 (dk_at dksJ2_add_0 1 rfl rfl)
theorem dJ2_add_2 : decode cJ2_add 2 = .ok (.getfield 63, 3) := dk_180 0 63 (dk_at dksJ2_add_0 2 rfl rfl)
theorem dJ2_add_5 : decode cJ2_add 5 = .ok (.iconst 1, 1) := dk_4 (dk_at dksJ2_add_0 5 rfl rfl)
theorem dJ2_add_6 : decode cJ2_add 6 = .ok (.iadd, 1) := dk_96 (dk_at dksJ2_add_0 6 rfl rfl)
theorem dJ2_add_7 : decode cJ2_add 7 = .ok (.putfield 63, 3) := dk_181 0 63 (dk_at dksJ2_add_0 7 rfl rfl)
theorem dJ2_add_10 : decode cJ2_add 10 = .ok (.aload_n 0, 1) := dk_42 (dk_at dksJ2_add_0 10 rfl rfl)
theorem dJ2_add_11 : decode cJ2_add 11 = .ok (.aload_n 1, 1) := dk_43 (dk_at dksJ2_add_0 11 rfl rfl)
theorem dJ2_add_12 : decode cJ2_add 12 = .ok (.aload_n 0, 1) := dk_42 (dk_at dksJ2_add_0 12 rfl rfl)
theorem dJ2_add_13 : decode cJ2_add 13 = .ok (.getfield 9, 3) := dk_180 0 9 (dk_at dksJ2_add_0 13 rfl rfl)
theorem dJ2_add_16 : decode cJ2_add 16 = .ok (.aload_n 0, 1) := dk_42 (dk_at dksJ2_add_0 16 rfl rfl)
theorem dJ2_add_17 : decode cJ2_add 17 = .ok (.getfield 48, 3) := dk_180 0 48 (dk_at dksJ2_add_0 17 rfl rfl)
theorem dJ2_add_20 : decode cJ2_add 20 = .ok (.invokevirtual 131, 3) := dk_182 0 131 (dk_at dksJ2_add_0 20 rfl rfl)
theorem dJ2_add_23 : decode cJ2_add 23 = .ok (.iconst 1, 1) := dk_4 (dk_at dksJ2_add_0 23 rfl rfl)
theorem dJ2_add_24 : decode cJ2_add 24 = .ok (.ireturn, 1) := dk_172 (dk_at dksJ2_add_1 0 rfl rfl)
abbrev cJ2_add_2 : ByteArray := prog_55_method_24_code
def yJ2_add_2 : MethodName := ⟨RJ2, "add", "(Ljava/lang/Object;[Ljava/lang/Object;I)V"⟩
def dkwJ2_add_2_0 : List UInt8 := [29, 44, 190, 160, 0, 8, 42, 182, 0, 129, 77, 44, 29, 43, 83, 42, 29, 4, 96, 181, 0, 48, 177]
abbrev dktJ2_add_2_0 : List UInt8 := dkwJ2_add_2_0 ++ []
theorem dksJ2_add_2_0 : cJ2_add_2.data.toList.drop 0 = dktJ2_add_2_0 := by decide +kernel
theorem dJ2_add_2_0 : decode cJ2_add_2 0 = .ok (.iload_n 3, 1) := dk_29 (dk_at dksJ2_add_2_0 0 rfl rfl)
theorem dJ2_add_2_1 : decode cJ2_add_2 1 = .ok (.aload_n 2, 1) := dk_44 (dk_at dksJ2_add_2_0 1 rfl rfl)
theorem dJ2_add_2_2 : decode cJ2_add_2 2 = .ok (.arraylength, 1) := dk_190 (dk_at dksJ2_add_2_0 2 rfl rfl)
theorem dJ2_add_2_3 : decode cJ2_add_2 3 = .ok (.if_icmp .ne 8, 3) := dk_160 0 8 (dk_at dksJ2_add_2_0 3 rfl rfl)
theorem dJ2_add_2_6 : decode cJ2_add_2 6 = .ok (.aload_n 0, 1) := dk_42 (dk_at dksJ2_add_2_0 6 rfl rfl)
theorem dJ2_add_2_7 : decode cJ2_add_2 7 = .ok (.invokevirtual 129, 3) := dk_182 0 129 (dk_at dksJ2_add_2_0 7 rfl rfl)
theorem dJ2_add_2_10 : decode cJ2_add_2 10 = .ok (.astore_n 2, 1) := dk_77 (dk_at dksJ2_add_2_0 10 rfl rfl)
theorem dJ2_add_2_11 : decode cJ2_add_2 11 = .ok (.aload_n 2, 1) := dk_44 (dk_at dksJ2_add_2_0 11 rfl rfl)
theorem dJ2_add_2_12 : decode cJ2_add_2 12 = .ok (.iload_n 3, 1) := dk_29 (dk_at dksJ2_add_2_0 12 rfl rfl)
theorem dJ2_add_2_13 : decode cJ2_add_2 13 = .ok (.aload_n 1, 1) := dk_43 (dk_at dksJ2_add_2_0 13 rfl rfl)
theorem dJ2_add_2_14 : decode cJ2_add_2 14 = .ok (.aastore, 1) := dk_83 (dk_at dksJ2_add_2_0 14 rfl rfl)
theorem dJ2_add_2_15 : decode cJ2_add_2 15 = .ok (.aload_n 0, 1) := dk_42 (dk_at dksJ2_add_2_0 15 rfl rfl)
theorem dJ2_add_2_16 : decode cJ2_add_2 16 = .ok (.iload_n 3, 1) := dk_29 (dk_at dksJ2_add_2_0 16 rfl rfl)
theorem dJ2_add_2_17 : decode cJ2_add_2 17 = .ok (.iconst 1, 1) := dk_4 (dk_at dksJ2_add_2_0 17 rfl rfl)
theorem dJ2_add_2_18 : decode cJ2_add_2 18 = .ok (.iadd, 1) := dk_96 (dk_at dksJ2_add_2_0 18 rfl rfl)
theorem dJ2_add_2_19 : decode cJ2_add_2 19 = .ok (.putfield 48, 3) := dk_181 0 48 (dk_at dksJ2_add_2_0 19 rfl rfl)
theorem dJ2_add_2_22 : decode cJ2_add_2 22 = .ok (.return_, 1) := dk_177 (dk_at dksJ2_add_2_0 22 rfl rfl)
abbrev cJ2_grow : ByteArray := prog_55_method_7_code
def yJ2_grow : MethodName := ⟨RJ2, "grow", "()[Ljava/lang/Object;"⟩
def dkwJ2_grow_0 : List UInt8 := [42, 42, 180, 0, 48, 4, 96, 182, 0, 69, 176]
abbrev dktJ2_grow_0 : List UInt8 := dkwJ2_grow_0 ++ []
theorem dksJ2_grow_0 : cJ2_grow.data.toList.drop 0 = dktJ2_grow_0 := by decide +kernel
theorem dJ2_grow_0 : decode cJ2_grow 0 = .ok (.aload_n 0, 1) := dk_42 (dk_at dksJ2_grow_0 0 rfl rfl)
theorem dJ2_grow_1 : decode cJ2_grow 1 = .ok (.aload_n 0, 1) := dk_42 (dk_at dksJ2_grow_0 1 rfl rfl)
theorem dJ2_grow_2 : decode cJ2_grow 2 = .ok (.getfield 48, 3) := dk_180 0 48 (dk_at dksJ2_grow_0 2 rfl rfl)
theorem dJ2_grow_5 : decode cJ2_grow 5 = .ok (.iconst 1, 1) := dk_4 (dk_at dksJ2_grow_0 5 rfl rfl)
theorem dJ2_grow_6 : decode cJ2_grow 6 = .ok (.iadd, 1) := dk_96 (dk_at dksJ2_grow_0 6 rfl rfl)
theorem dJ2_grow_7 : decode cJ2_grow 7 = .ok (.invokevirtual 69, 3) := dk_182 0 69 (dk_at dksJ2_grow_0 7 rfl rfl)
theorem dJ2_grow_10 : decode cJ2_grow 10 = .ok (.areturn, 1) := dk_176 (dk_at dksJ2_grow_0 10 rfl rfl)
abbrev cJ2_grow_2 : ByteArray := prog_55_method_6_code
def yJ2_grow_2 : MethodName := ⟨RJ2, "grow", "(I)[Ljava/lang/Object;"⟩
def dkwJ2_grow_2_2 : List UInt8 := [27, 184, 0, 79, 189, 0, 7, 90, 181, 0, 9, 176]
abbrev dktJ2_grow_2_2 : List UInt8 := dkwJ2_grow_2_2 ++ []
def dkwJ2_grow_2_1 : List UInt8 := [28, 4, 122, 184, 0, 73, 62, 42, 42, 180, 0, 9, 29, 184, 0, 66, 90, 181, 0, 9, 176, 42, 16, 10]
abbrev dktJ2_grow_2_1 : List UInt8 := dkwJ2_grow_2_1 ++ dktJ2_grow_2_2
def dkwJ2_grow_2_0 : List UInt8 := [42, 180, 0, 9, 190, 61, 28, 157, 0, 13, 42, 180, 0, 9, 178, 0, 39, 165, 0, 28, 28, 27, 28, 100]
abbrev dktJ2_grow_2_0 : List UInt8 := dkwJ2_grow_2_0 ++ dktJ2_grow_2_1
theorem dksJ2_grow_2_0 : cJ2_grow_2.data.toList.drop 0 = dktJ2_grow_2_0 := by decide +kernel
theorem dksJ2_grow_2_1 : cJ2_grow_2.data.toList.drop 24 = dktJ2_grow_2_1 := dk_seg dksJ2_grow_2_0 24 rfl rfl
theorem dksJ2_grow_2_2 : cJ2_grow_2.data.toList.drop 48 = dktJ2_grow_2_2 := dk_seg dksJ2_grow_2_1 24 rfl rfl
theorem dJ2_grow_2_0 : decode cJ2_grow_2 0 = .ok (.aload_n 0, 1) := dk_42 (dk_at dksJ2_grow_2_0 0 rfl rfl)
theorem dJ2_grow_2_1 : decode cJ2_grow_2 1 = .ok (.getfield 9, 3) := dk_180 0 9 (dk_at dksJ2_grow_2_0 1 rfl rfl)
theorem dJ2_grow_2_4 : decode cJ2_grow_2 4 = .ok (.arraylength, 1) := dk_190 (dk_at dksJ2_grow_2_0 4 rfl rfl)
theorem dJ2_grow_2_5 : decode cJ2_grow_2 5 = .ok (.istore_n 2, 1) := dk_61 (dk_at dksJ2_grow_2_0 5 rfl rfl)
theorem dJ2_grow_2_6 : decode cJ2_grow_2 6 = .ok (.iload_n 2, 1) := dk_28 (dk_at dksJ2_grow_2_0 6 rfl rfl)
theorem dJ2_grow_2_7 : decode cJ2_grow_2 7 = .ok (.ifCond .gt 13, 3) := dk_157 0 13 (dk_at dksJ2_grow_2_0 7 rfl rfl)
theorem dJ2_grow_2_10 : decode cJ2_grow_2 10 = .ok (.aload_n 0, 1) := dk_42 (dk_at dksJ2_grow_2_0 10 rfl rfl)
theorem dJ2_grow_2_11 : decode cJ2_grow_2 11 = .ok (.getfield 9, 3) := dk_180 0 9 (dk_at dksJ2_grow_2_0 11 rfl rfl)
theorem dJ2_grow_2_14 : decode cJ2_grow_2 14 = .ok (.getstatic 39, 3) := dk_178 0 39 (dk_at dksJ2_grow_2_0 14 rfl rfl)
theorem dJ2_grow_2_17 : decode cJ2_grow_2 17 = .ok (.if_acmp .eq 28, 3) := dk_165 0 28 (dk_at dksJ2_grow_2_0 17 rfl rfl)
theorem dJ2_grow_2_20 : decode cJ2_grow_2 20 = .ok (.iload_n 2, 1) := dk_28 (dk_at dksJ2_grow_2_0 20 rfl rfl)
theorem dJ2_grow_2_21 : decode cJ2_grow_2 21 = .ok (.iload_n 1, 1) := dk_27 (dk_at dksJ2_grow_2_0 21 rfl rfl)
theorem dJ2_grow_2_22 : decode cJ2_grow_2 22 = .ok (.iload_n 2, 1) := dk_28 (dk_at dksJ2_grow_2_0 22 rfl rfl)
theorem dJ2_grow_2_23 : decode cJ2_grow_2 23 = .ok (.isub, 1) := dk_100 (dk_at dksJ2_grow_2_0 23 rfl rfl)
theorem dJ2_grow_2_24 : decode cJ2_grow_2 24 = .ok (.iload_n 2, 1) := dk_28 (dk_at dksJ2_grow_2_1 0 rfl rfl)
theorem dJ2_grow_2_25 : decode cJ2_grow_2 25 = .ok (.iconst 1, 1) := dk_4 (dk_at dksJ2_grow_2_1 1 rfl rfl)
theorem dJ2_grow_2_26 : decode cJ2_grow_2 26 = .ok (.ishr, 1) := dk_122 (dk_at dksJ2_grow_2_1 2 rfl rfl)
theorem dJ2_grow_2_27 : decode cJ2_grow_2 27 = .ok (.invokestatic 73, 3) := dk_184 0 73 (dk_at dksJ2_grow_2_1 3 rfl rfl)
theorem dJ2_grow_2_30 : decode cJ2_grow_2 30 = .ok (.istore_n 3, 1) := dk_62 (dk_at dksJ2_grow_2_1 6 rfl rfl)
theorem dJ2_grow_2_31 : decode cJ2_grow_2 31 = .ok (.aload_n 0, 1) := dk_42 (dk_at dksJ2_grow_2_1 7 rfl rfl)
theorem dJ2_grow_2_32 : decode cJ2_grow_2 32 = .ok (.aload_n 0, 1) := dk_42 (dk_at dksJ2_grow_2_1 8 rfl rfl)
theorem dJ2_grow_2_33 : decode cJ2_grow_2 33 = .ok (.getfield 9, 3) := dk_180 0 9 (dk_at dksJ2_grow_2_1 9 rfl rfl)
theorem dJ2_grow_2_36 : decode cJ2_grow_2 36 = .ok (.iload_n 3, 1) := dk_29 (dk_at dksJ2_grow_2_1 12 rfl rfl)
theorem dJ2_grow_2_37 : decode cJ2_grow_2 37 = .ok (.invokestatic 66, 3) := dk_184 0 66 (dk_at dksJ2_grow_2_1 13 rfl rfl)
theorem dJ2_grow_2_40 : decode cJ2_grow_2 40 = .ok (.dup_x1, 1) := dk_90 (dk_at dksJ2_grow_2_1 16 rfl rfl)
theorem dJ2_grow_2_41 : decode cJ2_grow_2 41 = .ok (.putfield 9, 3) := dk_181 0 9 (dk_at dksJ2_grow_2_1 17 rfl rfl)
theorem dJ2_grow_2_44 : decode cJ2_grow_2 44 = .ok (.areturn, 1) := dk_176 (dk_at dksJ2_grow_2_1 20 rfl rfl)
theorem dJ2_grow_2_45 : decode cJ2_grow_2 45 = .ok (.aload_n 0, 1) := dk_42 (dk_at dksJ2_grow_2_1 21 rfl rfl)
theorem dJ2_grow_2_46 : decode cJ2_grow_2 46 = .ok (.bipush 10, 2) := dk_16 10 (dk_at dksJ2_grow_2_1 22 rfl rfl)
theorem dJ2_grow_2_48 : decode cJ2_grow_2 48 = .ok (.iload_n 1, 1) := dk_27 (dk_at dksJ2_grow_2_2 0 rfl rfl)
theorem dJ2_grow_2_49 : decode cJ2_grow_2 49 = .ok (.invokestatic 79, 3) := dk_184 0 79 (dk_at dksJ2_grow_2_2 1 rfl rfl)
theorem dJ2_grow_2_52 : decode cJ2_grow_2 52 = .ok (.anewarray 7, 3) := dk_189 0 7 (dk_at dksJ2_grow_2_2 4 rfl rfl)
theorem dJ2_grow_2_55 : decode cJ2_grow_2 55 = .ok (.dup_x1, 1) := dk_90 (dk_at dksJ2_grow_2_2 7 rfl rfl)
theorem dJ2_grow_2_56 : decode cJ2_grow_2 56 = .ok (.putfield 9, 3) := dk_181 0 9 (dk_at dksJ2_grow_2_2 8 rfl rfl)
theorem dJ2_grow_2_59 : decode cJ2_grow_2 59 = .ok (.areturn, 1) := dk_176 (dk_at dksJ2_grow_2_2 11 rfl rfl)
abbrev cJ2_add_3 : ByteArray := prog_55_method_26_code
def yJ2_add_3 : MethodName := ⟨RJ2, "add", "(ILjava/lang/Object;)V"⟩
def dkwJ2_add_3_2 : List UInt8 := [29, 27, 100, 184, 0, 112, 25, 4, 27, 44, 83, 42, 29, 4, 96, 181, 0, 48, 177]
abbrev dktJ2_add_3_2 : List UInt8 := dkwJ2_add_3_2 ++ []
def dkwJ2_add_3_1 : List UInt8 := [180, 0, 9, 89, 58, 4, 190, 160, 0, 9, 42, 182, 0, 129, 58, 4, 25, 4, 27, 25, 4, 27, 4, 96]
abbrev dktJ2_add_3_1 : List UInt8 := dkwJ2_add_3_1 ++ dktJ2_add_3_2
def dkwJ2_add_3_0 : List UInt8 := [42, 27, 182, 0, 135, 42, 89, 180, 0, 63, 4, 96, 181, 0, 63, 42, 180, 0, 48, 89, 62, 42]
abbrev dktJ2_add_3_0 : List UInt8 := dkwJ2_add_3_0 ++ dktJ2_add_3_1
theorem dksJ2_add_3_0 : cJ2_add_3.data.toList.drop 0 = dktJ2_add_3_0 := by decide +kernel
theorem dksJ2_add_3_1 : cJ2_add_3.data.toList.drop 22 = dktJ2_add_3_1 := dk_seg dksJ2_add_3_0 22 rfl rfl
theorem dksJ2_add_3_2 : cJ2_add_3.data.toList.drop 46 = dktJ2_add_3_2 := dk_seg dksJ2_add_3_1 24 rfl rfl
theorem dJ2_add_3_0 : decode cJ2_add_3 0 = .ok (.aload_n 0, 1) := dk_42 (dk_at dksJ2_add_3_0 0 rfl rfl)
theorem dJ2_add_3_1 : decode cJ2_add_3 1 = .ok (.iload_n 1, 1) := dk_27 (dk_at dksJ2_add_3_0 1 rfl rfl)
theorem dJ2_add_3_2 : decode cJ2_add_3 2 = .ok (.invokevirtual 135, 3) := dk_182 0 135 (dk_at dksJ2_add_3_0 2 rfl rfl)
theorem dJ2_add_3_5 : decode cJ2_add_3 5 = .ok (.aload_n 0, 1) := dk_42 (dk_at dksJ2_add_3_0 5 rfl rfl)
theorem dJ2_add_3_6 : decode cJ2_add_3 6 = .ok (.dup, 1) := dk_89 (dk_at dksJ2_add_3_0 6 rfl rfl)
theorem dJ2_add_3_7 : decode cJ2_add_3 7 = .ok (.getfield 63, 3) := dk_180 0 63 (dk_at dksJ2_add_3_0 7 rfl rfl)
theorem dJ2_add_3_10 : decode cJ2_add_3 10 = .ok (.iconst 1, 1) := dk_4 (dk_at dksJ2_add_3_0 10 rfl rfl)
theorem dJ2_add_3_11 : decode cJ2_add_3 11 = .ok (.iadd, 1) := dk_96 (dk_at dksJ2_add_3_0 11 rfl rfl)
theorem dJ2_add_3_12 : decode cJ2_add_3 12 = .ok (.putfield 63, 3) := dk_181 0 63 (dk_at dksJ2_add_3_0 12 rfl rfl)
theorem dJ2_add_3_15 : decode cJ2_add_3 15 = .ok (.aload_n 0, 1) := dk_42 (dk_at dksJ2_add_3_0 15 rfl rfl)
theorem dJ2_add_3_16 : decode cJ2_add_3 16 = .ok (.getfield 48, 3) := dk_180 0 48 (dk_at dksJ2_add_3_0 16 rfl rfl)
theorem dJ2_add_3_19 : decode cJ2_add_3 19 = .ok (.dup, 1) := dk_89 (dk_at dksJ2_add_3_0 19 rfl rfl)
theorem dJ2_add_3_20 : decode cJ2_add_3 20 = .ok (.istore_n 3, 1) := dk_62 (dk_at dksJ2_add_3_0 20 rfl rfl)
theorem dJ2_add_3_21 : decode cJ2_add_3 21 = .ok (.aload_n 0, 1) := dk_42 (dk_at dksJ2_add_3_0 21 rfl rfl)
theorem dJ2_add_3_22 : decode cJ2_add_3 22 = .ok (.getfield 9, 3) := dk_180 0 9 (dk_at dksJ2_add_3_1 0 rfl rfl)
theorem dJ2_add_3_25 : decode cJ2_add_3 25 = .ok (.dup, 1) := dk_89 (dk_at dksJ2_add_3_1 3 rfl rfl)
theorem dJ2_add_3_26 : decode cJ2_add_3 26 = .ok (.astore 4, 2) := dk_58 4 (dk_at dksJ2_add_3_1 4 rfl rfl)
theorem dJ2_add_3_28 : decode cJ2_add_3 28 = .ok (.arraylength, 1) := dk_190 (dk_at dksJ2_add_3_1 6 rfl rfl)
theorem dJ2_add_3_29 : decode cJ2_add_3 29 = .ok (.if_icmp .ne 9, 3) := dk_160 0 9 (dk_at dksJ2_add_3_1 7 rfl rfl)
theorem dJ2_add_3_32 : decode cJ2_add_3 32 = .ok (.aload_n 0, 1) := dk_42 (dk_at dksJ2_add_3_1 10 rfl rfl)
theorem dJ2_add_3_33 : decode cJ2_add_3 33 = .ok (.invokevirtual 129, 3) := dk_182 0 129 (dk_at dksJ2_add_3_1 11 rfl rfl)
theorem dJ2_add_3_36 : decode cJ2_add_3 36 = .ok (.astore 4, 2) := dk_58 4 (dk_at dksJ2_add_3_1 14 rfl rfl)
theorem dJ2_add_3_38 : decode cJ2_add_3 38 = .ok (.aload 4, 2) := dk_25 4 (dk_at dksJ2_add_3_1 16 rfl rfl)
theorem dJ2_add_3_40 : decode cJ2_add_3 40 = .ok (.iload_n 1, 1) := dk_27 (dk_at dksJ2_add_3_1 18 rfl rfl)
theorem dJ2_add_3_41 : decode cJ2_add_3 41 = .ok (.aload 4, 2) := dk_25 4 (dk_at dksJ2_add_3_1 19 rfl rfl)
theorem dJ2_add_3_43 : decode cJ2_add_3 43 = .ok (.iload_n 1, 1) := dk_27 (dk_at dksJ2_add_3_1 21 rfl rfl)
theorem dJ2_add_3_44 : decode cJ2_add_3 44 = .ok (.iconst 1, 1) := dk_4 (dk_at dksJ2_add_3_1 22 rfl rfl)
theorem dJ2_add_3_45 : decode cJ2_add_3 45 = .ok (.iadd, 1) := dk_96 (dk_at dksJ2_add_3_1 23 rfl rfl)
theorem dJ2_add_3_46 : decode cJ2_add_3 46 = .ok (.iload_n 3, 1) := dk_29 (dk_at dksJ2_add_3_2 0 rfl rfl)
theorem dJ2_add_3_47 : decode cJ2_add_3 47 = .ok (.iload_n 1, 1) := dk_27 (dk_at dksJ2_add_3_2 1 rfl rfl)
theorem dJ2_add_3_48 : decode cJ2_add_3 48 = .ok (.isub, 1) := dk_100 (dk_at dksJ2_add_3_2 2 rfl rfl)
theorem dJ2_add_3_49 : decode cJ2_add_3 49 = .ok (.invokestatic 112, 3) := dk_184 0 112 (dk_at dksJ2_add_3_2 3 rfl rfl)
theorem dJ2_add_3_52 : decode cJ2_add_3 52 = .ok (.aload 4, 2) := dk_25 4 (dk_at dksJ2_add_3_2 6 rfl rfl)
theorem dJ2_add_3_54 : decode cJ2_add_3 54 = .ok (.iload_n 1, 1) := dk_27 (dk_at dksJ2_add_3_2 8 rfl rfl)
theorem dJ2_add_3_55 : decode cJ2_add_3 55 = .ok (.aload_n 2, 1) := dk_44 (dk_at dksJ2_add_3_2 9 rfl rfl)
theorem dJ2_add_3_56 : decode cJ2_add_3 56 = .ok (.aastore, 1) := dk_83 (dk_at dksJ2_add_3_2 10 rfl rfl)
theorem dJ2_add_3_57 : decode cJ2_add_3 57 = .ok (.aload_n 0, 1) := dk_42 (dk_at dksJ2_add_3_2 11 rfl rfl)
theorem dJ2_add_3_58 : decode cJ2_add_3 58 = .ok (.iload_n 3, 1) := dk_29 (dk_at dksJ2_add_3_2 12 rfl rfl)
theorem dJ2_add_3_59 : decode cJ2_add_3 59 = .ok (.iconst 1, 1) := dk_4 (dk_at dksJ2_add_3_2 13 rfl rfl)
theorem dJ2_add_3_60 : decode cJ2_add_3 60 = .ok (.iadd, 1) := dk_96 (dk_at dksJ2_add_3_2 14 rfl rfl)
theorem dJ2_add_3_61 : decode cJ2_add_3 61 = .ok (.putfield 48, 3) := dk_181 0 48 (dk_at dksJ2_add_3_2 15 rfl rfl)
theorem dJ2_add_3_64 : decode cJ2_add_3 64 = .ok (.return_, 1) := dk_177 (dk_at dksJ2_add_3_2 18 rfl rfl)
abbrev cJ2_rangeCheckForAdd : ByteArray := prog_55_method_45_code
def yJ2_rangeCheckForAdd : MethodName := ⟨RJ2, "rangeCheckForAdd", "(I)V"⟩
def dkwJ2_rangeCheckForAdd_1 : List UInt8 := [191, 177]
abbrev dktJ2_rangeCheckForAdd_1 : List UInt8 := dkwJ2_rangeCheckForAdd_1 ++ []
def dkwJ2_rangeCheckForAdd_0 : List UInt8 := [27, 42, 180, 0, 48, 163, 0, 7, 27, 156, 0, 16, 187, 0, 187, 89, 42, 27, 182, 0, 198, 183, 0, 193]
abbrev dktJ2_rangeCheckForAdd_0 : List UInt8 := dkwJ2_rangeCheckForAdd_0 ++ dktJ2_rangeCheckForAdd_1
theorem dksJ2_rangeCheckForAdd_0 : cJ2_rangeCheckForAdd.data.toList.drop 0 = dktJ2_rangeCheckForAdd_0 := by decide +kernel
theorem dksJ2_rangeCheckForAdd_1 : cJ2_rangeCheckForAdd.data.toList.drop 24 = dktJ2_rangeCheckForAdd_1 := dk_seg dksJ2_rangeCheckForAdd_0 24 rfl rfl
theorem dJ2_rangeCheckForAdd_0 : decode cJ2_rangeCheckForAdd 0 = .ok (.iload_n 1, 1) := dk_27 (dk_at dksJ2_rangeCheckForAdd_0 0 rfl rfl)
theorem dJ2_rangeCheckForAdd_1 : decode cJ2_rangeCheckForAdd 1 = .ok (.aload_n 0, 1) := dk_42 (dk_at dksJ2_rangeCheckForAdd_0 1 rfl rfl)
theorem dJ2_rangeCheckForAdd_2 : decode cJ2_rangeCheckForAdd 2 = .ok (.getfield 48, 3) := dk_180 0 48 (dk_at dksJ2_rangeCheckForAdd_0 2 rfl rfl)
theorem dJ2_rangeCheckForAdd_5 : decode cJ2_rangeCheckForAdd 5 = .ok (.if_icmp .gt 7, 3) := dk_163 0 7 (dk_at dksJ2_rangeCheckForAdd_0 5 rfl rfl)
theorem dJ2_rangeCheckForAdd_8 : decode cJ2_rangeCheckForAdd 8 = .ok (.iload_n 1, 1) := dk_27 (dk_at dksJ2_rangeCheckForAdd_0 8 rfl rfl)
theorem dJ2_rangeCheckForAdd_9 : decode cJ2_rangeCheckForAdd 9 = .ok (.ifCond .ge 16, 3) := dk_156 0 16 (dk_at dksJ2_rangeCheckForAdd_0 9 rfl rfl)
theorem dJ2_rangeCheckForAdd_12 : decode cJ2_rangeCheckForAdd 12 = .ok (.new 187, 3) := dk_187 0 187 (dk_at dksJ2_rangeCheckForAdd_0 12 rfl rfl)
theorem dJ2_rangeCheckForAdd_15 : decode cJ2_rangeCheckForAdd 15 = .ok (.dup, 1) := dk_89 (dk_at dksJ2_rangeCheckForAdd_0 15 rfl rfl)
theorem dJ2_rangeCheckForAdd_16 : decode cJ2_rangeCheckForAdd 16 = .ok (.aload_n 0, 1) := dk_42 (dk_at dksJ2_rangeCheckForAdd_0 16 rfl rfl)
theorem dJ2_rangeCheckForAdd_17 : decode cJ2_rangeCheckForAdd 17 = .ok (.iload_n 1, 1) := dk_27 (dk_at dksJ2_rangeCheckForAdd_0 17 rfl rfl)
theorem dJ2_rangeCheckForAdd_18 : decode cJ2_rangeCheckForAdd 18 = .ok (.invokevirtual 198, 3) := dk_182 0 198 (dk_at dksJ2_rangeCheckForAdd_0 18 rfl rfl)
theorem dJ2_rangeCheckForAdd_21 : decode cJ2_rangeCheckForAdd 21 = .ok (.invokespecial 193, 3) := dk_183 0 193 (dk_at dksJ2_rangeCheckForAdd_0 21 rfl rfl)
theorem dJ2_rangeCheckForAdd_24 : decode cJ2_rangeCheckForAdd 24 = .ok (.athrow, 1) := dk_191 (dk_at dksJ2_rangeCheckForAdd_1 0 rfl rfl)
theorem dJ2_rangeCheckForAdd_25 : decode cJ2_rangeCheckForAdd 25 = .ok (.return_, 1) := dk_177 (dk_at dksJ2_rangeCheckForAdd_1 1 rfl rfl)
abbrev cJ2_outOfBoundsMsg : ByteArray := prog_55_method_46_code
def yJ2_outOfBoundsMsg : MethodName := ⟨RJ2, "outOfBoundsMsg", "(I)Ljava/lang/String;"⟩
def dkwJ2_outOfBoundsMsg_1 : List UInt8 := [180, 0, 48, 182, 0, 29, 182, 0, 32, 176]
abbrev dktJ2_outOfBoundsMsg_1 : List UInt8 := dkwJ2_outOfBoundsMsg_1 ++ []
def dkwJ2_outOfBoundsMsg_0 : List UInt8 := [187, 0, 20, 89, 183, 0, 22, 18, 201, 182, 0, 25, 27, 182, 0, 29, 18, 203, 182, 0, 25, 42]
abbrev dktJ2_outOfBoundsMsg_0 : List UInt8 := dkwJ2_outOfBoundsMsg_0 ++ dktJ2_outOfBoundsMsg_1
theorem dksJ2_outOfBoundsMsg_0 : cJ2_outOfBoundsMsg.data.toList.drop 0 = dktJ2_outOfBoundsMsg_0 := by decide +kernel
theorem dksJ2_outOfBoundsMsg_1 : cJ2_outOfBoundsMsg.data.toList.drop 22 = dktJ2_outOfBoundsMsg_1 := dk_seg dksJ2_outOfBoundsMsg_0 22 rfl rfl
theorem dJ2_outOfBoundsMsg_0 : decode cJ2_outOfBoundsMsg 0 = .ok (.new 20, 3) := dk_187 0 20 (dk_at dksJ2_outOfBoundsMsg_0 0 rfl rfl)
theorem dJ2_outOfBoundsMsg_3 : decode cJ2_outOfBoundsMsg 3 = .ok (.dup, 1) := dk_89 (dk_at dksJ2_outOfBoundsMsg_0 3 rfl rfl)
theorem dJ2_outOfBoundsMsg_4 : decode cJ2_outOfBoundsMsg 4 = .ok (.invokespecial 22, 3) := dk_183 0 22 (dk_at dksJ2_outOfBoundsMsg_0 4 rfl rfl)
theorem dJ2_outOfBoundsMsg_7 : decode cJ2_outOfBoundsMsg 7 = .ok (.ldc 201, 2) := dk_18 201 (dk_at dksJ2_outOfBoundsMsg_0 7 rfl rfl)
theorem dJ2_outOfBoundsMsg_9 : decode cJ2_outOfBoundsMsg 9 = .ok (.invokevirtual 25, 3) := dk_182 0 25 (dk_at dksJ2_outOfBoundsMsg_0 9 rfl rfl)
theorem dJ2_outOfBoundsMsg_12 : decode cJ2_outOfBoundsMsg 12 = .ok (.iload_n 1, 1) := dk_27 (dk_at dksJ2_outOfBoundsMsg_0 12 rfl rfl)
theorem dJ2_outOfBoundsMsg_13 : decode cJ2_outOfBoundsMsg 13 = .ok (.invokevirtual 29, 3) := dk_182 0 29 (dk_at dksJ2_outOfBoundsMsg_0 13 rfl rfl)
theorem dJ2_outOfBoundsMsg_16 : decode cJ2_outOfBoundsMsg 16 = .ok (.ldc 203, 2) := dk_18 203 (dk_at dksJ2_outOfBoundsMsg_0 16 rfl rfl)
theorem dJ2_outOfBoundsMsg_18 : decode cJ2_outOfBoundsMsg 18 = .ok (.invokevirtual 25, 3) := dk_182 0 25 (dk_at dksJ2_outOfBoundsMsg_0 18 rfl rfl)
theorem dJ2_outOfBoundsMsg_21 : decode cJ2_outOfBoundsMsg 21 = .ok (.aload_n 0, 1) := dk_42 (dk_at dksJ2_outOfBoundsMsg_0 21 rfl rfl)
theorem dJ2_outOfBoundsMsg_22 : decode cJ2_outOfBoundsMsg 22 = .ok (.getfield 48, 3) := dk_180 0 48 (dk_at dksJ2_outOfBoundsMsg_1 0 rfl rfl)
theorem dJ2_outOfBoundsMsg_25 : decode cJ2_outOfBoundsMsg 25 = .ok (.invokevirtual 29, 3) := dk_182 0 29 (dk_at dksJ2_outOfBoundsMsg_1 3 rfl rfl)
theorem dJ2_outOfBoundsMsg_28 : decode cJ2_outOfBoundsMsg 28 = .ok (.invokevirtual 32, 3) := dk_182 0 32 (dk_at dksJ2_outOfBoundsMsg_1 6 rfl rfl)
theorem dJ2_outOfBoundsMsg_31 : decode cJ2_outOfBoundsMsg 31 = .ok (.areturn, 1) := dk_176 (dk_at dksJ2_outOfBoundsMsg_1 9 rfl rfl)
theorem q111 : (Jvm.Cond.initialized "java/util/ArrayList") ∈ lw_all := lw_g (lw_at lw_m1 4 rfl) rfl
theorem q173 : (Jvm.Cond.instantiable "java/util/ArrayList" (3 : Nat)) ∈ lw_all := lw_g (lw_at lw_m1 66 rfl) rfl
theorem q175 : (Jvm.Cond.instanceMethod ({ cls := "java/util/ArrayList", name := "<init>", desc := "(I)V" } : Jvm.MethodName)) ∈ lw_all := lw_g (lw_at lw_m1 68 rfl) rfl
theorem q176 : (Jvm.Cond.code ({ cls := "java/util/ArrayList", name := "<init>", desc := "(I)V" } : Jvm.MethodName) prog_55_method_1_code (2 : Nat) (Option.none : Option Jvm.ClassFile.FieldType)) ∈ lw_all := lw_g (lw_at lw_m1 69 rfl) rfl
theorem q177 : (Jvm.Cond.methodLink "java/util/ArrayList" (1 : Nat) ({ cls := "java/util/AbstractList", name := "<init>", desc := "()V" } : Jvm.MethodName)) ∈ lw_all := lw_g (lw_at lw_m1 70 rfl) rfl
theorem q184 : (Jvm.Cond.classLink "java/util/ArrayList" (7 : Nat) "java/lang/Object") ∈ lw_all := lw_g (lw_at lw_m1 77 rfl) rfl
theorem q186 : (Jvm.Cond.fieldLink "java/util/ArrayList" (15 : Nat) "java/util/ArrayList" "EMPTY_ELEMENTDATA" "[Ljava/lang/Object;") ∈ lw_all := lw_g (lw_at lw_m1 79 rfl) rfl
theorem q187 : (Jvm.Cond.laysStatic "java/util/ArrayList" "EMPTY_ELEMENTDATA" "[Ljava/lang/Object;") ∈ lw_tbl := lw_at lw_m1 80 rfl
theorem q188 : (Jvm.Cond.classLink "java/util/ArrayList" (18 : Nat) "java/lang/IllegalArgumentException") ∈ lw_all := lw_g (lw_at lw_m1 81 rfl) rfl
theorem q231 : (Jvm.Cond.classLink "java/util/ArrayList" (20 : Nat) "java/lang/StringBuilder") ∈ lw_all := lw_g (lw_at lw_m1 124 rfl) rfl
theorem q233 : (Jvm.Cond.methodLink "java/util/ArrayList" (22 : Nat) ({ cls := "java/lang/StringBuilder", name := "<init>", desc := "()V" } : Jvm.MethodName)) ∈ lw_all := lw_g (lw_at lw_m1 126 rfl) rfl
theorem q264 : (Jvm.Cond.stringRef "java/util/ArrayList" (23 : Nat) "Illegal Capacity: ") ∈ lw_tbl := lw_at lw_m1 157 rfl
theorem q265 : (Jvm.Cond.methodLink "java/util/ArrayList" (25 : Nat) ({ cls := "java/lang/StringBuilder", name := "append", desc := "(Ljava/lang/String;)Ljava/lang/StringBuilder;" } : Jvm.MethodName)) ∈ lw_all := lw_g (lw_at lw_m1 158 rfl) rfl
theorem q385 : (Jvm.Cond.methodLink "java/util/ArrayList" (29 : Nat) ({ cls := "java/lang/StringBuilder", name := "append", desc := "(I)Ljava/lang/StringBuilder;" } : Jvm.MethodName)) ∈ lw_all := lw_g (lw_at lw_m2 38 rfl) rfl
theorem q410 : (Jvm.Cond.methodLink "java/util/ArrayList" (32 : Nat) ({ cls := "java/lang/StringBuilder", name := "toString", desc := "()Ljava/lang/String;" } : Jvm.MethodName)) ∈ lw_all := lw_g (lw_at lw_m2 63 rfl) rfl
theorem q504 : (Jvm.Cond.methodLink "java/util/ArrayList" (36 : Nat) ({ cls := "java/lang/IllegalArgumentException", name := "<init>", desc := "(Ljava/lang/String;)V" } : Jvm.MethodName)) ∈ lw_all := lw_g (lw_at lw_m2 157 rfl) rfl
theorem q505 : (Jvm.Cond.fieldLink "java/util/ArrayList" (9 : Nat) "java/util/ArrayList" "elementData" "[Ljava/lang/Object;") ∈ lw_all := lw_g (lw_at lw_m2 158 rfl) rfl
theorem q506 : (Jvm.Cond.fieldLink "java/util/ArrayList" (48 : Nat) "java/util/ArrayList" "size" "I") ∈ lw_all := lw_g (lw_at lw_m2 159 rfl) rfl
theorem q508 : (Jvm.Cond.fieldLink "java/util/ArrayList" (63 : Nat) "java/util/ArrayList" "modCount" "I") ∈ lw_all := lw_g (lw_at lw_m2 161 rfl) rfl
theorem q509 : (Jvm.Cond.sameField "java/util/ArrayList" "java/util/AbstractList" "modCount" "I") ∈ lw_all := lw_g (lw_at lw_m2 162 rfl) rfl
theorem q510 : (Jvm.Cond.lays "java/util/ArrayList" "java/util/ArrayList" "elementData" "[Ljava/lang/Object;") ∈ lw_all := lw_g (lw_at lw_m2 163 rfl) rfl
theorem q511 : (Jvm.Cond.soleField "java/util/ArrayList" "elementData") ∈ lw_all := lw_g (lw_at lw_m2 164 rfl) rfl
theorem q512 : (Jvm.Cond.lays "java/util/ArrayList" "java/util/ArrayList" "size" "I") ∈ lw_all := lw_g (lw_at lw_m2 165 rfl) rfl
theorem q513 : (Jvm.Cond.soleField "java/util/ArrayList" "size") ∈ lw_all := lw_g (lw_at lw_m2 166 rfl) rfl
theorem q514 : (Jvm.Cond.lays "java/util/ArrayList" "java/util/AbstractList" "modCount" "I") ∈ lw_all := lw_g (lw_at lw_m2 167 rfl) rfl
theorem q516 : (Jvm.Cond.superclass "java/util/ArrayList" "java/util/AbstractList") ∈ lw_all := lw_g (lw_at lw_m2 169 rfl) rfl
theorem q669 : (Jvm.Cond.instanceMethod ({ cls := "java/util/ArrayList", name := "size", desc := "()I" } : Jvm.MethodName)) ∈ lw_all := lw_g (lw_at lw_m3 82 rfl) rfl
theorem q670 : (Jvm.Cond.selects "java/util/ArrayList" ({ cls := "java/util/ArrayList", name := "size", desc := "()I" } : Jvm.MethodName) ({ cls := "java/util/ArrayList", name := "size", desc := "()I" } : Jvm.MethodName)) ∈ lw_all := lw_g (lw_at lw_m3 83 rfl) rfl
theorem q671 : (Jvm.Cond.code ({ cls := "java/util/ArrayList", name := "size", desc := "()I" } : Jvm.MethodName) prog_55_method_8_code (1 : Nat) (Option.some Jvm.ClassFile.FieldType.int)) ∈ lw_all := lw_g (lw_at lw_m3 84 rfl) rfl
theorem q673 : (Jvm.Cond.instanceMethod ({ cls := "java/util/ArrayList", name := "get", desc := "(I)Ljava/lang/Object;" } : Jvm.MethodName)) ∈ lw_all := lw_g (lw_at lw_m3 86 rfl) rfl
theorem q674 : (Jvm.Cond.selects "java/util/ArrayList" ({ cls := "java/util/ArrayList", name := "get", desc := "(I)Ljava/lang/Object;" } : Jvm.MethodName) ({ cls := "java/util/ArrayList", name := "get", desc := "(I)Ljava/lang/Object;" } : Jvm.MethodName)) ∈ lw_all := lw_g (lw_at lw_m3 87 rfl) rfl
theorem q675 : (Jvm.Cond.code ({ cls := "java/util/ArrayList", name := "get", desc := "(I)Ljava/lang/Object;" } : Jvm.MethodName) prog_55_method_20_code (2 : Nat) (Option.some (Jvm.ClassFile.FieldType.object "java/lang/Object"))) ∈ lw_all := lw_g (lw_at lw_m3 88 rfl) rfl
theorem q676 : (Jvm.Cond.methodLink "java/util/ArrayList" (118 : Nat) ({ cls := "java/util/Objects", name := "checkIndex", desc := "(II)I" } : Jvm.MethodName)) ∈ lw_all := lw_g (lw_at lw_m3 89 rfl) rfl
theorem q682 : (Jvm.Cond.methodLink "java/util/ArrayList" (123 : Nat) ({ cls := "java/util/ArrayList", name := "elementData", desc := "(I)Ljava/lang/Object;" } : Jvm.MethodName)) ∈ lw_all := lw_g (lw_at lw_m3 95 rfl) rfl
theorem q683 : (Jvm.Cond.instanceMethod ({ cls := "java/util/ArrayList", name := "elementData", desc := "(I)Ljava/lang/Object;" } : Jvm.MethodName)) ∈ lw_all := lw_g (lw_at lw_m3 96 rfl) rfl
theorem q684 : (Jvm.Cond.selects "java/util/ArrayList" ({ cls := "java/util/ArrayList", name := "elementData", desc := "(I)Ljava/lang/Object;" } : Jvm.MethodName) ({ cls := "java/util/ArrayList", name := "elementData", desc := "(I)Ljava/lang/Object;" } : Jvm.MethodName)) ∈ lw_all := lw_g (lw_at lw_m3 97 rfl) rfl
theorem q685 : (Jvm.Cond.code ({ cls := "java/util/ArrayList", name := "elementData", desc := "(I)Ljava/lang/Object;" } : Jvm.MethodName) prog_55_method_18_code (2 : Nat) (Option.some (Jvm.ClassFile.FieldType.object "java/lang/Object"))) ∈ lw_all := lw_g (lw_at lw_m3 98 rfl) rfl
theorem q969 : (Jvm.Cond.instanceMethod ({ cls := "java/util/ArrayList", name := "<init>", desc := "()V" } : Jvm.MethodName)) ∈ lw_all := lw_g (lw_at lw_m4 142 rfl) rfl
theorem q970 : (Jvm.Cond.code ({ cls := "java/util/ArrayList", name := "<init>", desc := "()V" } : Jvm.MethodName) prog_55_method_2_code (1 : Nat) (Option.none : Option Jvm.ClassFile.FieldType)) ∈ lw_all := lw_g (lw_at lw_m4 143 rfl) rfl
theorem q971 : (Jvm.Cond.fieldLink "java/util/ArrayList" (39 : Nat) "java/util/ArrayList" "DEFAULTCAPACITY_EMPTY_ELEMENTDATA" "[Ljava/lang/Object;") ∈ lw_all := lw_g (lw_at lw_m4 144 rfl) rfl
theorem q972 : (Jvm.Cond.laysStatic "java/util/ArrayList" "DEFAULTCAPACITY_EMPTY_ELEMENTDATA" "[Ljava/lang/Object;") ∈ lw_tbl := lw_at lw_m4 145 rfl
theorem q1092 : (Jvm.Cond.instanceMethod ({ cls := "java/util/ArrayList", name := "add", desc := "(Ljava/lang/Object;)Z" } : Jvm.MethodName)) ∈ lw_all := lw_g (lw_at lw_m5 25 rfl) rfl
theorem q1093 : (Jvm.Cond.selects "java/util/ArrayList" ({ cls := "java/util/ArrayList", name := "add", desc := "(Ljava/lang/Object;)Z" } : Jvm.MethodName) ({ cls := "java/util/ArrayList", name := "add", desc := "(Ljava/lang/Object;)Z" } : Jvm.MethodName)) ∈ lw_all := lw_g (lw_at lw_m5 26 rfl) rfl
theorem q1094 : (Jvm.Cond.code ({ cls := "java/util/ArrayList", name := "add", desc := "(Ljava/lang/Object;)Z" } : Jvm.MethodName) prog_55_method_25_code (2 : Nat) (Option.some Jvm.ClassFile.FieldType.boolean)) ∈ lw_all := lw_g (lw_at lw_m5 27 rfl) rfl
theorem q1095 : (Jvm.Cond.methodLink "java/util/ArrayList" (131 : Nat) ({ cls := "java/util/ArrayList", name := "add", desc := "(Ljava/lang/Object;[Ljava/lang/Object;I)V" } : Jvm.MethodName)) ∈ lw_all := lw_g (lw_at lw_m5 28 rfl) rfl
theorem q1096 : (Jvm.Cond.privateMethod ({ cls := "java/util/ArrayList", name := "add", desc := "(Ljava/lang/Object;[Ljava/lang/Object;I)V" } : Jvm.MethodName)) ∈ lw_tbl := lw_at lw_m5 29 rfl
theorem q1097 : (Jvm.Cond.instanceMethod ({ cls := "java/util/ArrayList", name := "add", desc := "(Ljava/lang/Object;[Ljava/lang/Object;I)V" } : Jvm.MethodName)) ∈ lw_all := lw_g (lw_at lw_m5 30 rfl) rfl
theorem q1098 : (Jvm.Cond.code ({ cls := "java/util/ArrayList", name := "add", desc := "(Ljava/lang/Object;[Ljava/lang/Object;I)V" } : Jvm.MethodName) prog_55_method_24_code (4 : Nat) (Option.none : Option Jvm.ClassFile.FieldType)) ∈ lw_all := lw_g (lw_at lw_m5 31 rfl) rfl
theorem q1099 : (Jvm.Cond.methodLink "java/util/ArrayList" (129 : Nat) ({ cls := "java/util/ArrayList", name := "grow", desc := "()[Ljava/lang/Object;" } : Jvm.MethodName)) ∈ lw_all := lw_g (lw_at lw_m5 32 rfl) rfl
theorem q1100 : (Jvm.Cond.privateMethod ({ cls := "java/util/ArrayList", name := "grow", desc := "()[Ljava/lang/Object;" } : Jvm.MethodName)) ∈ lw_tbl := lw_at lw_m5 33 rfl
theorem q1101 : (Jvm.Cond.instanceMethod ({ cls := "java/util/ArrayList", name := "grow", desc := "()[Ljava/lang/Object;" } : Jvm.MethodName)) ∈ lw_all := lw_g (lw_at lw_m5 34 rfl) rfl
theorem q1102 : (Jvm.Cond.code ({ cls := "java/util/ArrayList", name := "grow", desc := "()[Ljava/lang/Object;" } : Jvm.MethodName) prog_55_method_7_code (1 : Nat) (Option.some (Jvm.ClassFile.FieldType.array (Jvm.ClassFile.FieldType.object "java/lang/Object")))) ∈ lw_all := lw_g (lw_at lw_m5 35 rfl) rfl
theorem q1103 : (Jvm.Cond.methodLink "java/util/ArrayList" (69 : Nat) ({ cls := "java/util/ArrayList", name := "grow", desc := "(I)[Ljava/lang/Object;" } : Jvm.MethodName)) ∈ lw_all := lw_g (lw_at lw_m5 36 rfl) rfl
theorem q1104 : (Jvm.Cond.privateMethod ({ cls := "java/util/ArrayList", name := "grow", desc := "(I)[Ljava/lang/Object;" } : Jvm.MethodName)) ∈ lw_tbl := lw_at lw_m5 37 rfl
theorem q1105 : (Jvm.Cond.instanceMethod ({ cls := "java/util/ArrayList", name := "grow", desc := "(I)[Ljava/lang/Object;" } : Jvm.MethodName)) ∈ lw_all := lw_g (lw_at lw_m5 38 rfl) rfl
theorem q1106 : (Jvm.Cond.code ({ cls := "java/util/ArrayList", name := "grow", desc := "(I)[Ljava/lang/Object;" } : Jvm.MethodName) prog_55_method_6_code (4 : Nat) (Option.some (Jvm.ClassFile.FieldType.array (Jvm.ClassFile.FieldType.object "java/lang/Object")))) ∈ lw_all := lw_g (lw_at lw_m5 39 rfl) rfl
theorem q1107 : (Jvm.Cond.methodLink "java/util/ArrayList" (73 : Nat) ({ cls := "jdk/internal/util/ArraysSupport", name := "newLength", desc := "(III)I" } : Jvm.MethodName)) ∈ lw_all := lw_g (lw_at lw_m5 40 rfl) rfl
theorem q1108 : (Jvm.Cond.methodLink "java/util/ArrayList" (66 : Nat) ({ cls := "java/util/Arrays", name := "copyOf", desc := "([Ljava/lang/Object;I)[Ljava/lang/Object;" } : Jvm.MethodName)) ∈ lw_all := lw_g (lw_at lw_m5 41 rfl) rfl
theorem q1141 : (Jvm.Cond.selects "java/util/ArrayList" ({ cls := "java/lang/Object", name := "getClass", desc := "()Ljava/lang/Class;" } : Jvm.MethodName) ({ cls := "java/lang/Object", name := "getClass", desc := "()Ljava/lang/Class;" } : Jvm.MethodName)) ∈ lw_all := lw_g (lw_at lw_m5 74 rfl) rfl
theorem q1155 : (Jvm.Cond.methodLink "java/util/ArrayList" (79 : Nat) ({ cls := "java/lang/Math", name := "max", desc := "(II)I" } : Jvm.MethodName)) ∈ lw_all := lw_g (lw_at lw_m5 88 rfl) rfl
theorem q2076 : (Jvm.Cond.instanceMethod ({ cls := "java/util/ArrayList", name := "add", desc := "(ILjava/lang/Object;)V" } : Jvm.MethodName)) ∈ lw_all := lw_g (lw_at lw_m9 49 rfl) rfl
theorem q2077 : (Jvm.Cond.selects "java/util/ArrayList" ({ cls := "java/util/ArrayList", name := "add", desc := "(ILjava/lang/Object;)V" } : Jvm.MethodName) ({ cls := "java/util/ArrayList", name := "add", desc := "(ILjava/lang/Object;)V" } : Jvm.MethodName)) ∈ lw_all := lw_g (lw_at lw_m9 50 rfl) rfl
theorem q2078 : (Jvm.Cond.code ({ cls := "java/util/ArrayList", name := "add", desc := "(ILjava/lang/Object;)V" } : Jvm.MethodName) prog_55_method_26_code (5 : Nat) (Option.none : Option Jvm.ClassFile.FieldType)) ∈ lw_all := lw_g (lw_at lw_m9 51 rfl) rfl
theorem q2079 : (Jvm.Cond.methodLink "java/util/ArrayList" (135 : Nat) ({ cls := "java/util/ArrayList", name := "rangeCheckForAdd", desc := "(I)V" } : Jvm.MethodName)) ∈ lw_all := lw_g (lw_at lw_m9 52 rfl) rfl
theorem q2080 : (Jvm.Cond.privateMethod ({ cls := "java/util/ArrayList", name := "rangeCheckForAdd", desc := "(I)V" } : Jvm.MethodName)) ∈ lw_tbl := lw_at lw_m9 53 rfl
theorem q2081 : (Jvm.Cond.instanceMethod ({ cls := "java/util/ArrayList", name := "rangeCheckForAdd", desc := "(I)V" } : Jvm.MethodName)) ∈ lw_all := lw_g (lw_at lw_m9 54 rfl) rfl
theorem q2082 : (Jvm.Cond.code ({ cls := "java/util/ArrayList", name := "rangeCheckForAdd", desc := "(I)V" } : Jvm.MethodName) prog_55_method_45_code (2 : Nat) (Option.none : Option Jvm.ClassFile.FieldType)) ∈ lw_all := lw_g (lw_at lw_m9 55 rfl) rfl
theorem q2083 : (Jvm.Cond.classLink "java/util/ArrayList" (187 : Nat) "java/lang/IndexOutOfBoundsException") ∈ lw_all := lw_g (lw_at lw_m9 56 rfl) rfl
theorem q2084 : (Jvm.Cond.methodLink "java/util/ArrayList" (198 : Nat) ({ cls := "java/util/ArrayList", name := "outOfBoundsMsg", desc := "(I)Ljava/lang/String;" } : Jvm.MethodName)) ∈ lw_all := lw_g (lw_at lw_m9 57 rfl) rfl
theorem q2085 : (Jvm.Cond.privateMethod ({ cls := "java/util/ArrayList", name := "outOfBoundsMsg", desc := "(I)Ljava/lang/String;" } : Jvm.MethodName)) ∈ lw_tbl := lw_at lw_m9 58 rfl
theorem q2086 : (Jvm.Cond.instanceMethod ({ cls := "java/util/ArrayList", name := "outOfBoundsMsg", desc := "(I)Ljava/lang/String;" } : Jvm.MethodName)) ∈ lw_all := lw_g (lw_at lw_m9 59 rfl) rfl
theorem q2087 : (Jvm.Cond.code ({ cls := "java/util/ArrayList", name := "outOfBoundsMsg", desc := "(I)Ljava/lang/String;" } : Jvm.MethodName) prog_55_method_46_code (2 : Nat) (Option.some (Jvm.ClassFile.FieldType.object "java/lang/String"))) ∈ lw_all := lw_g (lw_at lw_m9 60 rfl) rfl
theorem q2088 : (Jvm.Cond.stringRef "java/util/ArrayList" (201 : Nat) "Index: ") ∈ lw_tbl := lw_at lw_m9 61 rfl
theorem q2089 : (Jvm.Cond.stringRef "java/util/ArrayList" (203 : Nat) ", Size: ") ∈ lw_tbl := lw_at lw_m9 62 rfl
theorem q2090 : (Jvm.Cond.methodLink "java/util/ArrayList" (193 : Nat) ({ cls := "java/lang/IndexOutOfBoundsException", name := "<init>", desc := "(Ljava/lang/String;)V" } : Jvm.MethodName)) ∈ lw_all := lw_g (lw_at lw_m9 63 rfl) rfl
theorem q2091 : (Jvm.Cond.methodLink "java/util/ArrayList" (112 : Nat) ({ cls := "java/lang/System", name := "arraycopy", desc := "(Ljava/lang/Object;ILjava/lang/Object;II)V" } : Jvm.MethodName)) ∈ lw_all := lw_g (lw_at lw_m9 64 rfl) rfl
theorem q3293 : (Jvm.Cond.castable "java/util/ArrayList" "java/lang/Object") ∈ lw_tbl := lw_at lw_m14 66 rfl
theorem in_J2 : ∀ w ∈ wsJ20, w ∈ lw_all := lw_in wsJ20 [514, 510, 512] (by decide +kernel) (by decide +kernel)

/-! java/util/LinkedHashMap -/
set_option maxRecDepth 100000
def RJ20 : String := "java/util/LinkedHashMap"
def TJ20 : u_T := fun k => match k with
  | 0 => ("java/util/AbstractMap", "keySet", "Ljava/util/Set;", false)
  | 1 => ("java/util/AbstractMap", "values", "Ljava/util/Collection;", false)
  | 2 => ("java/util/HashMap", "table", "[Ljava/util/HashMap$Node;", false)
  | 3 => ("java/util/HashMap", "entrySet", "Ljava/util/Set;", false)
  | 4 => ("java/util/HashMap", "size", "I", false)
  | 5 => ("java/util/HashMap", "modCount", "I", false)
  | 6 => ("java/util/HashMap", "threshold", "I", false)
  | 7 => ("java/util/HashMap", "loadFactor", "F", true)
  | 8 => ("java/util/LinkedHashMap", "head", "Ljava/util/LinkedHashMap$Entry;", false)
  | 9 => ("java/util/LinkedHashMap", "tail", "Ljava/util/LinkedHashMap$Entry;", false)
  | 10 => ("java/util/LinkedHashMap", "accessOrder", "Z", true)
  | _ => ("java/util/LinkedHashMap", "putMode", "I", false)
def tyJ20 : Nat → FieldType := fun k => match k with
  | 0 => .object "java/util/Set"
  | 1 => .object "java/util/Collection"
  | 2 => .array (.object "java/util/HashMap$Node")
  | 3 => .object "java/util/Set"
  | 4 => .int
  | 5 => .int
  | 6 => .int
  | 7 => .float
  | 8 => .object "java/util/LinkedHashMap$Entry"
  | 9 => .object "java/util/LinkedHashMap$Entry"
  | 10 => .boolean
  | _ => .int
abbrev wsJ200 : List Cond := u_ws RJ20 TJ20 12
theorem nmJ20 : ∀ a, a < 12 → ∀ b, b < 12 → a ≠ b → (TJ20 a).2.1 ≠ (TJ20 b).2.1 := by decide +kernel
theorem tyJ20_ok : ∀ k, k < 12 → parseFieldDescriptor (TJ20 k).2.2.1 = some (tyJ20 k) := by decide +kernel
abbrev cJ20_init : ByteArray := prog_63_method_16_code
def yJ20_init : MethodName := ⟨RJ20, "<init>", "()V"⟩
def dkwJ20_init_0 : List UInt8 := [42, 183, 0, 87, 42, 3, 181, 0, 1, 42, 3, 181, 0, 64, 177]
abbrev dktJ20_init_0 : List UInt8 := dkwJ20_init_0 ++ []
theorem dksJ20_init_0 : cJ20_init.data.toList.drop 0 = dktJ20_init_0 := by decide +kernel
theorem dJ20_init_0 : decode cJ20_init 0 = .ok (.aload_n 0, 1) := dk_42 (dk_at dksJ20_init_0 0 rfl rfl)
theorem dJ20_init_1 : decode cJ20_init 1 = .ok (.invokespecial 87, 3) := dk_183 0 87 (dk_at dksJ20_init_0 1 rfl rfl)
theorem dJ20_init_4 : decode cJ20_init 4 = .ok (.aload_n 0, 1) := dk_42 (dk_at dksJ20_init_0 4 rfl rfl)
theorem dJ20_init_5 : decode cJ20_init 5 = .ok (.iconst 0, 1) := dk_3 (dk_at dksJ20_init_0 5 rfl rfl)
theorem dJ20_init_6 : decode cJ20_init 6 = .ok (.putfield 1, 3) := dk_181 0 1 (dk_at dksJ20_init_0 6 rfl rfl)
theorem dJ20_init_9 : decode cJ20_init 9 = .ok (.aload_n 0, 1) := dk_42 (dk_at dksJ20_init_0 9 rfl rfl)
theorem dJ20_init_10 : decode cJ20_init 10 = .ok (.iconst 0, 1) := dk_3 (dk_at dksJ20_init_0 10 rfl rfl)
theorem dJ20_init_11 : decode cJ20_init 11 = .ok (.putfield 64, 3) := dk_181 0 64 (dk_at dksJ20_init_0 11 rfl rfl)
theorem dJ20_init_14 : decode cJ20_init 14 = .ok (.return_, 1) := dk_177 (dk_at dksJ20_init_0 14 rfl rfl)
abbrev cJ20_replacementNode : ByteArray := prog_63_method_5_code
def yJ20_replacementNode : MethodName := ⟨RJ20, "replacementNode", "(Ljava/util/HashMap$Node;Ljava/util/HashMap$Node;)Ljava/util/HashMap$Node;"⟩
def dkwJ20_replacementNode_1 : List UInt8 := [183, 0, 28, 58, 4, 42, 45, 25, 4, 182, 0, 46, 25, 4, 176]
abbrev dktJ20_replacementNode_1 : List UInt8 := dkwJ20_replacementNode_1 ++ []
def dkwJ20_replacementNode_0 : List UInt8 := [43, 192, 0, 15, 78, 187, 0, 15, 89, 45, 180, 0, 36, 45, 180, 0, 39, 45, 180, 0, 43, 44]
abbrev dktJ20_replacementNode_0 : List UInt8 := dkwJ20_replacementNode_0 ++ dktJ20_replacementNode_1
theorem dksJ20_replacementNode_0 : cJ20_replacementNode.data.toList.drop 0 = dktJ20_replacementNode_0 := by decide +kernel
theorem dksJ20_replacementNode_1 : cJ20_replacementNode.data.toList.drop 22 = dktJ20_replacementNode_1 := dk_seg dksJ20_replacementNode_0 22 rfl rfl
theorem dJ20_replacementNode_0 : decode cJ20_replacementNode 0 = .ok (.aload_n 1, 1) := dk_43 (dk_at dksJ20_replacementNode_0 0 rfl rfl)
theorem dJ20_replacementNode_1 : decode cJ20_replacementNode 1 = .ok (.checkcast 15, 3) := dk_192 0 15 (dk_at dksJ20_replacementNode_0 1 rfl rfl)
theorem dJ20_replacementNode_4 : decode cJ20_replacementNode 4 = .ok (.astore_n 3, 1) := dk_78 (dk_at dksJ20_replacementNode_0 4 rfl rfl)
theorem dJ20_replacementNode_5 : decode cJ20_replacementNode 5 = .ok (.new 15, 3) := dk_187 0 15 (dk_at dksJ20_replacementNode_0 5 rfl rfl)
theorem dJ20_replacementNode_8 : decode cJ20_replacementNode 8 = .ok (.dup, 1) := dk_89 (dk_at dksJ20_replacementNode_0 8 rfl rfl)
theorem dJ20_replacementNode_9 : decode cJ20_replacementNode 9 = .ok (.aload_n 3, 1) := dk_45 (dk_at dksJ20_replacementNode_0 9 rfl rfl)
theorem dJ20_replacementNode_10 : decode cJ20_replacementNode 10 = .ok (.getfield 36, 3) := dk_180 0 36 (dk_at dksJ20_replacementNode_0 10 rfl rfl)
theorem dJ20_replacementNode_13 : decode cJ20_replacementNode 13 = .ok (.aload_n 3, 1) := dk_45 (dk_at dksJ20_replacementNode_0 13 rfl rfl)
theorem dJ20_replacementNode_14 : decode cJ20_replacementNode 14 = .ok (.getfield 39, 3) := dk_180 0 39 (dk_at dksJ20_replacementNode_0 14 rfl rfl)
theorem dJ20_replacementNode_17 : decode cJ20_replacementNode 17 = .ok (.aload_n 3, 1) := dk_45 (dk_at dksJ20_replacementNode_0 17 rfl rfl)
theorem dJ20_replacementNode_18 : decode cJ20_replacementNode 18 = .ok (.getfield 43, 3) := dk_180 0 43 (dk_at dksJ20_replacementNode_0 18 rfl rfl)
theorem dJ20_replacementNode_21 : decode cJ20_replacementNode 21 = .ok (.aload_n 2, 1) := dk_44 (dk_at dksJ20_replacementNode_0 21 rfl rfl)
theorem dJ20_replacementNode_22 : decode cJ20_replacementNode 22 = .ok (.invokespecial 28, 3) := dk_183 0 28 (dk_at dksJ20_replacementNode_1 0 rfl rfl)
theorem dJ20_replacementNode_25 : decode cJ20_replacementNode 25 = .ok (.astore 4, 2) := dk_58 4 (dk_at dksJ20_replacementNode_1 3 rfl rfl)
theorem dJ20_replacementNode_27 : decode cJ20_replacementNode 27 = .ok (.aload_n 0, 1) := dk_42 (dk_at dksJ20_replacementNode_1 5 rfl rfl)
theorem dJ20_replacementNode_28 : decode cJ20_replacementNode 28 = .ok (.aload_n 3, 1) := dk_45 (dk_at dksJ20_replacementNode_1 6 rfl rfl)
theorem dJ20_replacementNode_29 : decode cJ20_replacementNode 29 = .ok (.aload 4, 2) := dk_25 4 (dk_at dksJ20_replacementNode_1 7 rfl rfl)
theorem dJ20_replacementNode_31 : decode cJ20_replacementNode 31 = .ok (.invokevirtual 46, 3) := dk_182 0 46 (dk_at dksJ20_replacementNode_1 9 rfl rfl)
theorem dJ20_replacementNode_34 : decode cJ20_replacementNode 34 = .ok (.aload 4, 2) := dk_25 4 (dk_at dksJ20_replacementNode_1 12 rfl rfl)
theorem dJ20_replacementNode_36 : decode cJ20_replacementNode 36 = .ok (.areturn, 1) := dk_176 (dk_at dksJ20_replacementNode_1 14 rfl rfl)
abbrev cJ20_transferLinks : ByteArray := prog_63_method_2_code
def yJ20_transferLinks : MethodName := ⟨RJ20, "transferLinks", "(Ljava/util/LinkedHashMap$Entry;Ljava/util/LinkedHashMap$Entry;)V"⟩
def dkwJ20_transferLinks_2 : List UInt8 := [181, 0, 11, 167, 0, 9, 25, 4, 44, 181, 0, 19, 177]
abbrev dktJ20_transferLinks_2 : List UInt8 := dkwJ20_transferLinks_2 ++ []
def dkwJ20_transferLinks_1 : List UInt8 := [199, 0, 11, 42, 44, 181, 0, 7, 167, 0, 8, 45, 44, 181, 0, 14, 25, 4, 199, 0, 11, 42, 44]
abbrev dktJ20_transferLinks_1 : List UInt8 := dkwJ20_transferLinks_1 ++ dktJ20_transferLinks_2
def dkwJ20_transferLinks_0 : List UInt8 := [44, 43, 180, 0, 19, 90, 181, 0, 19, 78, 44, 43, 180, 0, 14, 90, 181, 0, 14, 58, 4, 45]
abbrev dktJ20_transferLinks_0 : List UInt8 := dkwJ20_transferLinks_0 ++ dktJ20_transferLinks_1
theorem dksJ20_transferLinks_0 : cJ20_transferLinks.data.toList.drop 0 = dktJ20_transferLinks_0 := by decide +kernel
theorem dksJ20_transferLinks_1 : cJ20_transferLinks.data.toList.drop 22 = dktJ20_transferLinks_1 := dk_seg dksJ20_transferLinks_0 22 rfl rfl
theorem dksJ20_transferLinks_2 : cJ20_transferLinks.data.toList.drop 45 = dktJ20_transferLinks_2 := dk_seg dksJ20_transferLinks_1 23 rfl rfl
theorem dJ20_transferLinks_0 : decode cJ20_transferLinks 0 = .ok (.aload_n 2, 1) := dk_44 (dk_at dksJ20_transferLinks_0 0 rfl rfl)
theorem dJ20_transferLinks_1 : decode cJ20_transferLinks 1 = .ok (.aload_n 1, 1) := dk_43 (dk_at dksJ20_transferLinks_0 1 rfl rfl)
theorem dJ20_transferLinks_2 : decode cJ20_transferLinks 2 = .ok (.getfield 19, 3) := dk_180 0 19 (dk_at dksJ20_transferLinks_0 2 rfl rfl)
theorem dJ20_transferLinks_5 : decode cJ20_transferLinks 5 = .ok (.dup_x1, 1) := dk_90 (dk_at dksJ20_transferLinks_0 5 rfl rfl)
theorem dJ20_transferLinks_6 : decode cJ20_transferLinks 6 = .ok (.putfield 19, 3) := dk_181 0 19 (dk_at dksJ20_transferLinks_0 6 rfl rfl)
theorem dJ20_transferLinks_9 : decode cJ20_transferLinks 9 = .ok (.astore_n 3, 1) := dk_78 (dk_at dksJ20_transferLinks_0 9 rfl rfl)
theorem dJ20_transferLinks_10 : decode cJ20_transferLinks 10 = .ok (.aload_n 2, 1) := dk_44 (dk_at dksJ20_transferLinks_0 10 rfl rfl)
theorem dJ20_transferLinks_11 : decode cJ20_transferLinks 11 = .ok (.aload_n 1, 1) := dk_43 (dk_at dksJ20_transferLinks_0 11 rfl rfl)
theorem dJ20_transferLinks_12 : decode cJ20_transferLinks 12 = .ok (.getfield 14, 3) := dk_180 0 14 (dk_at dksJ20_transferLinks_0 12 rfl rfl)
theorem dJ20_transferLinks_15 : decode cJ20_transferLinks 15 = .ok (.dup_x1, 1) := dk_90 (dk_at dksJ20_transferLinks_0 15 rfl rfl)
theorem dJ20_transferLinks_16 : decode cJ20_transferLinks 16 = .ok (.putfield 14, 3) := dk_181 0 14 (dk_at dksJ20_transferLinks_0 16 rfl rfl)
theorem dJ20_transferLinks_19 : decode cJ20_transferLinks 19 = .ok (.astore 4, 2) := dk_58 4 (dk_at dksJ20_transferLinks_0 19 rfl rfl)
theorem dJ20_transferLinks_21 : decode cJ20_transferLinks 21 = .ok (.aload_n 3, 1) := dk_45 (dk_at dksJ20_transferLinks_0 21 rfl rfl)
theorem dJ20_transferLinks_22 : decode cJ20_transferLinks 22 = .ok (.ifnonnull 11, 3) := dk_199 0 11 (dk_at dksJ20_transferLinks_1 0 rfl rfl)
theorem dJ20_transferLinks_25 : decode cJ20_transferLinks 25 = .ok (.aload_n 0, 1) := dk_42 (dk_at dksJ20_transferLinks_1 3 rfl rfl)
theorem dJ20_transferLinks_26 : decode cJ20_transferLinks 26 = .ok (.aload_n 2, 1) := dk_44 (dk_at dksJ20_transferLinks_1 4 rfl rfl)
theorem dJ20_transferLinks_27 : decode cJ20_transferLinks 27 = .ok (.putfield 7, 3) := dk_181 0 7 (dk_at dksJ20_transferLinks_1 5 rfl rfl)
theorem dJ20_transferLinks_30 : decode cJ20_transferLinks 30 = .ok (.goto 8, 3) := dk_167 0 8 (dk_at dksJ20_transferLinks_1 8 rfl rfl)
theorem dJ20_transferLinks_33 : decode cJ20_transferLinks 33 = .ok (.aload_n 3, 1) := dk_45 (dk_at dksJ20_transferLinks_1 11 rfl rfl)
theorem dJ20_transferLinks_34 : decode cJ20_transferLinks 34 = .ok (.aload_n 2, 1) := dk_44 (dk_at dksJ20_transferLinks_1 12 rfl rfl)
theorem dJ20_transferLinks_35 : decode cJ20_transferLinks 35 = .ok (.putfield 14, 3) := dk_181 0 14 (dk_at dksJ20_transferLinks_1 13 rfl rfl)
theorem dJ20_transferLinks_38 : decode cJ20_transferLinks 38 = .ok (.aload 4, 2) := dk_25 4 (dk_at dksJ20_transferLinks_1 16 rfl rfl)
theorem dJ20_transferLinks_40 : decode cJ20_transferLinks 40 = .ok (.ifnonnull 11, 3) := dk_199 0 11 (dk_at dksJ20_transferLinks_1 18 rfl rfl)
theorem dJ20_transferLinks_43 : decode cJ20_transferLinks 43 = .ok (.aload_n 0, 1) := dk_42 (dk_at dksJ20_transferLinks_1 21 rfl rfl)
theorem dJ20_transferLinks_44 : decode cJ20_transferLinks 44 = .ok (.aload_n 2, 1) := dk_44 (dk_at dksJ20_transferLinks_1 22 rfl rfl)
theorem dJ20_transferLinks_45 : decode cJ20_transferLinks 45 = .ok (.putfield 11, 3) := dk_181 0 11 (dk_at dksJ20_transferLinks_2 0 rfl rfl)
theorem dJ20_transferLinks_48 : decode cJ20_transferLinks 48 = .ok (.goto 9, 3) := dk_167 0 9 (dk_at dksJ20_transferLinks_2 3 rfl rfl)
theorem dJ20_transferLinks_51 : decode cJ20_transferLinks 51 = .ok (.aload 4, 2) := dk_25 4 (dk_at dksJ20_transferLinks_2 6 rfl rfl)
theorem dJ20_transferLinks_53 : decode cJ20_transferLinks 53 = .ok (.aload_n 2, 1) := dk_44 (dk_at dksJ20_transferLinks_2 8 rfl rfl)
theorem dJ20_transferLinks_54 : decode cJ20_transferLinks 54 = .ok (.putfield 19, 3) := dk_181 0 19 (dk_at dksJ20_transferLinks_2 9 rfl rfl)
theorem dJ20_transferLinks_57 : decode cJ20_transferLinks 57 = .ok (.return_, 1) := dk_177 (dk_at dksJ20_transferLinks_2 12 rfl rfl)
abbrev cJ20_newNode : ByteArray := prog_63_method_4_code
def yJ20_newNode : MethodName := ⟨RJ20, "newNode", "(ILjava/lang/Object;Ljava/lang/Object;Ljava/util/HashMap$Node;)Ljava/util/HashMap$Node;"⟩
def dkwJ20_newNode_0 : List UInt8 := [187, 0, 15, 89, 27, 44, 45, 25, 4, 183, 0, 28, 58, 5, 42, 25, 5, 182, 0, 32, 25, 5, 176]
abbrev dktJ20_newNode_0 : List UInt8 := dkwJ20_newNode_0 ++ []
theorem dksJ20_newNode_0 : cJ20_newNode.data.toList.drop 0 = dktJ20_newNode_0 := by decide +kernel
theorem dJ20_newNode_0 : decode cJ20_newNode 0 = .ok (.new 15, 3) := dk_187 0 15 (dk_at dksJ20_newNode_0 0 rfl rfl)
theorem dJ20_newNode_3 : decode cJ20_newNode 3 = .ok (.dup, 1) := dk_89 (dk_at dksJ20_newNode_0 3 rfl rfl)
theorem dJ20_newNode_4 : decode cJ20_newNode 4 = .ok (.iload_n 1, 1) := dk_27 (dk_at dksJ20_newNode_0 4 rfl rfl)
theorem dJ20_newNode_5 : decode cJ20_newNode 5 = .ok (.aload_n 2, 1) := dk_44 (dk_at dksJ20_newNode_0 5 rfl rfl)
theorem dJ20_newNode_6 : decode cJ20_newNode 6 = .ok (.aload_n 3, 1) := dk_45 (dk_at dksJ20_newNode_0 6 rfl rfl)
theorem dJ20_newNode_7 : decode cJ20_newNode 7 = .ok (.aload 4, 2) := dk_25 4 (dk_at dksJ20_newNode_0 7 rfl rfl)
theorem dJ20_newNode_9 : decode cJ20_newNode 9 = .ok (.invokespecial 28, 3) := dk_183 0 28 (dk_at dksJ20_newNode_0 9 rfl rfl)
theorem dJ20_newNode_12 : decode cJ20_newNode 12 = .ok (.astore 5, 2) := dk_58 5 (dk_at dksJ20_newNode_0 12 rfl rfl)
theorem dJ20_newNode_14 : decode cJ20_newNode 14 = .ok (.aload_n 0, 1) := dk_42 (dk_at dksJ20_newNode_0 14 rfl rfl)
theorem dJ20_newNode_15 : decode cJ20_newNode 15 = .ok (.aload 5, 2) := dk_25 5 (dk_at dksJ20_newNode_0 15 rfl rfl)
theorem dJ20_newNode_17 : decode cJ20_newNode 17 = .ok (.invokevirtual 32, 3) := dk_182 0 32 (dk_at dksJ20_newNode_0 17 rfl rfl)
theorem dJ20_newNode_20 : decode cJ20_newNode 20 = .ok (.aload 5, 2) := dk_25 5 (dk_at dksJ20_newNode_0 20 rfl rfl)
theorem dJ20_newNode_22 : decode cJ20_newNode 22 = .ok (.areturn, 1) := dk_176 (dk_at dksJ20_newNode_0 22 rfl rfl)
abbrev cJ20_linkNodeAtEnd : ByteArray := prog_63_method_1_code
def yJ20_linkNodeAtEnd : MethodName := ⟨RJ20, "linkNodeAtEnd", "(Ljava/util/LinkedHashMap$Entry;)V"⟩
def dkwJ20_linkNodeAtEnd_3 : List UInt8 := [181, 0, 14, 177]
abbrev dktJ20_linkNodeAtEnd_3 : List UInt8 := dkwJ20_linkNodeAtEnd_3 ++ []
def dkwJ20_linkNodeAtEnd_2 : List UInt8 := [42, 43, 181, 0, 11, 44, 199, 0, 11, 42, 43, 181, 0, 7, 167, 0, 13, 43, 44, 181, 0, 19, 44, 43]
abbrev dktJ20_linkNodeAtEnd_2 : List UInt8 := dkwJ20_linkNodeAtEnd_2 ++ dktJ20_linkNodeAtEnd_3
def dkwJ20_linkNodeAtEnd_1 : List UInt8 := [181, 0, 11, 167, 0, 13, 43, 44, 181, 0, 14, 44, 43, 181, 0, 19, 167, 0, 35, 42, 180, 0, 11, 77]
abbrev dktJ20_linkNodeAtEnd_1 : List UInt8 := dkwJ20_linkNodeAtEnd_1 ++ dktJ20_linkNodeAtEnd_2
def dkwJ20_linkNodeAtEnd_0 : List UInt8 := [42, 180, 0, 1, 4, 160, 0, 38, 42, 180, 0, 7, 77, 42, 43, 181, 0, 7, 44, 199, 0, 11, 42, 43]
abbrev dktJ20_linkNodeAtEnd_0 : List UInt8 := dkwJ20_linkNodeAtEnd_0 ++ dktJ20_linkNodeAtEnd_1
theorem dksJ20_linkNodeAtEnd_0 : cJ20_linkNodeAtEnd.data.toList.drop 0 = dktJ20_linkNodeAtEnd_0 := by decide +kernel
theorem dksJ20_linkNodeAtEnd_1 : cJ20_linkNodeAtEnd.data.toList.drop 24 = dktJ20_linkNodeAtEnd_1 := dk_seg dksJ20_linkNodeAtEnd_0 24 rfl rfl
theorem dksJ20_linkNodeAtEnd_2 : cJ20_linkNodeAtEnd.data.toList.drop 48 = dktJ20_linkNodeAtEnd_2 := dk_seg dksJ20_linkNodeAtEnd_1 24 rfl rfl
theorem dksJ20_linkNodeAtEnd_3 : cJ20_linkNodeAtEnd.data.toList.drop 72 = dktJ20_linkNodeAtEnd_3 := dk_seg dksJ20_linkNodeAtEnd_2 24 rfl rfl
theorem dJ20_linkNodeAtEnd_0 : decode cJ20_linkNodeAtEnd 0 = .ok (.aload_n 0, 1) := dk_42 (dk_at dksJ20_linkNodeAtEnd_0 0 rfl rfl)
theorem dJ20_linkNodeAtEnd_1 : decode cJ20_linkNodeAtEnd 1 = .ok (.getfield 1, 3) := dk_180 0 1 (dk_at dksJ20_linkNodeAtEnd_0 1 rfl rfl)
theorem dJ20_linkNodeAtEnd_4 : decode cJ20_linkNodeAtEnd 4 = .ok (.iconst 1, 1) := dk_4 (dk_at dksJ20_linkNodeAtEnd_0 4 rfl rfl)
theorem dJ20_linkNodeAtEnd_5 : decode cJ20_linkNodeAtEnd 5 = .ok (.if_icmp .ne 38, 3) := dk_160 0 38 (dk_at dksJ20_linkNodeAtEnd_0 5 rfl rfl)
theorem dJ20_linkNodeAtEnd_8 : decode cJ20_linkNodeAtEnd 8 = .ok (.aload_n 0, 1) := dk_42 (dk_at dksJ20_linkNodeAtEnd_0 8 rfl rfl)
theorem dJ20_linkNodeAtEnd_9 : decode cJ20_linkNodeAtEnd 9 = .ok (.getfield 7, 3) := dk_180 0 7 (dk_at dksJ20_linkNodeAtEnd_0 9 rfl rfl)
theorem dJ20_linkNodeAtEnd_12 : decode cJ20_linkNodeAtEnd 12 = .ok (.astore_n 2, 1) := dk_77 (dk_at dksJ20_linkNodeAtEnd_0 12 rfl rfl)
theorem dJ20_linkNodeAtEnd_13 : decode cJ20_linkNodeAtEnd 13 = .ok (.aload_n 0, 1) := dk_42 (dk_at dksJ20_linkNodeAtEnd_0 13 rfl rfl)
theorem dJ20_linkNodeAtEnd_14 : decode cJ20_linkNodeAtEnd 14 = .ok (.aload_n 1, 1) := dk_43 (dk_at dksJ20_linkNodeAtEnd_0 14 rfl rfl)
theorem dJ20_linkNodeAtEnd_15 : decode cJ20_linkNodeAtEnd 15 = .ok (.putfield 7, 3) := dk_181 0 7 (dk_at dksJ20_linkNodeAtEnd_0 15 rfl rfl)
theorem dJ20_linkNodeAtEnd_18 : decode cJ20_linkNodeAtEnd 18 = .ok (.aload_n 2, 1) := dk_44 (dk_at dksJ20_linkNodeAtEnd_0 18 rfl rfl)
theorem dJ20_linkNodeAtEnd_19 : decode cJ20_linkNodeAtEnd 19 = .ok (.ifnonnull 11, 3) := dk_199 0 11 (dk_at dksJ20_linkNodeAtEnd_0 19 rfl rfl)
theorem dJ20_linkNodeAtEnd_22 : decode cJ20_linkNodeAtEnd 22 = .ok (.aload_n 0, 1) := dk_42 (dk_at dksJ20_linkNodeAtEnd_0 22 rfl rfl)
theorem dJ20_linkNodeAtEnd_23 : decode cJ20_linkNodeAtEnd 23 = .ok (.aload_n 1, 1) := dk_43 (dk_at dksJ20_linkNodeAtEnd_0 23 rfl rfl)
theorem dJ20_linkNodeAtEnd_24 : decode cJ20_linkNodeAtEnd 24 = .ok (.putfield 11, 3) := dk_181 0 11 (dk_at dksJ20_linkNodeAtEnd_1 0 rfl rfl)
theorem dJ20_linkNodeAtEnd_27 : decode cJ20_linkNodeAtEnd 27 = .ok (.goto 13, 3) := dk_167 0 13 (dk_at dksJ20_linkNodeAtEnd_1 3 rfl rfl)
theorem dJ20_linkNodeAtEnd_30 : decode cJ20_linkNodeAtEnd 30 = .ok (.aload_n 1, 1) := dk_43 (dk_at dksJ20_linkNodeAtEnd_1 6 rfl rfl)
theorem dJ20_linkNodeAtEnd_31 : decode cJ20_linkNodeAtEnd 31 = .ok (.aload_n 2, 1) := dk_44 (dk_at dksJ20_linkNodeAtEnd_1 7 rfl rfl)
theorem dJ20_linkNodeAtEnd_32 : decode cJ20_linkNodeAtEnd 32 = .ok (.putfield 14, 3) := dk_181 0 14 (dk_at dksJ20_linkNodeAtEnd_1 8 rfl rfl)
theorem dJ20_linkNodeAtEnd_35 : decode cJ20_linkNodeAtEnd 35 = .ok (.aload_n 2, 1) := dk_44 (dk_at dksJ20_linkNodeAtEnd_1 11 rfl rfl)
theorem dJ20_linkNodeAtEnd_36 : decode cJ20_linkNodeAtEnd 36 = .ok (.aload_n 1, 1) := dk_43 (dk_at dksJ20_linkNodeAtEnd_1 12 rfl rfl)
theorem dJ20_linkNodeAtEnd_37 : decode cJ20_linkNodeAtEnd 37 = .ok (.putfield 19, 3) := dk_181 0 19 (dk_at dksJ20_linkNodeAtEnd_1 13 rfl rfl)
theorem dJ20_linkNodeAtEnd_40 : decode cJ20_linkNodeAtEnd 40 = .ok (.goto 35, 3) := dk_167 0 35 (dk_at dksJ20_linkNodeAtEnd_1 16 rfl rfl)
theorem dJ20_linkNodeAtEnd_43 : decode cJ20_linkNodeAtEnd 43 = .ok (.aload_n 0, 1) := dk_42 (dk_at dksJ20_linkNodeAtEnd_1 19 rfl rfl)
theorem dJ20_linkNodeAtEnd_44 : decode cJ20_linkNodeAtEnd 44 = .ok (.getfield 11, 3) := dk_180 0 11 (dk_at dksJ20_linkNodeAtEnd_1 20 rfl rfl)
theorem dJ20_linkNodeAtEnd_47 : decode cJ20_linkNodeAtEnd 47 = .ok (.astore_n 2, 1) := dk_77 (dk_at dksJ20_linkNodeAtEnd_1 23 rfl rfl)
theorem dJ20_linkNodeAtEnd_48 : decode cJ20_linkNodeAtEnd 48 = .ok (.aload_n 0, 1) := dk_42 (dk_at dksJ20_linkNodeAtEnd_2 0 rfl rfl)
theorem dJ20_linkNodeAtEnd_49 : decode cJ20_linkNodeAtEnd 49 = .ok (.aload_n 1, 1) := dk_43 (dk_at dksJ20_linkNodeAtEnd_2 1 rfl rfl)
theorem dJ20_linkNodeAtEnd_50 : decode cJ20_linkNodeAtEnd 50 = .ok (.putfield 11, 3) := dk_181 0 11 (dk_at dksJ20_linkNodeAtEnd_2 2 rfl rfl)
theorem dJ20_linkNodeAtEnd_53 : decode cJ20_linkNodeAtEnd 53 = .ok (.aload_n 2, 1) := dk_44 (dk_at dksJ20_linkNodeAtEnd_2 5 rfl rfl)
theorem dJ20_linkNodeAtEnd_54 : decode cJ20_linkNodeAtEnd 54 = .ok (.ifnonnull 11, 3) := dk_199 0 11 (dk_at dksJ20_linkNodeAtEnd_2 6 rfl rfl)
theorem dJ20_linkNodeAtEnd_57 : decode cJ20_linkNodeAtEnd 57 = .ok (.aload_n 0, 1) := dk_42 (dk_at dksJ20_linkNodeAtEnd_2 9 rfl rfl)
theorem dJ20_linkNodeAtEnd_58 : decode cJ20_linkNodeAtEnd 58 = .ok (.aload_n 1, 1) := dk_43 (dk_at dksJ20_linkNodeAtEnd_2 10 rfl rfl)
theorem dJ20_linkNodeAtEnd_59 : decode cJ20_linkNodeAtEnd 59 = .ok (.putfield 7, 3) := dk_181 0 7 (dk_at dksJ20_linkNodeAtEnd_2 11 rfl rfl)
theorem dJ20_linkNodeAtEnd_62 : decode cJ20_linkNodeAtEnd 62 = .ok (.goto 13, 3) := dk_167 0 13 (dk_at dksJ20_linkNodeAtEnd_2 14 rfl rfl)
theorem dJ20_linkNodeAtEnd_65 : decode cJ20_linkNodeAtEnd 65 = .ok (.aload_n 1, 1) := dk_43 (dk_at dksJ20_linkNodeAtEnd_2 17 rfl rfl)
theorem dJ20_linkNodeAtEnd_66 : decode cJ20_linkNodeAtEnd 66 = .ok (.aload_n 2, 1) := dk_44 (dk_at dksJ20_linkNodeAtEnd_2 18 rfl rfl)
theorem dJ20_linkNodeAtEnd_67 : decode cJ20_linkNodeAtEnd 67 = .ok (.putfield 19, 3) := dk_181 0 19 (dk_at dksJ20_linkNodeAtEnd_2 19 rfl rfl)
theorem dJ20_linkNodeAtEnd_70 : decode cJ20_linkNodeAtEnd 70 = .ok (.aload_n 2, 1) := dk_44 (dk_at dksJ20_linkNodeAtEnd_2 22 rfl rfl)
theorem dJ20_linkNodeAtEnd_71 : decode cJ20_linkNodeAtEnd 71 = .ok (.aload_n 1, 1) := dk_43 (dk_at dksJ20_linkNodeAtEnd_2 23 rfl rfl)
theorem dJ20_linkNodeAtEnd_72 : decode cJ20_linkNodeAtEnd 72 = .ok (.putfield 14, 3) := dk_181 0 14 (dk_at dksJ20_linkNodeAtEnd_3 0 rfl rfl)
theorem dJ20_linkNodeAtEnd_75 : decode cJ20_linkNodeAtEnd 75 = .ok (.return_, 1) := dk_177 (dk_at dksJ20_linkNodeAtEnd_3 3 rfl rfl)
abbrev cJ20_newTreeNode : ByteArray := prog_63_method_6_code
def yJ20_newTreeNode : MethodName := ⟨RJ20, "newTreeNode", "(ILjava/lang/Object;Ljava/lang/Object;Ljava/util/HashMap$Node;)Ljava/util/HashMap$TreeNode;"⟩
def dkwJ20_newTreeNode_0 : List UInt8 := [187, 0, 50, 89, 27, 44, 45, 25, 4, 183, 0, 52, 58, 5, 42, 25, 5, 182, 0, 32, 25, 5, 176]
abbrev dktJ20_newTreeNode_0 : List UInt8 := dkwJ20_newTreeNode_0 ++ []
theorem dksJ20_newTreeNode_0 : cJ20_newTreeNode.data.toList.drop 0 = dktJ20_newTreeNode_0 := by decide +kernel
theorem dJ20_newTreeNode_0 : decode cJ20_newTreeNode 0 = .ok (.new 50, 3) := dk_187 0 50 (dk_at dksJ20_newTreeNode_0 0 rfl rfl)
theorem dJ20_newTreeNode_3 : decode cJ20_newTreeNode 3 = .ok (.dup, 1) := dk_89 (dk_at dksJ20_newTreeNode_0 3 rfl rfl)
theorem dJ20_newTreeNode_4 : decode cJ20_newTreeNode 4 = .ok (.iload_n 1, 1) := dk_27 (dk_at dksJ20_newTreeNode_0 4 rfl rfl)
theorem dJ20_newTreeNode_5 : decode cJ20_newTreeNode 5 = .ok (.aload_n 2, 1) := dk_44 (dk_at dksJ20_newTreeNode_0 5 rfl rfl)
theorem dJ20_newTreeNode_6 : decode cJ20_newTreeNode 6 = .ok (.aload_n 3, 1) := dk_45 (dk_at dksJ20_newTreeNode_0 6 rfl rfl)
theorem dJ20_newTreeNode_7 : decode cJ20_newTreeNode 7 = .ok (.aload 4, 2) := dk_25 4 (dk_at dksJ20_newTreeNode_0 7 rfl rfl)
theorem dJ20_newTreeNode_9 : decode cJ20_newTreeNode 9 = .ok (.invokespecial 52, 3) := dk_183 0 52 (dk_at dksJ20_newTreeNode_0 9 rfl rfl)
theorem dJ20_newTreeNode_12 : decode cJ20_newTreeNode 12 = .ok (.astore 5, 2) := dk_58 5 (dk_at dksJ20_newTreeNode_0 12 rfl rfl)
theorem dJ20_newTreeNode_14 : decode cJ20_newTreeNode 14 = .ok (.aload_n 0, 1) := dk_42 (dk_at dksJ20_newTreeNode_0 14 rfl rfl)
theorem dJ20_newTreeNode_15 : decode cJ20_newTreeNode 15 = .ok (.aload 5, 2) := dk_25 5 (dk_at dksJ20_newTreeNode_0 15 rfl rfl)
theorem dJ20_newTreeNode_17 : decode cJ20_newTreeNode 17 = .ok (.invokevirtual 32, 3) := dk_182 0 32 (dk_at dksJ20_newTreeNode_0 17 rfl rfl)
theorem dJ20_newTreeNode_20 : decode cJ20_newTreeNode 20 = .ok (.aload 5, 2) := dk_25 5 (dk_at dksJ20_newTreeNode_0 20 rfl rfl)
theorem dJ20_newTreeNode_22 : decode cJ20_newTreeNode 22 = .ok (.areturn, 1) := dk_176 (dk_at dksJ20_newTreeNode_0 22 rfl rfl)
abbrev cJ20_replacementTreeNode : ByteArray := prog_63_method_7_code
def yJ20_replacementTreeNode : MethodName := ⟨RJ20, "replacementTreeNode", "(Ljava/util/HashMap$Node;Ljava/util/HashMap$Node;)Ljava/util/HashMap$TreeNode;"⟩
def dkwJ20_replacementTreeNode_1 : List UInt8 := [183, 0, 52, 58, 4, 42, 45, 25, 4, 182, 0, 46, 25, 4, 176]
abbrev dktJ20_replacementTreeNode_1 : List UInt8 := dkwJ20_replacementTreeNode_1 ++ []
def dkwJ20_replacementTreeNode_0 : List UInt8 := [43, 192, 0, 15, 78, 187, 0, 50, 89, 45, 180, 0, 36, 45, 180, 0, 39, 45, 180, 0, 43, 44]
abbrev dktJ20_replacementTreeNode_0 : List UInt8 := dkwJ20_replacementTreeNode_0 ++ dktJ20_replacementTreeNode_1
theorem dksJ20_replacementTreeNode_0 : cJ20_replacementTreeNode.data.toList.drop 0 = dktJ20_replacementTreeNode_0 := by decide +kernel
theorem dksJ20_replacementTreeNode_1 : cJ20_replacementTreeNode.data.toList.drop 22 = dktJ20_replacementTreeNode_1 := dk_seg dksJ20_replacementTreeNode_0 22 rfl rfl
theorem dJ20_replacementTreeNode_0 : decode cJ20_replacementTreeNode 0 = .ok (.aload_n 1, 1) := dk_43 (dk_at dksJ20_replacementTreeNode_0 0 rfl rfl)
theorem dJ20_replacementTreeNode_1 : decode cJ20_replacementTreeNode 1 = .ok (.checkcast 15, 3) := dk_192 0 15 (dk_at dksJ20_replacementTreeNode_0 1 rfl rfl)
theorem dJ20_replacementTreeNode_4 : decode cJ20_replacementTreeNode 4 = .ok (.astore_n 3, 1) := dk_78 (dk_at dksJ20_replacementTreeNode_0 4 rfl rfl)
theorem dJ20_replacementTreeNode_5 : decode cJ20_replacementTreeNode 5 = .ok (.new 50, 3) := dk_187 0 50 (dk_at dksJ20_replacementTreeNode_0 5 rfl rfl)
theorem dJ20_replacementTreeNode_8 : decode cJ20_replacementTreeNode 8 = .ok (.dup, 1) := dk_89 (dk_at dksJ20_replacementTreeNode_0 8 rfl rfl)
theorem dJ20_replacementTreeNode_9 : decode cJ20_replacementTreeNode 9 = .ok (.aload_n 3, 1) := dk_45 (dk_at dksJ20_replacementTreeNode_0 9 rfl rfl)
theorem dJ20_replacementTreeNode_10 : decode cJ20_replacementTreeNode 10 = .ok (.getfield 36, 3) := dk_180 0 36 (dk_at dksJ20_replacementTreeNode_0 10 rfl rfl)
theorem dJ20_replacementTreeNode_13 : decode cJ20_replacementTreeNode 13 = .ok (.aload_n 3, 1) := dk_45 (dk_at dksJ20_replacementTreeNode_0 13 rfl rfl)
theorem dJ20_replacementTreeNode_14 : decode cJ20_replacementTreeNode 14 = .ok (.getfield 39, 3) := dk_180 0 39 (dk_at dksJ20_replacementTreeNode_0 14 rfl rfl)
theorem dJ20_replacementTreeNode_17 : decode cJ20_replacementTreeNode 17 = .ok (.aload_n 3, 1) := dk_45 (dk_at dksJ20_replacementTreeNode_0 17 rfl rfl)
theorem dJ20_replacementTreeNode_18 : decode cJ20_replacementTreeNode 18 = .ok (.getfield 43, 3) := dk_180 0 43 (dk_at dksJ20_replacementTreeNode_0 18 rfl rfl)
theorem dJ20_replacementTreeNode_21 : decode cJ20_replacementTreeNode 21 = .ok (.aload_n 2, 1) := dk_44 (dk_at dksJ20_replacementTreeNode_0 21 rfl rfl)
theorem dJ20_replacementTreeNode_22 : decode cJ20_replacementTreeNode 22 = .ok (.invokespecial 52, 3) := dk_183 0 52 (dk_at dksJ20_replacementTreeNode_1 0 rfl rfl)
theorem dJ20_replacementTreeNode_25 : decode cJ20_replacementTreeNode 25 = .ok (.astore 4, 2) := dk_58 4 (dk_at dksJ20_replacementTreeNode_1 3 rfl rfl)
theorem dJ20_replacementTreeNode_27 : decode cJ20_replacementTreeNode 27 = .ok (.aload_n 0, 1) := dk_42 (dk_at dksJ20_replacementTreeNode_1 5 rfl rfl)
theorem dJ20_replacementTreeNode_28 : decode cJ20_replacementTreeNode 28 = .ok (.aload_n 3, 1) := dk_45 (dk_at dksJ20_replacementTreeNode_1 6 rfl rfl)
theorem dJ20_replacementTreeNode_29 : decode cJ20_replacementTreeNode 29 = .ok (.aload 4, 2) := dk_25 4 (dk_at dksJ20_replacementTreeNode_1 7 rfl rfl)
theorem dJ20_replacementTreeNode_31 : decode cJ20_replacementTreeNode 31 = .ok (.invokevirtual 46, 3) := dk_182 0 46 (dk_at dksJ20_replacementTreeNode_1 9 rfl rfl)
theorem dJ20_replacementTreeNode_34 : decode cJ20_replacementTreeNode 34 = .ok (.aload 4, 2) := dk_25 4 (dk_at dksJ20_replacementTreeNode_1 12 rfl rfl)
theorem dJ20_replacementTreeNode_36 : decode cJ20_replacementTreeNode 36 = .ok (.areturn, 1) := dk_176 (dk_at dksJ20_replacementTreeNode_1 14 rfl rfl)
abbrev cJ20_afterNodeAccess : ByteArray := prog_63_method_10_code
def yJ20_afterNodeAccess : MethodName := ⟨RJ20, "afterNodeAccess", "(Ljava/util/HashMap$Node;)V"⟩
def dkwJ20_afterNodeAccess_11 : List UInt8 := [181, 0, 7, 42, 89, 180, 0, 68, 4, 96, 181, 0, 68, 177]
abbrev dktJ20_afterNodeAccess_11 : List UInt8 := dkwJ20_afterNodeAccess_11 ++ []
def dkwJ20_afterNodeAccess_10 : List UInt8 := [25, 4, 181, 0, 11, 167, 0, 15, 25, 4, 45, 181, 0, 14, 45, 25, 4, 181, 0, 19, 42, 25, 4]
abbrev dktJ20_afterNodeAccess_10 : List UInt8 := dkwJ20_afterNodeAccess_10 ++ dktJ20_afterNodeAccess_11
def dkwJ20_afterNodeAccess_9 : List UInt8 := [25, 5, 198, 0, 13, 25, 5, 25, 6, 181, 0, 14, 167, 0, 6, 25, 6, 78, 45, 199, 0, 12, 42]
abbrev dktJ20_afterNodeAccess_9 : List UInt8 := dkwJ20_afterNodeAccess_9 ++ dktJ20_afterNodeAccess_10
def dkwJ20_afterNodeAccess_8 : List UInt8 := [181, 0, 19, 25, 6, 199, 0, 12, 42, 25, 5, 181, 0, 11, 167, 0, 10, 25, 6, 25, 5, 181, 0, 19]
abbrev dktJ20_afterNodeAccess_8 : List UInt8 := dkwJ20_afterNodeAccess_8 ++ dktJ20_afterNodeAccess_9
def dkwJ20_afterNodeAccess_7 : List UInt8 := [43, 192, 0, 15, 58, 4, 25, 4, 180, 0, 19, 58, 5, 25, 4, 180, 0, 14, 58, 6, 25, 4, 1]
abbrev dktJ20_afterNodeAccess_7 : List UInt8 := dkwJ20_afterNodeAccess_7 ++ dktJ20_afterNodeAccess_8
def dkwJ20_afterNodeAccess_6 : List UInt8 := [181, 0, 68, 167, 0, 127, 42, 180, 0, 1, 4, 160, 0, 119, 42, 180, 0, 7, 89, 78, 43, 165, 0, 109]
abbrev dktJ20_afterNodeAccess_6 : List UInt8 := dkwJ20_afterNodeAccess_6 ++ dktJ20_afterNodeAccess_7
def dkwJ20_afterNodeAccess_5 : List UInt8 := [181, 0, 19, 44, 25, 4, 181, 0, 14, 42, 25, 4, 181, 0, 11, 42, 89, 180, 0, 68, 4, 96]
abbrev dktJ20_afterNodeAccess_5 : List UInt8 := dkwJ20_afterNodeAccess_5 ++ dktJ20_afterNodeAccess_6
def dkwJ20_afterNodeAccess_4 : List UInt8 := [167, 0, 6, 25, 5, 77, 44, 199, 0, 12, 42, 25, 4, 181, 0, 7, 167, 0, 15, 25, 4, 44]
abbrev dktJ20_afterNodeAccess_4 : List UInt8 := dkwJ20_afterNodeAccess_4 ++ dktJ20_afterNodeAccess_5
def dkwJ20_afterNodeAccess_3 : List UInt8 := [167, 0, 10, 25, 5, 25, 6, 181, 0, 14, 25, 6, 198, 0, 13, 25, 6, 25, 5, 181, 0, 19]
abbrev dktJ20_afterNodeAccess_3 : List UInt8 := dkwJ20_afterNodeAccess_3 ++ dktJ20_afterNodeAccess_4
def dkwJ20_afterNodeAccess_2 : List UInt8 := [180, 0, 14, 58, 6, 25, 4, 1, 181, 0, 14, 25, 5, 199, 0, 12, 42, 25, 6, 181, 0, 7]
abbrev dktJ20_afterNodeAccess_2 : List UInt8 := dkwJ20_afterNodeAccess_2 ++ dktJ20_afterNodeAccess_3
def dkwJ20_afterNodeAccess_1 : List UInt8 := [180, 0, 11, 89, 77, 43, 165, 0, 112, 43, 192, 0, 15, 58, 4, 25, 4, 180, 0, 19, 58, 5, 25, 4]
abbrev dktJ20_afterNodeAccess_1 : List UInt8 := dkwJ20_afterNodeAccess_1 ++ dktJ20_afterNodeAccess_2
def dkwJ20_afterNodeAccess_0 : List UInt8 := [42, 180, 0, 1, 5, 159, 0, 17, 42, 180, 0, 1, 154, 0, 129, 42, 180, 0, 64, 153, 0, 122, 42]
abbrev dktJ20_afterNodeAccess_0 : List UInt8 := dkwJ20_afterNodeAccess_0 ++ dktJ20_afterNodeAccess_1
theorem dksJ20_afterNodeAccess_0 : cJ20_afterNodeAccess.data.toList.drop 0 = dktJ20_afterNodeAccess_0 := by decide +kernel
theorem dksJ20_afterNodeAccess_1 : cJ20_afterNodeAccess.data.toList.drop 23 = dktJ20_afterNodeAccess_1 := dk_seg dksJ20_afterNodeAccess_0 23 rfl rfl
theorem dksJ20_afterNodeAccess_2 : cJ20_afterNodeAccess.data.toList.drop 47 = dktJ20_afterNodeAccess_2 := dk_seg dksJ20_afterNodeAccess_1 24 rfl rfl
theorem dksJ20_afterNodeAccess_3 : cJ20_afterNodeAccess.data.toList.drop 69 = dktJ20_afterNodeAccess_3 := dk_seg dksJ20_afterNodeAccess_2 22 rfl rfl
theorem dksJ20_afterNodeAccess_4 : cJ20_afterNodeAccess.data.toList.drop 91 = dktJ20_afterNodeAccess_4 := dk_seg dksJ20_afterNodeAccess_3 22 rfl rfl
theorem dksJ20_afterNodeAccess_5 : cJ20_afterNodeAccess.data.toList.drop 113 = dktJ20_afterNodeAccess_5 := dk_seg dksJ20_afterNodeAccess_4 22 rfl rfl
theorem dksJ20_afterNodeAccess_6 : cJ20_afterNodeAccess.data.toList.drop 135 = dktJ20_afterNodeAccess_6 := dk_seg dksJ20_afterNodeAccess_5 22 rfl rfl
theorem dksJ20_afterNodeAccess_7 : cJ20_afterNodeAccess.data.toList.drop 159 = dktJ20_afterNodeAccess_7 := dk_seg dksJ20_afterNodeAccess_6 24 rfl rfl
theorem dksJ20_afterNodeAccess_8 : cJ20_afterNodeAccess.data.toList.drop 182 = dktJ20_afterNodeAccess_8 := dk_seg dksJ20_afterNodeAccess_7 23 rfl rfl
theorem dksJ20_afterNodeAccess_9 : cJ20_afterNodeAccess.data.toList.drop 206 = dktJ20_afterNodeAccess_9 := dk_seg dksJ20_afterNodeAccess_8 24 rfl rfl
theorem dksJ20_afterNodeAccess_10 : cJ20_afterNodeAccess.data.toList.drop 229 = dktJ20_afterNodeAccess_10 := dk_seg dksJ20_afterNodeAccess_9 23 rfl rfl
theorem dksJ20_afterNodeAccess_11 : cJ20_afterNodeAccess.data.toList.drop 252 = dktJ20_afterNodeAccess_11 := dk_seg dksJ20_afterNodeAccess_10 23 rfl rfl
theorem dJ20_afterNodeAccess_0 : decode cJ20_afterNodeAccess 0 = .ok (.aload_n 0, 1) := dk_42 (dk_at dksJ20_afterNodeAccess_0 0 rfl rfl)
theorem dJ20_afterNodeAccess_1 : decode cJ20_afterNodeAccess 1 = .ok (.getfield 1, 3) := dk_180 0 1 (dk_at dksJ20_afterNodeAccess_0 1 rfl rfl)
theorem dJ20_afterNodeAccess_4 : decode cJ20_afterNodeAccess 4 = .ok (.iconst 2, 1) := dk_5 (dk_at dksJ20_afterNodeAccess_0 4 rfl rfl)
theorem dJ20_afterNodeAccess_5 : decode cJ20_afterNodeAccess 5 = .ok (.if_icmp .eq 17, 3) := dk_159 0 17 (dk_at dksJ20_afterNodeAccess_0 5 rfl rfl)
theorem dJ20_afterNodeAccess_8 : decode cJ20_afterNodeAccess 8 = .ok (.aload_n 0, 1) := dk_42 (dk_at dksJ20_afterNodeAccess_0 8 rfl rfl)
theorem dJ20_afterNodeAccess_9 : decode cJ20_afterNodeAccess 9 = .ok (.getfield 1, 3) := dk_180 0 1 (dk_at dksJ20_afterNodeAccess_0 9 rfl rfl)
theorem dJ20_afterNodeAccess_12 : decode cJ20_afterNodeAccess 12 = .ok (.ifCond .ne 129, 3) := dk_154 0 129 (dk_at dksJ20_afterNodeAccess_0 12 rfl rfl)
theorem dJ20_afterNodeAccess_15 : decode cJ20_afterNodeAccess 15 = .ok (.aload_n 0, 1) := dk_42 (dk_at dksJ20_afterNodeAccess_0 15 rfl rfl)
theorem dJ20_afterNodeAccess_16 : decode cJ20_afterNodeAccess 16 = .ok (.getfield 64, 3) := dk_180 0 64 (dk_at dksJ20_afterNodeAccess_0 16 rfl rfl)
theorem dJ20_afterNodeAccess_19 : decode cJ20_afterNodeAccess 19 = .ok (.ifCond .eq 122, 3) := dk_153 0 122 (dk_at dksJ20_afterNodeAccess_0 19 rfl rfl)
theorem dJ20_afterNodeAccess_22 : decode cJ20_afterNodeAccess 22 = .ok (.aload_n 0, 1) := dk_42 (dk_at dksJ20_afterNodeAccess_0 22 rfl rfl)
theorem dJ20_afterNodeAccess_23 : decode cJ20_afterNodeAccess 23 = .ok (.getfield 11, 3) := dk_180 0 11 (dk_at dksJ20_afterNodeAccess_1 0 rfl rfl)
theorem dJ20_afterNodeAccess_26 : decode cJ20_afterNodeAccess 26 = .ok (.dup, 1) := dk_89 (dk_at dksJ20_afterNodeAccess_1 3 rfl rfl)
theorem dJ20_afterNodeAccess_27 : decode cJ20_afterNodeAccess 27 = .ok (.astore_n 2, 1) := dk_77 (dk_at dksJ20_afterNodeAccess_1 4 rfl rfl)
theorem dJ20_afterNodeAccess_28 : decode cJ20_afterNodeAccess 28 = .ok (.aload_n 1, 1) := dk_43 (dk_at dksJ20_afterNodeAccess_1 5 rfl rfl)
theorem dJ20_afterNodeAccess_29 : decode cJ20_afterNodeAccess 29 = .ok (.if_acmp .eq 112, 3) := dk_165 0 112 (dk_at dksJ20_afterNodeAccess_1 6 rfl rfl)
theorem dJ20_afterNodeAccess_32 : decode cJ20_afterNodeAccess 32 = .ok (.aload_n 1, 1) := dk_43 (dk_at dksJ20_afterNodeAccess_1 9 rfl rfl)
theorem dJ20_afterNodeAccess_33 : decode cJ20_afterNodeAccess 33 = .ok (.checkcast 15, 3) := dk_192 0 15 (dk_at dksJ20_afterNodeAccess_1 10 rfl rfl)
theorem dJ20_afterNodeAccess_36 : decode cJ20_afterNodeAccess 36 = .ok (.astore 4, 2) := dk_58 4 (dk_at dksJ20_afterNodeAccess_1 13 rfl rfl)
theorem dJ20_afterNodeAccess_38 : decode cJ20_afterNodeAccess 38 = .ok (.aload 4, 2) := dk_25 4 (dk_at dksJ20_afterNodeAccess_1 15 rfl rfl)
theorem dJ20_afterNodeAccess_40 : decode cJ20_afterNodeAccess 40 = .ok (.getfield 19, 3) := dk_180 0 19 (dk_at dksJ20_afterNodeAccess_1 17 rfl rfl)
theorem dJ20_afterNodeAccess_43 : decode cJ20_afterNodeAccess 43 = .ok (.astore 5, 2) := dk_58 5 (dk_at dksJ20_afterNodeAccess_1 20 rfl rfl)
theorem dJ20_afterNodeAccess_45 : decode cJ20_afterNodeAccess 45 = .ok (.aload 4, 2) := dk_25 4 (dk_at dksJ20_afterNodeAccess_1 22 rfl rfl)
theorem dJ20_afterNodeAccess_47 : decode cJ20_afterNodeAccess 47 = .ok (.getfield 14, 3) := dk_180 0 14 (dk_at dksJ20_afterNodeAccess_2 0 rfl rfl)
theorem dJ20_afterNodeAccess_50 : decode cJ20_afterNodeAccess 50 = .ok (.astore 6, 2) := dk_58 6 (dk_at dksJ20_afterNodeAccess_2 3 rfl rfl)
theorem dJ20_afterNodeAccess_52 : decode cJ20_afterNodeAccess 52 = .ok (.aload 4, 2) := dk_25 4 (dk_at dksJ20_afterNodeAccess_2 5 rfl rfl)
theorem dJ20_afterNodeAccess_54 : decode cJ20_afterNodeAccess 54 = .ok (.aconst_null, 1) := dk_1 (dk_at dksJ20_afterNodeAccess_2 7 rfl rfl)
theorem dJ20_afterNodeAccess_55 : decode cJ20_afterNodeAccess 55 = .ok (.putfield 14, 3) := dk_181 0 14 (dk_at dksJ20_afterNodeAccess_2 8 rfl rfl)
theorem dJ20_afterNodeAccess_58 : decode cJ20_afterNodeAccess 58 = .ok (.aload 5, 2) := dk_25 5 (dk_at dksJ20_afterNodeAccess_2 11 rfl rfl)
theorem dJ20_afterNodeAccess_60 : decode cJ20_afterNodeAccess 60 = .ok (.ifnonnull 12, 3) := dk_199 0 12 (dk_at dksJ20_afterNodeAccess_2 13 rfl rfl)
theorem dJ20_afterNodeAccess_63 : decode cJ20_afterNodeAccess 63 = .ok (.aload_n 0, 1) := dk_42 (dk_at dksJ20_afterNodeAccess_2 16 rfl rfl)
theorem dJ20_afterNodeAccess_64 : decode cJ20_afterNodeAccess 64 = .ok (.aload 6, 2) := dk_25 6 (dk_at dksJ20_afterNodeAccess_2 17 rfl rfl)
theorem dJ20_afterNodeAccess_66 : decode cJ20_afterNodeAccess 66 = .ok (.putfield 7, 3) := dk_181 0 7 (dk_at dksJ20_afterNodeAccess_2 19 rfl rfl)
theorem dJ20_afterNodeAccess_69 : decode cJ20_afterNodeAccess 69 = .ok (.goto 10, 3) := dk_167 0 10 (dk_at dksJ20_afterNodeAccess_3 0 rfl rfl)
theorem dJ20_afterNodeAccess_72 : decode cJ20_afterNodeAccess 72 = .ok (.aload 5, 2) := dk_25 5 (dk_at dksJ20_afterNodeAccess_3 3 rfl rfl)
theorem dJ20_afterNodeAccess_74 : decode cJ20_afterNodeAccess 74 = .ok (.aload 6, 2) := dk_25 6 (dk_at dksJ20_afterNodeAccess_3 5 rfl rfl)
theorem dJ20_afterNodeAccess_76 : decode cJ20_afterNodeAccess 76 = .ok (.putfield 14, 3) := dk_181 0 14 (dk_at dksJ20_afterNodeAccess_3 7 rfl rfl)
theorem dJ20_afterNodeAccess_79 : decode cJ20_afterNodeAccess 79 = .ok (.aload 6, 2) := dk_25 6 (dk_at dksJ20_afterNodeAccess_3 10 rfl rfl)
theorem dJ20_afterNodeAccess_81 : decode cJ20_afterNodeAccess 81 = .ok (.ifnull 13, 3) := dk_198 0 13 (dk_at dksJ20_afterNodeAccess_3 12 rfl rfl)
theorem dJ20_afterNodeAccess_84 : decode cJ20_afterNodeAccess 84 = .ok (.aload 6, 2) := dk_25 6 (dk_at dksJ20_afterNodeAccess_3 15 rfl rfl)
theorem dJ20_afterNodeAccess_86 : decode cJ20_afterNodeAccess 86 = .ok (.aload 5, 2) := dk_25 5 (dk_at dksJ20_afterNodeAccess_3 17 rfl rfl)
theorem dJ20_afterNodeAccess_88 : decode cJ20_afterNodeAccess 88 = .ok (.putfield 19, 3) := dk_181 0 19 (dk_at dksJ20_afterNodeAccess_3 19 rfl rfl)
theorem dJ20_afterNodeAccess_91 : decode cJ20_afterNodeAccess 91 = .ok (.goto 6, 3) := dk_167 0 6 (dk_at dksJ20_afterNodeAccess_4 0 rfl rfl)
theorem dJ20_afterNodeAccess_94 : decode cJ20_afterNodeAccess 94 = .ok (.aload 5, 2) := dk_25 5 (dk_at dksJ20_afterNodeAccess_4 3 rfl rfl)
theorem dJ20_afterNodeAccess_96 : decode cJ20_afterNodeAccess 96 = .ok (.astore_n 2, 1) := dk_77 (dk_at dksJ20_afterNodeAccess_4 5 rfl rfl)
theorem dJ20_afterNodeAccess_97 : decode cJ20_afterNodeAccess 97 = .ok (.aload_n 2, 1) := dk_44 (dk_at dksJ20_afterNodeAccess_4 6 rfl rfl)
theorem dJ20_afterNodeAccess_98 : decode cJ20_afterNodeAccess 98 = .ok (.ifnonnull 12, 3) := dk_199 0 12 (dk_at dksJ20_afterNodeAccess_4 7 rfl rfl)
theorem dJ20_afterNodeAccess_101 : decode cJ20_afterNodeAccess 101 = .ok (.aload_n 0, 1) := dk_42 (dk_at dksJ20_afterNodeAccess_4 10 rfl rfl)
theorem dJ20_afterNodeAccess_102 : decode cJ20_afterNodeAccess 102 = .ok (.aload 4, 2) := dk_25 4 (dk_at dksJ20_afterNodeAccess_4 11 rfl rfl)
theorem dJ20_afterNodeAccess_104 : decode cJ20_afterNodeAccess 104 = .ok (.putfield 7, 3) := dk_181 0 7 (dk_at dksJ20_afterNodeAccess_4 13 rfl rfl)
theorem dJ20_afterNodeAccess_107 : decode cJ20_afterNodeAccess 107 = .ok (.goto 15, 3) := dk_167 0 15 (dk_at dksJ20_afterNodeAccess_4 16 rfl rfl)
theorem dJ20_afterNodeAccess_110 : decode cJ20_afterNodeAccess 110 = .ok (.aload 4, 2) := dk_25 4 (dk_at dksJ20_afterNodeAccess_4 19 rfl rfl)
theorem dJ20_afterNodeAccess_112 : decode cJ20_afterNodeAccess 112 = .ok (.aload_n 2, 1) := dk_44 (dk_at dksJ20_afterNodeAccess_4 21 rfl rfl)
theorem dJ20_afterNodeAccess_113 : decode cJ20_afterNodeAccess 113 = .ok (.putfield 19, 3) := dk_181 0 19 (dk_at dksJ20_afterNodeAccess_5 0 rfl rfl)
theorem dJ20_afterNodeAccess_116 : decode cJ20_afterNodeAccess 116 = .ok (.aload_n 2, 1) := dk_44 (dk_at dksJ20_afterNodeAccess_5 3 rfl rfl)
theorem dJ20_afterNodeAccess_117 : decode cJ20_afterNodeAccess 117 = .ok (.aload 4, 2) := dk_25 4 (dk_at dksJ20_afterNodeAccess_5 4 rfl rfl)
theorem dJ20_afterNodeAccess_119 : decode cJ20_afterNodeAccess 119 = .ok (.putfield 14, 3) := dk_181 0 14 (dk_at dksJ20_afterNodeAccess_5 6 rfl rfl)
theorem dJ20_afterNodeAccess_122 : decode cJ20_afterNodeAccess 122 = .ok (.aload_n 0, 1) := dk_42 (dk_at dksJ20_afterNodeAccess_5 9 rfl rfl)
theorem dJ20_afterNodeAccess_123 : decode cJ20_afterNodeAccess 123 = .ok (.aload 4, 2) := dk_25 4 (dk_at dksJ20_afterNodeAccess_5 10 rfl rfl)
theorem dJ20_afterNodeAccess_125 : decode cJ20_afterNodeAccess 125 = .ok (.putfield 11, 3) := dk_181 0 11 (dk_at dksJ20_afterNodeAccess_5 12 rfl rfl)
theorem dJ20_afterNodeAccess_128 : decode cJ20_afterNodeAccess 128 = .ok (.aload_n 0, 1) := dk_42 (dk_at dksJ20_afterNodeAccess_5 15 rfl rfl)
theorem dJ20_afterNodeAccess_129 : decode cJ20_afterNodeAccess 129 = .ok (.dup, 1) := dk_89 (dk_at dksJ20_afterNodeAccess_5 16 rfl rfl)
theorem dJ20_afterNodeAccess_130 : decode cJ20_afterNodeAccess 130 = .ok (.getfield 68, 3) := dk_180 0 68 (dk_at dksJ20_afterNodeAccess_5 17 rfl rfl)
theorem dJ20_afterNodeAccess_133 : decode cJ20_afterNodeAccess 133 = .ok (.iconst 1, 1) := dk_4 (dk_at dksJ20_afterNodeAccess_5 20 rfl rfl)
theorem dJ20_afterNodeAccess_134 : decode cJ20_afterNodeAccess 134 = .ok (.iadd, 1) := dk_96 (dk_at dksJ20_afterNodeAccess_5 21 rfl rfl)
theorem dJ20_afterNodeAccess_135 : decode cJ20_afterNodeAccess 135 = .ok (.putfield 68, 3) := dk_181 0 68 (dk_at dksJ20_afterNodeAccess_6 0 rfl rfl)
theorem dJ20_afterNodeAccess_138 : decode cJ20_afterNodeAccess 138 = .ok (.goto 127, 3) := dk_167 0 127 (dk_at dksJ20_afterNodeAccess_6 3 rfl rfl)
theorem dJ20_afterNodeAccess_141 : decode cJ20_afterNodeAccess 141 = .ok (.aload_n 0, 1) := dk_42 (dk_at dksJ20_afterNodeAccess_6 6 rfl rfl)
theorem dJ20_afterNodeAccess_142 : decode cJ20_afterNodeAccess 142 = .ok (.getfield 1, 3) := dk_180 0 1 (dk_at dksJ20_afterNodeAccess_6 7 rfl rfl)
theorem dJ20_afterNodeAccess_145 : decode cJ20_afterNodeAccess 145 = .ok (.iconst 1, 1) := dk_4 (dk_at dksJ20_afterNodeAccess_6 10 rfl rfl)
theorem dJ20_afterNodeAccess_146 : decode cJ20_afterNodeAccess 146 = .ok (.if_icmp .ne 119, 3) := dk_160 0 119 (dk_at dksJ20_afterNodeAccess_6 11 rfl rfl)
theorem dJ20_afterNodeAccess_149 : decode cJ20_afterNodeAccess 149 = .ok (.aload_n 0, 1) := dk_42 (dk_at dksJ20_afterNodeAccess_6 14 rfl rfl)
theorem dJ20_afterNodeAccess_150 : decode cJ20_afterNodeAccess 150 = .ok (.getfield 7, 3) := dk_180 0 7 (dk_at dksJ20_afterNodeAccess_6 15 rfl rfl)
theorem dJ20_afterNodeAccess_153 : decode cJ20_afterNodeAccess 153 = .ok (.dup, 1) := dk_89 (dk_at dksJ20_afterNodeAccess_6 18 rfl rfl)
theorem dJ20_afterNodeAccess_154 : decode cJ20_afterNodeAccess 154 = .ok (.astore_n 3, 1) := dk_78 (dk_at dksJ20_afterNodeAccess_6 19 rfl rfl)
theorem dJ20_afterNodeAccess_155 : decode cJ20_afterNodeAccess 155 = .ok (.aload_n 1, 1) := dk_43 (dk_at dksJ20_afterNodeAccess_6 20 rfl rfl)
theorem dJ20_afterNodeAccess_156 : decode cJ20_afterNodeAccess 156 = .ok (.if_acmp .eq 109, 3) := dk_165 0 109 (dk_at dksJ20_afterNodeAccess_6 21 rfl rfl)
theorem dJ20_afterNodeAccess_159 : decode cJ20_afterNodeAccess 159 = .ok (.aload_n 1, 1) := dk_43 (dk_at dksJ20_afterNodeAccess_7 0 rfl rfl)
theorem dJ20_afterNodeAccess_160 : decode cJ20_afterNodeAccess 160 = .ok (.checkcast 15, 3) := dk_192 0 15 (dk_at dksJ20_afterNodeAccess_7 1 rfl rfl)
theorem dJ20_afterNodeAccess_163 : decode cJ20_afterNodeAccess 163 = .ok (.astore 4, 2) := dk_58 4 (dk_at dksJ20_afterNodeAccess_7 4 rfl rfl)
theorem dJ20_afterNodeAccess_165 : decode cJ20_afterNodeAccess 165 = .ok (.aload 4, 2) := dk_25 4 (dk_at dksJ20_afterNodeAccess_7 6 rfl rfl)
theorem dJ20_afterNodeAccess_167 : decode cJ20_afterNodeAccess 167 = .ok (.getfield 19, 3) := dk_180 0 19 (dk_at dksJ20_afterNodeAccess_7 8 rfl rfl)
theorem dJ20_afterNodeAccess_170 : decode cJ20_afterNodeAccess 170 = .ok (.astore 5, 2) := dk_58 5 (dk_at dksJ20_afterNodeAccess_7 11 rfl rfl)
theorem dJ20_afterNodeAccess_172 : decode cJ20_afterNodeAccess 172 = .ok (.aload 4, 2) := dk_25 4 (dk_at dksJ20_afterNodeAccess_7 13 rfl rfl)
theorem dJ20_afterNodeAccess_174 : decode cJ20_afterNodeAccess 174 = .ok (.getfield 14, 3) := dk_180 0 14 (dk_at dksJ20_afterNodeAccess_7 15 rfl rfl)
theorem dJ20_afterNodeAccess_177 : decode cJ20_afterNodeAccess 177 = .ok (.astore 6, 2) := dk_58 6 (dk_at dksJ20_afterNodeAccess_7 18 rfl rfl)
theorem dJ20_afterNodeAccess_179 : decode cJ20_afterNodeAccess 179 = .ok (.aload 4, 2) := dk_25 4 (dk_at dksJ20_afterNodeAccess_7 20 rfl rfl)
theorem dJ20_afterNodeAccess_181 : decode cJ20_afterNodeAccess 181 = .ok (.aconst_null, 1) := dk_1 (dk_at dksJ20_afterNodeAccess_7 22 rfl rfl)
theorem dJ20_afterNodeAccess_182 : decode cJ20_afterNodeAccess 182 = .ok (.putfield 19, 3) := dk_181 0 19 (dk_at dksJ20_afterNodeAccess_8 0 rfl rfl)
theorem dJ20_afterNodeAccess_185 : decode cJ20_afterNodeAccess 185 = .ok (.aload 6, 2) := dk_25 6 (dk_at dksJ20_afterNodeAccess_8 3 rfl rfl)
theorem dJ20_afterNodeAccess_187 : decode cJ20_afterNodeAccess 187 = .ok (.ifnonnull 12, 3) := dk_199 0 12 (dk_at dksJ20_afterNodeAccess_8 5 rfl rfl)
theorem dJ20_afterNodeAccess_190 : decode cJ20_afterNodeAccess 190 = .ok (.aload_n 0, 1) := dk_42 (dk_at dksJ20_afterNodeAccess_8 8 rfl rfl)
theorem dJ20_afterNodeAccess_191 : decode cJ20_afterNodeAccess 191 = .ok (.aload 5, 2) := dk_25 5 (dk_at dksJ20_afterNodeAccess_8 9 rfl rfl)
theorem dJ20_afterNodeAccess_193 : decode cJ20_afterNodeAccess 193 = .ok (.putfield 11, 3) := dk_181 0 11 (dk_at dksJ20_afterNodeAccess_8 11 rfl rfl)
theorem dJ20_afterNodeAccess_196 : decode cJ20_afterNodeAccess 196 = .ok (.goto 10, 3) := dk_167 0 10 (dk_at dksJ20_afterNodeAccess_8 14 rfl rfl)
theorem dJ20_afterNodeAccess_199 : decode cJ20_afterNodeAccess 199 = .ok (.aload 6, 2) := dk_25 6 (dk_at dksJ20_afterNodeAccess_8 17 rfl rfl)
theorem dJ20_afterNodeAccess_201 : decode cJ20_afterNodeAccess 201 = .ok (.aload 5, 2) := dk_25 5 (dk_at dksJ20_afterNodeAccess_8 19 rfl rfl)
theorem dJ20_afterNodeAccess_203 : decode cJ20_afterNodeAccess 203 = .ok (.putfield 19, 3) := dk_181 0 19 (dk_at dksJ20_afterNodeAccess_8 21 rfl rfl)
theorem dJ20_afterNodeAccess_206 : decode cJ20_afterNodeAccess 206 = .ok (.aload 5, 2) := dk_25 5 (dk_at dksJ20_afterNodeAccess_9 0 rfl rfl)
theorem dJ20_afterNodeAccess_208 : decode cJ20_afterNodeAccess 208 = .ok (.ifnull 13, 3) := dk_198 0 13 (dk_at dksJ20_afterNodeAccess_9 2 rfl rfl)
theorem dJ20_afterNodeAccess_211 : decode cJ20_afterNodeAccess 211 = .ok (.aload 5, 2) := dk_25 5 (dk_at dksJ20_afterNodeAccess_9 5 rfl rfl)
theorem dJ20_afterNodeAccess_213 : decode cJ20_afterNodeAccess 213 = .ok (.aload 6, 2) := dk_25 6 (dk_at dksJ20_afterNodeAccess_9 7 rfl rfl)
theorem dJ20_afterNodeAccess_215 : decode cJ20_afterNodeAccess 215 = .ok (.putfield 14, 3) := dk_181 0 14 (dk_at dksJ20_afterNodeAccess_9 9 rfl rfl)
theorem dJ20_afterNodeAccess_218 : decode cJ20_afterNodeAccess 218 = .ok (.goto 6, 3) := dk_167 0 6 (dk_at dksJ20_afterNodeAccess_9 12 rfl rfl)
theorem dJ20_afterNodeAccess_221 : decode cJ20_afterNodeAccess 221 = .ok (.aload 6, 2) := dk_25 6 (dk_at dksJ20_afterNodeAccess_9 15 rfl rfl)
theorem dJ20_afterNodeAccess_223 : decode cJ20_afterNodeAccess 223 = .ok (.astore_n 3, 1) := dk_78 (dk_at dksJ20_afterNodeAccess_9 17 rfl rfl)
theorem dJ20_afterNodeAccess_224 : decode cJ20_afterNodeAccess 224 = .ok (.aload_n 3, 1) := dk_45 (dk_at dksJ20_afterNodeAccess_9 18 rfl rfl)
theorem dJ20_afterNodeAccess_225 : decode cJ20_afterNodeAccess 225 = .ok (.ifnonnull 12, 3) := dk_199 0 12 (dk_at dksJ20_afterNodeAccess_9 19 rfl rfl)
theorem dJ20_afterNodeAccess_228 : decode cJ20_afterNodeAccess 228 = .ok (.aload_n 0, 1) := dk_42 (dk_at dksJ20_afterNodeAccess_9 22 rfl rfl)
theorem dJ20_afterNodeAccess_229 : decode cJ20_afterNodeAccess 229 = .ok (.aload 4, 2) := dk_25 4 (dk_at dksJ20_afterNodeAccess_10 0 rfl rfl)
theorem dJ20_afterNodeAccess_231 : decode cJ20_afterNodeAccess 231 = .ok (.putfield 11, 3) := dk_181 0 11 (dk_at dksJ20_afterNodeAccess_10 2 rfl rfl)
theorem dJ20_afterNodeAccess_234 : decode cJ20_afterNodeAccess 234 = .ok (.goto 15, 3) := dk_167 0 15 (dk_at dksJ20_afterNodeAccess_10 5 rfl rfl)
theorem dJ20_afterNodeAccess_237 : decode cJ20_afterNodeAccess 237 = .ok (.aload 4, 2) := dk_25 4 (dk_at dksJ20_afterNodeAccess_10 8 rfl rfl)
theorem dJ20_afterNodeAccess_239 : decode cJ20_afterNodeAccess 239 = .ok (.aload_n 3, 1) := dk_45 (dk_at dksJ20_afterNodeAccess_10 10 rfl rfl)
theorem dJ20_afterNodeAccess_240 : decode cJ20_afterNodeAccess 240 = .ok (.putfield 14, 3) := dk_181 0 14 (dk_at dksJ20_afterNodeAccess_10 11 rfl rfl)
theorem dJ20_afterNodeAccess_243 : decode cJ20_afterNodeAccess 243 = .ok (.aload_n 3, 1) := dk_45 (dk_at dksJ20_afterNodeAccess_10 14 rfl rfl)
theorem dJ20_afterNodeAccess_244 : decode cJ20_afterNodeAccess 244 = .ok (.aload 4, 2) := dk_25 4 (dk_at dksJ20_afterNodeAccess_10 15 rfl rfl)
theorem dJ20_afterNodeAccess_246 : decode cJ20_afterNodeAccess 246 = .ok (.putfield 19, 3) := dk_181 0 19 (dk_at dksJ20_afterNodeAccess_10 17 rfl rfl)
theorem dJ20_afterNodeAccess_249 : decode cJ20_afterNodeAccess 249 = .ok (.aload_n 0, 1) := dk_42 (dk_at dksJ20_afterNodeAccess_10 20 rfl rfl)
theorem dJ20_afterNodeAccess_250 : decode cJ20_afterNodeAccess 250 = .ok (.aload 4, 2) := dk_25 4 (dk_at dksJ20_afterNodeAccess_10 21 rfl rfl)
theorem dJ20_afterNodeAccess_252 : decode cJ20_afterNodeAccess 252 = .ok (.putfield 7, 3) := dk_181 0 7 (dk_at dksJ20_afterNodeAccess_11 0 rfl rfl)
theorem dJ20_afterNodeAccess_255 : decode cJ20_afterNodeAccess 255 = .ok (.aload_n 0, 1) := dk_42 (dk_at dksJ20_afterNodeAccess_11 3 rfl rfl)
theorem dJ20_afterNodeAccess_256 : decode cJ20_afterNodeAccess 256 = .ok (.dup, 1) := dk_89 (dk_at dksJ20_afterNodeAccess_11 4 rfl rfl)
theorem dJ20_afterNodeAccess_257 : decode cJ20_afterNodeAccess 257 = .ok (.getfield 68, 3) := dk_180 0 68 (dk_at dksJ20_afterNodeAccess_11 5 rfl rfl)
theorem dJ20_afterNodeAccess_260 : decode cJ20_afterNodeAccess 260 = .ok (.iconst 1, 1) := dk_4 (dk_at dksJ20_afterNodeAccess_11 8 rfl rfl)
theorem dJ20_afterNodeAccess_261 : decode cJ20_afterNodeAccess 261 = .ok (.iadd, 1) := dk_96 (dk_at dksJ20_afterNodeAccess_11 9 rfl rfl)
theorem dJ20_afterNodeAccess_262 : decode cJ20_afterNodeAccess 262 = .ok (.putfield 68, 3) := dk_181 0 68 (dk_at dksJ20_afterNodeAccess_11 10 rfl rfl)
theorem dJ20_afterNodeAccess_265 : decode cJ20_afterNodeAccess 265 = .ok (.return_, 1) := dk_177 (dk_at dksJ20_afterNodeAccess_11 13 rfl rfl)
abbrev cJ20_afterNodeInsertion : ByteArray := prog_63_method_9_code
def yJ20_afterNodeInsertion : MethodName := ⟨RJ20, "afterNodeInsertion", "(Z)V"⟩
def dkwJ20_afterNodeInsertion_1 : List UInt8 := [180, 0, 39, 78, 42, 45, 184, 0, 57, 45, 1, 3, 4, 182, 0, 60, 87, 177]
abbrev dktJ20_afterNodeInsertion_1 : List UInt8 := dkwJ20_afterNodeInsertion_1 ++ []
def dkwJ20_afterNodeInsertion_0 : List UInt8 := [27, 153, 0, 38, 42, 180, 0, 7, 89, 77, 198, 0, 29, 42, 44, 182, 0, 53, 153, 0, 21, 44]
abbrev dktJ20_afterNodeInsertion_0 : List UInt8 := dkwJ20_afterNodeInsertion_0 ++ dktJ20_afterNodeInsertion_1
theorem dksJ20_afterNodeInsertion_0 : cJ20_afterNodeInsertion.data.toList.drop 0 = dktJ20_afterNodeInsertion_0 := by decide +kernel
theorem dksJ20_afterNodeInsertion_1 : cJ20_afterNodeInsertion.data.toList.drop 22 = dktJ20_afterNodeInsertion_1 := dk_seg dksJ20_afterNodeInsertion_0 22 rfl rfl
theorem dJ20_afterNodeInsertion_0 : decode cJ20_afterNodeInsertion 0 = .ok (.iload_n 1, 1) := dk_27 (dk_at dksJ20_afterNodeInsertion_0 0 rfl rfl)
theorem dJ20_afterNodeInsertion_1 : decode cJ20_afterNodeInsertion 1 = .ok (.ifCond .eq 38, 3) := dk_153 0 38 (dk_at dksJ20_afterNodeInsertion_0 1 rfl rfl)
theorem dJ20_afterNodeInsertion_4 : decode cJ20_afterNodeInsertion 4 = .ok (.aload_n 0, 1) := dk_42 (dk_at dksJ20_afterNodeInsertion_0 4 rfl rfl)
theorem dJ20_afterNodeInsertion_5 : decode cJ20_afterNodeInsertion 5 = .ok (.getfield 7, 3) := dk_180 0 7 (dk_at dksJ20_afterNodeInsertion_0 5 rfl rfl)
theorem dJ20_afterNodeInsertion_8 : decode cJ20_afterNodeInsertion 8 = .ok (.dup, 1) := dk_89 (dk_at dksJ20_afterNodeInsertion_0 8 rfl rfl)
theorem dJ20_afterNodeInsertion_9 : decode cJ20_afterNodeInsertion 9 = .ok (.astore_n 2, 1) := dk_77 (dk_at dksJ20_afterNodeInsertion_0 9 rfl rfl)
theorem dJ20_afterNodeInsertion_10 : decode cJ20_afterNodeInsertion 10 = .ok (.ifnull 29, 3) := dk_198 0 29 (dk_at dksJ20_afterNodeInsertion_0 10 rfl rfl)
theorem dJ20_afterNodeInsertion_13 : decode cJ20_afterNodeInsertion 13 = .ok (.aload_n 0, 1) := dk_42 (dk_at dksJ20_afterNodeInsertion_0 13 rfl rfl)
theorem dJ20_afterNodeInsertion_14 : decode cJ20_afterNodeInsertion 14 = .ok (.aload_n 2, 1) := dk_44 (dk_at dksJ20_afterNodeInsertion_0 14 rfl rfl)
theorem dJ20_afterNodeInsertion_15 : decode cJ20_afterNodeInsertion 15 = .ok (.invokevirtual 53, 3) := dk_182 0 53 (dk_at dksJ20_afterNodeInsertion_0 15 rfl rfl)
theorem dJ20_afterNodeInsertion_18 : decode cJ20_afterNodeInsertion 18 = .ok (.ifCond .eq 21, 3) := dk_153 0 21 (dk_at dksJ20_afterNodeInsertion_0 18 rfl rfl)
theorem dJ20_afterNodeInsertion_21 : decode cJ20_afterNodeInsertion 21 = .ok (.aload_n 2, 1) := dk_44 (dk_at dksJ20_afterNodeInsertion_0 21 rfl rfl)
theorem dJ20_afterNodeInsertion_22 : decode cJ20_afterNodeInsertion 22 = .ok (.getfield 39, 3) := dk_180 0 39 (dk_at dksJ20_afterNodeInsertion_1 0 rfl rfl)
theorem dJ20_afterNodeInsertion_25 : decode cJ20_afterNodeInsertion 25 = .ok (.astore_n 3, 1) := dk_78 (dk_at dksJ20_afterNodeInsertion_1 3 rfl rfl)
theorem dJ20_afterNodeInsertion_26 : decode cJ20_afterNodeInsertion 26 = .ok (.aload_n 0, 1) := dk_42 (dk_at dksJ20_afterNodeInsertion_1 4 rfl rfl)
theorem dJ20_afterNodeInsertion_27 : decode cJ20_afterNodeInsertion 27 = .ok (.aload_n 3, 1) := dk_45 (dk_at dksJ20_afterNodeInsertion_1 5 rfl rfl)
theorem dJ20_afterNodeInsertion_28 : decode cJ20_afterNodeInsertion 28 = .ok (.invokestatic 57, 3) := dk_184 0 57 (dk_at dksJ20_afterNodeInsertion_1 6 rfl rfl)
theorem dJ20_afterNodeInsertion_31 : decode cJ20_afterNodeInsertion 31 = .ok (.aload_n 3, 1) := dk_45 (dk_at dksJ20_afterNodeInsertion_1 9 rfl rfl)
theorem dJ20_afterNodeInsertion_32 : decode cJ20_afterNodeInsertion 32 = .ok (.aconst_null, 1) := dk_1 (dk_at dksJ20_afterNodeInsertion_1 10 rfl rfl)
theorem dJ20_afterNodeInsertion_33 : decode cJ20_afterNodeInsertion 33 = .ok (.iconst 0, 1) := dk_3 (dk_at dksJ20_afterNodeInsertion_1 11 rfl rfl)
theorem dJ20_afterNodeInsertion_34 : decode cJ20_afterNodeInsertion 34 = .ok (.iconst 1, 1) := dk_4 (dk_at dksJ20_afterNodeInsertion_1 12 rfl rfl)
theorem dJ20_afterNodeInsertion_35 : decode cJ20_afterNodeInsertion 35 = .ok (.invokevirtual 60, 3) := dk_182 0 60 (dk_at dksJ20_afterNodeInsertion_1 13 rfl rfl)
theorem dJ20_afterNodeInsertion_38 : decode cJ20_afterNodeInsertion 38 = .ok (.pop, 1) := dk_87 (dk_at dksJ20_afterNodeInsertion_1 16 rfl rfl)
theorem dJ20_afterNodeInsertion_39 : decode cJ20_afterNodeInsertion 39 = .ok (.return_, 1) := dk_177 (dk_at dksJ20_afterNodeInsertion_1 17 rfl rfl)
abbrev cJ20_removeEldestEntry : ByteArray := prog_63_method_23_code
def yJ20_removeEldestEntry : MethodName := ⟨RJ20, "removeEldestEntry", "(Ljava/util/Map$Entry;)Z"⟩
theorem dJ20_removeEldestEntry_0 : decode cJ20_removeEldestEntry 0 = .ok (.iconst 0, 1) := by decide +kernel
theorem dJ20_removeEldestEntry_1 : decode cJ20_removeEldestEntry 1 = .ok (.ireturn, 1) := by decide +kernel
abbrev cJ20_get : ByteArray := prog_63_method_20_code
def yJ20_get : MethodName := ⟨RJ20, "get", "(Ljava/lang/Object;)Ljava/lang/Object;"⟩
def dkwJ20_get_1 : List UInt8 := [44, 180, 0, 107, 176]
abbrev dktJ20_get_1 : List UInt8 := dkwJ20_get_1 ++ []
def dkwJ20_get_0 : List UInt8 := [42, 43, 182, 0, 99, 89, 77, 199, 0, 5, 1, 176, 42, 180, 0, 64, 153, 0, 8, 42, 44, 182, 0, 103]
abbrev dktJ20_get_0 : List UInt8 := dkwJ20_get_0 ++ dktJ20_get_1
theorem dksJ20_get_0 : cJ20_get.data.toList.drop 0 = dktJ20_get_0 := by decide +kernel
theorem dksJ20_get_1 : cJ20_get.data.toList.drop 24 = dktJ20_get_1 := dk_seg dksJ20_get_0 24 rfl rfl
theorem dJ20_get_0 : decode cJ20_get 0 = .ok (.aload_n 0, 1) := dk_42 (dk_at dksJ20_get_0 0 rfl rfl)
theorem dJ20_get_1 : decode cJ20_get 1 = .ok (.aload_n 1, 1) := dk_43 (dk_at dksJ20_get_0 1 rfl rfl)
theorem dJ20_get_2 : decode cJ20_get 2 = .ok (.invokevirtual 99, 3) := dk_182 0 99 (dk_at dksJ20_get_0 2 rfl rfl)
theorem dJ20_get_5 : decode cJ20_get 5 = .ok (.dup, 1) := dk_89 (dk_at dksJ20_get_0 5 rfl rfl)
theorem dJ20_get_6 : decode cJ20_get 6 = .ok (.astore_n 2, 1) := dk_77 (dk_at dksJ20_get_0 6 rfl rfl)
theorem dJ20_get_7 : decode cJ20_get 7 = .ok (.ifnonnull 5, 3) := dk_199 0 5 (dk_at dksJ20_get_0 7 rfl rfl)
theorem dJ20_get_10 : decode cJ20_get 10 = .ok (.aconst_null, 1) := dk_1 (dk_at dksJ20_get_0 10 rfl rfl)
theorem dJ20_get_11 : decode cJ20_get 11 = .ok (.areturn, 1) := dk_176 (dk_at dksJ20_get_0 11 rfl rfl)
theorem dJ20_get_12 : decode cJ20_get 12 = .ok (.aload_n 0, 1) := dk_42 (dk_at dksJ20_get_0 12 rfl rfl)
theorem dJ20_get_13 : decode cJ20_get 13 = .ok (.getfield 64, 3) := dk_180 0 64 (dk_at dksJ20_get_0 13 rfl rfl)
theorem dJ20_get_16 : decode cJ20_get 16 = .ok (.ifCond .eq 8, 3) := dk_153 0 8 (dk_at dksJ20_get_0 16 rfl rfl)
theorem dJ20_get_19 : decode cJ20_get 19 = .ok (.aload_n 0, 1) := dk_42 (dk_at dksJ20_get_0 19 rfl rfl)
theorem dJ20_get_20 : decode cJ20_get 20 = .ok (.aload_n 2, 1) := dk_44 (dk_at dksJ20_get_0 20 rfl rfl)
theorem dJ20_get_21 : decode cJ20_get 21 = .ok (.invokevirtual 103, 3) := dk_182 0 103 (dk_at dksJ20_get_0 21 rfl rfl)
theorem dJ20_get_24 : decode cJ20_get 24 = .ok (.aload_n 2, 1) := dk_44 (dk_at dksJ20_get_1 0 rfl rfl)
theorem dJ20_get_25 : decode cJ20_get 25 = .ok (.getfield 107, 3) := dk_180 0 107 (dk_at dksJ20_get_1 1 rfl rfl)
theorem dJ20_get_28 : decode cJ20_get 28 = .ok (.areturn, 1) := dk_176 (dk_at dksJ20_get_1 4 rfl rfl)
theorem q132 : (Jvm.Cond.initialized "java/util/LinkedHashMap") ∈ lw_all := lw_g (lw_at lw_m1 25 rfl) rfl
theorem q561 : (Jvm.Cond.instantiable "java/util/LinkedHashMap" (12 : Nat)) ∈ lw_all := lw_g (lw_at lw_m2 214 rfl) rfl
theorem q563 : (Jvm.Cond.instanceMethod ({ cls := "java/util/LinkedHashMap", name := "<init>", desc := "()V" } : Jvm.MethodName)) ∈ lw_all := lw_g (lw_at lw_m2 216 rfl) rfl
theorem q564 : (Jvm.Cond.code ({ cls := "java/util/LinkedHashMap", name := "<init>", desc := "()V" } : Jvm.MethodName) prog_63_method_16_code (1 : Nat) (Option.none : Option Jvm.ClassFile.FieldType)) ∈ lw_all := lw_g (lw_at lw_m2 217 rfl) rfl
theorem q565 : (Jvm.Cond.methodLink "java/util/LinkedHashMap" (87 : Nat) ({ cls := "java/util/HashMap", name := "<init>", desc := "()V" } : Jvm.MethodName)) ∈ lw_all := lw_g (lw_at lw_m2 218 rfl) rfl
theorem q573 : (Jvm.Cond.fieldLink "java/util/LinkedHashMap" (7 : Nat) "java/util/LinkedHashMap" "head" "Ljava/util/LinkedHashMap$Entry;") ∈ lw_all := lw_g (lw_at lw_m2 226 rfl) rfl
theorem q574 : (Jvm.Cond.fieldLink "java/util/LinkedHashMap" (11 : Nat) "java/util/LinkedHashMap" "tail" "Ljava/util/LinkedHashMap$Entry;") ∈ lw_all := lw_g (lw_at lw_m2 227 rfl) rfl
theorem q575 : (Jvm.Cond.fieldLink "java/util/LinkedHashMap" (64 : Nat) "java/util/LinkedHashMap" "accessOrder" "Z") ∈ lw_all := lw_g (lw_at lw_m2 228 rfl) rfl
theorem q576 : (Jvm.Cond.fieldLink "java/util/LinkedHashMap" (1 : Nat) "java/util/LinkedHashMap" "putMode" "I") ∈ lw_all := lw_g (lw_at lw_m2 229 rfl) rfl
theorem q579 : (Jvm.Cond.fieldLink "java/util/LinkedHashMap" (68 : Nat) "java/util/LinkedHashMap" "modCount" "I") ∈ lw_all := lw_g (lw_at lw_m2 232 rfl) rfl
theorem q580 : (Jvm.Cond.sameField "java/util/LinkedHashMap" "java/util/HashMap" "modCount" "I") ∈ lw_all := lw_g (lw_at lw_m2 233 rfl) rfl
theorem q584 : (Jvm.Cond.lays "java/util/LinkedHashMap" "java/util/LinkedHashMap" "head" "Ljava/util/LinkedHashMap$Entry;") ∈ lw_all := lw_g (lw_at lw_m2 237 rfl) rfl
theorem q585 : (Jvm.Cond.soleField "java/util/LinkedHashMap" "head") ∈ lw_all := lw_g (lw_at lw_m2 238 rfl) rfl
theorem q586 : (Jvm.Cond.lays "java/util/LinkedHashMap" "java/util/LinkedHashMap" "tail" "Ljava/util/LinkedHashMap$Entry;") ∈ lw_all := lw_g (lw_at lw_m2 239 rfl) rfl
theorem q587 : (Jvm.Cond.soleField "java/util/LinkedHashMap" "tail") ∈ lw_all := lw_g (lw_at lw_m3 0 rfl) rfl
theorem q588 : (Jvm.Cond.laysFinal "java/util/LinkedHashMap" "java/util/LinkedHashMap" "accessOrder" "Z") ∈ lw_all := lw_g (lw_at lw_m3 1 rfl) rfl
theorem q589 : (Jvm.Cond.soleField "java/util/LinkedHashMap" "accessOrder") ∈ lw_all := lw_g (lw_at lw_m3 2 rfl) rfl
theorem q590 : (Jvm.Cond.lays "java/util/LinkedHashMap" "java/util/LinkedHashMap" "putMode" "I") ∈ lw_all := lw_g (lw_at lw_m3 3 rfl) rfl
theorem q591 : (Jvm.Cond.soleField "java/util/LinkedHashMap" "putMode") ∈ lw_all := lw_g (lw_at lw_m3 4 rfl) rfl
theorem q592 : (Jvm.Cond.lays "java/util/LinkedHashMap" "java/util/HashMap" "table" "[Ljava/util/HashMap$Node;") ∈ lw_all := lw_g (lw_at lw_m3 5 rfl) rfl
theorem q594 : (Jvm.Cond.lays "java/util/LinkedHashMap" "java/util/HashMap" "entrySet" "Ljava/util/Set;") ∈ lw_all := lw_g (lw_at lw_m3 7 rfl) rfl
theorem q596 : (Jvm.Cond.lays "java/util/LinkedHashMap" "java/util/HashMap" "size" "I") ∈ lw_all := lw_g (lw_at lw_m3 9 rfl) rfl
theorem q598 : (Jvm.Cond.lays "java/util/LinkedHashMap" "java/util/HashMap" "modCount" "I") ∈ lw_all := lw_g (lw_at lw_m3 11 rfl) rfl
theorem q600 : (Jvm.Cond.lays "java/util/LinkedHashMap" "java/util/HashMap" "threshold" "I") ∈ lw_all := lw_g (lw_at lw_m3 13 rfl) rfl
theorem q602 : (Jvm.Cond.laysFinal "java/util/LinkedHashMap" "java/util/HashMap" "loadFactor" "F") ∈ lw_all := lw_g (lw_at lw_m3 15 rfl) rfl
theorem q604 : (Jvm.Cond.lays "java/util/LinkedHashMap" "java/util/AbstractMap" "keySet" "Ljava/util/Set;") ∈ lw_all := lw_g (lw_at lw_m3 17 rfl) rfl
theorem q606 : (Jvm.Cond.lays "java/util/LinkedHashMap" "java/util/AbstractMap" "values" "Ljava/util/Collection;") ∈ lw_all := lw_g (lw_at lw_m3 19 rfl) rfl
theorem q608 : (Jvm.Cond.superclass "java/util/LinkedHashMap" "java/util/HashMap") ∈ lw_all := lw_g (lw_at lw_m3 21 rfl) rfl
theorem q1146 : (Jvm.Cond.selects "java/util/LinkedHashMap" ({ cls := "java/lang/Object", name := "getClass", desc := "()Ljava/lang/Class;" } : Jvm.MethodName) ({ cls := "java/lang/Object", name := "getClass", desc := "()Ljava/lang/Class;" } : Jvm.MethodName)) ∈ lw_all := lw_g (lw_at lw_m5 79 rfl) rfl
theorem q1259 : (Jvm.Cond.selects "java/util/LinkedHashMap" ({ cls := "java/util/HashMap", name := "containsKey", desc := "(Ljava/lang/Object;)Z" } : Jvm.MethodName) ({ cls := "java/util/HashMap", name := "containsKey", desc := "(Ljava/lang/Object;)Z" } : Jvm.MethodName)) ∈ lw_all := lw_g (lw_at lw_m5 192 rfl) rfl
theorem q1265 : (Jvm.Cond.selects "java/util/LinkedHashMap" ({ cls := "java/util/HashMap", name := "getNode", desc := "(Ljava/lang/Object;)Ljava/util/HashMap$Node;" } : Jvm.MethodName) ({ cls := "java/util/HashMap", name := "getNode", desc := "(Ljava/lang/Object;)Ljava/util/HashMap$Node;" } : Jvm.MethodName)) ∈ lw_all := lw_g (lw_at lw_m5 198 rfl) rfl
theorem q1655 : (Jvm.Cond.selects "java/util/LinkedHashMap" ({ cls := "java/util/HashMap", name := "put", desc := "(Ljava/lang/Object;Ljava/lang/Object;)Ljava/lang/Object;" } : Jvm.MethodName) ({ cls := "java/util/HashMap", name := "put", desc := "(Ljava/lang/Object;Ljava/lang/Object;)Ljava/lang/Object;" } : Jvm.MethodName)) ∈ lw_all := lw_g (lw_at lw_m7 108 rfl) rfl
theorem q1661 : (Jvm.Cond.selects "java/util/LinkedHashMap" ({ cls := "java/util/HashMap", name := "putVal", desc := "(ILjava/lang/Object;Ljava/lang/Object;ZZ)Ljava/lang/Object;" } : Jvm.MethodName) ({ cls := "java/util/HashMap", name := "putVal", desc := "(ILjava/lang/Object;Ljava/lang/Object;ZZ)Ljava/lang/Object;" } : Jvm.MethodName)) ∈ lw_all := lw_g (lw_at lw_m7 114 rfl) rfl
theorem q1667 : (Jvm.Cond.selects "java/util/LinkedHashMap" ({ cls := "java/util/HashMap", name := "resize", desc := "()[Ljava/util/HashMap$Node;" } : Jvm.MethodName) ({ cls := "java/util/HashMap", name := "resize", desc := "()[Ljava/util/HashMap$Node;" } : Jvm.MethodName)) ∈ lw_all := lw_g (lw_at lw_m7 120 rfl) rfl
theorem q1687 : (Jvm.Cond.selects "java/util/LinkedHashMap" ({ cls := "java/util/HashMap", name := "replacementNode", desc := "(Ljava/util/HashMap$Node;Ljava/util/HashMap$Node;)Ljava/util/HashMap$Node;" } : Jvm.MethodName) ({ cls := "java/util/LinkedHashMap", name := "replacementNode", desc := "(Ljava/util/HashMap$Node;Ljava/util/HashMap$Node;)Ljava/util/HashMap$Node;" } : Jvm.MethodName)) ∈ lw_all := lw_g (lw_at lw_m7 140 rfl) rfl
theorem q1688 : (Jvm.Cond.instanceMethod ({ cls := "java/util/LinkedHashMap", name := "replacementNode", desc := "(Ljava/util/HashMap$Node;Ljava/util/HashMap$Node;)Ljava/util/HashMap$Node;" } : Jvm.MethodName)) ∈ lw_all := lw_g (lw_at lw_m7 141 rfl) rfl
theorem q1689 : (Jvm.Cond.code ({ cls := "java/util/LinkedHashMap", name := "replacementNode", desc := "(Ljava/util/HashMap$Node;Ljava/util/HashMap$Node;)Ljava/util/HashMap$Node;" } : Jvm.MethodName) prog_63_method_5_code (5 : Nat) (Option.some (Jvm.ClassFile.FieldType.object "java/util/HashMap$Node"))) ∈ lw_all := lw_g (lw_at lw_m7 142 rfl) rfl
theorem q1690 : (Jvm.Cond.classLink "java/util/LinkedHashMap" (15 : Nat) "java/util/LinkedHashMap$Entry") ∈ lw_all := lw_g (lw_at lw_m7 143 rfl) rfl
theorem q1692 : (Jvm.Cond.methodLink "java/util/LinkedHashMap" (28 : Nat) ({ cls := "java/util/LinkedHashMap$Entry", name := "<init>", desc := "(ILjava/lang/Object;Ljava/lang/Object;Ljava/util/HashMap$Node;)V" } : Jvm.MethodName)) ∈ lw_all := lw_g (lw_at lw_m7 145 rfl) rfl
theorem q1699 : (Jvm.Cond.fieldLink "java/util/LinkedHashMap" (19 : Nat) "java/util/LinkedHashMap$Entry" "before" "Ljava/util/LinkedHashMap$Entry;") ∈ lw_all := lw_g (lw_at lw_m7 152 rfl) rfl
theorem q1700 : (Jvm.Cond.fieldLink "java/util/LinkedHashMap" (14 : Nat) "java/util/LinkedHashMap$Entry" "after" "Ljava/util/LinkedHashMap$Entry;") ∈ lw_all := lw_g (lw_at lw_m7 153 rfl) rfl
theorem q1704 : (Jvm.Cond.fieldLink "java/util/LinkedHashMap" (36 : Nat) "java/util/LinkedHashMap$Entry" "hash" "I") ∈ lw_all := lw_g (lw_at lw_m7 157 rfl) rfl
theorem q1710 : (Jvm.Cond.fieldLink "java/util/LinkedHashMap" (39 : Nat) "java/util/LinkedHashMap$Entry" "key" "Ljava/lang/Object;") ∈ lw_all := lw_g (lw_at lw_m7 163 rfl) rfl
theorem q1714 : (Jvm.Cond.fieldLink "java/util/LinkedHashMap" (43 : Nat) "java/util/LinkedHashMap$Entry" "value" "Ljava/lang/Object;") ∈ lw_all := lw_g (lw_at lw_m7 167 rfl) rfl
theorem q1717 : (Jvm.Cond.fieldLink "java/util/LinkedHashMap" (107 : Nat) "java/util/HashMap$Node" "value" "Ljava/lang/Object;") ∈ lw_all := lw_g (lw_at lw_m7 170 rfl) rfl
theorem q1737 : (Jvm.Cond.methodLink "java/util/LinkedHashMap" (46 : Nat) ({ cls := "java/util/LinkedHashMap", name := "transferLinks", desc := "(Ljava/util/LinkedHashMap$Entry;Ljava/util/LinkedHashMap$Entry;)V" } : Jvm.MethodName)) ∈ lw_all := lw_g (lw_at lw_m7 190 rfl) rfl
theorem q1738 : (Jvm.Cond.privateMethod ({ cls := "java/util/LinkedHashMap", name := "transferLinks", desc := "(Ljava/util/LinkedHashMap$Entry;Ljava/util/LinkedHashMap$Entry;)V" } : Jvm.MethodName)) ∈ lw_tbl := lw_at lw_m7 191 rfl
theorem q1739 : (Jvm.Cond.instanceMethod ({ cls := "java/util/LinkedHashMap", name := "transferLinks", desc := "(Ljava/util/LinkedHashMap$Entry;Ljava/util/LinkedHashMap$Entry;)V" } : Jvm.MethodName)) ∈ lw_all := lw_g (lw_at lw_m7 192 rfl) rfl
theorem q1740 : (Jvm.Cond.code ({ cls := "java/util/LinkedHashMap", name := "transferLinks", desc := "(Ljava/util/LinkedHashMap$Entry;Ljava/util/LinkedHashMap$Entry;)V" } : Jvm.MethodName) prog_63_method_2_code (5 : Nat) (Option.none : Option Jvm.ClassFile.FieldType)) ∈ lw_all := lw_g (lw_at lw_m7 193 rfl) rfl
theorem q1771 : (Jvm.Cond.selects "java/util/LinkedHashMap" ({ cls := "java/util/HashMap", name := "newNode", desc := "(ILjava/lang/Object;Ljava/lang/Object;Ljava/util/HashMap$Node;)Ljava/util/HashMap$Node;" } : Jvm.MethodName) ({ cls := "java/util/LinkedHashMap", name := "newNode", desc := "(ILjava/lang/Object;Ljava/lang/Object;Ljava/util/HashMap$Node;)Ljava/util/HashMap$Node;" } : Jvm.MethodName)) ∈ lw_all := lw_g (lw_at lw_m7 224 rfl) rfl
theorem q1772 : (Jvm.Cond.instanceMethod ({ cls := "java/util/LinkedHashMap", name := "newNode", desc := "(ILjava/lang/Object;Ljava/lang/Object;Ljava/util/HashMap$Node;)Ljava/util/HashMap$Node;" } : Jvm.MethodName)) ∈ lw_all := lw_g (lw_at lw_m7 225 rfl) rfl
theorem q1773 : (Jvm.Cond.code ({ cls := "java/util/LinkedHashMap", name := "newNode", desc := "(ILjava/lang/Object;Ljava/lang/Object;Ljava/util/HashMap$Node;)Ljava/util/HashMap$Node;" } : Jvm.MethodName) prog_63_method_4_code (6 : Nat) (Option.some (Jvm.ClassFile.FieldType.object "java/util/HashMap$Node"))) ∈ lw_all := lw_g (lw_at lw_m7 226 rfl) rfl
theorem q1774 : (Jvm.Cond.methodLink "java/util/LinkedHashMap" (32 : Nat) ({ cls := "java/util/LinkedHashMap", name := "linkNodeAtEnd", desc := "(Ljava/util/LinkedHashMap$Entry;)V" } : Jvm.MethodName)) ∈ lw_all := lw_g (lw_at lw_m7 227 rfl) rfl
theorem q1775 : (Jvm.Cond.privateMethod ({ cls := "java/util/LinkedHashMap", name := "linkNodeAtEnd", desc := "(Ljava/util/LinkedHashMap$Entry;)V" } : Jvm.MethodName)) ∈ lw_tbl := lw_at lw_m7 228 rfl
theorem q1776 : (Jvm.Cond.instanceMethod ({ cls := "java/util/LinkedHashMap", name := "linkNodeAtEnd", desc := "(Ljava/util/LinkedHashMap$Entry;)V" } : Jvm.MethodName)) ∈ lw_all := lw_g (lw_at lw_m7 229 rfl) rfl
theorem q1777 : (Jvm.Cond.code ({ cls := "java/util/LinkedHashMap", name := "linkNodeAtEnd", desc := "(Ljava/util/LinkedHashMap$Entry;)V" } : Jvm.MethodName) prog_63_method_1_code (3 : Nat) (Option.none : Option Jvm.ClassFile.FieldType)) ∈ lw_all := lw_g (lw_at lw_m7 230 rfl) rfl
theorem q1787 : (Jvm.Cond.selects "java/util/LinkedHashMap" ({ cls := "java/util/HashMap", name := "newTreeNode", desc := "(ILjava/lang/Object;Ljava/lang/Object;Ljava/util/HashMap$Node;)Ljava/util/HashMap$TreeNode;" } : Jvm.MethodName) ({ cls := "java/util/LinkedHashMap", name := "newTreeNode", desc := "(ILjava/lang/Object;Ljava/lang/Object;Ljava/util/HashMap$Node;)Ljava/util/HashMap$TreeNode;" } : Jvm.MethodName)) ∈ lw_all := lw_g (lw_at lw_m8 0 rfl) rfl
theorem q1788 : (Jvm.Cond.instanceMethod ({ cls := "java/util/LinkedHashMap", name := "newTreeNode", desc := "(ILjava/lang/Object;Ljava/lang/Object;Ljava/util/HashMap$Node;)Ljava/util/HashMap$TreeNode;" } : Jvm.MethodName)) ∈ lw_all := lw_g (lw_at lw_m8 1 rfl) rfl
theorem q1789 : (Jvm.Cond.code ({ cls := "java/util/LinkedHashMap", name := "newTreeNode", desc := "(ILjava/lang/Object;Ljava/lang/Object;Ljava/util/HashMap$Node;)Ljava/util/HashMap$TreeNode;" } : Jvm.MethodName) prog_63_method_6_code (6 : Nat) (Option.some (Jvm.ClassFile.FieldType.object "java/util/HashMap$TreeNode"))) ∈ lw_all := lw_g (lw_at lw_m8 2 rfl) rfl
theorem q1790 : (Jvm.Cond.classLink "java/util/LinkedHashMap" (50 : Nat) "java/util/HashMap$TreeNode") ∈ lw_all := lw_g (lw_at lw_m8 3 rfl) rfl
theorem q1792 : (Jvm.Cond.methodLink "java/util/LinkedHashMap" (52 : Nat) ({ cls := "java/util/HashMap$TreeNode", name := "<init>", desc := "(ILjava/lang/Object;Ljava/lang/Object;Ljava/util/HashMap$Node;)V" } : Jvm.MethodName)) ∈ lw_all := lw_g (lw_at lw_m8 5 rfl) rfl
theorem q1825 : (Jvm.Cond.selects "java/util/LinkedHashMap" ({ cls := "java/util/HashMap", name := "treeifyBin", desc := "([Ljava/util/HashMap$Node;I)V" } : Jvm.MethodName) ({ cls := "java/util/HashMap", name := "treeifyBin", desc := "([Ljava/util/HashMap$Node;I)V" } : Jvm.MethodName)) ∈ lw_all := lw_g (lw_at lw_m8 38 rfl) rfl
theorem q1831 : (Jvm.Cond.selects "java/util/LinkedHashMap" ({ cls := "java/util/HashMap", name := "replacementTreeNode", desc := "(Ljava/util/HashMap$Node;Ljava/util/HashMap$Node;)Ljava/util/HashMap$TreeNode;" } : Jvm.MethodName) ({ cls := "java/util/LinkedHashMap", name := "replacementTreeNode", desc := "(Ljava/util/HashMap$Node;Ljava/util/HashMap$Node;)Ljava/util/HashMap$TreeNode;" } : Jvm.MethodName)) ∈ lw_all := lw_g (lw_at lw_m8 44 rfl) rfl
theorem q1832 : (Jvm.Cond.instanceMethod ({ cls := "java/util/LinkedHashMap", name := "replacementTreeNode", desc := "(Ljava/util/HashMap$Node;Ljava/util/HashMap$Node;)Ljava/util/HashMap$TreeNode;" } : Jvm.MethodName)) ∈ lw_all := lw_g (lw_at lw_m8 45 rfl) rfl
theorem q1833 : (Jvm.Cond.code ({ cls := "java/util/LinkedHashMap", name := "replacementTreeNode", desc := "(Ljava/util/HashMap$Node;Ljava/util/HashMap$Node;)Ljava/util/HashMap$TreeNode;" } : Jvm.MethodName) prog_63_method_7_code (5 : Nat) (Option.some (Jvm.ClassFile.FieldType.object "java/util/HashMap$TreeNode"))) ∈ lw_all := lw_g (lw_at lw_m8 46 rfl) rfl
theorem q1840 : (Jvm.Cond.selects "java/util/LinkedHashMap" ({ cls := "java/util/HashMap", name := "afterNodeAccess", desc := "(Ljava/util/HashMap$Node;)V" } : Jvm.MethodName) ({ cls := "java/util/LinkedHashMap", name := "afterNodeAccess", desc := "(Ljava/util/HashMap$Node;)V" } : Jvm.MethodName)) ∈ lw_all := lw_g (lw_at lw_m8 53 rfl) rfl
theorem q1841 : (Jvm.Cond.instanceMethod ({ cls := "java/util/LinkedHashMap", name := "afterNodeAccess", desc := "(Ljava/util/HashMap$Node;)V" } : Jvm.MethodName)) ∈ lw_all := lw_g (lw_at lw_m8 54 rfl) rfl
theorem q1842 : (Jvm.Cond.code ({ cls := "java/util/LinkedHashMap", name := "afterNodeAccess", desc := "(Ljava/util/HashMap$Node;)V" } : Jvm.MethodName) prog_63_method_10_code (7 : Nat) (Option.none : Option Jvm.ClassFile.FieldType)) ∈ lw_all := lw_g (lw_at lw_m8 55 rfl) rfl
theorem q1848 : (Jvm.Cond.selects "java/util/LinkedHashMap" ({ cls := "java/util/HashMap", name := "afterNodeInsertion", desc := "(Z)V" } : Jvm.MethodName) ({ cls := "java/util/LinkedHashMap", name := "afterNodeInsertion", desc := "(Z)V" } : Jvm.MethodName)) ∈ lw_all := lw_g (lw_at lw_m8 61 rfl) rfl
theorem q1849 : (Jvm.Cond.instanceMethod ({ cls := "java/util/LinkedHashMap", name := "afterNodeInsertion", desc := "(Z)V" } : Jvm.MethodName)) ∈ lw_all := lw_g (lw_at lw_m8 62 rfl) rfl
theorem q1850 : (Jvm.Cond.code ({ cls := "java/util/LinkedHashMap", name := "afterNodeInsertion", desc := "(Z)V" } : Jvm.MethodName) prog_63_method_9_code (4 : Nat) (Option.none : Option Jvm.ClassFile.FieldType)) ∈ lw_all := lw_g (lw_at lw_m8 63 rfl) rfl
theorem q1851 : (Jvm.Cond.methodLink "java/util/LinkedHashMap" (53 : Nat) ({ cls := "java/util/LinkedHashMap", name := "removeEldestEntry", desc := "(Ljava/util/Map$Entry;)Z" } : Jvm.MethodName)) ∈ lw_all := lw_g (lw_at lw_m8 64 rfl) rfl
theorem q1852 : (Jvm.Cond.instanceMethod ({ cls := "java/util/LinkedHashMap", name := "removeEldestEntry", desc := "(Ljava/util/Map$Entry;)Z" } : Jvm.MethodName)) ∈ lw_all := lw_g (lw_at lw_m8 65 rfl) rfl
theorem q1853 : (Jvm.Cond.selects "java/util/LinkedHashMap" ({ cls := "java/util/LinkedHashMap", name := "removeEldestEntry", desc := "(Ljava/util/Map$Entry;)Z" } : Jvm.MethodName) ({ cls := "java/util/LinkedHashMap", name := "removeEldestEntry", desc := "(Ljava/util/Map$Entry;)Z" } : Jvm.MethodName)) ∈ lw_all := lw_g (lw_at lw_m8 66 rfl) rfl
theorem q1854 : (Jvm.Cond.code ({ cls := "java/util/LinkedHashMap", name := "removeEldestEntry", desc := "(Ljava/util/Map$Entry;)Z" } : Jvm.MethodName) prog_63_method_23_code (2 : Nat) (Option.some Jvm.ClassFile.FieldType.boolean)) ∈ lw_all := lw_g (lw_at lw_m8 67 rfl) rfl
theorem q2671 : (Jvm.Cond.selects "java/util/LinkedHashMap" ({ cls := "java/util/HashMap", name := "get", desc := "(Ljava/lang/Object;)Ljava/lang/Object;" } : Jvm.MethodName) ({ cls := "java/util/LinkedHashMap", name := "get", desc := "(Ljava/lang/Object;)Ljava/lang/Object;" } : Jvm.MethodName)) ∈ lw_all := lw_g (lw_at lw_m11 164 rfl) rfl
theorem q2672 : (Jvm.Cond.instanceMethod ({ cls := "java/util/LinkedHashMap", name := "get", desc := "(Ljava/lang/Object;)Ljava/lang/Object;" } : Jvm.MethodName)) ∈ lw_all := lw_g (lw_at lw_m11 165 rfl) rfl
theorem q2673 : (Jvm.Cond.code ({ cls := "java/util/LinkedHashMap", name := "get", desc := "(Ljava/lang/Object;)Ljava/lang/Object;" } : Jvm.MethodName) prog_63_method_20_code (3 : Nat) (Option.some (Jvm.ClassFile.FieldType.object "java/lang/Object"))) ∈ lw_all := lw_g (lw_at lw_m11 166 rfl) rfl
theorem q2674 : (Jvm.Cond.methodLink "java/util/LinkedHashMap" (99 : Nat) ({ cls := "java/util/LinkedHashMap", name := "getNode", desc := "(Ljava/lang/Object;)Ljava/util/HashMap$Node;" } : Jvm.MethodName)) ∈ lw_all := lw_g (lw_at lw_m11 167 rfl) rfl
theorem q2675 : (Jvm.Cond.sameMethod "java/util/LinkedHashMap" "java/util/HashMap" "getNode" "(Ljava/lang/Object;)Ljava/util/HashMap$Node;") ∈ lw_all := lw_g (lw_at lw_m11 168 rfl) rfl
theorem q2677 : (Jvm.Cond.selects "java/util/LinkedHashMap" ({ cls := "java/util/LinkedHashMap", name := "getNode", desc := "(Ljava/lang/Object;)Ljava/util/HashMap$Node;" } : Jvm.MethodName) ({ cls := "java/util/HashMap", name := "getNode", desc := "(Ljava/lang/Object;)Ljava/util/HashMap$Node;" } : Jvm.MethodName)) ∈ lw_all := lw_g (lw_at lw_m11 170 rfl) rfl
theorem q2678 : (Jvm.Cond.methodLink "java/util/LinkedHashMap" (103 : Nat) ({ cls := "java/util/LinkedHashMap", name := "afterNodeAccess", desc := "(Ljava/util/HashMap$Node;)V" } : Jvm.MethodName)) ∈ lw_all := lw_g (lw_at lw_m11 171 rfl) rfl
theorem q2703 : (Jvm.Cond.sameMethod "java/util/LinkedHashMap" "java/util/HashMap" "put" "(Ljava/lang/Object;Ljava/lang/Object;)Ljava/lang/Object;") ∈ lw_all := lw_g (lw_at lw_m11 196 rfl) rfl
theorem q2705 : (Jvm.Cond.selects "java/util/LinkedHashMap" ({ cls := "java/util/LinkedHashMap", name := "put", desc := "(Ljava/lang/Object;Ljava/lang/Object;)Ljava/lang/Object;" } : Jvm.MethodName) ({ cls := "java/util/HashMap", name := "put", desc := "(Ljava/lang/Object;Ljava/lang/Object;)Ljava/lang/Object;" } : Jvm.MethodName)) ∈ lw_all := lw_g (lw_at lw_m11 198 rfl) rfl
theorem q2714 : (Jvm.Cond.sameMethod "java/util/LinkedHashMap" "java/util/HashMap" "containsKey" "(Ljava/lang/Object;)Z") ∈ lw_all := lw_g (lw_at lw_m11 207 rfl) rfl
theorem q2716 : (Jvm.Cond.selects "java/util/LinkedHashMap" ({ cls := "java/util/LinkedHashMap", name := "containsKey", desc := "(Ljava/lang/Object;)Z" } : Jvm.MethodName) ({ cls := "java/util/HashMap", name := "containsKey", desc := "(Ljava/lang/Object;)Z" } : Jvm.MethodName)) ∈ lw_all := lw_g (lw_at lw_m11 209 rfl) rfl
theorem q3281 : (Jvm.Cond.selects "java/util/LinkedHashMap" ({ cls := "java/util/LinkedHashMap", name := "afterNodeAccess", desc := "(Ljava/util/HashMap$Node;)V" } : Jvm.MethodName) ({ cls := "java/util/LinkedHashMap", name := "afterNodeAccess", desc := "(Ljava/util/HashMap$Node;)V" } : Jvm.MethodName)) ∈ lw_all := lw_g (lw_at lw_m14 54 rfl) rfl
theorem q3282 : (Jvm.Cond.selects "java/util/LinkedHashMap" ({ cls := "java/util/LinkedHashMap", name := "get", desc := "(Ljava/lang/Object;)Ljava/lang/Object;" } : Jvm.MethodName) ({ cls := "java/util/LinkedHashMap", name := "get", desc := "(Ljava/lang/Object;)Ljava/lang/Object;" } : Jvm.MethodName)) ∈ lw_all := lw_g (lw_at lw_m14 55 rfl) rfl
theorem q3299 : (Jvm.Cond.castable "java/util/LinkedHashMap" "java/lang/Object") ∈ lw_tbl := lw_at lw_m14 72 rfl
theorem in_J20 : ∀ w ∈ wsJ200, w ∈ lw_all := lw_in wsJ200 [604, 606, 592, 594, 596, 598, 600, 602, 584, 586, 588, 590] (by decide +kernel) (by decide +kernel)

/-! java/lang/IllegalStateException -/
set_option maxRecDepth 100000
def RJ21 : String := "java/lang/IllegalStateException"
def TJ21 : u_T := fun k => match k with
  | 0 => ("java/lang/Throwable", "cause", "Ljava/lang/Throwable;", false)
  | 1 => ("java/lang/Throwable", "stackTrace", "[Ljava/lang/StackTraceElement;", false)
  | 2 => ("java/lang/Throwable", "suppressedExceptions", "Ljava/util/List;", false)
  | 3 => ("java/lang/Throwable", "detailMessage", "Ljava/lang/String;", false)
  | 4 => ("java/lang/Throwable", "backtrace", "Ljava/lang/Object;", false)
  | _ => ("java/lang/Throwable", "depth", "I", false)
def tyJ21 : Nat → FieldType := fun k => match k with
  | 0 => .object "java/lang/Throwable"
  | 1 => .array (.object "java/lang/StackTraceElement")
  | 2 => .object "java/util/List"
  | 3 => .object "java/lang/String"
  | 4 => .object "java/lang/Object"
  | _ => .int
abbrev wsJ210 : List Cond := u_ws RJ21 TJ21 6
theorem nmJ21 : ∀ a, a < 6 → ∀ b, b < 6 → a ≠ b → (TJ21 a).2.1 ≠ (TJ21 b).2.1 := by decide +kernel
theorem tyJ21_ok : ∀ k, k < 6 → parseFieldDescriptor (TJ21 k).2.2.1 = some (tyJ21 k) := by decide +kernel
abbrev cJ21_init : ByteArray := prog_31_method_1_code
def yJ21_init : MethodName := ⟨RJ21, "<init>", "()V"⟩
theorem dJ21_init_0 : decode cJ21_init 0 = .ok (.aload_n 0, 1) := by decide +kernel
theorem dJ21_init_1 : decode cJ21_init 1 = .ok (.invokespecial 1, 3) := by decide +kernel
theorem dJ21_init_4 : decode cJ21_init 4 = .ok (.return_, 1) := by decide +kernel
abbrev cJ21_init_2 : ByteArray := prog_31_method_2_code
def yJ21_init_2 : MethodName := ⟨RJ21, "<init>", "(Ljava/lang/String;)V"⟩
def dkwJ21_init_2_0 : List UInt8 := [42, 43, 183, 0, 7, 177]
abbrev dktJ21_init_2_0 : List UInt8 := dkwJ21_init_2_0 ++ []
theorem dksJ21_init_2_0 : cJ21_init_2.data.toList.drop 0 = dktJ21_init_2_0 := by decide +kernel
theorem dJ21_init_2_0 : decode cJ21_init_2 0 = .ok (.aload_n 0, 1) := dk_42 (dk_at dksJ21_init_2_0 0 rfl rfl)
theorem dJ21_init_2_1 : decode cJ21_init_2 1 = .ok (.aload_n 1, 1) := dk_43 (dk_at dksJ21_init_2_0 1 rfl rfl)
theorem dJ21_init_2_2 : decode cJ21_init_2 2 = .ok (.invokespecial 7, 3) := dk_183 0 7 (dk_at dksJ21_init_2_0 2 rfl rfl)
theorem dJ21_init_2_5 : decode cJ21_init_2 5 = .ok (.return_, 1) := dk_177 (dk_at dksJ21_init_2_0 5 rfl rfl)
theorem q134 : (Jvm.Cond.initialized "java/lang/IllegalStateException") ∈ lw_all := lw_g (lw_at lw_m1 27 rfl) rfl
theorem q222 : (Jvm.Cond.selects "java/lang/IllegalStateException" ({ cls := "java/lang/Throwable", name := "fillInStackTrace", desc := "()Ljava/lang/Throwable;" } : Jvm.MethodName) ({ cls := "java/lang/Throwable", name := "fillInStackTrace", desc := "()Ljava/lang/Throwable;" } : Jvm.MethodName)) ∈ lw_all := lw_g (lw_at lw_m1 115 rfl) rfl
theorem q1133 : (Jvm.Cond.selects "java/lang/IllegalStateException" ({ cls := "java/lang/Object", name := "getClass", desc := "()Ljava/lang/Class;" } : Jvm.MethodName) ({ cls := "java/lang/Object", name := "getClass", desc := "()Ljava/lang/Class;" } : Jvm.MethodName)) ∈ lw_all := lw_g (lw_at lw_m5 66 rfl) rfl
theorem q1298 : (Jvm.Cond.selects "java/lang/IllegalStateException" ({ cls := "java/lang/Object", name := "hashCode", desc := "()I" } : Jvm.MethodName) ({ cls := "java/lang/Object", name := "hashCode", desc := "()I" } : Jvm.MethodName)) ∈ lw_all := lw_g (lw_at lw_m5 231 rfl) rfl
theorem q1396 : (Jvm.Cond.selects "java/lang/IllegalStateException" ({ cls := "java/lang/Object", name := "equals", desc := "(Ljava/lang/Object;)Z" } : Jvm.MethodName) ({ cls := "java/lang/Object", name := "equals", desc := "(Ljava/lang/Object;)Z" } : Jvm.MethodName)) ∈ lw_all := lw_g (lw_at lw_m6 89 rfl) rfl
theorem q1928 : (Jvm.Cond.instantiable "java/lang/IllegalStateException" (6 : Nat)) ∈ lw_all := lw_g (lw_at lw_m8 141 rfl) rfl
theorem q1929 : (Jvm.Cond.castable "java/lang/IllegalStateException" "java/lang/IllegalStateException") ∈ lw_tbl := lw_at lw_m8 142 rfl
theorem q1930 : (Jvm.Cond.selects "java/lang/IllegalStateException" ({ cls := "java/lang/Throwable", name := "fillInStackTrace", desc := "(I)Ljava/lang/Throwable;" } : Jvm.MethodName) ({ cls := "java/lang/Throwable", name := "fillInStackTrace", desc := "(I)Ljava/lang/Throwable;" } : Jvm.MethodName)) ∈ lw_all := lw_g (lw_at lw_m8 143 rfl) rfl
theorem q1931 : (Jvm.Cond.lays "java/lang/IllegalStateException" "java/lang/Throwable" "cause" "Ljava/lang/Throwable;") ∈ lw_all := lw_g (lw_at lw_m8 144 rfl) rfl
theorem q1932 : (Jvm.Cond.lays "java/lang/IllegalStateException" "java/lang/Throwable" "stackTrace" "[Ljava/lang/StackTraceElement;") ∈ lw_all := lw_g (lw_at lw_m8 145 rfl) rfl
theorem q1933 : (Jvm.Cond.lays "java/lang/IllegalStateException" "java/lang/Throwable" "suppressedExceptions" "Ljava/util/List;") ∈ lw_all := lw_g (lw_at lw_m8 146 rfl) rfl
theorem q1934 : (Jvm.Cond.lays "java/lang/IllegalStateException" "java/lang/Throwable" "detailMessage" "Ljava/lang/String;") ∈ lw_all := lw_g (lw_at lw_m8 147 rfl) rfl
theorem q1935 : (Jvm.Cond.lays "java/lang/IllegalStateException" "java/lang/Throwable" "backtrace" "Ljava/lang/Object;") ∈ lw_all := lw_g (lw_at lw_m8 148 rfl) rfl
theorem q1937 : (Jvm.Cond.instanceMethod ({ cls := "java/lang/IllegalStateException", name := "<init>", desc := "()V" } : Jvm.MethodName)) ∈ lw_all := lw_g (lw_at lw_m8 150 rfl) rfl
theorem q1938 : (Jvm.Cond.code ({ cls := "java/lang/IllegalStateException", name := "<init>", desc := "()V" } : Jvm.MethodName) prog_31_method_1_code (1 : Nat) (Option.none : Option Jvm.ClassFile.FieldType)) ∈ lw_all := lw_g (lw_at lw_m8 151 rfl) rfl
theorem q1939 : (Jvm.Cond.methodLink "java/lang/IllegalStateException" (1 : Nat) ({ cls := "java/lang/RuntimeException", name := "<init>", desc := "()V" } : Jvm.MethodName)) ∈ lw_all := lw_g (lw_at lw_m8 152 rfl) rfl
theorem q1940 : (Jvm.Cond.lays "java/lang/IllegalStateException" "java/lang/Throwable" "depth" "I") ∈ lw_all := lw_g (lw_at lw_m8 153 rfl) rfl
theorem q1941 : (Jvm.Cond.superclass "java/lang/IllegalStateException" "java/lang/RuntimeException") ∈ lw_all := lw_g (lw_at lw_m8 154 rfl) rfl
theorem q2643 : (Jvm.Cond.instanceMethod ({ cls := "java/lang/IllegalStateException", name := "<init>", desc := "(Ljava/lang/String;)V" } : Jvm.MethodName)) ∈ lw_all := lw_g (lw_at lw_m11 136 rfl) rfl
theorem q2644 : (Jvm.Cond.code ({ cls := "java/lang/IllegalStateException", name := "<init>", desc := "(Ljava/lang/String;)V" } : Jvm.MethodName) prog_31_method_2_code (2 : Nat) (Option.none : Option Jvm.ClassFile.FieldType)) ∈ lw_all := lw_g (lw_at lw_m11 137 rfl) rfl
theorem q2645 : (Jvm.Cond.methodLink "java/lang/IllegalStateException" (7 : Nat) ({ cls := "java/lang/RuntimeException", name := "<init>", desc := "(Ljava/lang/String;)V" } : Jvm.MethodName)) ∈ lw_all := lw_g (lw_at lw_m11 138 rfl) rfl
theorem q3301 : (Jvm.Cond.castable "java/lang/IllegalStateException" "java/lang/Object") ∈ lw_tbl := lw_at lw_m14 74 rfl
theorem in_J21 : ∀ w ∈ wsJ210, w ∈ lw_all := lw_in wsJ210 [1931, 1932, 1933, 1934, 1935, 1940] (by decide +kernel) (by decide +kernel)

/-! java/lang/IndexOutOfBoundsException -/
set_option maxRecDepth 100000
def RJ22 : String := "java/lang/IndexOutOfBoundsException"
def TJ22 : u_T := fun k => match k with
  | 0 => ("java/lang/Throwable", "cause", "Ljava/lang/Throwable;", false)
  | 1 => ("java/lang/Throwable", "stackTrace", "[Ljava/lang/StackTraceElement;", false)
  | 2 => ("java/lang/Throwable", "suppressedExceptions", "Ljava/util/List;", false)
  | 3 => ("java/lang/Throwable", "detailMessage", "Ljava/lang/String;", false)
  | 4 => ("java/lang/Throwable", "backtrace", "Ljava/lang/Object;", false)
  | _ => ("java/lang/Throwable", "depth", "I", false)
def tyJ22 : Nat → FieldType := fun k => match k with
  | 0 => .object "java/lang/Throwable"
  | 1 => .array (.object "java/lang/StackTraceElement")
  | 2 => .object "java/util/List"
  | 3 => .object "java/lang/String"
  | 4 => .object "java/lang/Object"
  | _ => .int
abbrev wsJ220 : List Cond := u_ws RJ22 TJ22 6
theorem nmJ22 : ∀ a, a < 6 → ∀ b, b < 6 → a ≠ b → (TJ22 a).2.1 ≠ (TJ22 b).2.1 := by decide +kernel
theorem tyJ22_ok : ∀ k, k < 6 → parseFieldDescriptor (TJ22 k).2.2.1 = some (tyJ22 k) := by decide +kernel
abbrev cJ22_init : ByteArray := prog_32_method_2_code
def yJ22_init : MethodName := ⟨RJ22, "<init>", "(Ljava/lang/String;)V"⟩
def dkwJ22_init_0 : List UInt8 := [42, 43, 183, 0, 7, 177]
abbrev dktJ22_init_0 : List UInt8 := dkwJ22_init_0 ++ []
theorem dksJ22_init_0 : cJ22_init.data.toList.drop 0 = dktJ22_init_0 := by decide +kernel
theorem dJ22_init_0 : decode cJ22_init 0 = .ok (.aload_n 0, 1) := dk_42 (dk_at dksJ22_init_0 0 rfl rfl)
theorem dJ22_init_1 : decode cJ22_init 1 = .ok (.aload_n 1, 1) := dk_43 (dk_at dksJ22_init_0 1 rfl rfl)
theorem dJ22_init_2 : decode cJ22_init 2 = .ok (.invokespecial 7, 3) := dk_183 0 7 (dk_at dksJ22_init_0 2 rfl rfl)
theorem dJ22_init_5 : decode cJ22_init 5 = .ok (.return_, 1) := dk_177 (dk_at dksJ22_init_0 5 rfl rfl)
abbrev cJ22_init_2 : ByteArray := prog_32_method_1_code
def yJ22_init_2 : MethodName := ⟨RJ22, "<init>", "()V"⟩
theorem dJ22_init_2_0 : decode cJ22_init_2 0 = .ok (.aload_n 0, 1) := by decide +kernel
theorem dJ22_init_2_1 : decode cJ22_init_2 1 = .ok (.invokespecial 1, 3) := by decide +kernel
theorem dJ22_init_2_4 : decode cJ22_init_2 4 = .ok (.return_, 1) := by decide +kernel
theorem q136 : (Jvm.Cond.initialized "java/lang/IndexOutOfBoundsException") ∈ lw_all := lw_g (lw_at lw_m1 29 rfl) rfl
theorem q223 : (Jvm.Cond.selects "java/lang/IndexOutOfBoundsException" ({ cls := "java/lang/Throwable", name := "fillInStackTrace", desc := "()Ljava/lang/Throwable;" } : Jvm.MethodName) ({ cls := "java/lang/Throwable", name := "fillInStackTrace", desc := "()Ljava/lang/Throwable;" } : Jvm.MethodName)) ∈ lw_all := lw_g (lw_at lw_m1 116 rfl) rfl
theorem q908 : (Jvm.Cond.instanceMethod ({ cls := "java/lang/IndexOutOfBoundsException", name := "<init>", desc := "(Ljava/lang/String;)V" } : Jvm.MethodName)) ∈ lw_all := lw_g (lw_at lw_m4 81 rfl) rfl
theorem q909 : (Jvm.Cond.code ({ cls := "java/lang/IndexOutOfBoundsException", name := "<init>", desc := "(Ljava/lang/String;)V" } : Jvm.MethodName) prog_32_method_2_code (2 : Nat) (Option.none : Option Jvm.ClassFile.FieldType)) ∈ lw_all := lw_g (lw_at lw_m4 82 rfl) rfl
theorem q910 : (Jvm.Cond.methodLink "java/lang/IndexOutOfBoundsException" (7 : Nat) ({ cls := "java/lang/RuntimeException", name := "<init>", desc := "(Ljava/lang/String;)V" } : Jvm.MethodName)) ∈ lw_all := lw_g (lw_at lw_m4 83 rfl) rfl
theorem q933 : (Jvm.Cond.declares ({ cls := "java/lang/IndexOutOfBoundsException", name := "<init>", desc := "()V" } : Jvm.MethodName)) ∈ lw_tbl := lw_at lw_m4 106 rfl
theorem q934 : (Jvm.Cond.declares ({ cls := "java/lang/IndexOutOfBoundsException", name := "<init>", desc := "(Ljava/lang/String;)V" } : Jvm.MethodName)) ∈ lw_tbl := lw_at lw_m4 107 rfl
theorem q1134 : (Jvm.Cond.selects "java/lang/IndexOutOfBoundsException" ({ cls := "java/lang/Object", name := "getClass", desc := "()Ljava/lang/Class;" } : Jvm.MethodName) ({ cls := "java/lang/Object", name := "getClass", desc := "()Ljava/lang/Class;" } : Jvm.MethodName)) ∈ lw_all := lw_g (lw_at lw_m5 67 rfl) rfl
theorem q1299 : (Jvm.Cond.selects "java/lang/IndexOutOfBoundsException" ({ cls := "java/lang/Object", name := "hashCode", desc := "()I" } : Jvm.MethodName) ({ cls := "java/lang/Object", name := "hashCode", desc := "()I" } : Jvm.MethodName)) ∈ lw_all := lw_g (lw_at lw_m5 232 rfl) rfl
theorem q1397 : (Jvm.Cond.selects "java/lang/IndexOutOfBoundsException" ({ cls := "java/lang/Object", name := "equals", desc := "(Ljava/lang/Object;)Z" } : Jvm.MethodName) ({ cls := "java/lang/Object", name := "equals", desc := "(Ljava/lang/Object;)Z" } : Jvm.MethodName)) ∈ lw_all := lw_g (lw_at lw_m6 90 rfl) rfl
theorem q1979 : (Jvm.Cond.instantiable "java/lang/IndexOutOfBoundsException" (6 : Nat)) ∈ lw_all := lw_g (lw_at lw_m8 192 rfl) rfl
theorem q1980 : (Jvm.Cond.castable "java/lang/IndexOutOfBoundsException" "java/lang/IndexOutOfBoundsException") ∈ lw_tbl := lw_at lw_m8 193 rfl
theorem q1981 : (Jvm.Cond.selects "java/lang/IndexOutOfBoundsException" ({ cls := "java/lang/Throwable", name := "fillInStackTrace", desc := "(I)Ljava/lang/Throwable;" } : Jvm.MethodName) ({ cls := "java/lang/Throwable", name := "fillInStackTrace", desc := "(I)Ljava/lang/Throwable;" } : Jvm.MethodName)) ∈ lw_all := lw_g (lw_at lw_m8 194 rfl) rfl
theorem q1982 : (Jvm.Cond.lays "java/lang/IndexOutOfBoundsException" "java/lang/Throwable" "cause" "Ljava/lang/Throwable;") ∈ lw_all := lw_g (lw_at lw_m8 195 rfl) rfl
theorem q1983 : (Jvm.Cond.lays "java/lang/IndexOutOfBoundsException" "java/lang/Throwable" "stackTrace" "[Ljava/lang/StackTraceElement;") ∈ lw_all := lw_g (lw_at lw_m8 196 rfl) rfl
theorem q1984 : (Jvm.Cond.lays "java/lang/IndexOutOfBoundsException" "java/lang/Throwable" "suppressedExceptions" "Ljava/util/List;") ∈ lw_all := lw_g (lw_at lw_m8 197 rfl) rfl
theorem q1985 : (Jvm.Cond.lays "java/lang/IndexOutOfBoundsException" "java/lang/Throwable" "detailMessage" "Ljava/lang/String;") ∈ lw_all := lw_g (lw_at lw_m8 198 rfl) rfl
theorem q1986 : (Jvm.Cond.lays "java/lang/IndexOutOfBoundsException" "java/lang/Throwable" "backtrace" "Ljava/lang/Object;") ∈ lw_all := lw_g (lw_at lw_m8 199 rfl) rfl
theorem q1988 : (Jvm.Cond.instanceMethod ({ cls := "java/lang/IndexOutOfBoundsException", name := "<init>", desc := "()V" } : Jvm.MethodName)) ∈ lw_all := lw_g (lw_at lw_m8 201 rfl) rfl
theorem q1989 : (Jvm.Cond.code ({ cls := "java/lang/IndexOutOfBoundsException", name := "<init>", desc := "()V" } : Jvm.MethodName) prog_32_method_1_code (1 : Nat) (Option.none : Option Jvm.ClassFile.FieldType)) ∈ lw_all := lw_g (lw_at lw_m8 202 rfl) rfl
theorem q1990 : (Jvm.Cond.methodLink "java/lang/IndexOutOfBoundsException" (1 : Nat) ({ cls := "java/lang/RuntimeException", name := "<init>", desc := "()V" } : Jvm.MethodName)) ∈ lw_all := lw_g (lw_at lw_m8 203 rfl) rfl
theorem q1991 : (Jvm.Cond.lays "java/lang/IndexOutOfBoundsException" "java/lang/Throwable" "depth" "I") ∈ lw_all := lw_g (lw_at lw_m8 204 rfl) rfl
theorem q1992 : (Jvm.Cond.superclass "java/lang/IndexOutOfBoundsException" "java/lang/RuntimeException") ∈ lw_all := lw_g (lw_at lw_m8 205 rfl) rfl
theorem q3304 : (Jvm.Cond.castable "java/lang/IndexOutOfBoundsException" "java/lang/Object") ∈ lw_tbl := lw_at lw_m14 77 rfl
theorem in_J22 : ∀ w ∈ wsJ220, w ∈ lw_all := lw_in wsJ220 [1982, 1983, 1984, 1985, 1986, 1991] (by decide +kernel) (by decide +kernel)

/-! java/lang/ArrayIndexOutOfBoundsException -/
set_option maxRecDepth 100000
def RJ23 : String := "java/lang/ArrayIndexOutOfBoundsException"
def TJ23 : u_T := fun k => match k with
  | 0 => ("java/lang/Throwable", "cause", "Ljava/lang/Throwable;", false)
  | 1 => ("java/lang/Throwable", "stackTrace", "[Ljava/lang/StackTraceElement;", false)
  | 2 => ("java/lang/Throwable", "suppressedExceptions", "Ljava/util/List;", false)
  | 3 => ("java/lang/Throwable", "detailMessage", "Ljava/lang/String;", false)
  | 4 => ("java/lang/Throwable", "backtrace", "Ljava/lang/Object;", false)
  | _ => ("java/lang/Throwable", "depth", "I", false)
def tyJ23 : Nat → FieldType := fun k => match k with
  | 0 => .object "java/lang/Throwable"
  | 1 => .array (.object "java/lang/StackTraceElement")
  | 2 => .object "java/util/List"
  | 3 => .object "java/lang/String"
  | 4 => .object "java/lang/Object"
  | _ => .int
abbrev wsJ230 : List Cond := u_ws RJ23 TJ23 6
theorem nmJ23 : ∀ a, a < 6 → ∀ b, b < 6 → a ≠ b → (TJ23 a).2.1 ≠ (TJ23 b).2.1 := by decide +kernel
theorem tyJ23_ok : ∀ k, k < 6 → parseFieldDescriptor (TJ23 k).2.2.1 = some (tyJ23 k) := by decide +kernel
abbrev cJ23_init : ByteArray := prog_23_method_3_code
def yJ23_init : MethodName := ⟨RJ23, "<init>", "(I)V"⟩
abbrev cJ23_init_2 : ByteArray := prog_23_method_2_code
def yJ23_init_2 : MethodName := ⟨RJ23, "<init>", "(Ljava/lang/String;)V"⟩
theorem q137 : (Jvm.Cond.initialized "java/lang/ArrayIndexOutOfBoundsException") ∈ lw_all := lw_g (lw_at lw_m1 30 rfl) rfl
theorem q221 : (Jvm.Cond.selects "java/lang/ArrayIndexOutOfBoundsException" ({ cls := "java/lang/Throwable", name := "fillInStackTrace", desc := "()Ljava/lang/Throwable;" } : Jvm.MethodName) ({ cls := "java/lang/Throwable", name := "fillInStackTrace", desc := "()Ljava/lang/Throwable;" } : Jvm.MethodName)) ∈ lw_all := lw_g (lw_at lw_m1 114 rfl) rfl
theorem q931 : (Jvm.Cond.instantiable "java/lang/ArrayIndexOutOfBoundsException" (6 : Nat)) ∈ lw_all := lw_g (lw_at lw_m4 104 rfl) rfl
theorem q932 : (Jvm.Cond.castable "java/lang/ArrayIndexOutOfBoundsException" "java/lang/ArrayIndexOutOfBoundsException") ∈ lw_tbl := lw_at lw_m4 105 rfl
theorem q935 : (Jvm.Cond.selects "java/lang/ArrayIndexOutOfBoundsException" ({ cls := "java/lang/Throwable", name := "fillInStackTrace", desc := "(I)Ljava/lang/Throwable;" } : Jvm.MethodName) ({ cls := "java/lang/Throwable", name := "fillInStackTrace", desc := "(I)Ljava/lang/Throwable;" } : Jvm.MethodName)) ∈ lw_all := lw_g (lw_at lw_m4 108 rfl) rfl
theorem q936 : (Jvm.Cond.lays "java/lang/ArrayIndexOutOfBoundsException" "java/lang/Throwable" "cause" "Ljava/lang/Throwable;") ∈ lw_all := lw_g (lw_at lw_m4 109 rfl) rfl
theorem q937 : (Jvm.Cond.lays "java/lang/ArrayIndexOutOfBoundsException" "java/lang/Throwable" "stackTrace" "[Ljava/lang/StackTraceElement;") ∈ lw_all := lw_g (lw_at lw_m4 110 rfl) rfl
theorem q938 : (Jvm.Cond.lays "java/lang/ArrayIndexOutOfBoundsException" "java/lang/Throwable" "suppressedExceptions" "Ljava/util/List;") ∈ lw_all := lw_g (lw_at lw_m4 111 rfl) rfl
theorem q939 : (Jvm.Cond.lays "java/lang/ArrayIndexOutOfBoundsException" "java/lang/Throwable" "detailMessage" "Ljava/lang/String;") ∈ lw_all := lw_g (lw_at lw_m4 112 rfl) rfl
theorem q940 : (Jvm.Cond.lays "java/lang/ArrayIndexOutOfBoundsException" "java/lang/Throwable" "backtrace" "Ljava/lang/Object;") ∈ lw_all := lw_g (lw_at lw_m4 113 rfl) rfl
theorem q942 : (Jvm.Cond.instanceMethod ({ cls := "java/lang/ArrayIndexOutOfBoundsException", name := "<init>", desc := "(I)V" } : Jvm.MethodName)) ∈ lw_all := lw_g (lw_at lw_m4 115 rfl) rfl
theorem q943 : (Jvm.Cond.code ({ cls := "java/lang/ArrayIndexOutOfBoundsException", name := "<init>", desc := "(I)V" } : Jvm.MethodName) prog_23_method_3_code (2 : Nat) (Option.none : Option Jvm.ClassFile.FieldType)) ∈ lw_all := lw_g (lw_at lw_m4 116 rfl) rfl
theorem q944 : (Jvm.Cond.classLink "java/lang/ArrayIndexOutOfBoundsException" (10 : Nat) "java/lang/StringBuilder") ∈ lw_all := lw_g (lw_at lw_m4 117 rfl) rfl
theorem q945 : (Jvm.Cond.methodLink "java/lang/ArrayIndexOutOfBoundsException" (12 : Nat) ({ cls := "java/lang/StringBuilder", name := "<init>", desc := "()V" } : Jvm.MethodName)) ∈ lw_all := lw_g (lw_at lw_m4 118 rfl) rfl
theorem q946 : (Jvm.Cond.stringRef "java/lang/ArrayIndexOutOfBoundsException" (13 : Nat) "Array index out of range: ") ∈ lw_tbl := lw_at lw_m4 119 rfl
theorem q947 : (Jvm.Cond.methodLink "java/lang/ArrayIndexOutOfBoundsException" (15 : Nat) ({ cls := "java/lang/StringBuilder", name := "append", desc := "(Ljava/lang/String;)Ljava/lang/StringBuilder;" } : Jvm.MethodName)) ∈ lw_all := lw_g (lw_at lw_m4 120 rfl) rfl
theorem q948 : (Jvm.Cond.methodLink "java/lang/ArrayIndexOutOfBoundsException" (19 : Nat) ({ cls := "java/lang/StringBuilder", name := "append", desc := "(I)Ljava/lang/StringBuilder;" } : Jvm.MethodName)) ∈ lw_all := lw_g (lw_at lw_m4 121 rfl) rfl
theorem q949 : (Jvm.Cond.methodLink "java/lang/ArrayIndexOutOfBoundsException" (22 : Nat) ({ cls := "java/lang/StringBuilder", name := "toString", desc := "()Ljava/lang/String;" } : Jvm.MethodName)) ∈ lw_all := lw_g (lw_at lw_m4 122 rfl) rfl
theorem q950 : (Jvm.Cond.methodLink "java/lang/ArrayIndexOutOfBoundsException" (7 : Nat) ({ cls := "java/lang/IndexOutOfBoundsException", name := "<init>", desc := "(Ljava/lang/String;)V" } : Jvm.MethodName)) ∈ lw_all := lw_g (lw_at lw_m4 123 rfl) rfl
theorem q951 : (Jvm.Cond.lays "java/lang/ArrayIndexOutOfBoundsException" "java/lang/Throwable" "depth" "I") ∈ lw_all := lw_g (lw_at lw_m4 124 rfl) rfl
theorem q952 : (Jvm.Cond.superclass "java/lang/ArrayIndexOutOfBoundsException" "java/lang/IndexOutOfBoundsException") ∈ lw_all := lw_g (lw_at lw_m4 125 rfl) rfl
theorem q1130 : (Jvm.Cond.selects "java/lang/ArrayIndexOutOfBoundsException" ({ cls := "java/lang/Object", name := "getClass", desc := "()Ljava/lang/Class;" } : Jvm.MethodName) ({ cls := "java/lang/Object", name := "getClass", desc := "()Ljava/lang/Class;" } : Jvm.MethodName)) ∈ lw_all := lw_g (lw_at lw_m5 63 rfl) rfl
theorem q1290 : (Jvm.Cond.selects "java/lang/ArrayIndexOutOfBoundsException" ({ cls := "java/lang/Object", name := "hashCode", desc := "()I" } : Jvm.MethodName) ({ cls := "java/lang/Object", name := "hashCode", desc := "()I" } : Jvm.MethodName)) ∈ lw_all := lw_g (lw_at lw_m5 223 rfl) rfl
theorem q1387 : (Jvm.Cond.selects "java/lang/ArrayIndexOutOfBoundsException" ({ cls := "java/lang/Object", name := "equals", desc := "(Ljava/lang/Object;)Z" } : Jvm.MethodName) ({ cls := "java/lang/Object", name := "equals", desc := "(Ljava/lang/Object;)Z" } : Jvm.MethodName)) ∈ lw_all := lw_g (lw_at lw_m6 80 rfl) rfl
theorem q1965 : (Jvm.Cond.instanceMethod ({ cls := "java/lang/ArrayIndexOutOfBoundsException", name := "<init>", desc := "(Ljava/lang/String;)V" } : Jvm.MethodName)) ∈ lw_all := lw_g (lw_at lw_m8 178 rfl) rfl
theorem q1966 : (Jvm.Cond.code ({ cls := "java/lang/ArrayIndexOutOfBoundsException", name := "<init>", desc := "(Ljava/lang/String;)V" } : Jvm.MethodName) prog_23_method_2_code (2 : Nat) (Option.none : Option Jvm.ClassFile.FieldType)) ∈ lw_all := lw_g (lw_at lw_m8 179 rfl) rfl
theorem q3284 : (Jvm.Cond.castable "java/lang/ArrayIndexOutOfBoundsException" "java/lang/IndexOutOfBoundsException") ∈ lw_tbl := lw_at lw_m14 57 rfl
theorem q3303 : (Jvm.Cond.castable "java/lang/ArrayIndexOutOfBoundsException" "java/lang/Object") ∈ lw_tbl := lw_at lw_m14 76 rfl
theorem in_J23 : ∀ w ∈ wsJ230, w ∈ lw_all := lw_in wsJ230 [936, 937, 938, 939, 940, 951] (by decide +kernel) (by decide +kernel)

/-! java/util/Objects -/
set_option maxRecDepth 100000
def RJ24 : String := "java/util/Objects"
abbrev cJ24_checkIndex : ByteArray := prog_68_method_17_code
def yJ24_checkIndex : MethodName := ⟨RJ24, "checkIndex", "(II)I"⟩
def dkwJ24_checkIndex_0 : List UInt8 := [26, 27, 1, 184, 0, 105, 172]
abbrev dktJ24_checkIndex_0 : List UInt8 := dkwJ24_checkIndex_0 ++ []
theorem dksJ24_checkIndex_0 : cJ24_checkIndex.data.toList.drop 0 = dktJ24_checkIndex_0 := by decide +kernel
theorem dJ24_checkIndex_0 : decode cJ24_checkIndex 0 = .ok (.iload_n 0, 1) := dk_26 (dk_at dksJ24_checkIndex_0 0 rfl rfl)
theorem dJ24_checkIndex_1 : decode cJ24_checkIndex 1 = .ok (.iload_n 1, 1) := dk_27 (dk_at dksJ24_checkIndex_0 1 rfl rfl)
theorem dJ24_checkIndex_2 : decode cJ24_checkIndex 2 = .ok (.aconst_null, 1) := dk_1 (dk_at dksJ24_checkIndex_0 2 rfl rfl)
theorem dJ24_checkIndex_3 : decode cJ24_checkIndex 3 = .ok (.invokestatic 105, 3) := dk_184 0 105 (dk_at dksJ24_checkIndex_0 3 rfl rfl)
theorem dJ24_checkIndex_6 : decode cJ24_checkIndex 6 = .ok (.ireturn, 1) := dk_172 (dk_at dksJ24_checkIndex_0 6 rfl rfl)
theorem q138 : (Jvm.Cond.initialized "java/util/Objects") ∈ lw_all := lw_g (lw_at lw_m1 31 rfl) rfl
theorem q677 : (Jvm.Cond.static ({ cls := "java/util/Objects", name := "checkIndex", desc := "(II)I" } : Jvm.MethodName)) ∈ lw_all := lw_g (lw_at lw_m3 90 rfl) rfl
theorem q678 : (Jvm.Cond.code ({ cls := "java/util/Objects", name := "checkIndex", desc := "(II)I" } : Jvm.MethodName) prog_68_method_17_code (2 : Nat) (Option.some Jvm.ClassFile.FieldType.int)) ∈ lw_all := lw_g (lw_at lw_m3 91 rfl) rfl
theorem q679 : (Jvm.Cond.methodLink "java/util/Objects" (105 : Nat) ({ cls := "jdk/internal/util/Preconditions", name := "checkIndex", desc := "(IILjava/util/function/BiFunction;)I" } : Jvm.MethodName)) ∈ lw_all := lw_g (lw_at lw_m3 92 rfl) rfl

/-! java/lang/StringIndexOutOfBoundsException -/
set_option maxRecDepth 100000
def RJ25 : String := "java/lang/StringIndexOutOfBoundsException"
def TJ25 : u_T := fun k => match k with
  | 0 => ("java/lang/Throwable", "backtrace", "Ljava/lang/Object;", false)
  | 1 => ("java/lang/Throwable", "detailMessage", "Ljava/lang/String;", false)
  | 2 => ("java/lang/Throwable", "cause", "Ljava/lang/Throwable;", false)
  | 3 => ("java/lang/Throwable", "stackTrace", "[Ljava/lang/StackTraceElement;", false)
  | 4 => ("java/lang/Throwable", "depth", "I", false)
  | _ => ("java/lang/Throwable", "suppressedExceptions", "Ljava/util/List;", false)
def tyJ25 : Nat → FieldType := fun k => match k with
  | 0 => .object "java/lang/Object"
  | 1 => .object "java/lang/String"
  | 2 => .object "java/lang/Throwable"
  | 3 => .array (.object "java/lang/StackTraceElement")
  | 4 => .int
  | _ => .object "java/util/List"
abbrev wsJ250 : List Cond := u_ws RJ25 TJ25 6
theorem nmJ25 : ∀ a, a < 6 → ∀ b, b < 6 → a ≠ b → (TJ25 a).2.1 ≠ (TJ25 b).2.1 := by decide +kernel
theorem tyJ25_ok : ∀ k, k < 6 → parseFieldDescriptor (TJ25 k).2.2.1 = some (tyJ25 k) := by decide +kernel
abbrev cJ25_init : ByteArray := prog_42_method_3_code
def yJ25_init : MethodName := ⟨RJ25, "<init>", "(I)V"⟩
theorem q149 : (Jvm.Cond.initialized "java/lang/StringIndexOutOfBoundsException") ∈ lw_all := lw_g (lw_at lw_m1 42 rfl) rfl
theorem q224 : (Jvm.Cond.selects "java/lang/StringIndexOutOfBoundsException" ({ cls := "java/lang/Throwable", name := "fillInStackTrace", desc := "()Ljava/lang/Throwable;" } : Jvm.MethodName) ({ cls := "java/lang/Throwable", name := "fillInStackTrace", desc := "()Ljava/lang/Throwable;" } : Jvm.MethodName)) ∈ lw_all := lw_g (lw_at lw_m1 117 rfl) rfl
theorem q897 : (Jvm.Cond.instantiable "java/lang/StringIndexOutOfBoundsException" (6 : Nat)) ∈ lw_all := lw_g (lw_at lw_m4 70 rfl) rfl
theorem q899 : (Jvm.Cond.instanceMethod ({ cls := "java/lang/StringIndexOutOfBoundsException", name := "<init>", desc := "(I)V" } : Jvm.MethodName)) ∈ lw_all := lw_g (lw_at lw_m4 72 rfl) rfl
theorem q900 : (Jvm.Cond.code ({ cls := "java/lang/StringIndexOutOfBoundsException", name := "<init>", desc := "(I)V" } : Jvm.MethodName) prog_42_method_3_code (2 : Nat) (Option.none : Option Jvm.ClassFile.FieldType)) ∈ lw_all := lw_g (lw_at lw_m4 73 rfl) rfl
theorem q901 : (Jvm.Cond.classLink "java/lang/StringIndexOutOfBoundsException" (10 : Nat) "java/lang/StringBuilder") ∈ lw_all := lw_g (lw_at lw_m4 74 rfl) rfl
theorem q902 : (Jvm.Cond.methodLink "java/lang/StringIndexOutOfBoundsException" (12 : Nat) ({ cls := "java/lang/StringBuilder", name := "<init>", desc := "()V" } : Jvm.MethodName)) ∈ lw_all := lw_g (lw_at lw_m4 75 rfl) rfl
theorem q903 : (Jvm.Cond.stringRef "java/lang/StringIndexOutOfBoundsException" (13 : Nat) "String index out of range: ") ∈ lw_tbl := lw_at lw_m4 76 rfl
theorem q904 : (Jvm.Cond.methodLink "java/lang/StringIndexOutOfBoundsException" (15 : Nat) ({ cls := "java/lang/StringBuilder", name := "append", desc := "(Ljava/lang/String;)Ljava/lang/StringBuilder;" } : Jvm.MethodName)) ∈ lw_all := lw_g (lw_at lw_m4 77 rfl) rfl
theorem q905 : (Jvm.Cond.methodLink "java/lang/StringIndexOutOfBoundsException" (19 : Nat) ({ cls := "java/lang/StringBuilder", name := "append", desc := "(I)Ljava/lang/StringBuilder;" } : Jvm.MethodName)) ∈ lw_all := lw_g (lw_at lw_m4 78 rfl) rfl
theorem q906 : (Jvm.Cond.methodLink "java/lang/StringIndexOutOfBoundsException" (22 : Nat) ({ cls := "java/lang/StringBuilder", name := "toString", desc := "()Ljava/lang/String;" } : Jvm.MethodName)) ∈ lw_all := lw_g (lw_at lw_m4 79 rfl) rfl
theorem q907 : (Jvm.Cond.methodLink "java/lang/StringIndexOutOfBoundsException" (7 : Nat) ({ cls := "java/lang/IndexOutOfBoundsException", name := "<init>", desc := "(Ljava/lang/String;)V" } : Jvm.MethodName)) ∈ lw_all := lw_g (lw_at lw_m4 80 rfl) rfl
theorem q911 : (Jvm.Cond.lays "java/lang/StringIndexOutOfBoundsException" "java/lang/Throwable" "backtrace" "Ljava/lang/Object;") ∈ lw_all := lw_g (lw_at lw_m4 84 rfl) rfl
theorem q912 : (Jvm.Cond.lays "java/lang/StringIndexOutOfBoundsException" "java/lang/Throwable" "detailMessage" "Ljava/lang/String;") ∈ lw_all := lw_g (lw_at lw_m4 85 rfl) rfl
theorem q913 : (Jvm.Cond.lays "java/lang/StringIndexOutOfBoundsException" "java/lang/Throwable" "cause" "Ljava/lang/Throwable;") ∈ lw_all := lw_g (lw_at lw_m4 86 rfl) rfl
theorem q914 : (Jvm.Cond.lays "java/lang/StringIndexOutOfBoundsException" "java/lang/Throwable" "stackTrace" "[Ljava/lang/StackTraceElement;") ∈ lw_all := lw_g (lw_at lw_m4 87 rfl) rfl
theorem q915 : (Jvm.Cond.lays "java/lang/StringIndexOutOfBoundsException" "java/lang/Throwable" "depth" "I") ∈ lw_all := lw_g (lw_at lw_m4 88 rfl) rfl
theorem q916 : (Jvm.Cond.lays "java/lang/StringIndexOutOfBoundsException" "java/lang/Throwable" "suppressedExceptions" "Ljava/util/List;") ∈ lw_all := lw_g (lw_at lw_m4 89 rfl) rfl
theorem q917 : (Jvm.Cond.superclass "java/lang/StringIndexOutOfBoundsException" "java/lang/IndexOutOfBoundsException") ∈ lw_all := lw_g (lw_at lw_m4 90 rfl) rfl
theorem q1138 : (Jvm.Cond.selects "java/lang/StringIndexOutOfBoundsException" ({ cls := "java/lang/Object", name := "getClass", desc := "()Ljava/lang/Class;" } : Jvm.MethodName) ({ cls := "java/lang/Object", name := "getClass", desc := "()Ljava/lang/Class;" } : Jvm.MethodName)) ∈ lw_all := lw_g (lw_at lw_m5 71 rfl) rfl
theorem q1363 : (Jvm.Cond.selects "java/lang/StringIndexOutOfBoundsException" ({ cls := "java/lang/Object", name := "hashCode", desc := "()I" } : Jvm.MethodName) ({ cls := "java/lang/Object", name := "hashCode", desc := "()I" } : Jvm.MethodName)) ∈ lw_all := lw_g (lw_at lw_m6 56 rfl) rfl
theorem q1414 : (Jvm.Cond.selects "java/lang/StringIndexOutOfBoundsException" ({ cls := "java/lang/Object", name := "equals", desc := "(Ljava/lang/Object;)Z" } : Jvm.MethodName) ({ cls := "java/lang/Object", name := "equals", desc := "(Ljava/lang/Object;)Z" } : Jvm.MethodName)) ∈ lw_all := lw_g (lw_at lw_m6 107 rfl) rfl
theorem q3285 : (Jvm.Cond.castable "java/lang/StringIndexOutOfBoundsException" "java/lang/IndexOutOfBoundsException") ∈ lw_tbl := lw_at lw_m14 58 rfl
theorem q3313 : (Jvm.Cond.castable "java/lang/StringIndexOutOfBoundsException" "java/lang/Object") ∈ lw_tbl := lw_at lw_m14 86 rfl
theorem in_J25 : ∀ w ∈ wsJ250, w ∈ lw_all := lw_in wsJ250 [911, 912, 913, 914, 915, 916] (by decide +kernel) (by decide +kernel)

/-! java/util/AbstractSet -/
set_option maxRecDepth 100000
def RJ26 : String := "java/util/AbstractSet"
abbrev cJ26_init : ByteArray := prog_53_method_1_code
def yJ26_init : MethodName := ⟨RJ26, "<init>", "()V"⟩
theorem dJ26_init_0 : decode cJ26_init 0 = .ok (.aload_n 0, 1) := by decide +kernel
theorem dJ26_init_1 : decode cJ26_init 1 = .ok (.invokespecial 1, 3) := by decide +kernel
theorem dJ26_init_4 : decode cJ26_init 4 = .ok (.return_, 1) := by decide +kernel
theorem q151 : (Jvm.Cond.initialized "java/util/AbstractSet") ∈ lw_all := lw_g (lw_at lw_m1 44 rfl) rfl
theorem q1166 : (Jvm.Cond.instanceMethod ({ cls := "java/util/AbstractSet", name := "<init>", desc := "()V" } : Jvm.MethodName)) ∈ lw_all := lw_g (lw_at lw_m5 99 rfl) rfl
theorem q1167 : (Jvm.Cond.code ({ cls := "java/util/AbstractSet", name := "<init>", desc := "()V" } : Jvm.MethodName) prog_53_method_1_code (1 : Nat) (Option.none : Option Jvm.ClassFile.FieldType)) ∈ lw_all := lw_g (lw_at lw_m5 100 rfl) rfl
theorem q1168 : (Jvm.Cond.methodLink "java/util/AbstractSet" (1 : Nat) ({ cls := "java/util/AbstractCollection", name := "<init>", desc := "()V" } : Jvm.MethodName)) ∈ lw_all := lw_g (lw_at lw_m5 101 rfl) rfl

/-! java/util/HashSet -/
set_option maxRecDepth 100000
def RJ27 : String := "java/util/HashSet"
def TJ27 : u_T := fun k => match k with
  | _ => ("java/util/HashSet", "map", "Ljava/util/HashMap;", false)
def tyJ27 : Nat → FieldType := fun k => match k with
  | _ => .object "java/util/HashMap"
abbrev wsJ270 : List Cond := u_ws RJ27 TJ27 1
theorem nmJ27 : ∀ a, a < 1 → ∀ b, b < 1 → a ≠ b → (TJ27 a).2.1 ≠ (TJ27 b).2.1 := by decide +kernel
theorem tyJ27_ok : ∀ k, k < 1 → parseFieldDescriptor (TJ27 k).2.2.1 = some (tyJ27 k) := by decide +kernel
abbrev cJ27_init : ByteArray := prog_62_method_1_code
def yJ27_init : MethodName := ⟨RJ27, "<init>", "()V"⟩
def dkwJ27_init_0 : List UInt8 := [42, 183, 0, 1, 42, 187, 0, 7, 89, 183, 0, 9, 181, 0, 10, 177]
abbrev dktJ27_init_0 : List UInt8 := dkwJ27_init_0 ++ []
theorem dksJ27_init_0 : cJ27_init.data.toList.drop 0 = dktJ27_init_0 := by decide +kernel
theorem dJ27_init_0 : decode cJ27_init 0 = .ok (.aload_n 0, 1) := dk_42 (dk_at dksJ27_init_0 0 rfl rfl)
theorem dJ27_init_1 : decode cJ27_init 1 = .ok (.invokespecial 1, 3) := dk_183 0 1 (dk_at dksJ27_init_0 1 rfl rfl)
theorem dJ27_init_4 : decode cJ27_init 4 = .ok (.aload_n 0, 1) := dk_42 (dk_at dksJ27_init_0 4 rfl rfl)
theorem dJ27_init_5 : decode cJ27_init 5 = .ok (.new 7, 3) := dk_187 0 7 (dk_at dksJ27_init_0 5 rfl rfl)
theorem dJ27_init_8 : decode cJ27_init 8 = .ok (.dup, 1) := dk_89 (dk_at dksJ27_init_0 8 rfl rfl)
theorem dJ27_init_9 : decode cJ27_init 9 = .ok (.invokespecial 9, 3) := dk_183 0 9 (dk_at dksJ27_init_0 9 rfl rfl)
theorem dJ27_init_12 : decode cJ27_init 12 = .ok (.putfield 10, 3) := dk_181 0 10 (dk_at dksJ27_init_0 12 rfl rfl)
theorem dJ27_init_15 : decode cJ27_init 15 = .ok (.return_, 1) := dk_177 (dk_at dksJ27_init_0 15 rfl rfl)
abbrev cJ27_contains : ByteArray := prog_62_method_9_code
def yJ27_contains : MethodName := ⟨RJ27, "contains", "(Ljava/lang/Object;)Z"⟩
def dkwJ27_contains_0 : List UInt8 := [42, 180, 0, 10, 43, 182, 0, 60, 172]
abbrev dktJ27_contains_0 : List UInt8 := dkwJ27_contains_0 ++ []
theorem dksJ27_contains_0 : cJ27_contains.data.toList.drop 0 = dktJ27_contains_0 := by decide +kernel
theorem dJ27_contains_0 : decode cJ27_contains 0 = .ok (.aload_n 0, 1) := dk_42 (dk_at dksJ27_contains_0 0 rfl rfl)
theorem dJ27_contains_1 : decode cJ27_contains 1 = .ok (.getfield 10, 3) := dk_180 0 10 (dk_at dksJ27_contains_0 1 rfl rfl)
theorem dJ27_contains_4 : decode cJ27_contains 4 = .ok (.aload_n 1, 1) := dk_43 (dk_at dksJ27_contains_0 4 rfl rfl)
theorem dJ27_contains_5 : decode cJ27_contains 5 = .ok (.invokevirtual 60, 3) := dk_182 0 60 (dk_at dksJ27_contains_0 5 rfl rfl)
theorem dJ27_contains_8 : decode cJ27_contains 8 = .ok (.ireturn, 1) := dk_172 (dk_at dksJ27_contains_0 8 rfl rfl)
abbrev cJ27_add : ByteArray := prog_62_method_10_code
def yJ27_add : MethodName := ⟨RJ27, "add", "(Ljava/lang/Object;)Z"⟩
def dkwJ27_add_0 : List UInt8 := [42, 180, 0, 10, 43, 178, 0, 64, 182, 0, 68, 199, 0, 7, 4, 167, 0, 4, 3, 172]
abbrev dktJ27_add_0 : List UInt8 := dkwJ27_add_0 ++ []
theorem dksJ27_add_0 : cJ27_add.data.toList.drop 0 = dktJ27_add_0 := by decide +kernel
theorem dJ27_add_0 : decode cJ27_add 0 = .ok (.aload_n 0, 1) := dk_42 (dk_at dksJ27_add_0 0 rfl rfl)
theorem dJ27_add_1 : decode cJ27_add 1 = .ok (.getfield 10, 3) := dk_180 0 10 (dk_at dksJ27_add_0 1 rfl rfl)
theorem dJ27_add_4 : decode cJ27_add 4 = .ok (.aload_n 1, 1) := dk_43 (dk_at dksJ27_add_0 4 rfl rfl)
theorem dJ27_add_5 : decode cJ27_add 5 = .ok (.getstatic 64, 3) := dk_178 0 64 (dk_at dksJ27_add_0 5 rfl rfl)
theorem dJ27_add_8 : decode cJ27_add 8 = .ok (.invokevirtual 68, 3) := dk_182 0 68 (dk_at dksJ27_add_0 8 rfl rfl)
theorem dJ27_add_11 : decode cJ27_add 11 = .ok (.ifnonnull 7, 3) := dk_199 0 7 (dk_at dksJ27_add_0 11 rfl rfl)
theorem dJ27_add_14 : decode cJ27_add 14 = .ok (.iconst 1, 1) := dk_4 (dk_at dksJ27_add_0 14 rfl rfl)
theorem dJ27_add_15 : decode cJ27_add 15 = .ok (.goto 4, 3) := dk_167 0 4 (dk_at dksJ27_add_0 15 rfl rfl)
theorem dJ27_add_18 : decode cJ27_add 18 = .ok (.iconst 0, 1) := dk_3 (dk_at dksJ27_add_0 18 rfl rfl)
theorem dJ27_add_19 : decode cJ27_add 19 = .ok (.ireturn, 1) := dk_172 (dk_at dksJ27_add_0 19 rfl rfl)
theorem q152 : (Jvm.Cond.initialized "java/util/HashSet") ∈ lw_all := lw_g (lw_at lw_m1 45 rfl) rfl
theorem q1145 : (Jvm.Cond.selects "java/util/HashSet" ({ cls := "java/lang/Object", name := "getClass", desc := "()Ljava/lang/Class;" } : Jvm.MethodName) ({ cls := "java/lang/Object", name := "getClass", desc := "()Ljava/lang/Class;" } : Jvm.MethodName)) ∈ lw_all := lw_g (lw_at lw_m5 78 rfl) rfl
theorem q1161 : (Jvm.Cond.instantiable "java/util/HashSet" (1 : Nat)) ∈ lw_all := lw_g (lw_at lw_m5 94 rfl) rfl
theorem q1163 : (Jvm.Cond.instanceMethod ({ cls := "java/util/HashSet", name := "<init>", desc := "()V" } : Jvm.MethodName)) ∈ lw_all := lw_g (lw_at lw_m5 96 rfl) rfl
theorem q1164 : (Jvm.Cond.code ({ cls := "java/util/HashSet", name := "<init>", desc := "()V" } : Jvm.MethodName) prog_62_method_1_code (1 : Nat) (Option.none : Option Jvm.ClassFile.FieldType)) ∈ lw_all := lw_g (lw_at lw_m5 97 rfl) rfl
theorem q1165 : (Jvm.Cond.methodLink "java/util/HashSet" (1 : Nat) ({ cls := "java/util/AbstractSet", name := "<init>", desc := "()V" } : Jvm.MethodName)) ∈ lw_all := lw_g (lw_at lw_m5 98 rfl) rfl
theorem q1169 : (Jvm.Cond.classLink "java/util/HashSet" (7 : Nat) "java/util/HashMap") ∈ lw_all := lw_g (lw_at lw_m5 102 rfl) rfl
theorem q1171 : (Jvm.Cond.methodLink "java/util/HashSet" (9 : Nat) ({ cls := "java/util/HashMap", name := "<init>", desc := "()V" } : Jvm.MethodName)) ∈ lw_all := lw_g (lw_at lw_m5 104 rfl) rfl
theorem q1181 : (Jvm.Cond.fieldLink "java/util/HashSet" (10 : Nat) "java/util/HashSet" "map" "Ljava/util/HashMap;") ∈ lw_all := lw_g (lw_at lw_m5 114 rfl) rfl
theorem q1182 : (Jvm.Cond.lays "java/util/HashSet" "java/util/HashSet" "map" "Ljava/util/HashMap;") ∈ lw_all := lw_g (lw_at lw_m5 115 rfl) rfl
theorem q1183 : (Jvm.Cond.soleField "java/util/HashSet" "map") ∈ lw_all := lw_g (lw_at lw_m5 116 rfl) rfl
theorem q1184 : (Jvm.Cond.superclass "java/util/HashSet" "java/util/AbstractSet") ∈ lw_all := lw_g (lw_at lw_m5 117 rfl) rfl
theorem q1252 : (Jvm.Cond.instanceMethod ({ cls := "java/util/HashSet", name := "contains", desc := "(Ljava/lang/Object;)Z" } : Jvm.MethodName)) ∈ lw_all := lw_g (lw_at lw_m5 185 rfl) rfl
theorem q1253 : (Jvm.Cond.selects "java/util/HashSet" ({ cls := "java/util/HashSet", name := "contains", desc := "(Ljava/lang/Object;)Z" } : Jvm.MethodName) ({ cls := "java/util/HashSet", name := "contains", desc := "(Ljava/lang/Object;)Z" } : Jvm.MethodName)) ∈ lw_all := lw_g (lw_at lw_m5 186 rfl) rfl
theorem q1254 : (Jvm.Cond.code ({ cls := "java/util/HashSet", name := "contains", desc := "(Ljava/lang/Object;)Z" } : Jvm.MethodName) prog_62_method_9_code (2 : Nat) (Option.some Jvm.ClassFile.FieldType.boolean)) ∈ lw_all := lw_g (lw_at lw_m5 187 rfl) rfl
theorem q1255 : (Jvm.Cond.methodLink "java/util/HashSet" (60 : Nat) ({ cls := "java/util/HashMap", name := "containsKey", desc := "(Ljava/lang/Object;)Z" } : Jvm.MethodName)) ∈ lw_all := lw_g (lw_at lw_m5 188 rfl) rfl
theorem q1646 : (Jvm.Cond.instanceMethod ({ cls := "java/util/HashSet", name := "add", desc := "(Ljava/lang/Object;)Z" } : Jvm.MethodName)) ∈ lw_all := lw_g (lw_at lw_m7 99 rfl) rfl
theorem q1647 : (Jvm.Cond.selects "java/util/HashSet" ({ cls := "java/util/HashSet", name := "add", desc := "(Ljava/lang/Object;)Z" } : Jvm.MethodName) ({ cls := "java/util/HashSet", name := "add", desc := "(Ljava/lang/Object;)Z" } : Jvm.MethodName)) ∈ lw_all := lw_g (lw_at lw_m7 100 rfl) rfl
theorem q1648 : (Jvm.Cond.code ({ cls := "java/util/HashSet", name := "add", desc := "(Ljava/lang/Object;)Z" } : Jvm.MethodName) prog_62_method_10_code (2 : Nat) (Option.some Jvm.ClassFile.FieldType.boolean)) ∈ lw_all := lw_g (lw_at lw_m7 101 rfl) rfl
theorem q1649 : (Jvm.Cond.fieldLink "java/util/HashSet" (64 : Nat) "java/util/HashSet" "PRESENT" "Ljava/lang/Object;") ∈ lw_all := lw_g (lw_at lw_m7 102 rfl) rfl
theorem q1650 : (Jvm.Cond.laysStatic "java/util/HashSet" "PRESENT" "Ljava/lang/Object;") ∈ lw_tbl := lw_at lw_m7 103 rfl
theorem q1651 : (Jvm.Cond.methodLink "java/util/HashSet" (68 : Nat) ({ cls := "java/util/HashMap", name := "put", desc := "(Ljava/lang/Object;Ljava/lang/Object;)Ljava/lang/Object;" } : Jvm.MethodName)) ∈ lw_all := lw_g (lw_at lw_m7 104 rfl) rfl
theorem q3315 : (Jvm.Cond.castable "java/util/HashSet" "java/lang/Object") ∈ lw_tbl := lw_at lw_m14 88 rfl
theorem in_J27 : ∀ w ∈ wsJ270, w ∈ lw_all := lw_in wsJ270 [1182] (by decide +kernel) (by decide +kernel)

/-! java/lang/Character -/
set_option maxRecDepth 100000
def RJ28 : String := "java/lang/Character"
def TJ28 : u_T := fun k => match k with
  | _ => ("java/lang/Character", "value", "C", true)
def tyJ28 : Nat → FieldType := fun k => match k with
  | _ => .char
abbrev wsJ280 : List Cond := u_ws RJ28 TJ28 1
theorem nmJ28 : ∀ a, a < 1 → ∀ b, b < 1 → a ≠ b → (TJ28 a).2.1 ≠ (TJ28 b).2.1 := by decide +kernel
theorem tyJ28_ok : ∀ k, k < 1 → parseFieldDescriptor (TJ28 k).2.2.1 = some (tyJ28 k) := by decide +kernel
abbrev cJ28_isValidCodePoint : ByteArray := prog_25_method_11_code
def yJ28_isValidCodePoint : MethodName := ⟨RJ28, "isValidCodePoint", "(I)Z"⟩
def dkwJ28_isValidCodePoint_0 : List UInt8 := [26, 16, 16, 124, 60, 27, 16, 17, 162, 0, 7, 4, 167, 0, 4, 3, 172]
abbrev dktJ28_isValidCodePoint_0 : List UInt8 := dkwJ28_isValidCodePoint_0 ++ []
theorem dksJ28_isValidCodePoint_0 : cJ28_isValidCodePoint.data.toList.drop 0 = dktJ28_isValidCodePoint_0 := by decide +kernel
theorem dJ28_isValidCodePoint_0 : decode cJ28_isValidCodePoint 0 = .ok (.iload_n 0, 1) := dk_26 (dk_at dksJ28_isValidCodePoint_0 0 rfl rfl)
theorem dJ28_isValidCodePoint_1 : decode cJ28_isValidCodePoint 1 = .ok (.bipush 16, 2) := dk_16 16 (dk_at dksJ28_isValidCodePoint_0 1 rfl rfl)
theorem dJ28_isValidCodePoint_3 : decode cJ28_isValidCodePoint 3 = .ok (.iushr, 1) := dk_124 (dk_at dksJ28_isValidCodePoint_0 3 rfl rfl)
theorem dJ28_isValidCodePoint_4 : decode cJ28_isValidCodePoint 4 = .ok (.istore_n 1, 1) := dk_60 (dk_at dksJ28_isValidCodePoint_0 4 rfl rfl)
theorem dJ28_isValidCodePoint_5 : decode cJ28_isValidCodePoint 5 = .ok (.iload_n 1, 1) := dk_27 (dk_at dksJ28_isValidCodePoint_0 5 rfl rfl)
theorem dJ28_isValidCodePoint_6 : decode cJ28_isValidCodePoint 6 = .ok (.bipush 17, 2) := dk_16 17 (dk_at dksJ28_isValidCodePoint_0 6 rfl rfl)
theorem dJ28_isValidCodePoint_8 : decode cJ28_isValidCodePoint 8 = .ok (.if_icmp .ge 7, 3) := dk_162 0 7 (dk_at dksJ28_isValidCodePoint_0 8 rfl rfl)
theorem dJ28_isValidCodePoint_11 : decode cJ28_isValidCodePoint 11 = .ok (.iconst 1, 1) := dk_4 (dk_at dksJ28_isValidCodePoint_0 11 rfl rfl)
theorem dJ28_isValidCodePoint_12 : decode cJ28_isValidCodePoint 12 = .ok (.goto 4, 3) := dk_167 0 4 (dk_at dksJ28_isValidCodePoint_0 12 rfl rfl)
theorem dJ28_isValidCodePoint_15 : decode cJ28_isValidCodePoint 15 = .ok (.iconst 0, 1) := dk_3 (dk_at dksJ28_isValidCodePoint_0 15 rfl rfl)
theorem dJ28_isValidCodePoint_16 : decode cJ28_isValidCodePoint 16 = .ok (.ireturn, 1) := dk_172 (dk_at dksJ28_isValidCodePoint_0 16 rfl rfl)
abbrev cJ28_highSurrogate : ByteArray := prog_25_method_28_code
def yJ28_highSurrogate : MethodName := ⟨RJ28, "highSurrogate", "(I)C"⟩
def dkwJ28_highSurrogate_0 : List UInt8 := [26, 16, 10, 124, 18, 110, 96, 146, 172]
abbrev dktJ28_highSurrogate_0 : List UInt8 := dkwJ28_highSurrogate_0 ++ []
theorem dksJ28_highSurrogate_0 : cJ28_highSurrogate.data.toList.drop 0 = dktJ28_highSurrogate_0 := by decide +kernel
theorem dJ28_highSurrogate_0 : decode cJ28_highSurrogate 0 = .ok (.iload_n 0, 1) := dk_26 (dk_at dksJ28_highSurrogate_0 0 rfl rfl)
theorem dJ28_highSurrogate_1 : decode cJ28_highSurrogate 1 = .ok (.bipush 10, 2) := dk_16 10 (dk_at dksJ28_highSurrogate_0 1 rfl rfl)
theorem dJ28_highSurrogate_3 : decode cJ28_highSurrogate 3 = .ok (.iushr, 1) := dk_124 (dk_at dksJ28_highSurrogate_0 3 rfl rfl)
theorem dJ28_highSurrogate_4 : decode cJ28_highSurrogate 4 = .ok (.ldc 110, 2) := dk_18 110 (dk_at dksJ28_highSurrogate_0 4 rfl rfl)
theorem dJ28_highSurrogate_6 : decode cJ28_highSurrogate 6 = .ok (.iadd, 1) := dk_96 (dk_at dksJ28_highSurrogate_0 6 rfl rfl)
theorem dJ28_highSurrogate_7 : decode cJ28_highSurrogate 7 = .ok (.i2c, 1) := dk_146 (dk_at dksJ28_highSurrogate_0 7 rfl rfl)
theorem dJ28_highSurrogate_8 : decode cJ28_highSurrogate 8 = .ok (.ireturn, 1) := dk_172 (dk_at dksJ28_highSurrogate_0 8 rfl rfl)
abbrev cJ28_lowSurrogate : ByteArray := prog_25_method_29_code
def yJ28_lowSurrogate : MethodName := ⟨RJ28, "lowSurrogate", "(I)C"⟩
def dkwJ28_lowSurrogate_0 : List UInt8 := [26, 17, 3, 255, 126, 18, 76, 96, 146, 172]
abbrev dktJ28_lowSurrogate_0 : List UInt8 := dkwJ28_lowSurrogate_0 ++ []
theorem dksJ28_lowSurrogate_0 : cJ28_lowSurrogate.data.toList.drop 0 = dktJ28_lowSurrogate_0 := by decide +kernel
theorem dJ28_lowSurrogate_0 : decode cJ28_lowSurrogate 0 = .ok (.iload_n 0, 1) := dk_26 (dk_at dksJ28_lowSurrogate_0 0 rfl rfl)
theorem dJ28_lowSurrogate_1 : decode cJ28_lowSurrogate 1 = .ok (.sipush 1023, 3) := dk_17 3 255 (dk_at dksJ28_lowSurrogate_0 1 rfl rfl)
theorem dJ28_lowSurrogate_4 : decode cJ28_lowSurrogate 4 = .ok (.iand, 1) := dk_126 (dk_at dksJ28_lowSurrogate_0 4 rfl rfl)
theorem dJ28_lowSurrogate_5 : decode cJ28_lowSurrogate 5 = .ok (.ldc 76, 2) := dk_18 76 (dk_at dksJ28_lowSurrogate_0 5 rfl rfl)
theorem dJ28_lowSurrogate_7 : decode cJ28_lowSurrogate 7 = .ok (.iadd, 1) := dk_96 (dk_at dksJ28_lowSurrogate_0 7 rfl rfl)
theorem dJ28_lowSurrogate_8 : decode cJ28_lowSurrogate 8 = .ok (.i2c, 1) := dk_146 (dk_at dksJ28_lowSurrogate_0 8 rfl rfl)
theorem dJ28_lowSurrogate_9 : decode cJ28_lowSurrogate 9 = .ok (.ireturn, 1) := dk_172 (dk_at dksJ28_lowSurrogate_0 9 rfl rfl)
abbrev cJ28_valueOf : ByteArray := prog_25_method_3_code
def yJ28_valueOf : MethodName := ⟨RJ28, "valueOf", "(C)Ljava/lang/Character;"⟩
def dkwJ28_valueOf_0 : List UInt8 := [26, 16, 127, 163, 0, 9, 178, 0, 47, 26, 50, 176, 187, 0, 1, 89, 26, 183, 0, 53, 176]
abbrev dktJ28_valueOf_0 : List UInt8 := dkwJ28_valueOf_0 ++ []
theorem dksJ28_valueOf_0 : cJ28_valueOf.data.toList.drop 0 = dktJ28_valueOf_0 := by decide +kernel
theorem dJ28_valueOf_0 : decode cJ28_valueOf 0 = .ok (.iload_n 0, 1) := dk_26 (dk_at dksJ28_valueOf_0 0 rfl rfl)
theorem dJ28_valueOf_1 : decode cJ28_valueOf 1 = .ok (.bipush 127, 2) := dk_16 127 (dk_at dksJ28_valueOf_0 1 rfl rfl)
theorem dJ28_valueOf_3 : decode cJ28_valueOf 3 = .ok (.if_icmp .gt 9, 3) := dk_163 0 9 (dk_at dksJ28_valueOf_0 3 rfl rfl)
theorem dJ28_valueOf_6 : decode cJ28_valueOf 6 = .ok (.getstatic 47, 3) := dk_178 0 47 (dk_at dksJ28_valueOf_0 6 rfl rfl)
theorem dJ28_valueOf_9 : decode cJ28_valueOf 9 = .ok (.iload_n 0, 1) := dk_26 (dk_at dksJ28_valueOf_0 9 rfl rfl)
theorem dJ28_valueOf_10 : decode cJ28_valueOf 10 = .ok (.aaload, 1) := dk_50 (dk_at dksJ28_valueOf_0 10 rfl rfl)
theorem dJ28_valueOf_11 : decode cJ28_valueOf 11 = .ok (.areturn, 1) := dk_176 (dk_at dksJ28_valueOf_0 11 rfl rfl)
theorem dJ28_valueOf_12 : decode cJ28_valueOf 12 = .ok (.new 1, 3) := dk_187 0 1 (dk_at dksJ28_valueOf_0 12 rfl rfl)
theorem dJ28_valueOf_15 : decode cJ28_valueOf 15 = .ok (.dup, 1) := dk_89 (dk_at dksJ28_valueOf_0 15 rfl rfl)
theorem dJ28_valueOf_16 : decode cJ28_valueOf 16 = .ok (.iload_n 0, 1) := dk_26 (dk_at dksJ28_valueOf_0 16 rfl rfl)
theorem dJ28_valueOf_17 : decode cJ28_valueOf 17 = .ok (.invokespecial 53, 3) := dk_183 0 53 (dk_at dksJ28_valueOf_0 17 rfl rfl)
theorem dJ28_valueOf_20 : decode cJ28_valueOf 20 = .ok (.areturn, 1) := dk_176 (dk_at dksJ28_valueOf_0 20 rfl rfl)
abbrev cJ28_init : ByteArray := prog_25_method_2_code
def yJ28_init : MethodName := ⟨RJ28, "<init>", "(C)V"⟩
def dkwJ28_init_0 : List UInt8 := [42, 183, 0, 41, 42, 27, 181, 0, 19, 177]
abbrev dktJ28_init_0 : List UInt8 := dkwJ28_init_0 ++ []
theorem dksJ28_init_0 : cJ28_init.data.toList.drop 0 = dktJ28_init_0 := by decide +kernel
theorem dJ28_init_0 : decode cJ28_init 0 = .ok (.aload_n 0, 1) := dk_42 (dk_at dksJ28_init_0 0 rfl rfl)
theorem dJ28_init_1 : decode cJ28_init 1 = .ok (.invokespecial 41, 3) := dk_183 0 41 (dk_at dksJ28_init_0 1 rfl rfl)
theorem dJ28_init_4 : decode cJ28_init 4 = .ok (.aload_n 0, 1) := dk_42 (dk_at dksJ28_init_0 4 rfl rfl)
theorem dJ28_init_5 : decode cJ28_init 5 = .ok (.iload_n 1, 1) := dk_27 (dk_at dksJ28_init_0 5 rfl rfl)
theorem dJ28_init_6 : decode cJ28_init 6 = .ok (.putfield 19, 3) := dk_181 0 19 (dk_at dksJ28_init_0 6 rfl rfl)
theorem dJ28_init_9 : decode cJ28_init 9 = .ok (.return_, 1) := dk_177 (dk_at dksJ28_init_0 9 rfl rfl)
abbrev cJ28_hashCode : ByteArray := prog_25_method_5_code
def yJ28_hashCode : MethodName := ⟨RJ28, "hashCode", "()I"⟩
def dkwJ28_hashCode_0 : List UInt8 := [42, 180, 0, 19, 184, 0, 56, 172]
abbrev dktJ28_hashCode_0 : List UInt8 := dkwJ28_hashCode_0 ++ []
theorem dksJ28_hashCode_0 : cJ28_hashCode.data.toList.drop 0 = dktJ28_hashCode_0 := by decide +kernel
theorem dJ28_hashCode_0 : decode cJ28_hashCode 0 = .ok (.aload_n 0, 1) := dk_42 (dk_at dksJ28_hashCode_0 0 rfl rfl)
theorem dJ28_hashCode_1 : decode cJ28_hashCode 1 = .ok (.getfield 19, 3) := dk_180 0 19 (dk_at dksJ28_hashCode_0 1 rfl rfl)
theorem dJ28_hashCode_4 : decode cJ28_hashCode 4 = .ok (.invokestatic 56, 3) := dk_184 0 56 (dk_at dksJ28_hashCode_0 4 rfl rfl)
theorem dJ28_hashCode_7 : decode cJ28_hashCode 7 = .ok (.ireturn, 1) := dk_172 (dk_at dksJ28_hashCode_0 7 rfl rfl)
abbrev cJ28_hashCode_2 : ByteArray := prog_25_method_6_code
def yJ28_hashCode_2 : MethodName := ⟨RJ28, "hashCode", "(C)I"⟩
theorem dJ28_hashCode_2_0 : decode cJ28_hashCode_2 0 = .ok (.iload_n 0, 1) := by decide +kernel
theorem dJ28_hashCode_2_1 : decode cJ28_hashCode_2 1 = .ok (.ireturn, 1) := by decide +kernel
abbrev cJ28_equals : ByteArray := prog_25_method_7_code
def yJ28_equals : MethodName := ⟨RJ28, "equals", "(Ljava/lang/Object;)Z"⟩
def dkwJ28_equals_1 : List UInt8 := [167, 0, 4, 3, 172, 3, 172]
abbrev dktJ28_equals_1 : List UInt8 := dkwJ28_equals_1 ++ []
def dkwJ28_equals_0 : List UInt8 := [43, 193, 0, 1, 153, 0, 23, 42, 180, 0, 19, 43, 192, 0, 1, 182, 0, 60, 160, 0, 7, 4]
abbrev dktJ28_equals_0 : List UInt8 := dkwJ28_equals_0 ++ dktJ28_equals_1
theorem dksJ28_equals_0 : cJ28_equals.data.toList.drop 0 = dktJ28_equals_0 := by decide +kernel
theorem dksJ28_equals_1 : cJ28_equals.data.toList.drop 22 = dktJ28_equals_1 := dk_seg dksJ28_equals_0 22 rfl rfl
theorem dJ28_equals_0 : decode cJ28_equals 0 = .ok (.aload_n 1, 1) := dk_43 (dk_at dksJ28_equals_0 0 rfl rfl)
theorem dJ28_equals_1 : decode cJ28_equals 1 = .ok (.instanceof 1, 3) := dk_193 0 1 (dk_at dksJ28_equals_0 1 rfl rfl)
theorem dJ28_equals_4 : decode cJ28_equals 4 = .ok (.ifCond .eq 23, 3) := dk_153 0 23 (dk_at dksJ28_equals_0 4 rfl rfl)
theorem dJ28_equals_7 : decode cJ28_equals 7 = .ok (.aload_n 0, 1) := dk_42 (dk_at dksJ28_equals_0 7 rfl rfl)
theorem dJ28_equals_8 : decode cJ28_equals 8 = .ok (.getfield 19, 3) := dk_180 0 19 (dk_at dksJ28_equals_0 8 rfl rfl)
theorem dJ28_equals_11 : decode cJ28_equals 11 = .ok (.aload_n 1, 1) := dk_43 (dk_at dksJ28_equals_0 11 rfl rfl)
theorem dJ28_equals_12 : decode cJ28_equals 12 = .ok (.checkcast 1, 3) := dk_192 0 1 (dk_at dksJ28_equals_0 12 rfl rfl)
theorem dJ28_equals_15 : decode cJ28_equals 15 = .ok (.invokevirtual 60, 3) := dk_182 0 60 (dk_at dksJ28_equals_0 15 rfl rfl)
theorem dJ28_equals_18 : decode cJ28_equals 18 = .ok (.if_icmp .ne 7, 3) := dk_160 0 7 (dk_at dksJ28_equals_0 18 rfl rfl)
theorem dJ28_equals_21 : decode cJ28_equals 21 = .ok (.iconst 1, 1) := dk_4 (dk_at dksJ28_equals_0 21 rfl rfl)
theorem dJ28_equals_22 : decode cJ28_equals 22 = .ok (.goto 4, 3) := dk_167 0 4 (dk_at dksJ28_equals_1 0 rfl rfl)
theorem dJ28_equals_25 : decode cJ28_equals 25 = .ok (.iconst 0, 1) := dk_3 (dk_at dksJ28_equals_1 3 rfl rfl)
theorem dJ28_equals_26 : decode cJ28_equals 26 = .ok (.ireturn, 1) := dk_172 (dk_at dksJ28_equals_1 4 rfl rfl)
theorem dJ28_equals_27 : decode cJ28_equals 27 = .ok (.iconst 0, 1) := dk_3 (dk_at dksJ28_equals_1 5 rfl rfl)
theorem dJ28_equals_28 : decode cJ28_equals 28 = .ok (.ireturn, 1) := dk_172 (dk_at dksJ28_equals_1 6 rfl rfl)
abbrev cJ28_charValue : ByteArray := prog_25_method_4_code
def yJ28_charValue : MethodName := ⟨RJ28, "charValue", "()C"⟩
theorem dJ28_charValue_0 : decode cJ28_charValue 0 = .ok (.aload_n 0, 1) := by decide +kernel
theorem dJ28_charValue_1 : decode cJ28_charValue 1 = .ok (.getfield 19, 3) := by decide +kernel
theorem dJ28_charValue_4 : decode cJ28_charValue 4 = .ok (.ireturn, 1) := by decide +kernel
abbrev cJ28_compareTo : ByteArray := prog_25_method_104_code
def yJ28_compareTo : MethodName := ⟨RJ28, "compareTo", "(Ljava/lang/Object;)I"⟩
def dkwJ28_compareTo_0 : List UInt8 := [42, 43, 192, 0, 1, 182, 1, 109, 172]
abbrev dktJ28_compareTo_0 : List UInt8 := dkwJ28_compareTo_0 ++ []
theorem dksJ28_compareTo_0 : cJ28_compareTo.data.toList.drop 0 = dktJ28_compareTo_0 := by decide +kernel
theorem dJ28_compareTo_0 : decode cJ28_compareTo 0 = .ok (.aload_n 0, 1) := dk_42 (dk_at dksJ28_compareTo_0 0 rfl rfl)
theorem dJ28_compareTo_1 : decode cJ28_compareTo 1 = .ok (.aload_n 1, 1) := dk_43 (dk_at dksJ28_compareTo_0 1 rfl rfl)
theorem dJ28_compareTo_2 : decode cJ28_compareTo 2 = .ok (.checkcast 1, 3) := dk_192 0 1 (dk_at dksJ28_compareTo_0 2 rfl rfl)
theorem dJ28_compareTo_5 : decode cJ28_compareTo 5 = .ok (.invokevirtual 365, 3) := dk_182 1 109 (dk_at dksJ28_compareTo_0 5 rfl rfl)
theorem dJ28_compareTo_8 : decode cJ28_compareTo 8 = .ok (.ireturn, 1) := dk_172 (dk_at dksJ28_compareTo_0 8 rfl rfl)
abbrev cJ28_compareTo_2 : ByteArray := prog_25_method_97_code
def yJ28_compareTo_2 : MethodName := ⟨RJ28, "compareTo", "(Ljava/lang/Character;)I"⟩
def dkwJ28_compareTo_2_0 : List UInt8 := [42, 180, 0, 19, 43, 180, 0, 19, 184, 1, 23, 172]
abbrev dktJ28_compareTo_2_0 : List UInt8 := dkwJ28_compareTo_2_0 ++ []
theorem dksJ28_compareTo_2_0 : cJ28_compareTo_2.data.toList.drop 0 = dktJ28_compareTo_2_0 := by decide +kernel
theorem dJ28_compareTo_2_0 : decode cJ28_compareTo_2 0 = .ok (.aload_n 0, 1) := dk_42 (dk_at dksJ28_compareTo_2_0 0 rfl rfl)
theorem dJ28_compareTo_2_1 : decode cJ28_compareTo_2 1 = .ok (.getfield 19, 3) := dk_180 0 19 (dk_at dksJ28_compareTo_2_0 1 rfl rfl)
theorem dJ28_compareTo_2_4 : decode cJ28_compareTo_2 4 = .ok (.aload_n 1, 1) := dk_43 (dk_at dksJ28_compareTo_2_0 4 rfl rfl)
theorem dJ28_compareTo_2_5 : decode cJ28_compareTo_2 5 = .ok (.getfield 19, 3) := dk_180 0 19 (dk_at dksJ28_compareTo_2_0 5 rfl rfl)
theorem dJ28_compareTo_2_8 : decode cJ28_compareTo_2 8 = .ok (.invokestatic 279, 3) := dk_184 1 23 (dk_at dksJ28_compareTo_2_0 8 rfl rfl)
theorem dJ28_compareTo_2_11 : decode cJ28_compareTo_2 11 = .ok (.ireturn, 1) := dk_172 (dk_at dksJ28_compareTo_2_0 11 rfl rfl)
abbrev cJ28_compare : ByteArray := prog_25_method_98_code
def yJ28_compare : MethodName := ⟨RJ28, "compare", "(CC)I"⟩
def dkwJ28_compare_0 : List UInt8 := [26, 27, 100, 172]
abbrev dktJ28_compare_0 : List UInt8 := dkwJ28_compare_0 ++ []
theorem dksJ28_compare_0 : cJ28_compare.data.toList.drop 0 = dktJ28_compare_0 := by decide +kernel
theorem dJ28_compare_0 : decode cJ28_compare 0 = .ok (.iload_n 0, 1) := dk_26 (dk_at dksJ28_compare_0 0 rfl rfl)
theorem dJ28_compare_1 : decode cJ28_compare 1 = .ok (.iload_n 1, 1) := dk_27 (dk_at dksJ28_compare_0 1 rfl rfl)
theorem dJ28_compare_2 : decode cJ28_compare 2 = .ok (.isub, 1) := dk_100 (dk_at dksJ28_compare_0 2 rfl rfl)
theorem dJ28_compare_3 : decode cJ28_compare 3 = .ok (.ireturn, 1) := dk_172 (dk_at dksJ28_compare_0 3 rfl rfl)
theorem q153 : (Jvm.Cond.initialized "java/lang/Character") ∈ lw_all := lw_g (lw_at lw_m1 46 rfl) rfl
theorem q1131 : (Jvm.Cond.selects "java/lang/Character" ({ cls := "java/lang/Object", name := "getClass", desc := "()Ljava/lang/Class;" } : Jvm.MethodName) ({ cls := "java/lang/Object", name := "getClass", desc := "()Ljava/lang/Class;" } : Jvm.MethodName)) ∈ lw_all := lw_g (lw_at lw_m5 64 rfl) rfl
theorem q1226 : (Jvm.Cond.static ({ cls := "java/lang/Character", name := "isValidCodePoint", desc := "(I)Z" } : Jvm.MethodName)) ∈ lw_all := lw_g (lw_at lw_m5 159 rfl) rfl
theorem q1227 : (Jvm.Cond.code ({ cls := "java/lang/Character", name := "isValidCodePoint", desc := "(I)Z" } : Jvm.MethodName) prog_25_method_11_code (2 : Nat) (Option.some Jvm.ClassFile.FieldType.boolean)) ∈ lw_all := lw_g (lw_at lw_m5 160 rfl) rfl
theorem q1229 : (Jvm.Cond.static ({ cls := "java/lang/Character", name := "highSurrogate", desc := "(I)C" } : Jvm.MethodName)) ∈ lw_all := lw_g (lw_at lw_m5 162 rfl) rfl
theorem q1230 : (Jvm.Cond.code ({ cls := "java/lang/Character", name := "highSurrogate", desc := "(I)C" } : Jvm.MethodName) prog_25_method_28_code (1 : Nat) (Option.some Jvm.ClassFile.FieldType.char)) ∈ lw_all := lw_g (lw_at lw_m5 163 rfl) rfl
theorem q1231 : (Jvm.Cond.constant "java/lang/Character" (110 : Nat) (55232 : Int32)) ∈ lw_all := lw_g (lw_at lw_m5 164 rfl) rfl
theorem q1233 : (Jvm.Cond.static ({ cls := "java/lang/Character", name := "lowSurrogate", desc := "(I)C" } : Jvm.MethodName)) ∈ lw_all := lw_g (lw_at lw_m5 166 rfl) rfl
theorem q1234 : (Jvm.Cond.code ({ cls := "java/lang/Character", name := "lowSurrogate", desc := "(I)C" } : Jvm.MethodName) prog_25_method_29_code (1 : Nat) (Option.some Jvm.ClassFile.FieldType.char)) ∈ lw_all := lw_g (lw_at lw_m5 167 rfl) rfl
theorem q1235 : (Jvm.Cond.constant "java/lang/Character" (76 : Nat) (56320 : Int32)) ∈ lw_all := lw_g (lw_at lw_m5 168 rfl) rfl
theorem q1237 : (Jvm.Cond.static ({ cls := "java/lang/Character", name := "valueOf", desc := "(C)Ljava/lang/Character;" } : Jvm.MethodName)) ∈ lw_all := lw_g (lw_at lw_m5 170 rfl) rfl
theorem q1238 : (Jvm.Cond.code ({ cls := "java/lang/Character", name := "valueOf", desc := "(C)Ljava/lang/Character;" } : Jvm.MethodName) prog_25_method_3_code (1 : Nat) (Option.some (Jvm.ClassFile.FieldType.object "java/lang/Character"))) ∈ lw_all := lw_g (lw_at lw_m5 171 rfl) rfl
theorem q1239 : (Jvm.Cond.fieldLink "java/lang/Character" (47 : Nat) "java/lang/Character$CharacterCache" "cache" "[Ljava/lang/Character;") ∈ lw_all := lw_g (lw_at lw_m5 172 rfl) rfl
theorem q1241 : (Jvm.Cond.classLink "java/lang/Character" (1 : Nat) "java/lang/Character") ∈ lw_all := lw_g (lw_at lw_m5 174 rfl) rfl
theorem q1242 : (Jvm.Cond.instantiable "java/lang/Character" (1 : Nat)) ∈ lw_all := lw_g (lw_at lw_m5 175 rfl) rfl
theorem q1243 : (Jvm.Cond.methodLink "java/lang/Character" (53 : Nat) ({ cls := "java/lang/Character", name := "<init>", desc := "(C)V" } : Jvm.MethodName)) ∈ lw_all := lw_g (lw_at lw_m5 176 rfl) rfl
theorem q1244 : (Jvm.Cond.instanceMethod ({ cls := "java/lang/Character", name := "<init>", desc := "(C)V" } : Jvm.MethodName)) ∈ lw_all := lw_g (lw_at lw_m5 177 rfl) rfl
theorem q1245 : (Jvm.Cond.code ({ cls := "java/lang/Character", name := "<init>", desc := "(C)V" } : Jvm.MethodName) prog_25_method_2_code (2 : Nat) (Option.none : Option Jvm.ClassFile.FieldType)) ∈ lw_all := lw_g (lw_at lw_m5 178 rfl) rfl
theorem q1246 : (Jvm.Cond.methodLink "java/lang/Character" (41 : Nat) ({ cls := "java/lang/Object", name := "<init>", desc := "()V" } : Jvm.MethodName)) ∈ lw_all := lw_g (lw_at lw_m5 179 rfl) rfl
theorem q1247 : (Jvm.Cond.fieldLink "java/lang/Character" (19 : Nat) "java/lang/Character" "value" "C") ∈ lw_all := lw_g (lw_at lw_m5 180 rfl) rfl
theorem q1248 : (Jvm.Cond.laysFinal "java/lang/Character" "java/lang/Character" "value" "C") ∈ lw_all := lw_g (lw_at lw_m5 181 rfl) rfl
theorem q1249 : (Jvm.Cond.soleField "java/lang/Character" "value") ∈ lw_all := lw_g (lw_at lw_m5 182 rfl) rfl
theorem q1250 : (Jvm.Cond.superclass "java/lang/Character" "java/lang/Object") ∈ lw_all := lw_g (lw_at lw_m5 183 rfl) rfl
theorem q1291 : (Jvm.Cond.selects "java/lang/Character" ({ cls := "java/lang/Object", name := "hashCode", desc := "()I" } : Jvm.MethodName) ({ cls := "java/lang/Character", name := "hashCode", desc := "()I" } : Jvm.MethodName)) ∈ lw_all := lw_g (lw_at lw_m5 224 rfl) rfl
theorem q1292 : (Jvm.Cond.instanceMethod ({ cls := "java/lang/Character", name := "hashCode", desc := "()I" } : Jvm.MethodName)) ∈ lw_all := lw_g (lw_at lw_m5 225 rfl) rfl
theorem q1293 : (Jvm.Cond.code ({ cls := "java/lang/Character", name := "hashCode", desc := "()I" } : Jvm.MethodName) prog_25_method_5_code (1 : Nat) (Option.some Jvm.ClassFile.FieldType.int)) ∈ lw_all := lw_g (lw_at lw_m5 226 rfl) rfl
theorem q1294 : (Jvm.Cond.methodLink "java/lang/Character" (56 : Nat) ({ cls := "java/lang/Character", name := "hashCode", desc := "(C)I" } : Jvm.MethodName)) ∈ lw_all := lw_g (lw_at lw_m5 227 rfl) rfl
theorem q1295 : (Jvm.Cond.static ({ cls := "java/lang/Character", name := "hashCode", desc := "(C)I" } : Jvm.MethodName)) ∈ lw_all := lw_g (lw_at lw_m5 228 rfl) rfl
theorem q1296 : (Jvm.Cond.code ({ cls := "java/lang/Character", name := "hashCode", desc := "(C)I" } : Jvm.MethodName) prog_25_method_6_code (1 : Nat) (Option.some Jvm.ClassFile.FieldType.int)) ∈ lw_all := lw_g (lw_at lw_m5 229 rfl) rfl
theorem q1388 : (Jvm.Cond.selects "java/lang/Character" ({ cls := "java/lang/Object", name := "equals", desc := "(Ljava/lang/Object;)Z" } : Jvm.MethodName) ({ cls := "java/lang/Character", name := "equals", desc := "(Ljava/lang/Object;)Z" } : Jvm.MethodName)) ∈ lw_all := lw_g (lw_at lw_m6 81 rfl) rfl
theorem q1389 : (Jvm.Cond.instanceMethod ({ cls := "java/lang/Character", name := "equals", desc := "(Ljava/lang/Object;)Z" } : Jvm.MethodName)) ∈ lw_all := lw_g (lw_at lw_m6 82 rfl) rfl
theorem q1390 : (Jvm.Cond.code ({ cls := "java/lang/Character", name := "equals", desc := "(Ljava/lang/Object;)Z" } : Jvm.MethodName) prog_25_method_7_code (2 : Nat) (Option.some Jvm.ClassFile.FieldType.boolean)) ∈ lw_all := lw_g (lw_at lw_m6 83 rfl) rfl
theorem q1391 : (Jvm.Cond.methodLink "java/lang/Character" (60 : Nat) ({ cls := "java/lang/Character", name := "charValue", desc := "()C" } : Jvm.MethodName)) ∈ lw_all := lw_g (lw_at lw_m6 84 rfl) rfl
theorem q1392 : (Jvm.Cond.instanceMethod ({ cls := "java/lang/Character", name := "charValue", desc := "()C" } : Jvm.MethodName)) ∈ lw_all := lw_g (lw_at lw_m6 85 rfl) rfl
theorem q1393 : (Jvm.Cond.selects "java/lang/Character" ({ cls := "java/lang/Character", name := "charValue", desc := "()C" } : Jvm.MethodName) ({ cls := "java/lang/Character", name := "charValue", desc := "()C" } : Jvm.MethodName)) ∈ lw_all := lw_g (lw_at lw_m6 86 rfl) rfl
theorem q1394 : (Jvm.Cond.code ({ cls := "java/lang/Character", name := "charValue", desc := "()C" } : Jvm.MethodName) prog_25_method_4_code (1 : Nat) (Option.some Jvm.ClassFile.FieldType.char)) ∈ lw_all := lw_g (lw_at lw_m6 87 rfl) rfl
theorem q1445 : (Jvm.Cond.castable "java/lang/Character" "java/lang/Comparable") ∈ lw_tbl := lw_at lw_m6 138 rfl
theorem q1446 : (Jvm.Cond.selects "java/lang/Character" ({ cls := "java/lang/Comparable", name := "compareTo", desc := "(Ljava/lang/Object;)I" } : Jvm.MethodName) ({ cls := "java/lang/Character", name := "compareTo", desc := "(Ljava/lang/Object;)I" } : Jvm.MethodName)) ∈ lw_all := lw_g (lw_at lw_m6 139 rfl) rfl
theorem q1447 : (Jvm.Cond.unhidden "java/lang/Character" "compareTo" "(Ljava/lang/Object;)I") ∈ lw_tbl := lw_at lw_m6 140 rfl
theorem q1448 : (Jvm.Cond.instanceMethod ({ cls := "java/lang/Character", name := "compareTo", desc := "(Ljava/lang/Object;)I" } : Jvm.MethodName)) ∈ lw_all := lw_g (lw_at lw_m6 141 rfl) rfl
theorem q1449 : (Jvm.Cond.publicMethod ({ cls := "java/lang/Character", name := "compareTo", desc := "(Ljava/lang/Object;)I" } : Jvm.MethodName)) ∈ lw_tbl := lw_at lw_m6 142 rfl
theorem q1450 : (Jvm.Cond.code ({ cls := "java/lang/Character", name := "compareTo", desc := "(Ljava/lang/Object;)I" } : Jvm.MethodName) prog_25_method_104_code (2 : Nat) (Option.some Jvm.ClassFile.FieldType.int)) ∈ lw_all := lw_g (lw_at lw_m6 143 rfl) rfl
theorem q1451 : (Jvm.Cond.methodLink "java/lang/Character" (365 : Nat) ({ cls := "java/lang/Character", name := "compareTo", desc := "(Ljava/lang/Character;)I" } : Jvm.MethodName)) ∈ lw_all := lw_g (lw_at lw_m6 144 rfl) rfl
theorem q1452 : (Jvm.Cond.instanceMethod ({ cls := "java/lang/Character", name := "compareTo", desc := "(Ljava/lang/Character;)I" } : Jvm.MethodName)) ∈ lw_all := lw_g (lw_at lw_m6 145 rfl) rfl
theorem q1453 : (Jvm.Cond.selects "java/lang/Character" ({ cls := "java/lang/Character", name := "compareTo", desc := "(Ljava/lang/Character;)I" } : Jvm.MethodName) ({ cls := "java/lang/Character", name := "compareTo", desc := "(Ljava/lang/Character;)I" } : Jvm.MethodName)) ∈ lw_all := lw_g (lw_at lw_m6 146 rfl) rfl
theorem q1454 : (Jvm.Cond.code ({ cls := "java/lang/Character", name := "compareTo", desc := "(Ljava/lang/Character;)I" } : Jvm.MethodName) prog_25_method_97_code (2 : Nat) (Option.some Jvm.ClassFile.FieldType.int)) ∈ lw_all := lw_g (lw_at lw_m6 147 rfl) rfl
theorem q1455 : (Jvm.Cond.methodLink "java/lang/Character" (279 : Nat) ({ cls := "java/lang/Character", name := "compare", desc := "(CC)I" } : Jvm.MethodName)) ∈ lw_all := lw_g (lw_at lw_m6 148 rfl) rfl
theorem q1456 : (Jvm.Cond.static ({ cls := "java/lang/Character", name := "compare", desc := "(CC)I" } : Jvm.MethodName)) ∈ lw_all := lw_g (lw_at lw_m6 149 rfl) rfl
theorem q1457 : (Jvm.Cond.code ({ cls := "java/lang/Character", name := "compare", desc := "(CC)I" } : Jvm.MethodName) prog_25_method_98_code (2 : Nat) (Option.some Jvm.ClassFile.FieldType.int)) ∈ lw_all := lw_g (lw_at lw_m6 150 rfl) rfl
theorem q3317 : (Jvm.Cond.castable "java/lang/Character" "java/lang/Object") ∈ lw_tbl := lw_at lw_m14 90 rfl
theorem in_J28 : ∀ w ∈ wsJ280, w ∈ lw_all := lw_in wsJ280 [1248] (by decide +kernel) (by decide +kernel)

/-! jdk/internal/misc/Unsafe -/
set_option maxRecDepth 100000
def RJ29 : String := "jdk/internal/misc/Unsafe"
abbrev cJ29_getLongUnaligned : ByteArray := prog_75_method_334_code
def yJ29_getLongUnaligned : MethodName := ⟨RJ29, "getLongUnaligned", "(Ljava/lang/Object;J)J"⟩
abbrev cJ29_makeLong : ByteArray := prog_75_method_353_code
def yJ29_makeLong : MethodName := ⟨RJ29, "makeLong", "(II)J"⟩
abbrev cJ29_toUnsignedLong : ByteArray := prog_75_method_370_code
def yJ29_toUnsignedLong : MethodName := ⟨RJ29, "toUnsignedLong", "(I)J"⟩
abbrev cJ29_pickPos : ByteArray := prog_75_method_350_code
def yJ29_pickPos : MethodName := ⟨RJ29, "pickPos", "(II)I"⟩
abbrev cJ29_makeLong_2 : ByteArray := prog_75_method_352_code
def yJ29_makeLong_2 : MethodName := ⟨RJ29, "makeLong", "(SSSS)J"⟩
abbrev cJ29_toUnsignedLong_2 : ByteArray := prog_75_method_369_code
def yJ29_toUnsignedLong_2 : MethodName := ⟨RJ29, "toUnsignedLong", "(S)J"⟩
abbrev cJ29_makeLong_3 : ByteArray := prog_75_method_351_code
def yJ29_makeLong_3 : MethodName := ⟨RJ29, "makeLong", "(BBBBBBBB)J"⟩
abbrev cJ29_toUnsignedLong_3 : ByteArray := prog_75_method_368_code
def yJ29_toUnsignedLong_3 : MethodName := ⟨RJ29, "toUnsignedLong", "(B)J"⟩
abbrev cJ29_getIntUnaligned : ByteArray := prog_75_method_336_code
def yJ29_getIntUnaligned : MethodName := ⟨RJ29, "getIntUnaligned", "(Ljava/lang/Object;J)I"⟩
abbrev cJ29_makeInt : ByteArray := prog_75_method_354_code
def yJ29_makeInt : MethodName := ⟨RJ29, "makeInt", "(SS)I"⟩
abbrev cJ29_toUnsignedInt : ByteArray := prog_75_method_367_code
def yJ29_toUnsignedInt : MethodName := ⟨RJ29, "toUnsignedInt", "(S)I"⟩
abbrev cJ29_makeInt_2 : ByteArray := prog_75_method_355_code
def yJ29_makeInt_2 : MethodName := ⟨RJ29, "makeInt", "(BBBB)I"⟩
abbrev cJ29_toUnsignedInt_2 : ByteArray := prog_75_method_366_code
def yJ29_toUnsignedInt_2 : MethodName := ⟨RJ29, "toUnsignedInt", "(B)I"⟩
theorem q155 : (Jvm.Cond.initialized "jdk/internal/misc/Unsafe") ∈ lw_all := lw_g (lw_at lw_m1 48 rfl) rfl
theorem q1148 : (Jvm.Cond.selects "jdk/internal/misc/Unsafe" ({ cls := "java/lang/Object", name := "getClass", desc := "()Ljava/lang/Class;" } : Jvm.MethodName) ({ cls := "java/lang/Object", name := "getClass", desc := "()Ljava/lang/Class;" } : Jvm.MethodName)) ∈ lw_all := lw_g (lw_at lw_m5 81 rfl) rfl
theorem q1365 : (Jvm.Cond.selects "jdk/internal/misc/Unsafe" ({ cls := "java/lang/Object", name := "hashCode", desc := "()I" } : Jvm.MethodName) ({ cls := "java/lang/Object", name := "hashCode", desc := "()I" } : Jvm.MethodName)) ∈ lw_all := lw_g (lw_at lw_m6 58 rfl) rfl
theorem q1416 : (Jvm.Cond.selects "jdk/internal/misc/Unsafe" ({ cls := "java/lang/Object", name := "equals", desc := "(Ljava/lang/Object;)Z" } : Jvm.MethodName) ({ cls := "java/lang/Object", name := "equals", desc := "(Ljava/lang/Object;)Z" } : Jvm.MethodName)) ∈ lw_all := lw_g (lw_at lw_m6 109 rfl) rfl
theorem q1489 : (Jvm.Cond.laysStatic "jdk/internal/misc/Unsafe" "ARRAY_BYTE_BASE_OFFSET" "I") ∈ lw_tbl := lw_at lw_m6 182 rfl
theorem q1500 : (Jvm.Cond.instanceMethod ({ cls := "jdk/internal/misc/Unsafe", name := "getLongUnaligned", desc := "(Ljava/lang/Object;J)J" } : Jvm.MethodName)) ∈ lw_all := lw_g (lw_at lw_m6 193 rfl) rfl
theorem q1501 : (Jvm.Cond.selects "jdk/internal/misc/Unsafe" ({ cls := "jdk/internal/misc/Unsafe", name := "getLongUnaligned", desc := "(Ljava/lang/Object;J)J" } : Jvm.MethodName) ({ cls := "jdk/internal/misc/Unsafe", name := "getLongUnaligned", desc := "(Ljava/lang/Object;J)J" } : Jvm.MethodName)) ∈ lw_all := lw_g (lw_at lw_m6 194 rfl) rfl
theorem q1502 : (Jvm.Cond.code ({ cls := "jdk/internal/misc/Unsafe", name := "getLongUnaligned", desc := "(Ljava/lang/Object;J)J" } : Jvm.MethodName) prog_75_method_334_code (4 : Nat) (Option.some Jvm.ClassFile.FieldType.long)) ∈ lw_all := lw_g (lw_at lw_m6 195 rfl) rfl
theorem q1503 : (Jvm.Cond.constantLong "jdk/internal/misc/Unsafe" (696 : Nat) (7 : Int64)) ∈ lw_all := lw_g (lw_at lw_m6 196 rfl) rfl
theorem q1504 : (Jvm.Cond.methodLink "jdk/internal/misc/Unsafe" (27 : Nat) ({ cls := "jdk/internal/misc/Unsafe", name := "getLong", desc := "(Ljava/lang/Object;J)J" } : Jvm.MethodName)) ∈ lw_all := lw_g (lw_at lw_m6 197 rfl) rfl
theorem q1505 : (Jvm.Cond.instanceMethod ({ cls := "jdk/internal/misc/Unsafe", name := "getLong", desc := "(Ljava/lang/Object;J)J" } : Jvm.MethodName)) ∈ lw_all := lw_g (lw_at lw_m6 198 rfl) rfl
theorem q1506 : (Jvm.Cond.selects "jdk/internal/misc/Unsafe" ({ cls := "jdk/internal/misc/Unsafe", name := "getLong", desc := "(Ljava/lang/Object;J)J" } : Jvm.MethodName) ({ cls := "jdk/internal/misc/Unsafe", name := "getLong", desc := "(Ljava/lang/Object;J)J" } : Jvm.MethodName)) ∈ lw_all := lw_g (lw_at lw_m6 199 rfl) rfl
theorem q1507 : (Jvm.Cond.native ({ cls := "jdk/internal/misc/Unsafe", name := "getLong", desc := "(Ljava/lang/Object;J)J" } : Jvm.MethodName)) ∈ lw_all := lw_g (lw_at lw_m6 200 rfl) rfl
theorem q1508 : (Jvm.Cond.constantLong "jdk/internal/misc/Unsafe" (349 : Nat) (3 : Int64)) ∈ lw_all := lw_g (lw_at lw_m6 201 rfl) rfl
theorem q1509 : (Jvm.Cond.methodLink "jdk/internal/misc/Unsafe" (17 : Nat) ({ cls := "jdk/internal/misc/Unsafe", name := "getInt", desc := "(Ljava/lang/Object;J)I" } : Jvm.MethodName)) ∈ lw_all := lw_g (lw_at lw_m6 202 rfl) rfl
theorem q1510 : (Jvm.Cond.instanceMethod ({ cls := "jdk/internal/misc/Unsafe", name := "getInt", desc := "(Ljava/lang/Object;J)I" } : Jvm.MethodName)) ∈ lw_all := lw_g (lw_at lw_m6 203 rfl) rfl
theorem q1511 : (Jvm.Cond.selects "jdk/internal/misc/Unsafe" ({ cls := "jdk/internal/misc/Unsafe", name := "getInt", desc := "(Ljava/lang/Object;J)I" } : Jvm.MethodName) ({ cls := "jdk/internal/misc/Unsafe", name := "getInt", desc := "(Ljava/lang/Object;J)I" } : Jvm.MethodName)) ∈ lw_all := lw_g (lw_at lw_m6 204 rfl) rfl
theorem q1512 : (Jvm.Cond.native ({ cls := "jdk/internal/misc/Unsafe", name := "getInt", desc := "(Ljava/lang/Object;J)I" } : Jvm.MethodName)) ∈ lw_all := lw_g (lw_at lw_m6 205 rfl) rfl
theorem q1513 : (Jvm.Cond.constantLong "jdk/internal/misc/Unsafe" (205 : Nat) (4 : Int64)) ∈ lw_all := lw_g (lw_at lw_m6 206 rfl) rfl
theorem q1514 : (Jvm.Cond.methodLink "jdk/internal/misc/Unsafe" (698 : Nat) ({ cls := "jdk/internal/misc/Unsafe", name := "makeLong", desc := "(II)J" } : Jvm.MethodName)) ∈ lw_all := lw_g (lw_at lw_m6 207 rfl) rfl
theorem q1515 : (Jvm.Cond.static ({ cls := "jdk/internal/misc/Unsafe", name := "makeLong", desc := "(II)J" } : Jvm.MethodName)) ∈ lw_all := lw_g (lw_at lw_m6 208 rfl) rfl
theorem q1516 : (Jvm.Cond.code ({ cls := "jdk/internal/misc/Unsafe", name := "makeLong", desc := "(II)J" } : Jvm.MethodName) prog_75_method_353_code (2 : Nat) (Option.some Jvm.ClassFile.FieldType.long)) ∈ lw_all := lw_g (lw_at lw_m6 209 rfl) rfl
theorem q1517 : (Jvm.Cond.methodLink "jdk/internal/misc/Unsafe" (791 : Nat) ({ cls := "jdk/internal/misc/Unsafe", name := "toUnsignedLong", desc := "(I)J" } : Jvm.MethodName)) ∈ lw_all := lw_g (lw_at lw_m6 210 rfl) rfl
theorem q1518 : (Jvm.Cond.static ({ cls := "jdk/internal/misc/Unsafe", name := "toUnsignedLong", desc := "(I)J" } : Jvm.MethodName)) ∈ lw_all := lw_g (lw_at lw_m6 211 rfl) rfl
theorem q1519 : (Jvm.Cond.code ({ cls := "jdk/internal/misc/Unsafe", name := "toUnsignedLong", desc := "(I)J" } : Jvm.MethodName) prog_75_method_370_code (1 : Nat) (Option.some Jvm.ClassFile.FieldType.long)) ∈ lw_all := lw_g (lw_at lw_m6 212 rfl) rfl
theorem q1520 : (Jvm.Cond.constantLong "jdk/internal/misc/Unsafe" (812 : Nat) (4294967295 : Int64)) ∈ lw_all := lw_g (lw_at lw_m6 213 rfl) rfl
theorem q1521 : (Jvm.Cond.methodLink "jdk/internal/misc/Unsafe" (784 : Nat) ({ cls := "jdk/internal/misc/Unsafe", name := "pickPos", desc := "(II)I" } : Jvm.MethodName)) ∈ lw_all := lw_g (lw_at lw_m6 214 rfl) rfl
theorem q1522 : (Jvm.Cond.static ({ cls := "jdk/internal/misc/Unsafe", name := "pickPos", desc := "(II)I" } : Jvm.MethodName)) ∈ lw_all := lw_g (lw_at lw_m6 215 rfl) rfl
theorem q1523 : (Jvm.Cond.code ({ cls := "jdk/internal/misc/Unsafe", name := "pickPos", desc := "(II)I" } : Jvm.MethodName) prog_75_method_350_code (2 : Nat) (Option.some Jvm.ClassFile.FieldType.int)) ∈ lw_all := lw_g (lw_at lw_m6 216 rfl) rfl
theorem q1524 : (Jvm.Cond.fieldLink "jdk/internal/misc/Unsafe" (351 : Nat) "jdk/internal/misc/UnsafeConstants" "BIG_ENDIAN" "Z") ∈ lw_all := lw_g (lw_at lw_m6 217 rfl) rfl
theorem q1526 : (Jvm.Cond.methodLink "jdk/internal/misc/Unsafe" (47 : Nat) ({ cls := "jdk/internal/misc/Unsafe", name := "getShort", desc := "(Ljava/lang/Object;J)S" } : Jvm.MethodName)) ∈ lw_all := lw_g (lw_at lw_m6 219 rfl) rfl
theorem q1527 : (Jvm.Cond.instanceMethod ({ cls := "jdk/internal/misc/Unsafe", name := "getShort", desc := "(Ljava/lang/Object;J)S" } : Jvm.MethodName)) ∈ lw_all := lw_g (lw_at lw_m6 220 rfl) rfl
theorem q1528 : (Jvm.Cond.selects "jdk/internal/misc/Unsafe" ({ cls := "jdk/internal/misc/Unsafe", name := "getShort", desc := "(Ljava/lang/Object;J)S" } : Jvm.MethodName) ({ cls := "jdk/internal/misc/Unsafe", name := "getShort", desc := "(Ljava/lang/Object;J)S" } : Jvm.MethodName)) ∈ lw_all := lw_g (lw_at lw_m6 221 rfl) rfl
theorem q1529 : (Jvm.Cond.native ({ cls := "jdk/internal/misc/Unsafe", name := "getShort", desc := "(Ljava/lang/Object;J)S" } : Jvm.MethodName)) ∈ lw_all := lw_g (lw_at lw_m6 222 rfl) rfl
theorem q1530 : (Jvm.Cond.constantLong "jdk/internal/misc/Unsafe" (203 : Nat) (2 : Int64)) ∈ lw_all := lw_g (lw_at lw_m6 223 rfl) rfl
theorem q1531 : (Jvm.Cond.constantLong "jdk/internal/misc/Unsafe" (702 : Nat) (6 : Int64)) ∈ lw_all := lw_g (lw_at lw_m6 224 rfl) rfl
theorem q1532 : (Jvm.Cond.methodLink "jdk/internal/misc/Unsafe" (704 : Nat) ({ cls := "jdk/internal/misc/Unsafe", name := "makeLong", desc := "(SSSS)J" } : Jvm.MethodName)) ∈ lw_all := lw_g (lw_at lw_m6 225 rfl) rfl
theorem q1533 : (Jvm.Cond.static ({ cls := "jdk/internal/misc/Unsafe", name := "makeLong", desc := "(SSSS)J" } : Jvm.MethodName)) ∈ lw_all := lw_g (lw_at lw_m6 226 rfl) rfl
theorem q1534 : (Jvm.Cond.code ({ cls := "jdk/internal/misc/Unsafe", name := "makeLong", desc := "(SSSS)J" } : Jvm.MethodName) prog_75_method_352_code (4 : Nat) (Option.some Jvm.ClassFile.FieldType.long)) ∈ lw_all := lw_g (lw_at lw_m6 227 rfl) rfl
theorem q1535 : (Jvm.Cond.methodLink "jdk/internal/misc/Unsafe" (788 : Nat) ({ cls := "jdk/internal/misc/Unsafe", name := "toUnsignedLong", desc := "(S)J" } : Jvm.MethodName)) ∈ lw_all := lw_g (lw_at lw_m6 228 rfl) rfl
theorem q1536 : (Jvm.Cond.static ({ cls := "jdk/internal/misc/Unsafe", name := "toUnsignedLong", desc := "(S)J" } : Jvm.MethodName)) ∈ lw_all := lw_g (lw_at lw_m6 229 rfl) rfl
theorem q1537 : (Jvm.Cond.code ({ cls := "jdk/internal/misc/Unsafe", name := "toUnsignedLong", desc := "(S)J" } : Jvm.MethodName) prog_75_method_369_code (1 : Nat) (Option.some Jvm.ClassFile.FieldType.long)) ∈ lw_all := lw_g (lw_at lw_m6 230 rfl) rfl
theorem q1538 : (Jvm.Cond.constantLong "jdk/internal/misc/Unsafe" (810 : Nat) (65535 : Int64)) ∈ lw_all := lw_g (lw_at lw_m6 231 rfl) rfl
theorem q1539 : (Jvm.Cond.methodLink "jdk/internal/misc/Unsafe" (39 : Nat) ({ cls := "jdk/internal/misc/Unsafe", name := "getByte", desc := "(Ljava/lang/Object;J)B" } : Jvm.MethodName)) ∈ lw_all := lw_g (lw_at lw_m6 232 rfl) rfl
theorem q1540 : (Jvm.Cond.instanceMethod ({ cls := "jdk/internal/misc/Unsafe", name := "getByte", desc := "(Ljava/lang/Object;J)B" } : Jvm.MethodName)) ∈ lw_all := lw_g (lw_at lw_m6 233 rfl) rfl
theorem q1541 : (Jvm.Cond.selects "jdk/internal/misc/Unsafe" ({ cls := "jdk/internal/misc/Unsafe", name := "getByte", desc := "(Ljava/lang/Object;J)B" } : Jvm.MethodName) ({ cls := "jdk/internal/misc/Unsafe", name := "getByte", desc := "(Ljava/lang/Object;J)B" } : Jvm.MethodName)) ∈ lw_all := lw_g (lw_at lw_m6 234 rfl) rfl
theorem q1542 : (Jvm.Cond.native ({ cls := "jdk/internal/misc/Unsafe", name := "getByte", desc := "(Ljava/lang/Object;J)B" } : Jvm.MethodName)) ∈ lw_all := lw_g (lw_at lw_m6 235 rfl) rfl
theorem q1543 : (Jvm.Cond.constantLong "jdk/internal/misc/Unsafe" (707 : Nat) (5 : Int64)) ∈ lw_all := lw_g (lw_at lw_m6 236 rfl) rfl
theorem q1544 : (Jvm.Cond.methodLink "jdk/internal/misc/Unsafe" (709 : Nat) ({ cls := "jdk/internal/misc/Unsafe", name := "makeLong", desc := "(BBBBBBBB)J" } : Jvm.MethodName)) ∈ lw_all := lw_g (lw_at lw_m6 237 rfl) rfl
theorem q1545 : (Jvm.Cond.static ({ cls := "jdk/internal/misc/Unsafe", name := "makeLong", desc := "(BBBBBBBB)J" } : Jvm.MethodName)) ∈ lw_all := lw_g (lw_at lw_m6 238 rfl) rfl
theorem q1546 : (Jvm.Cond.code ({ cls := "jdk/internal/misc/Unsafe", name := "makeLong", desc := "(BBBBBBBB)J" } : Jvm.MethodName) prog_75_method_351_code (8 : Nat) (Option.some Jvm.ClassFile.FieldType.long)) ∈ lw_all := lw_g (lw_at lw_m6 239 rfl) rfl
theorem q1547 : (Jvm.Cond.methodLink "jdk/internal/misc/Unsafe" (781 : Nat) ({ cls := "jdk/internal/misc/Unsafe", name := "toUnsignedLong", desc := "(B)J" } : Jvm.MethodName)) ∈ lw_all := lw_g (lw_at lw_m7 0 rfl) rfl
theorem q1548 : (Jvm.Cond.static ({ cls := "jdk/internal/misc/Unsafe", name := "toUnsignedLong", desc := "(B)J" } : Jvm.MethodName)) ∈ lw_all := lw_g (lw_at lw_m7 1 rfl) rfl
theorem q1549 : (Jvm.Cond.code ({ cls := "jdk/internal/misc/Unsafe", name := "toUnsignedLong", desc := "(B)J" } : Jvm.MethodName) prog_75_method_368_code (1 : Nat) (Option.some Jvm.ClassFile.FieldType.long)) ∈ lw_all := lw_g (lw_at lw_m7 2 rfl) rfl
theorem q1550 : (Jvm.Cond.constantLong "jdk/internal/misc/Unsafe" (808 : Nat) (255 : Int64)) ∈ lw_all := lw_g (lw_at lw_m7 3 rfl) rfl
theorem q1571 : (Jvm.Cond.instanceMethod ({ cls := "jdk/internal/misc/Unsafe", name := "getIntUnaligned", desc := "(Ljava/lang/Object;J)I" } : Jvm.MethodName)) ∈ lw_all := lw_g (lw_at lw_m7 24 rfl) rfl
theorem q1572 : (Jvm.Cond.selects "jdk/internal/misc/Unsafe" ({ cls := "jdk/internal/misc/Unsafe", name := "getIntUnaligned", desc := "(Ljava/lang/Object;J)I" } : Jvm.MethodName) ({ cls := "jdk/internal/misc/Unsafe", name := "getIntUnaligned", desc := "(Ljava/lang/Object;J)I" } : Jvm.MethodName)) ∈ lw_all := lw_g (lw_at lw_m7 25 rfl) rfl
theorem q1573 : (Jvm.Cond.code ({ cls := "jdk/internal/misc/Unsafe", name := "getIntUnaligned", desc := "(Ljava/lang/Object;J)I" } : Jvm.MethodName) prog_75_method_336_code (4 : Nat) (Option.some Jvm.ClassFile.FieldType.int)) ∈ lw_all := lw_g (lw_at lw_m7 26 rfl) rfl
theorem q1574 : (Jvm.Cond.methodLink "jdk/internal/misc/Unsafe" (719 : Nat) ({ cls := "jdk/internal/misc/Unsafe", name := "makeInt", desc := "(SS)I" } : Jvm.MethodName)) ∈ lw_all := lw_g (lw_at lw_m7 27 rfl) rfl
theorem q1575 : (Jvm.Cond.static ({ cls := "jdk/internal/misc/Unsafe", name := "makeInt", desc := "(SS)I" } : Jvm.MethodName)) ∈ lw_all := lw_g (lw_at lw_m7 28 rfl) rfl
theorem q1576 : (Jvm.Cond.code ({ cls := "jdk/internal/misc/Unsafe", name := "makeInt", desc := "(SS)I" } : Jvm.MethodName) prog_75_method_354_code (2 : Nat) (Option.some Jvm.ClassFile.FieldType.int)) ∈ lw_all := lw_g (lw_at lw_m7 29 rfl) rfl
theorem q1577 : (Jvm.Cond.methodLink "jdk/internal/misc/Unsafe" (792 : Nat) ({ cls := "jdk/internal/misc/Unsafe", name := "toUnsignedInt", desc := "(S)I" } : Jvm.MethodName)) ∈ lw_all := lw_g (lw_at lw_m7 30 rfl) rfl
theorem q1578 : (Jvm.Cond.static ({ cls := "jdk/internal/misc/Unsafe", name := "toUnsignedInt", desc := "(S)I" } : Jvm.MethodName)) ∈ lw_all := lw_g (lw_at lw_m7 31 rfl) rfl
theorem q1579 : (Jvm.Cond.code ({ cls := "jdk/internal/misc/Unsafe", name := "toUnsignedInt", desc := "(S)I" } : Jvm.MethodName) prog_75_method_367_code (1 : Nat) (Option.some Jvm.ClassFile.FieldType.int)) ∈ lw_all := lw_g (lw_at lw_m7 32 rfl) rfl
theorem q1580 : (Jvm.Cond.constant "jdk/internal/misc/Unsafe" (374 : Nat) (65535 : Int32)) ∈ lw_all := lw_g (lw_at lw_m7 33 rfl) rfl
theorem q1581 : (Jvm.Cond.methodLink "jdk/internal/misc/Unsafe" (723 : Nat) ({ cls := "jdk/internal/misc/Unsafe", name := "makeInt", desc := "(BBBB)I" } : Jvm.MethodName)) ∈ lw_all := lw_g (lw_at lw_m7 34 rfl) rfl
theorem q1582 : (Jvm.Cond.static ({ cls := "jdk/internal/misc/Unsafe", name := "makeInt", desc := "(BBBB)I" } : Jvm.MethodName)) ∈ lw_all := lw_g (lw_at lw_m7 35 rfl) rfl
theorem q1583 : (Jvm.Cond.code ({ cls := "jdk/internal/misc/Unsafe", name := "makeInt", desc := "(BBBB)I" } : Jvm.MethodName) prog_75_method_355_code (4 : Nat) (Option.some Jvm.ClassFile.FieldType.int)) ∈ lw_all := lw_g (lw_at lw_m7 36 rfl) rfl
theorem q1584 : (Jvm.Cond.methodLink "jdk/internal/misc/Unsafe" (796 : Nat) ({ cls := "jdk/internal/misc/Unsafe", name := "toUnsignedInt", desc := "(B)I" } : Jvm.MethodName)) ∈ lw_all := lw_g (lw_at lw_m7 37 rfl) rfl
theorem q1585 : (Jvm.Cond.static ({ cls := "jdk/internal/misc/Unsafe", name := "toUnsignedInt", desc := "(B)I" } : Jvm.MethodName)) ∈ lw_all := lw_g (lw_at lw_m7 38 rfl) rfl
theorem q1586 : (Jvm.Cond.code ({ cls := "jdk/internal/misc/Unsafe", name := "toUnsignedInt", desc := "(B)I" } : Jvm.MethodName) prog_75_method_366_code (1 : Nat) (Option.some Jvm.ClassFile.FieldType.int)) ∈ lw_all := lw_g (lw_at lw_m7 39 rfl) rfl
theorem q3319 : (Jvm.Cond.castable "jdk/internal/misc/Unsafe" "java/lang/Object") ∈ lw_tbl := lw_at lw_m14 92 rfl

/-! java/lang/Throwable -/
set_option maxRecDepth 100000
def RJ3 : String := "java/lang/Throwable"
def TJ3 : u_T := fun k => match k with
  | 0 => ("java/lang/Throwable", "cause", "Ljava/lang/Throwable;", false)
  | 1 => ("java/lang/Throwable", "stackTrace", "[Ljava/lang/StackTraceElement;", false)
  | 2 => ("java/lang/Throwable", "suppressedExceptions", "Ljava/util/List;", false)
  | 3 => ("java/lang/Throwable", "detailMessage", "Ljava/lang/String;", false)
  | _ => ("java/lang/Throwable", "backtrace", "Ljava/lang/Object;", false)
def tyJ3 : Nat → FieldType := fun k => match k with
  | 0 => .object "java/lang/Throwable"
  | 1 => .array (.object "java/lang/StackTraceElement")
  | 2 => .object "java/util/List"
  | 3 => .object "java/lang/String"
  | _ => .object "java/lang/Object"
abbrev wsJ30 : List Cond := u_ws RJ3 TJ3 5
theorem nmJ3 : ∀ a, a < 5 → ∀ b, b < 5 → a ≠ b → (TJ3 a).2.1 ≠ (TJ3 b).2.1 := by decide +kernel
theorem tyJ3_ok : ∀ k, k < 5 → parseFieldDescriptor (TJ3 k).2.2.1 = some (tyJ3 k) := by decide +kernel
abbrev cJ3_init : ByteArray := prog_47_method_1_code
def yJ3_init : MethodName := ⟨RJ3, "<init>", "()V"⟩
def dkwJ3_init_1 : List UInt8 := [182, 0, 27, 87, 177]
abbrev dktJ3_init_1 : List UInt8 := dkwJ3_init_1 ++ []
def dkwJ3_init_0 : List UInt8 := [42, 183, 0, 1, 42, 42, 181, 0, 7, 42, 178, 0, 13, 181, 0, 17, 42, 178, 0, 20, 181, 0, 24, 42]
abbrev dktJ3_init_0 : List UInt8 := dkwJ3_init_0 ++ dktJ3_init_1
theorem dksJ3_init_0 : cJ3_init.data.toList.drop 0 = dktJ3_init_0 := by decide +kernel
theorem dksJ3_init_1 : cJ3_init.data.toList.drop 24 = dktJ3_init_1 := dk_seg dksJ3_init_0 24 rfl rfl
theorem dJ3_init_0 : decode cJ3_init 0 = .ok (.aload_n 0, 1) := dk_42 (dk_at dksJ3_init_0 0 rfl rfl)
theorem dJ3_init_1 : decode cJ3_init 1 = .ok (.invokespecial 1, 3) := dk_183 0 1 (dk_at dksJ3_init_0 1 rfl rfl)
theorem dJ3_init_4 : decode cJ3_init 4 = .ok (.aload_n 0, 1) := dk_42 (dk_at dksJ3_init_0 4 rfl rfl)
theorem dJ3_init_5 : decode cJ3_init 5 = .ok (.aload_n 0, 1) := dk_42 (dk_at dksJ3_init_0 5 rfl rfl)
theorem dJ3_init_6 : decode cJ3_init 6 = .ok (.putfield 7, 3) := dk_181 0 7 (dk_at dksJ3_init_0 6 rfl rfl)
theorem dJ3_init_9 : decode cJ3_init 9 = .ok (.aload_n 0, 1) := dk_42 (dk_at dksJ3_init_0 9 rfl rfl)
theorem dJ3_init_10 : decode cJ3_init 10 = .ok (.getstatic 13, 3) := dk_178 0 13 (dk_at dksJ3_init_0 10 rfl rfl)
theorem dJ3_init_13 : decode cJ3_init 13 = .ok (.putfield 17, 3) := dk_181 0 17 (dk_at dksJ3_init_0 13 rfl rfl)
theorem dJ3_init_16 : decode cJ3_init 16 = .ok (.aload_n 0, 1) := dk_42 (dk_at dksJ3_init_0 16 rfl rfl)
theorem dJ3_init_17 : decode cJ3_init 17 = .ok (.getstatic 20, 3) := dk_178 0 20 (dk_at dksJ3_init_0 17 rfl rfl)
theorem dJ3_init_20 : decode cJ3_init 20 = .ok (.putfield 24, 3) := dk_181 0 24 (dk_at dksJ3_init_0 20 rfl rfl)
theorem dJ3_init_23 : decode cJ3_init 23 = .ok (.aload_n 0, 1) := dk_42 (dk_at dksJ3_init_0 23 rfl rfl)
theorem dJ3_init_24 : decode cJ3_init 24 = .ok (.invokevirtual 27, 3) := dk_182 0 27 (dk_at dksJ3_init_1 0 rfl rfl)
theorem dJ3_init_27 : decode cJ3_init 27 = .ok (.pop, 1) := dk_87 (dk_at dksJ3_init_1 3 rfl rfl)
theorem dJ3_init_28 : decode cJ3_init 28 = .ok (.return_, 1) := dk_177 (dk_at dksJ3_init_1 4 rfl rfl)
abbrev cJ3_init_2 : ByteArray := prog_47_method_2_code
def yJ3_init_2 : MethodName := ⟨RJ3, "<init>", "(Ljava/lang/String;)V"⟩
def dkwJ3_init_2_1 : List UInt8 := [182, 0, 27, 87, 42, 43, 181, 0, 31, 177]
abbrev dktJ3_init_2_1 : List UInt8 := dkwJ3_init_2_1 ++ []
def dkwJ3_init_2_0 : List UInt8 := [42, 183, 0, 1, 42, 42, 181, 0, 7, 42, 178, 0, 13, 181, 0, 17, 42, 178, 0, 20, 181, 0, 24, 42]
abbrev dktJ3_init_2_0 : List UInt8 := dkwJ3_init_2_0 ++ dktJ3_init_2_1
theorem dksJ3_init_2_0 : cJ3_init_2.data.toList.drop 0 = dktJ3_init_2_0 := by decide +kernel
theorem dksJ3_init_2_1 : cJ3_init_2.data.toList.drop 24 = dktJ3_init_2_1 := dk_seg dksJ3_init_2_0 24 rfl rfl
theorem dJ3_init_2_0 : decode cJ3_init_2 0 = .ok (.aload_n 0, 1) := dk_42 (dk_at dksJ3_init_2_0 0 rfl rfl)
theorem dJ3_init_2_1 : decode cJ3_init_2 1 = .ok (.invokespecial 1, 3) := dk_183 0 1 (dk_at dksJ3_init_2_0 1 rfl rfl)
theorem dJ3_init_2_4 : decode cJ3_init_2 4 = .ok (.aload_n 0, 1) := dk_42 (dk_at dksJ3_init_2_0 4 rfl rfl)
theorem dJ3_init_2_5 : decode cJ3_init_2 5 = .ok (.aload_n 0, 1) := dk_42 (dk_at dksJ3_init_2_0 5 rfl rfl)
theorem dJ3_init_2_6 : decode cJ3_init_2 6 = .ok (.putfield 7, 3) := dk_181 0 7 (dk_at dksJ3_init_2_0 6 rfl rfl)
theorem dJ3_init_2_9 : decode cJ3_init_2 9 = .ok (.aload_n 0, 1) := dk_42 (dk_at dksJ3_init_2_0 9 rfl rfl)
theorem dJ3_init_2_10 : decode cJ3_init_2 10 = .ok (.getstatic 13, 3) := dk_178 0 13 (dk_at dksJ3_init_2_0 10 rfl rfl)
theorem dJ3_init_2_13 : decode cJ3_init_2 13 = .ok (.putfield 17, 3) := dk_181 0 17 (dk_at dksJ3_init_2_0 13 rfl rfl)
theorem dJ3_init_2_16 : decode cJ3_init_2 16 = .ok (.aload_n 0, 1) := dk_42 (dk_at dksJ3_init_2_0 16 rfl rfl)
theorem dJ3_init_2_17 : decode cJ3_init_2 17 = .ok (.getstatic 20, 3) := dk_178 0 20 (dk_at dksJ3_init_2_0 17 rfl rfl)
theorem dJ3_init_2_20 : decode cJ3_init_2 20 = .ok (.putfield 24, 3) := dk_181 0 24 (dk_at dksJ3_init_2_0 20 rfl rfl)
theorem dJ3_init_2_23 : decode cJ3_init_2 23 = .ok (.aload_n 0, 1) := dk_42 (dk_at dksJ3_init_2_0 23 rfl rfl)
theorem dJ3_init_2_24 : decode cJ3_init_2 24 = .ok (.invokevirtual 27, 3) := dk_182 0 27 (dk_at dksJ3_init_2_1 0 rfl rfl)
theorem dJ3_init_2_27 : decode cJ3_init_2 27 = .ok (.pop, 1) := dk_87 (dk_at dksJ3_init_2_1 3 rfl rfl)
theorem dJ3_init_2_28 : decode cJ3_init_2 28 = .ok (.aload_n 0, 1) := dk_42 (dk_at dksJ3_init_2_1 4 rfl rfl)
theorem dJ3_init_2_29 : decode cJ3_init_2 29 = .ok (.aload_n 1, 1) := dk_43 (dk_at dksJ3_init_2_1 5 rfl rfl)
theorem dJ3_init_2_30 : decode cJ3_init_2 30 = .ok (.putfield 31, 3) := dk_181 0 31 (dk_at dksJ3_init_2_1 6 rfl rfl)
theorem dJ3_init_2_33 : decode cJ3_init_2 33 = .ok (.return_, 1) := dk_177 (dk_at dksJ3_init_2_1 9 rfl rfl)
theorem q112 : (Jvm.Cond.initialized "java/lang/Throwable") ∈ lw_all := lw_g (lw_at lw_m1 5 rfl) rfl
theorem q195 : (Jvm.Cond.declares ({ cls := "java/lang/Throwable", name := "<init>", desc := "()V" } : Jvm.MethodName)) ∈ lw_tbl := lw_at lw_m1 88 rfl
theorem q196 : (Jvm.Cond.declares ({ cls := "java/lang/Throwable", name := "<init>", desc := "(Ljava/lang/String;)V" } : Jvm.MethodName)) ∈ lw_tbl := lw_at lw_m1 89 rfl
theorem q200 : (Jvm.Cond.lays "java/lang/Throwable" "java/lang/Throwable" "cause" "Ljava/lang/Throwable;") ∈ lw_all := lw_g (lw_at lw_m1 93 rfl) rfl
theorem q202 : (Jvm.Cond.lays "java/lang/Throwable" "java/lang/Throwable" "stackTrace" "[Ljava/lang/StackTraceElement;") ∈ lw_all := lw_g (lw_at lw_m1 95 rfl) rfl
theorem q204 : (Jvm.Cond.lays "java/lang/Throwable" "java/lang/Throwable" "suppressedExceptions" "Ljava/util/List;") ∈ lw_all := lw_g (lw_at lw_m1 97 rfl) rfl
theorem q206 : (Jvm.Cond.lays "java/lang/Throwable" "java/lang/Throwable" "detailMessage" "Ljava/lang/String;") ∈ lw_all := lw_g (lw_at lw_m1 99 rfl) rfl
theorem q208 : (Jvm.Cond.lays "java/lang/Throwable" "java/lang/Throwable" "backtrace" "Ljava/lang/Object;") ∈ lw_all := lw_g (lw_at lw_m1 101 rfl) rfl
theorem q209 : (Jvm.Cond.fieldLink "java/lang/Throwable" (198 : Nat) "java/lang/Throwable" "backtrace" "Ljava/lang/Object;") ∈ lw_all := lw_g (lw_at lw_m1 102 rfl) rfl
theorem q210 : (Jvm.Cond.superclass "java/lang/Throwable" "java/lang/Object") ∈ lw_all := lw_g (lw_at lw_m1 103 rfl) rfl
theorem q211 : (Jvm.Cond.instanceMethod ({ cls := "java/lang/Throwable", name := "<init>", desc := "()V" } : Jvm.MethodName)) ∈ lw_all := lw_g (lw_at lw_m1 104 rfl) rfl
theorem q212 : (Jvm.Cond.code ({ cls := "java/lang/Throwable", name := "<init>", desc := "()V" } : Jvm.MethodName) prog_47_method_1_code (1 : Nat) (Option.none : Option Jvm.ClassFile.FieldType)) ∈ lw_all := lw_g (lw_at lw_m1 105 rfl) rfl
theorem q213 : (Jvm.Cond.methodLink "java/lang/Throwable" (1 : Nat) ({ cls := "java/lang/Object", name := "<init>", desc := "()V" } : Jvm.MethodName)) ∈ lw_all := lw_g (lw_at lw_m1 106 rfl) rfl
theorem q214 : (Jvm.Cond.fieldLink "java/lang/Throwable" (13 : Nat) "java/lang/Throwable" "UNASSIGNED_STACK" "[Ljava/lang/StackTraceElement;") ∈ lw_all := lw_g (lw_at lw_m1 107 rfl) rfl
theorem q215 : (Jvm.Cond.laysStatic "java/lang/Throwable" "UNASSIGNED_STACK" "[Ljava/lang/StackTraceElement;") ∈ lw_tbl := lw_at lw_m1 108 rfl
theorem q216 : (Jvm.Cond.fieldLink "java/lang/Throwable" (20 : Nat) "java/lang/Throwable" "SUPPRESSED_SENTINEL" "Ljava/util/List;") ∈ lw_all := lw_g (lw_at lw_m1 109 rfl) rfl
theorem q217 : (Jvm.Cond.laysStatic "java/lang/Throwable" "SUPPRESSED_SENTINEL" "Ljava/util/List;") ∈ lw_tbl := lw_at lw_m1 110 rfl
theorem q218 : (Jvm.Cond.methodLink "java/lang/Throwable" (27 : Nat) ({ cls := "java/lang/Throwable", name := "fillInStackTrace", desc := "()Ljava/lang/Throwable;" } : Jvm.MethodName)) ∈ lw_all := lw_g (lw_at lw_m1 111 rfl) rfl
theorem q219 : (Jvm.Cond.instanceMethod ({ cls := "java/lang/Throwable", name := "fillInStackTrace", desc := "()Ljava/lang/Throwable;" } : Jvm.MethodName)) ∈ lw_all := lw_g (lw_at lw_m1 112 rfl) rfl
theorem q220 : (Jvm.Cond.sameMethod "java/lang/Throwable" "java/lang/Throwable" "fillInStackTrace" "()Ljava/lang/Throwable;") ∈ lw_all := lw_g (lw_at lw_m1 113 rfl) rfl
theorem q225 : (Jvm.Cond.codeSync ({ cls := "java/lang/Throwable", name := "fillInStackTrace", desc := "()Ljava/lang/Throwable;" } : Jvm.MethodName) prog_47_method_18_code (1 : Nat) (Option.some (Jvm.ClassFile.FieldType.object "java/lang/Throwable"))) ∈ lw_all := lw_g (lw_at lw_m1 118 rfl) rfl
theorem q226 : (Jvm.Cond.methodLink "java/lang/Throwable" (202 : Nat) ({ cls := "java/lang/Throwable", name := "fillInStackTrace", desc := "(I)Ljava/lang/Throwable;" } : Jvm.MethodName)) ∈ lw_all := lw_g (lw_at lw_m1 119 rfl) rfl
theorem q227 : (Jvm.Cond.privateMethod ({ cls := "java/lang/Throwable", name := "fillInStackTrace", desc := "(I)Ljava/lang/Throwable;" } : Jvm.MethodName)) ∈ lw_tbl := lw_at lw_m1 120 rfl
theorem q228 : (Jvm.Cond.instanceMethod ({ cls := "java/lang/Throwable", name := "fillInStackTrace", desc := "(I)Ljava/lang/Throwable;" } : Jvm.MethodName)) ∈ lw_all := lw_g (lw_at lw_m1 121 rfl) rfl
theorem q229 : (Jvm.Cond.instantiable "java/lang/Throwable" (6 : Nat)) ∈ lw_all := lw_g (lw_at lw_m1 122 rfl) rfl
theorem q230 : (Jvm.Cond.native ({ cls := "java/lang/Throwable", name := "fillInStackTrace", desc := "(I)Ljava/lang/Throwable;" } : Jvm.MethodName)) ∈ lw_all := lw_g (lw_at lw_m1 123 rfl) rfl
theorem q463 : (Jvm.Cond.instanceMethod ({ cls := "java/lang/Throwable", name := "<init>", desc := "(Ljava/lang/String;)V" } : Jvm.MethodName)) ∈ lw_all := lw_g (lw_at lw_m2 116 rfl) rfl
theorem q464 : (Jvm.Cond.code ({ cls := "java/lang/Throwable", name := "<init>", desc := "(Ljava/lang/String;)V" } : Jvm.MethodName) prog_47_method_2_code (2 : Nat) (Option.none : Option Jvm.ClassFile.FieldType)) ∈ lw_all := lw_g (lw_at lw_m2 117 rfl) rfl
theorem q465 : (Jvm.Cond.fieldLink "java/lang/Throwable" (198 : Nat) "java/lang/Throwable" "backtrace" "Ljava/lang/Object;") ∈ lw_all := lw_g (lw_at lw_m2 118 rfl) rfl
theorem q466 : (Jvm.Cond.fieldLink "java/lang/Throwable" (31 : Nat) "java/lang/Throwable" "detailMessage" "Ljava/lang/String;") ∈ lw_all := lw_g (lw_at lw_m2 119 rfl) rfl
theorem q467 : (Jvm.Cond.fieldLink "java/lang/Throwable" (7 : Nat) "java/lang/Throwable" "cause" "Ljava/lang/Throwable;") ∈ lw_all := lw_g (lw_at lw_m2 120 rfl) rfl
theorem q468 : (Jvm.Cond.fieldLink "java/lang/Throwable" (17 : Nat) "java/lang/Throwable" "stackTrace" "[Ljava/lang/StackTraceElement;") ∈ lw_all := lw_g (lw_at lw_m2 121 rfl) rfl
theorem q469 : (Jvm.Cond.fieldLink "java/lang/Throwable" (24 : Nat) "java/lang/Throwable" "suppressedExceptions" "Ljava/util/List;") ∈ lw_all := lw_g (lw_at lw_m2 122 rfl) rfl
theorem q470 : (Jvm.Cond.soleField "java/lang/Throwable" "backtrace") ∈ lw_all := lw_g (lw_at lw_m2 123 rfl) rfl
theorem q471 : (Jvm.Cond.soleField "java/lang/Throwable" "detailMessage") ∈ lw_all := lw_g (lw_at lw_m2 124 rfl) rfl
theorem q472 : (Jvm.Cond.soleField "java/lang/Throwable" "cause") ∈ lw_all := lw_g (lw_at lw_m2 125 rfl) rfl
theorem q473 : (Jvm.Cond.soleField "java/lang/Throwable" "stackTrace") ∈ lw_all := lw_g (lw_at lw_m2 126 rfl) rfl
theorem q475 : (Jvm.Cond.soleField "java/lang/Throwable" "depth") ∈ lw_all := lw_g (lw_at lw_m2 128 rfl) rfl
theorem q476 : (Jvm.Cond.soleField "java/lang/Throwable" "suppressedExceptions") ∈ lw_all := lw_g (lw_at lw_m2 129 rfl) rfl
theorem q3267 : (Jvm.Cond.sameMethod "java/lang/Throwable" "java/lang/Throwable" "fillInStackTrace" "(I)Ljava/lang/Throwable;") ∈ lw_all := lw_g (lw_at lw_m14 40 rfl) rfl
theorem q3325 : (Jvm.Cond.castable "java/lang/Throwable" "java/lang/Object") ∈ lw_tbl := lw_at lw_m14 98 rfl
theorem in_J3 : ∀ w ∈ wsJ30, w ∈ lw_all := lw_in wsJ30 [200, 202, 204, 206, 208] (by decide +kernel) (by decide +kernel)

/-! java/lang/Long -/
set_option maxRecDepth 100000
def RJ30 : String := "java/lang/Long"
abbrev cJ30_numberOfLeadingZeros : ByteArray := prog_36_method_48_code
def yJ30_numberOfLeadingZeros : MethodName := ⟨RJ30, "numberOfLeadingZeros", "(J)I"⟩
abbrev cJ30_numberOfTrailingZeros : ByteArray := prog_36_method_49_code
def yJ30_numberOfTrailingZeros : MethodName := ⟨RJ30, "numberOfTrailingZeros", "(J)I"⟩
theorem q157 : (Jvm.Cond.initialized "java/lang/Long") ∈ lw_all := lw_g (lw_at lw_m1 50 rfl) rfl
theorem q1554 : (Jvm.Cond.static ({ cls := "java/lang/Long", name := "numberOfLeadingZeros", desc := "(J)I" } : Jvm.MethodName)) ∈ lw_all := lw_g (lw_at lw_m7 7 rfl) rfl
theorem q1555 : (Jvm.Cond.code ({ cls := "java/lang/Long", name := "numberOfLeadingZeros", desc := "(J)I" } : Jvm.MethodName) prog_36_method_48_code (3 : Nat) (Option.some Jvm.ClassFile.FieldType.int)) ∈ lw_all := lw_g (lw_at lw_m7 8 rfl) rfl
theorem q1556 : (Jvm.Cond.methodLink "java/lang/Long" (308 : Nat) ({ cls := "java/lang/Integer", name := "numberOfLeadingZeros", desc := "(I)I" } : Jvm.MethodName)) ∈ lw_all := lw_g (lw_at lw_m7 9 rfl) rfl
theorem q1563 : (Jvm.Cond.static ({ cls := "java/lang/Long", name := "numberOfTrailingZeros", desc := "(J)I" } : Jvm.MethodName)) ∈ lw_all := lw_g (lw_at lw_m7 16 rfl) rfl
theorem q1564 : (Jvm.Cond.code ({ cls := "java/lang/Long", name := "numberOfTrailingZeros", desc := "(J)I" } : Jvm.MethodName) prog_36_method_49_code (3 : Nat) (Option.some Jvm.ClassFile.FieldType.int)) ∈ lw_all := lw_g (lw_at lw_m7 17 rfl) rfl
theorem q1565 : (Jvm.Cond.methodLink "java/lang/Long" (311 : Nat) ({ cls := "java/lang/Integer", name := "numberOfTrailingZeros", desc := "(I)I" } : Jvm.MethodName)) ∈ lw_all := lw_g (lw_at lw_m7 18 rfl) rfl

/-! java/util/HashMap$Node -/
set_option maxRecDepth 100000
def RJ31 : String := "java/util/HashMap$Node"
def TJ31 : u_T := fun k => match k with
  | 0 => ("java/util/HashMap$Node", "hash", "I", true)
  | 1 => ("java/util/HashMap$Node", "key", "Ljava/lang/Object;", true)
  | 2 => ("java/util/HashMap$Node", "value", "Ljava/lang/Object;", false)
  | _ => ("java/util/HashMap$Node", "next", "Ljava/util/HashMap$Node;", false)
def tyJ31 : Nat → FieldType := fun k => match k with
  | 0 => .int
  | 1 => .object "java/lang/Object"
  | 2 => .object "java/lang/Object"
  | _ => .object "java/util/HashMap$Node"
abbrev wsJ310 : List Cond := u_ws RJ31 TJ31 4
theorem nmJ31 : ∀ a, a < 4 → ∀ b, b < 4 → a ≠ b → (TJ31 a).2.1 ≠ (TJ31 b).2.1 := by decide +kernel
theorem tyJ31_ok : ∀ k, k < 4 → parseFieldDescriptor (TJ31 k).2.2.1 = some (tyJ31 k) := by decide +kernel
abbrev cJ31_init : ByteArray := prog_60_method_1_code
def yJ31_init : MethodName := ⟨RJ31, "<init>", "(ILjava/lang/Object;Ljava/lang/Object;Ljava/util/HashMap$Node;)V"⟩
def dkwJ31_init_1 : List UInt8 := [181, 0, 20, 177]
abbrev dktJ31_init_1 : List UInt8 := dkwJ31_init_1 ++ []
def dkwJ31_init_0 : List UInt8 := [42, 183, 0, 1, 42, 27, 181, 0, 7, 42, 44, 181, 0, 13, 42, 45, 181, 0, 17, 42, 25, 4]
abbrev dktJ31_init_0 : List UInt8 := dkwJ31_init_0 ++ dktJ31_init_1
theorem dksJ31_init_0 : cJ31_init.data.toList.drop 0 = dktJ31_init_0 := by decide +kernel
theorem dksJ31_init_1 : cJ31_init.data.toList.drop 22 = dktJ31_init_1 := dk_seg dksJ31_init_0 22 rfl rfl
theorem dJ31_init_0 : decode cJ31_init 0 = .ok (.aload_n 0, 1) := dk_42 (dk_at dksJ31_init_0 0 rfl rfl)
theorem dJ31_init_1 : decode cJ31_init 1 = .ok (.invokespecial 1, 3) := dk_183 0 1 (dk_at dksJ31_init_0 1 rfl rfl)
theorem dJ31_init_4 : decode cJ31_init 4 = .ok (.aload_n 0, 1) := dk_42 (dk_at dksJ31_init_0 4 rfl rfl)
theorem dJ31_init_5 : decode cJ31_init 5 = .ok (.iload_n 1, 1) := dk_27 (dk_at dksJ31_init_0 5 rfl rfl)
theorem dJ31_init_6 : decode cJ31_init 6 = .ok (.putfield 7, 3) := dk_181 0 7 (dk_at dksJ31_init_0 6 rfl rfl)
theorem dJ31_init_9 : decode cJ31_init 9 = .ok (.aload_n 0, 1) := dk_42 (dk_at dksJ31_init_0 9 rfl rfl)
theorem dJ31_init_10 : decode cJ31_init 10 = .ok (.aload_n 2, 1) := dk_44 (dk_at dksJ31_init_0 10 rfl rfl)
theorem dJ31_init_11 : decode cJ31_init 11 = .ok (.putfield 13, 3) := dk_181 0 13 (dk_at dksJ31_init_0 11 rfl rfl)
theorem dJ31_init_14 : decode cJ31_init 14 = .ok (.aload_n 0, 1) := dk_42 (dk_at dksJ31_init_0 14 rfl rfl)
theorem dJ31_init_15 : decode cJ31_init 15 = .ok (.aload_n 3, 1) := dk_45 (dk_at dksJ31_init_0 15 rfl rfl)
theorem dJ31_init_16 : decode cJ31_init 16 = .ok (.putfield 17, 3) := dk_181 0 17 (dk_at dksJ31_init_0 16 rfl rfl)
theorem dJ31_init_19 : decode cJ31_init 19 = .ok (.aload_n 0, 1) := dk_42 (dk_at dksJ31_init_0 19 rfl rfl)
theorem dJ31_init_20 : decode cJ31_init 20 = .ok (.aload 4, 2) := dk_25 4 (dk_at dksJ31_init_0 20 rfl rfl)
theorem dJ31_init_22 : decode cJ31_init 22 = .ok (.putfield 20, 3) := dk_181 0 20 (dk_at dksJ31_init_1 0 rfl rfl)
theorem dJ31_init_25 : decode cJ31_init 25 = .ok (.return_, 1) := dk_177 (dk_at dksJ31_init_1 3 rfl rfl)
theorem q158 : (Jvm.Cond.initialized "java/util/HashMap$Node") ∈ lw_all := lw_g (lw_at lw_m1 51 rfl) rfl
theorem q1143 : (Jvm.Cond.selects "java/util/HashMap$Node" ({ cls := "java/lang/Object", name := "getClass", desc := "()Ljava/lang/Class;" } : Jvm.MethodName) ({ cls := "java/lang/Object", name := "getClass", desc := "()Ljava/lang/Class;" } : Jvm.MethodName)) ∈ lw_all := lw_g (lw_at lw_m5 76 rfl) rfl
theorem q1696 : (Jvm.Cond.instanceMethod ({ cls := "java/util/HashMap$Node", name := "<init>", desc := "(ILjava/lang/Object;Ljava/lang/Object;Ljava/util/HashMap$Node;)V" } : Jvm.MethodName)) ∈ lw_all := lw_g (lw_at lw_m7 149 rfl) rfl
theorem q1697 : (Jvm.Cond.code ({ cls := "java/util/HashMap$Node", name := "<init>", desc := "(ILjava/lang/Object;Ljava/lang/Object;Ljava/util/HashMap$Node;)V" } : Jvm.MethodName) prog_60_method_1_code (5 : Nat) (Option.none : Option Jvm.ClassFile.FieldType)) ∈ lw_all := lw_g (lw_at lw_m7 150 rfl) rfl
theorem q1698 : (Jvm.Cond.methodLink "java/util/HashMap$Node" (1 : Nat) ({ cls := "java/lang/Object", name := "<init>", desc := "()V" } : Jvm.MethodName)) ∈ lw_all := lw_g (lw_at lw_m7 151 rfl) rfl
theorem q1701 : (Jvm.Cond.fieldLink "java/util/HashMap$Node" (7 : Nat) "java/util/HashMap$Node" "hash" "I") ∈ lw_all := lw_g (lw_at lw_m7 154 rfl) rfl
theorem q1707 : (Jvm.Cond.fieldLink "java/util/HashMap$Node" (13 : Nat) "java/util/HashMap$Node" "key" "Ljava/lang/Object;") ∈ lw_all := lw_g (lw_at lw_m7 160 rfl) rfl
theorem q1713 : (Jvm.Cond.fieldLink "java/util/HashMap$Node" (17 : Nat) "java/util/HashMap$Node" "value" "Ljava/lang/Object;") ∈ lw_all := lw_g (lw_at lw_m7 166 rfl) rfl
theorem q1718 : (Jvm.Cond.fieldLink "java/util/HashMap$Node" (20 : Nat) "java/util/HashMap$Node" "next" "Ljava/util/HashMap$Node;") ∈ lw_all := lw_g (lw_at lw_m7 171 rfl) rfl
theorem q1729 : (Jvm.Cond.soleField "java/util/HashMap$Node" "hash") ∈ lw_all := lw_g (lw_at lw_m7 182 rfl) rfl
theorem q1731 : (Jvm.Cond.soleField "java/util/HashMap$Node" "key") ∈ lw_all := lw_g (lw_at lw_m7 184 rfl) rfl
theorem q1733 : (Jvm.Cond.soleField "java/util/HashMap$Node" "value") ∈ lw_all := lw_g (lw_at lw_m7 186 rfl) rfl
theorem q1735 : (Jvm.Cond.soleField "java/util/HashMap$Node" "next") ∈ lw_all := lw_g (lw_at lw_m7 188 rfl) rfl
theorem q1742 : (Jvm.Cond.instantiable "java/util/HashMap$Node" (4 : Nat)) ∈ lw_all := lw_g (lw_at lw_m7 195 rfl) rfl
theorem q1744 : (Jvm.Cond.laysFinal "java/util/HashMap$Node" "java/util/HashMap$Node" "hash" "I") ∈ lw_all := lw_g (lw_at lw_m7 197 rfl) rfl
theorem q1745 : (Jvm.Cond.laysFinal "java/util/HashMap$Node" "java/util/HashMap$Node" "key" "Ljava/lang/Object;") ∈ lw_all := lw_g (lw_at lw_m7 198 rfl) rfl
theorem q1746 : (Jvm.Cond.lays "java/util/HashMap$Node" "java/util/HashMap$Node" "value" "Ljava/lang/Object;") ∈ lw_all := lw_g (lw_at lw_m7 199 rfl) rfl
theorem q1747 : (Jvm.Cond.lays "java/util/HashMap$Node" "java/util/HashMap$Node" "next" "Ljava/util/HashMap$Node;") ∈ lw_all := lw_g (lw_at lw_m7 200 rfl) rfl
theorem q1748 : (Jvm.Cond.superclass "java/util/HashMap$Node" "java/lang/Object") ∈ lw_all := lw_g (lw_at lw_m7 201 rfl) rfl
theorem q3290 : (Jvm.Cond.castable "java/util/HashMap$Node" "java/lang/Object") ∈ lw_tbl := lw_at lw_m14 63 rfl
theorem in_J31 : ∀ w ∈ wsJ310, w ∈ lw_all := lw_in wsJ310 [1744, 1745, 1746, 1747] (by decide +kernel) (by decide +kernel)

/-! java/util/LinkedHashMap$Entry -/
set_option maxRecDepth 100000
def RJ32 : String := "java/util/LinkedHashMap$Entry"
def TJ32 : u_T := fun k => match k with
  | 0 => ("java/util/HashMap$Node", "hash", "I", true)
  | 1 => ("java/util/HashMap$Node", "key", "Ljava/lang/Object;", true)
  | 2 => ("java/util/HashMap$Node", "value", "Ljava/lang/Object;", false)
  | 3 => ("java/util/HashMap$Node", "next", "Ljava/util/HashMap$Node;", false)
  | 4 => ("java/util/LinkedHashMap$Entry", "before", "Ljava/util/LinkedHashMap$Entry;", false)
  | _ => ("java/util/LinkedHashMap$Entry", "after", "Ljava/util/LinkedHashMap$Entry;", false)
def tyJ32 : Nat → FieldType := fun k => match k with
  | 0 => .int
  | 1 => .object "java/lang/Object"
  | 2 => .object "java/lang/Object"
  | 3 => .object "java/util/HashMap$Node"
  | 4 => .object "java/util/LinkedHashMap$Entry"
  | _ => .object "java/util/LinkedHashMap$Entry"
abbrev wsJ320 : List Cond := u_ws RJ32 TJ32 6
theorem nmJ32 : ∀ a, a < 6 → ∀ b, b < 6 → a ≠ b → (TJ32 a).2.1 ≠ (TJ32 b).2.1 := by decide +kernel
theorem tyJ32_ok : ∀ k, k < 6 → parseFieldDescriptor (TJ32 k).2.2.1 = some (tyJ32 k) := by decide +kernel
abbrev cJ32_init : ByteArray := prog_64_method_1_code
def yJ32_init : MethodName := ⟨RJ32, "<init>", "(ILjava/lang/Object;Ljava/lang/Object;Ljava/util/HashMap$Node;)V"⟩
def dkwJ32_init_0 : List UInt8 := [42, 27, 44, 45, 25, 4, 183, 0, 1, 177]
abbrev dktJ32_init_0 : List UInt8 := dkwJ32_init_0 ++ []
theorem dksJ32_init_0 : cJ32_init.data.toList.drop 0 = dktJ32_init_0 := by decide +kernel
theorem dJ32_init_0 : decode cJ32_init 0 = .ok (.aload_n 0, 1) := dk_42 (dk_at dksJ32_init_0 0 rfl rfl)
theorem dJ32_init_1 : decode cJ32_init 1 = .ok (.iload_n 1, 1) := dk_27 (dk_at dksJ32_init_0 1 rfl rfl)
theorem dJ32_init_2 : decode cJ32_init 2 = .ok (.aload_n 2, 1) := dk_44 (dk_at dksJ32_init_0 2 rfl rfl)
theorem dJ32_init_3 : decode cJ32_init 3 = .ok (.aload_n 3, 1) := dk_45 (dk_at dksJ32_init_0 3 rfl rfl)
theorem dJ32_init_4 : decode cJ32_init 4 = .ok (.aload 4, 2) := dk_25 4 (dk_at dksJ32_init_0 4 rfl rfl)
theorem dJ32_init_6 : decode cJ32_init 6 = .ok (.invokespecial 1, 3) := dk_183 0 1 (dk_at dksJ32_init_0 6 rfl rfl)
theorem dJ32_init_9 : decode cJ32_init 9 = .ok (.return_, 1) := dk_177 (dk_at dksJ32_init_0 9 rfl rfl)
theorem q159 : (Jvm.Cond.initialized "java/util/LinkedHashMap$Entry") ∈ lw_all := lw_g (lw_at lw_m1 52 rfl) rfl
theorem q1147 : (Jvm.Cond.selects "java/util/LinkedHashMap$Entry" ({ cls := "java/lang/Object", name := "getClass", desc := "()Ljava/lang/Class;" } : Jvm.MethodName) ({ cls := "java/lang/Object", name := "getClass", desc := "()Ljava/lang/Class;" } : Jvm.MethodName)) ∈ lw_all := lw_g (lw_at lw_m5 80 rfl) rfl
theorem q1691 : (Jvm.Cond.instantiable "java/util/LinkedHashMap$Entry" (6 : Nat)) ∈ lw_all := lw_g (lw_at lw_m7 144 rfl) rfl
theorem q1693 : (Jvm.Cond.instanceMethod ({ cls := "java/util/LinkedHashMap$Entry", name := "<init>", desc := "(ILjava/lang/Object;Ljava/lang/Object;Ljava/util/HashMap$Node;)V" } : Jvm.MethodName)) ∈ lw_all := lw_g (lw_at lw_m7 146 rfl) rfl
theorem q1694 : (Jvm.Cond.code ({ cls := "java/util/LinkedHashMap$Entry", name := "<init>", desc := "(ILjava/lang/Object;Ljava/lang/Object;Ljava/util/HashMap$Node;)V" } : Jvm.MethodName) prog_64_method_1_code (5 : Nat) (Option.none : Option Jvm.ClassFile.FieldType)) ∈ lw_all := lw_g (lw_at lw_m7 147 rfl) rfl
theorem q1695 : (Jvm.Cond.methodLink "java/util/LinkedHashMap$Entry" (1 : Nat) ({ cls := "java/util/HashMap$Node", name := "<init>", desc := "(ILjava/lang/Object;Ljava/lang/Object;Ljava/util/HashMap$Node;)V" } : Jvm.MethodName)) ∈ lw_all := lw_g (lw_at lw_m7 148 rfl) rfl
theorem q1705 : (Jvm.Cond.sameField "java/util/LinkedHashMap$Entry" "java/util/HashMap$Node" "hash" "I") ∈ lw_all := lw_g (lw_at lw_m7 158 rfl) rfl
theorem q1711 : (Jvm.Cond.sameField "java/util/LinkedHashMap$Entry" "java/util/HashMap$Node" "key" "Ljava/lang/Object;") ∈ lw_all := lw_g (lw_at lw_m7 164 rfl) rfl
theorem q1715 : (Jvm.Cond.sameField "java/util/LinkedHashMap$Entry" "java/util/HashMap$Node" "value" "Ljava/lang/Object;") ∈ lw_all := lw_g (lw_at lw_m7 168 rfl) rfl
theorem q1724 : (Jvm.Cond.lays "java/util/LinkedHashMap$Entry" "java/util/LinkedHashMap$Entry" "before" "Ljava/util/LinkedHashMap$Entry;") ∈ lw_all := lw_g (lw_at lw_m7 177 rfl) rfl
theorem q1725 : (Jvm.Cond.soleField "java/util/LinkedHashMap$Entry" "before") ∈ lw_all := lw_g (lw_at lw_m7 178 rfl) rfl
theorem q1726 : (Jvm.Cond.lays "java/util/LinkedHashMap$Entry" "java/util/LinkedHashMap$Entry" "after" "Ljava/util/LinkedHashMap$Entry;") ∈ lw_all := lw_g (lw_at lw_m7 179 rfl) rfl
theorem q1727 : (Jvm.Cond.soleField "java/util/LinkedHashMap$Entry" "after") ∈ lw_all := lw_g (lw_at lw_m7 180 rfl) rfl
theorem q1728 : (Jvm.Cond.laysFinal "java/util/LinkedHashMap$Entry" "java/util/HashMap$Node" "hash" "I") ∈ lw_all := lw_g (lw_at lw_m7 181 rfl) rfl
theorem q1730 : (Jvm.Cond.laysFinal "java/util/LinkedHashMap$Entry" "java/util/HashMap$Node" "key" "Ljava/lang/Object;") ∈ lw_all := lw_g (lw_at lw_m7 183 rfl) rfl
theorem q1732 : (Jvm.Cond.lays "java/util/LinkedHashMap$Entry" "java/util/HashMap$Node" "value" "Ljava/lang/Object;") ∈ lw_all := lw_g (lw_at lw_m7 185 rfl) rfl
theorem q1734 : (Jvm.Cond.lays "java/util/LinkedHashMap$Entry" "java/util/HashMap$Node" "next" "Ljava/util/HashMap$Node;") ∈ lw_all := lw_g (lw_at lw_m7 187 rfl) rfl
theorem q1736 : (Jvm.Cond.superclass "java/util/LinkedHashMap$Entry" "java/util/HashMap$Node") ∈ lw_all := lw_g (lw_at lw_m7 189 rfl) rfl
theorem q3320 : (Jvm.Cond.castable "java/util/LinkedHashMap$Entry" "java/lang/Object") ∈ lw_tbl := lw_at lw_m14 93 rfl
theorem q3326 : (Jvm.Cond.castable "java/util/LinkedHashMap$Entry" "java/util/HashMap$Node") ∈ lw_tbl := lw_at lw_m14 99 rfl
theorem in_J32 : ∀ w ∈ wsJ320, w ∈ lw_all := lw_in wsJ320 [1728, 1730, 1732, 1734, 1724, 1726] (by decide +kernel) (by decide +kernel)

/-! java/util/HashMap$TreeNode -/
set_option maxRecDepth 100000
def RJ33 : String := "java/util/HashMap$TreeNode"
def TJ33 : u_T := fun k => match k with
  | 0 => ("java/util/HashMap$Node", "hash", "I", true)
  | 1 => ("java/util/HashMap$Node", "key", "Ljava/lang/Object;", true)
  | 2 => ("java/util/HashMap$Node", "value", "Ljava/lang/Object;", false)
  | 3 => ("java/util/HashMap$Node", "next", "Ljava/util/HashMap$Node;", false)
  | 4 => ("java/util/LinkedHashMap$Entry", "before", "Ljava/util/LinkedHashMap$Entry;", false)
  | 5 => ("java/util/LinkedHashMap$Entry", "after", "Ljava/util/LinkedHashMap$Entry;", false)
  | 6 => ("java/util/HashMap$TreeNode", "parent", "Ljava/util/HashMap$TreeNode;", false)
  | 7 => ("java/util/HashMap$TreeNode", "left", "Ljava/util/HashMap$TreeNode;", false)
  | 8 => ("java/util/HashMap$TreeNode", "right", "Ljava/util/HashMap$TreeNode;", false)
  | 9 => ("java/util/HashMap$TreeNode", "prev", "Ljava/util/HashMap$TreeNode;", false)
  | _ => ("java/util/HashMap$TreeNode", "red", "Z", false)
def tyJ33 : Nat → FieldType := fun k => match k with
  | 0 => .int
  | 1 => .object "java/lang/Object"
  | 2 => .object "java/lang/Object"
  | 3 => .object "java/util/HashMap$Node"
  | 4 => .object "java/util/LinkedHashMap$Entry"
  | 5 => .object "java/util/LinkedHashMap$Entry"
  | 6 => .object "java/util/HashMap$TreeNode"
  | 7 => .object "java/util/HashMap$TreeNode"
  | 8 => .object "java/util/HashMap$TreeNode"
  | 9 => .object "java/util/HashMap$TreeNode"
  | _ => .boolean
abbrev wsJ330 : List Cond := u_ws RJ33 TJ33 11
theorem nmJ33 : ∀ a, a < 11 → ∀ b, b < 11 → a ≠ b → (TJ33 a).2.1 ≠ (TJ33 b).2.1 := by decide +kernel
theorem tyJ33_ok : ∀ k, k < 11 → parseFieldDescriptor (TJ33 k).2.2.1 = some (tyJ33 k) := by decide +kernel
abbrev cJ33_getTreeNode : ByteArray := prog_61_method_5_code
def yJ33_getTreeNode : MethodName := ⟨RJ33, "getTreeNode", "(ILjava/lang/Object;)Ljava/util/HashMap$TreeNode;"⟩
abbrev cJ33_root : ByteArray := prog_61_method_2_code
def yJ33_root : MethodName := ⟨RJ33, "root", "()Ljava/util/HashMap$TreeNode;"⟩
abbrev cJ33_find : ByteArray := prog_61_method_4_code
def yJ33_find : MethodName := ⟨RJ33, "find", "(ILjava/lang/Object;Ljava/lang/Class;)Ljava/util/HashMap$TreeNode;"⟩
abbrev cJ33_split : ByteArray := prog_61_method_11_code
def yJ33_split : MethodName := ⟨RJ33, "split", "(Ljava/util/HashMap;[Ljava/util/HashMap$Node;II)V"⟩
abbrev cJ33_untreeify : ByteArray := prog_61_method_8_code
def yJ33_untreeify : MethodName := ⟨RJ33, "untreeify", "(Ljava/util/HashMap;)Ljava/util/HashMap$Node;"⟩
abbrev cJ33_treeify : ByteArray := prog_61_method_7_code
def yJ33_treeify : MethodName := ⟨RJ33, "treeify", "([Ljava/util/HashMap$Node;)V"⟩
abbrev cJ33_balanceInsertion : ByteArray := prog_61_method_14_code
def yJ33_balanceInsertion : MethodName := ⟨RJ33, "balanceInsertion", "(Ljava/util/HashMap$TreeNode;Ljava/util/HashMap$TreeNode;)Ljava/util/HashMap$TreeNode;"⟩
abbrev cJ33_rotateLeft : ByteArray := prog_61_method_12_code
def yJ33_rotateLeft : MethodName := ⟨RJ33, "rotateLeft", "(Ljava/util/HashMap$TreeNode;Ljava/util/HashMap$TreeNode;)Ljava/util/HashMap$TreeNode;"⟩
abbrev cJ33_rotateRight : ByteArray := prog_61_method_13_code
def yJ33_rotateRight : MethodName := ⟨RJ33, "rotateRight", "(Ljava/util/HashMap$TreeNode;Ljava/util/HashMap$TreeNode;)Ljava/util/HashMap$TreeNode;"⟩
abbrev cJ33_moveRootToFront : ByteArray := prog_61_method_3_code
def yJ33_moveRootToFront : MethodName := ⟨RJ33, "moveRootToFront", "([Ljava/util/HashMap$Node;Ljava/util/HashMap$TreeNode;)V"⟩
abbrev cJ33_putTreeVal : ByteArray := prog_61_method_9_code
def yJ33_putTreeVal : MethodName := ⟨RJ33, "putTreeVal", "(Ljava/util/HashMap;[Ljava/util/HashMap$Node;ILjava/lang/Object;Ljava/lang/Object;)Ljava/util/HashMap$TreeNode;"⟩
abbrev cJ33_init : ByteArray := prog_61_method_1_code
def yJ33_init : MethodName := ⟨RJ33, "<init>", "(ILjava/lang/Object;Ljava/lang/Object;Ljava/util/HashMap$Node;)V"⟩
theorem q160 : (Jvm.Cond.initialized "java/util/HashMap$TreeNode") ∈ lw_all := lw_g (lw_at lw_m1 53 rfl) rfl
theorem q1144 : (Jvm.Cond.selects "java/util/HashMap$TreeNode" ({ cls := "java/lang/Object", name := "getClass", desc := "()Ljava/lang/Class;" } : Jvm.MethodName) ({ cls := "java/lang/Object", name := "getClass", desc := "()Ljava/lang/Class;" } : Jvm.MethodName)) ∈ lw_all := lw_g (lw_at lw_m5 77 rfl) rfl
theorem q1420 : (Jvm.Cond.instanceMethod ({ cls := "java/util/HashMap$TreeNode", name := "getTreeNode", desc := "(ILjava/lang/Object;)Ljava/util/HashMap$TreeNode;" } : Jvm.MethodName)) ∈ lw_all := lw_g (lw_at lw_m6 113 rfl) rfl
theorem q1421 : (Jvm.Cond.selects "java/util/HashMap$TreeNode" ({ cls := "java/util/HashMap$TreeNode", name := "getTreeNode", desc := "(ILjava/lang/Object;)Ljava/util/HashMap$TreeNode;" } : Jvm.MethodName) ({ cls := "java/util/HashMap$TreeNode", name := "getTreeNode", desc := "(ILjava/lang/Object;)Ljava/util/HashMap$TreeNode;" } : Jvm.MethodName)) ∈ lw_all := lw_g (lw_at lw_m6 114 rfl) rfl
theorem q1422 : (Jvm.Cond.code ({ cls := "java/util/HashMap$TreeNode", name := "getTreeNode", desc := "(ILjava/lang/Object;)Ljava/util/HashMap$TreeNode;" } : Jvm.MethodName) prog_61_method_5_code (3 : Nat) (Option.some (Jvm.ClassFile.FieldType.object "java/util/HashMap$TreeNode"))) ∈ lw_all := lw_g (lw_at lw_m6 115 rfl) rfl
theorem q1423 : (Jvm.Cond.methodLink "java/util/HashMap$TreeNode" (67 : Nat) ({ cls := "java/util/HashMap$TreeNode", name := "root", desc := "()Ljava/util/HashMap$TreeNode;" } : Jvm.MethodName)) ∈ lw_all := lw_g (lw_at lw_m6 116 rfl) rfl
theorem q1424 : (Jvm.Cond.instanceMethod ({ cls := "java/util/HashMap$TreeNode", name := "root", desc := "()Ljava/util/HashMap$TreeNode;" } : Jvm.MethodName)) ∈ lw_all := lw_g (lw_at lw_m6 117 rfl) rfl
theorem q1425 : (Jvm.Cond.selects "java/util/HashMap$TreeNode" ({ cls := "java/util/HashMap$TreeNode", name := "root", desc := "()Ljava/util/HashMap$TreeNode;" } : Jvm.MethodName) ({ cls := "java/util/HashMap$TreeNode", name := "root", desc := "()Ljava/util/HashMap$TreeNode;" } : Jvm.MethodName)) ∈ lw_all := lw_g (lw_at lw_m6 118 rfl) rfl
theorem q1426 : (Jvm.Cond.code ({ cls := "java/util/HashMap$TreeNode", name := "root", desc := "()Ljava/util/HashMap$TreeNode;" } : Jvm.MethodName) prog_61_method_2_code (3 : Nat) (Option.some (Jvm.ClassFile.FieldType.object "java/util/HashMap$TreeNode"))) ∈ lw_all := lw_g (lw_at lw_m6 119 rfl) rfl
theorem q1427 : (Jvm.Cond.methodLink "java/util/HashMap$TreeNode" (63 : Nat) ({ cls := "java/util/HashMap$TreeNode", name := "find", desc := "(ILjava/lang/Object;Ljava/lang/Class;)Ljava/util/HashMap$TreeNode;" } : Jvm.MethodName)) ∈ lw_all := lw_g (lw_at lw_m6 120 rfl) rfl
theorem q1428 : (Jvm.Cond.instanceMethod ({ cls := "java/util/HashMap$TreeNode", name := "find", desc := "(ILjava/lang/Object;Ljava/lang/Class;)Ljava/util/HashMap$TreeNode;" } : Jvm.MethodName)) ∈ lw_all := lw_g (lw_at lw_m6 121 rfl) rfl
theorem q1429 : (Jvm.Cond.selects "java/util/HashMap$TreeNode" ({ cls := "java/util/HashMap$TreeNode", name := "find", desc := "(ILjava/lang/Object;Ljava/lang/Class;)Ljava/util/HashMap$TreeNode;" } : Jvm.MethodName) ({ cls := "java/util/HashMap$TreeNode", name := "find", desc := "(ILjava/lang/Object;Ljava/lang/Class;)Ljava/util/HashMap$TreeNode;" } : Jvm.MethodName)) ∈ lw_all := lw_g (lw_at lw_m6 122 rfl) rfl
theorem q1430 : (Jvm.Cond.code ({ cls := "java/util/HashMap$TreeNode", name := "find", desc := "(ILjava/lang/Object;Ljava/lang/Class;)Ljava/util/HashMap$TreeNode;" } : Jvm.MethodName) prog_61_method_4_code (11 : Nat) (Option.some (Jvm.ClassFile.FieldType.object "java/util/HashMap$TreeNode"))) ∈ lw_all := lw_g (lw_at lw_m6 123 rfl) rfl
theorem q1431 : (Jvm.Cond.methodLink "java/util/HashMap$TreeNode" (49 : Nat) ({ cls := "java/lang/Object", name := "equals", desc := "(Ljava/lang/Object;)Z" } : Jvm.MethodName)) ∈ lw_all := lw_g (lw_at lw_m6 124 rfl) rfl
theorem q1432 : (Jvm.Cond.methodLink "java/util/HashMap$TreeNode" (55 : Nat) ({ cls := "java/util/HashMap", name := "comparableClassFor", desc := "(Ljava/lang/Object;)Ljava/lang/Class;" } : Jvm.MethodName)) ∈ lw_all := lw_g (lw_at lw_m6 125 rfl) rfl
theorem q1438 : (Jvm.Cond.methodLink "java/util/HashMap$TreeNode" (59 : Nat) ({ cls := "java/util/HashMap", name := "compareComparables", desc := "(Ljava/lang/Class;Ljava/lang/Object;Ljava/lang/Object;)I" } : Jvm.MethodName)) ∈ lw_all := lw_g (lw_at lw_m6 131 rfl) rfl
theorem q1675 : (Jvm.Cond.instanceMethod ({ cls := "java/util/HashMap$TreeNode", name := "split", desc := "(Ljava/util/HashMap;[Ljava/util/HashMap$Node;II)V" } : Jvm.MethodName)) ∈ lw_all := lw_g (lw_at lw_m7 128 rfl) rfl
theorem q1676 : (Jvm.Cond.selects "java/util/HashMap$TreeNode" ({ cls := "java/util/HashMap$TreeNode", name := "split", desc := "(Ljava/util/HashMap;[Ljava/util/HashMap$Node;II)V" } : Jvm.MethodName) ({ cls := "java/util/HashMap$TreeNode", name := "split", desc := "(Ljava/util/HashMap;[Ljava/util/HashMap$Node;II)V" } : Jvm.MethodName)) ∈ lw_all := lw_g (lw_at lw_m7 129 rfl) rfl
theorem q1677 : (Jvm.Cond.code ({ cls := "java/util/HashMap$TreeNode", name := "split", desc := "(Ljava/util/HashMap;[Ljava/util/HashMap$Node;II)V" } : Jvm.MethodName) prog_61_method_11_code (14 : Nat) (Option.none : Option Jvm.ClassFile.FieldType)) ∈ lw_all := lw_g (lw_at lw_m7 130 rfl) rfl
theorem q1678 : (Jvm.Cond.classLink "java/util/HashMap$TreeNode" (10 : Nat) "java/util/HashMap$TreeNode") ∈ lw_all := lw_g (lw_at lw_m7 131 rfl) rfl
theorem q1679 : (Jvm.Cond.methodLink "java/util/HashMap$TreeNode" (119 : Nat) ({ cls := "java/util/HashMap$TreeNode", name := "untreeify", desc := "(Ljava/util/HashMap;)Ljava/util/HashMap$Node;" } : Jvm.MethodName)) ∈ lw_all := lw_g (lw_at lw_m7 132 rfl) rfl
theorem q1680 : (Jvm.Cond.instanceMethod ({ cls := "java/util/HashMap$TreeNode", name := "untreeify", desc := "(Ljava/util/HashMap;)Ljava/util/HashMap$Node;" } : Jvm.MethodName)) ∈ lw_all := lw_g (lw_at lw_m7 133 rfl) rfl
theorem q1681 : (Jvm.Cond.selects "java/util/HashMap$TreeNode" ({ cls := "java/util/HashMap$TreeNode", name := "untreeify", desc := "(Ljava/util/HashMap;)Ljava/util/HashMap$Node;" } : Jvm.MethodName) ({ cls := "java/util/HashMap$TreeNode", name := "untreeify", desc := "(Ljava/util/HashMap;)Ljava/util/HashMap$Node;" } : Jvm.MethodName)) ∈ lw_all := lw_g (lw_at lw_m7 134 rfl) rfl
theorem q1682 : (Jvm.Cond.code ({ cls := "java/util/HashMap$TreeNode", name := "untreeify", desc := "(Ljava/util/HashMap;)Ljava/util/HashMap$Node;" } : Jvm.MethodName) prog_61_method_8_code (6 : Nat) (Option.some (Jvm.ClassFile.FieldType.object "java/util/HashMap$Node"))) ∈ lw_all := lw_g (lw_at lw_m7 135 rfl) rfl
theorem q1683 : (Jvm.Cond.methodLink "java/util/HashMap$TreeNode" (108 : Nat) ({ cls := "java/util/HashMap", name := "replacementNode", desc := "(Ljava/util/HashMap$Node;Ljava/util/HashMap$Node;)Ljava/util/HashMap$Node;" } : Jvm.MethodName)) ∈ lw_all := lw_g (lw_at lw_m7 136 rfl) rfl
theorem q1702 : (Jvm.Cond.fieldLink "java/util/HashMap$TreeNode" (15 : Nat) "java/util/HashMap$TreeNode" "hash" "I") ∈ lw_all := lw_g (lw_at lw_m7 155 rfl) rfl
theorem q1703 : (Jvm.Cond.sameField "java/util/HashMap$TreeNode" "java/util/HashMap$Node" "hash" "I") ∈ lw_all := lw_g (lw_at lw_m7 156 rfl) rfl
theorem q1708 : (Jvm.Cond.fieldLink "java/util/HashMap$TreeNode" (45 : Nat) "java/util/HashMap$TreeNode" "key" "Ljava/lang/Object;") ∈ lw_all := lw_g (lw_at lw_m7 161 rfl) rfl
theorem q1709 : (Jvm.Cond.sameField "java/util/HashMap$TreeNode" "java/util/HashMap$Node" "key" "Ljava/lang/Object;") ∈ lw_all := lw_g (lw_at lw_m7 162 rfl) rfl
theorem q1719 : (Jvm.Cond.fieldLink "java/util/HashMap$TreeNode" (22 : Nat) "java/util/HashMap$TreeNode" "next" "Ljava/util/HashMap$Node;") ∈ lw_all := lw_g (lw_at lw_m7 172 rfl) rfl
theorem q1720 : (Jvm.Cond.sameField "java/util/HashMap$TreeNode" "java/util/HashMap$Node" "next" "Ljava/util/HashMap$Node;") ∈ lw_all := lw_g (lw_at lw_m7 173 rfl) rfl
theorem q1721 : (Jvm.Cond.fieldLink "java/util/HashMap$TreeNode" (112 : Nat) "java/util/HashMap$Node" "next" "Ljava/util/HashMap$Node;") ∈ lw_all := lw_g (lw_at lw_m7 174 rfl) rfl
theorem q1749 : (Jvm.Cond.methodLink "java/util/HashMap$TreeNode" (126 : Nat) ({ cls := "java/util/HashMap$TreeNode", name := "treeify", desc := "([Ljava/util/HashMap$Node;)V" } : Jvm.MethodName)) ∈ lw_all := lw_g (lw_at lw_m7 202 rfl) rfl
theorem q1750 : (Jvm.Cond.instanceMethod ({ cls := "java/util/HashMap$TreeNode", name := "treeify", desc := "([Ljava/util/HashMap$Node;)V" } : Jvm.MethodName)) ∈ lw_all := lw_g (lw_at lw_m7 203 rfl) rfl
theorem q1751 : (Jvm.Cond.selects "java/util/HashMap$TreeNode" ({ cls := "java/util/HashMap$TreeNode", name := "treeify", desc := "([Ljava/util/HashMap$Node;)V" } : Jvm.MethodName) ({ cls := "java/util/HashMap$TreeNode", name := "treeify", desc := "([Ljava/util/HashMap$Node;)V" } : Jvm.MethodName)) ∈ lw_all := lw_g (lw_at lw_m7 204 rfl) rfl
theorem q1752 : (Jvm.Cond.code ({ cls := "java/util/HashMap$TreeNode", name := "treeify", desc := "([Ljava/util/HashMap$Node;)V" } : Jvm.MethodName) prog_61_method_7_code (13 : Nat) (Option.none : Option Jvm.ClassFile.FieldType)) ∈ lw_all := lw_g (lw_at lw_m7 205 rfl) rfl
theorem q1753 : (Jvm.Cond.methodLink "java/util/HashMap$TreeNode" (100 : Nat) ({ cls := "java/util/HashMap$TreeNode", name := "balanceInsertion", desc := "(Ljava/util/HashMap$TreeNode;Ljava/util/HashMap$TreeNode;)Ljava/util/HashMap$TreeNode;" } : Jvm.MethodName)) ∈ lw_all := lw_g (lw_at lw_m7 206 rfl) rfl
theorem q1754 : (Jvm.Cond.static ({ cls := "java/util/HashMap$TreeNode", name := "balanceInsertion", desc := "(Ljava/util/HashMap$TreeNode;Ljava/util/HashMap$TreeNode;)Ljava/util/HashMap$TreeNode;" } : Jvm.MethodName)) ∈ lw_all := lw_g (lw_at lw_m7 207 rfl) rfl
theorem q1755 : (Jvm.Cond.code ({ cls := "java/util/HashMap$TreeNode", name := "balanceInsertion", desc := "(Ljava/util/HashMap$TreeNode;Ljava/util/HashMap$TreeNode;)Ljava/util/HashMap$TreeNode;" } : Jvm.MethodName) prog_61_method_14_code (6 : Nat) (Option.some (Jvm.ClassFile.FieldType.object "java/util/HashMap$TreeNode"))) ∈ lw_all := lw_g (lw_at lw_m7 208 rfl) rfl
theorem q1756 : (Jvm.Cond.methodLink "java/util/HashMap$TreeNode" (130 : Nat) ({ cls := "java/util/HashMap$TreeNode", name := "rotateLeft", desc := "(Ljava/util/HashMap$TreeNode;Ljava/util/HashMap$TreeNode;)Ljava/util/HashMap$TreeNode;" } : Jvm.MethodName)) ∈ lw_all := lw_g (lw_at lw_m7 209 rfl) rfl
theorem q1757 : (Jvm.Cond.static ({ cls := "java/util/HashMap$TreeNode", name := "rotateLeft", desc := "(Ljava/util/HashMap$TreeNode;Ljava/util/HashMap$TreeNode;)Ljava/util/HashMap$TreeNode;" } : Jvm.MethodName)) ∈ lw_all := lw_g (lw_at lw_m7 210 rfl) rfl
theorem q1758 : (Jvm.Cond.code ({ cls := "java/util/HashMap$TreeNode", name := "rotateLeft", desc := "(Ljava/util/HashMap$TreeNode;Ljava/util/HashMap$TreeNode;)Ljava/util/HashMap$TreeNode;" } : Jvm.MethodName) prog_61_method_12_code (5 : Nat) (Option.some (Jvm.ClassFile.FieldType.object "java/util/HashMap$TreeNode"))) ∈ lw_all := lw_g (lw_at lw_m7 211 rfl) rfl
theorem q1759 : (Jvm.Cond.methodLink "java/util/HashMap$TreeNode" (133 : Nat) ({ cls := "java/util/HashMap$TreeNode", name := "rotateRight", desc := "(Ljava/util/HashMap$TreeNode;Ljava/util/HashMap$TreeNode;)Ljava/util/HashMap$TreeNode;" } : Jvm.MethodName)) ∈ lw_all := lw_g (lw_at lw_m7 212 rfl) rfl
theorem q1760 : (Jvm.Cond.static ({ cls := "java/util/HashMap$TreeNode", name := "rotateRight", desc := "(Ljava/util/HashMap$TreeNode;Ljava/util/HashMap$TreeNode;)Ljava/util/HashMap$TreeNode;" } : Jvm.MethodName)) ∈ lw_all := lw_g (lw_at lw_m7 213 rfl) rfl
theorem q1761 : (Jvm.Cond.code ({ cls := "java/util/HashMap$TreeNode", name := "rotateRight", desc := "(Ljava/util/HashMap$TreeNode;Ljava/util/HashMap$TreeNode;)Ljava/util/HashMap$TreeNode;" } : Jvm.MethodName) prog_61_method_13_code (5 : Nat) (Option.some (Jvm.ClassFile.FieldType.object "java/util/HashMap$TreeNode"))) ∈ lw_all := lw_g (lw_at lw_m7 214 rfl) rfl
theorem q1762 : (Jvm.Cond.methodLink "java/util/HashMap$TreeNode" (104 : Nat) ({ cls := "java/util/HashMap$TreeNode", name := "moveRootToFront", desc := "([Ljava/util/HashMap$Node;Ljava/util/HashMap$TreeNode;)V" } : Jvm.MethodName)) ∈ lw_all := lw_g (lw_at lw_m7 215 rfl) rfl
theorem q1763 : (Jvm.Cond.static ({ cls := "java/util/HashMap$TreeNode", name := "moveRootToFront", desc := "([Ljava/util/HashMap$Node;Ljava/util/HashMap$TreeNode;)V" } : Jvm.MethodName)) ∈ lw_all := lw_g (lw_at lw_m7 216 rfl) rfl
theorem q1764 : (Jvm.Cond.code ({ cls := "java/util/HashMap$TreeNode", name := "moveRootToFront", desc := "([Ljava/util/HashMap$Node;Ljava/util/HashMap$TreeNode;)V" } : Jvm.MethodName) prog_61_method_3_code (7 : Nat) (Option.none : Option Jvm.ClassFile.FieldType)) ∈ lw_all := lw_g (lw_at lw_m7 217 rfl) rfl
theorem q1765 : (Jvm.Cond.fieldLink "java/util/HashMap$TreeNode" (26 : Nat) "java/util/HashMap$TreeNode" "$assertionsDisabled" "Z") ∈ lw_all := lw_g (lw_at lw_m7 218 rfl) rfl
theorem q1766 : (Jvm.Cond.laysStatic "java/util/HashMap$TreeNode" "$assertionsDisabled" "Z") ∈ lw_tbl := lw_at lw_m7 219 rfl
theorem q1780 : (Jvm.Cond.instanceMethod ({ cls := "java/util/HashMap$TreeNode", name := "putTreeVal", desc := "(Ljava/util/HashMap;[Ljava/util/HashMap$Node;ILjava/lang/Object;Ljava/lang/Object;)Ljava/util/HashMap$TreeNode;" } : Jvm.MethodName)) ∈ lw_all := lw_g (lw_at lw_m7 233 rfl) rfl
theorem q1781 : (Jvm.Cond.selects "java/util/HashMap$TreeNode" ({ cls := "java/util/HashMap$TreeNode", name := "putTreeVal", desc := "(Ljava/util/HashMap;[Ljava/util/HashMap$Node;ILjava/lang/Object;Ljava/lang/Object;)Ljava/util/HashMap$TreeNode;" } : Jvm.MethodName) ({ cls := "java/util/HashMap$TreeNode", name := "putTreeVal", desc := "(Ljava/util/HashMap;[Ljava/util/HashMap$Node;ILjava/lang/Object;Ljava/lang/Object;)Ljava/util/HashMap$TreeNode;" } : Jvm.MethodName)) ∈ lw_all := lw_g (lw_at lw_m7 234 rfl) rfl
theorem q1782 : (Jvm.Cond.code ({ cls := "java/util/HashMap$TreeNode", name := "putTreeVal", desc := "(Ljava/util/HashMap;[Ljava/util/HashMap$Node;ILjava/lang/Object;Ljava/lang/Object;)Ljava/util/HashMap$TreeNode;" } : Jvm.MethodName) prog_61_method_9_code (16 : Nat) (Option.some (Jvm.ClassFile.FieldType.object "java/util/HashMap$TreeNode"))) ∈ lw_all := lw_g (lw_at lw_m7 235 rfl) rfl
theorem q1783 : (Jvm.Cond.methodLink "java/util/HashMap$TreeNode" (115 : Nat) ({ cls := "java/util/HashMap", name := "newTreeNode", desc := "(ILjava/lang/Object;Ljava/lang/Object;Ljava/util/HashMap$Node;)Ljava/util/HashMap$TreeNode;" } : Jvm.MethodName)) ∈ lw_all := lw_g (lw_at lw_m7 236 rfl) rfl
theorem q1791 : (Jvm.Cond.instantiable "java/util/HashMap$TreeNode" (11 : Nat)) ∈ lw_all := lw_g (lw_at lw_m8 4 rfl) rfl
theorem q1793 : (Jvm.Cond.instanceMethod ({ cls := "java/util/HashMap$TreeNode", name := "<init>", desc := "(ILjava/lang/Object;Ljava/lang/Object;Ljava/util/HashMap$Node;)V" } : Jvm.MethodName)) ∈ lw_all := lw_g (lw_at lw_m8 6 rfl) rfl
theorem q1794 : (Jvm.Cond.code ({ cls := "java/util/HashMap$TreeNode", name := "<init>", desc := "(ILjava/lang/Object;Ljava/lang/Object;Ljava/util/HashMap$Node;)V" } : Jvm.MethodName) prog_61_method_1_code (5 : Nat) (Option.none : Option Jvm.ClassFile.FieldType)) ∈ lw_all := lw_g (lw_at lw_m8 7 rfl) rfl
theorem q1795 : (Jvm.Cond.methodLink "java/util/HashMap$TreeNode" (3 : Nat) ({ cls := "java/util/LinkedHashMap$Entry", name := "<init>", desc := "(ILjava/lang/Object;Ljava/lang/Object;Ljava/util/HashMap$Node;)V" } : Jvm.MethodName)) ∈ lw_all := lw_g (lw_at lw_m8 8 rfl) rfl
theorem q1796 : (Jvm.Cond.fieldLink "java/util/HashMap$TreeNode" (9 : Nat) "java/util/HashMap$TreeNode" "parent" "Ljava/util/HashMap$TreeNode;") ∈ lw_all := lw_g (lw_at lw_m8 9 rfl) rfl
theorem q1797 : (Jvm.Cond.fieldLink "java/util/HashMap$TreeNode" (39 : Nat) "java/util/HashMap$TreeNode" "left" "Ljava/util/HashMap$TreeNode;") ∈ lw_all := lw_g (lw_at lw_m8 10 rfl) rfl
theorem q1798 : (Jvm.Cond.fieldLink "java/util/HashMap$TreeNode" (42 : Nat) "java/util/HashMap$TreeNode" "right" "Ljava/util/HashMap$TreeNode;") ∈ lw_all := lw_g (lw_at lw_m8 11 rfl) rfl
theorem q1799 : (Jvm.Cond.fieldLink "java/util/HashMap$TreeNode" (19 : Nat) "java/util/HashMap$TreeNode" "prev" "Ljava/util/HashMap$TreeNode;") ∈ lw_all := lw_g (lw_at lw_m8 12 rfl) rfl
theorem q1801 : (Jvm.Cond.fieldLink "java/util/HashMap$TreeNode" (93 : Nat) "java/util/HashMap$TreeNode" "red" "Z") ∈ lw_all := lw_g (lw_at lw_m8 14 rfl) rfl
theorem q1802 : (Jvm.Cond.lays "java/util/HashMap$TreeNode" "java/util/HashMap$TreeNode" "parent" "Ljava/util/HashMap$TreeNode;") ∈ lw_all := lw_g (lw_at lw_m8 15 rfl) rfl
theorem q1803 : (Jvm.Cond.soleField "java/util/HashMap$TreeNode" "parent") ∈ lw_all := lw_g (lw_at lw_m8 16 rfl) rfl
theorem q1804 : (Jvm.Cond.lays "java/util/HashMap$TreeNode" "java/util/HashMap$TreeNode" "left" "Ljava/util/HashMap$TreeNode;") ∈ lw_all := lw_g (lw_at lw_m8 17 rfl) rfl
theorem q1805 : (Jvm.Cond.soleField "java/util/HashMap$TreeNode" "left") ∈ lw_all := lw_g (lw_at lw_m8 18 rfl) rfl
theorem q1806 : (Jvm.Cond.lays "java/util/HashMap$TreeNode" "java/util/HashMap$TreeNode" "right" "Ljava/util/HashMap$TreeNode;") ∈ lw_all := lw_g (lw_at lw_m8 19 rfl) rfl
theorem q1807 : (Jvm.Cond.soleField "java/util/HashMap$TreeNode" "right") ∈ lw_all := lw_g (lw_at lw_m8 20 rfl) rfl
theorem q1808 : (Jvm.Cond.lays "java/util/HashMap$TreeNode" "java/util/HashMap$TreeNode" "prev" "Ljava/util/HashMap$TreeNode;") ∈ lw_all := lw_g (lw_at lw_m8 21 rfl) rfl
theorem q1809 : (Jvm.Cond.soleField "java/util/HashMap$TreeNode" "prev") ∈ lw_all := lw_g (lw_at lw_m8 22 rfl) rfl
theorem q1810 : (Jvm.Cond.lays "java/util/HashMap$TreeNode" "java/util/HashMap$TreeNode" "red" "Z") ∈ lw_all := lw_g (lw_at lw_m8 23 rfl) rfl
theorem q1811 : (Jvm.Cond.soleField "java/util/HashMap$TreeNode" "red") ∈ lw_all := lw_g (lw_at lw_m8 24 rfl) rfl
theorem q1812 : (Jvm.Cond.lays "java/util/HashMap$TreeNode" "java/util/LinkedHashMap$Entry" "before" "Ljava/util/LinkedHashMap$Entry;") ∈ lw_all := lw_g (lw_at lw_m8 25 rfl) rfl
theorem q1813 : (Jvm.Cond.lays "java/util/HashMap$TreeNode" "java/util/LinkedHashMap$Entry" "after" "Ljava/util/LinkedHashMap$Entry;") ∈ lw_all := lw_g (lw_at lw_m8 26 rfl) rfl
theorem q1814 : (Jvm.Cond.laysFinal "java/util/HashMap$TreeNode" "java/util/HashMap$Node" "hash" "I") ∈ lw_all := lw_g (lw_at lw_m8 27 rfl) rfl
theorem q1815 : (Jvm.Cond.laysFinal "java/util/HashMap$TreeNode" "java/util/HashMap$Node" "key" "Ljava/lang/Object;") ∈ lw_all := lw_g (lw_at lw_m8 28 rfl) rfl
theorem q1816 : (Jvm.Cond.lays "java/util/HashMap$TreeNode" "java/util/HashMap$Node" "value" "Ljava/lang/Object;") ∈ lw_all := lw_g (lw_at lw_m8 29 rfl) rfl
theorem q1817 : (Jvm.Cond.lays "java/util/HashMap$TreeNode" "java/util/HashMap$Node" "next" "Ljava/util/HashMap$Node;") ∈ lw_all := lw_g (lw_at lw_m8 30 rfl) rfl
theorem q1818 : (Jvm.Cond.superclass "java/util/HashMap$TreeNode" "java/util/LinkedHashMap$Entry") ∈ lw_all := lw_g (lw_at lw_m8 31 rfl) rfl
theorem q3286 : (Jvm.Cond.castable "java/util/HashMap$TreeNode" "java/util/LinkedHashMap$Entry") ∈ lw_tbl := lw_at lw_m14 59 rfl
theorem q3321 : (Jvm.Cond.castable "java/util/HashMap$TreeNode" "java/lang/Object") ∈ lw_tbl := lw_at lw_m14 94 rfl
theorem q3327 : (Jvm.Cond.castable "java/util/HashMap$TreeNode" "java/util/HashMap$Node") ∈ lw_tbl := lw_at lw_m14 100 rfl
theorem in_J33 : ∀ w ∈ wsJ330, w ∈ lw_all := lw_in wsJ330 [1814, 1815, 1816, 1817, 1812, 1813, 1802, 1804, 1806, 1808, 1810] (by decide +kernel) (by decide +kernel)

/-! java/util/ArrayDeque -/
set_option maxRecDepth 100000
def RJ34 : String := "java/util/ArrayDeque"
def TJ34 : u_T := fun k => match k with
  | 0 => ("java/util/ArrayDeque", "elements", "[Ljava/lang/Object;", false)
  | 1 => ("java/util/ArrayDeque", "head", "I", false)
  | _ => ("java/util/ArrayDeque", "tail", "I", false)
def tyJ34 : Nat → FieldType := fun k => match k with
  | 0 => .array (.object "java/lang/Object")
  | 1 => .int
  | _ => .int
abbrev wsJ340 : List Cond := u_ws RJ34 TJ34 3
theorem nmJ34 : ∀ a, a < 3 → ∀ b, b < 3 → a ≠ b → (TJ34 a).2.1 ≠ (TJ34 b).2.1 := by decide +kernel
theorem tyJ34_ok : ∀ k, k < 3 → parseFieldDescriptor (TJ34 k).2.2.1 = some (tyJ34 k) := by decide +kernel
abbrev cJ34_init : ByteArray := prog_54_method_3_code
def yJ34_init : MethodName := ⟨RJ34, "<init>", "()V"⟩
def dkwJ34_init_0 : List UInt8 := [42, 183, 0, 42, 42, 16, 17, 189, 0, 47, 181, 0, 3, 177]
abbrev dktJ34_init_0 : List UInt8 := dkwJ34_init_0 ++ []
theorem dksJ34_init_0 : cJ34_init.data.toList.drop 0 = dktJ34_init_0 := by decide +kernel
theorem dJ34_init_0 : decode cJ34_init 0 = .ok (.aload_n 0, 1) := dk_42 (dk_at dksJ34_init_0 0 rfl rfl)
theorem dJ34_init_1 : decode cJ34_init 1 = .ok (.invokespecial 42, 3) := dk_183 0 42 (dk_at dksJ34_init_0 1 rfl rfl)
theorem dJ34_init_4 : decode cJ34_init 4 = .ok (.aload_n 0, 1) := dk_42 (dk_at dksJ34_init_0 4 rfl rfl)
theorem dJ34_init_5 : decode cJ34_init 5 = .ok (.bipush 17, 2) := dk_16 17 (dk_at dksJ34_init_0 5 rfl rfl)
theorem dJ34_init_7 : decode cJ34_init 7 = .ok (.anewarray 47, 3) := dk_189 0 47 (dk_at dksJ34_init_0 7 rfl rfl)
theorem dJ34_init_10 : decode cJ34_init 10 = .ok (.putfield 3, 3) := dk_181 0 3 (dk_at dksJ34_init_0 10 rfl rfl)
theorem dJ34_init_13 : decode cJ34_init 13 = .ok (.return_, 1) := dk_177 (dk_at dksJ34_init_0 13 rfl rfl)
abbrev cJ34_addLast : ByteArray := prog_54_method_13_code
def yJ34_addLast : MethodName := ⟨RJ34, "addLast", "(Ljava/lang/Object;)V"⟩
def dkwJ34_addLast_2 : List UInt8 := [182, 0, 71, 177]
abbrev dktJ34_addLast_2 : List UInt8 := dkwJ34_addLast_2 ++ []
def dkwJ34_addLast_1 : List UInt8 := [42, 180, 0, 24, 42, 42, 180, 0, 20, 44, 190, 184, 0, 74, 90, 181, 0, 20, 160, 0, 8, 42, 4]
abbrev dktJ34_addLast_1 : List UInt8 := dkwJ34_addLast_1 ++ dktJ34_addLast_2
def dkwJ34_addLast_0 : List UInt8 := [43, 199, 0, 11, 187, 0, 65, 89, 183, 0, 67, 191, 42, 180, 0, 3, 77, 44, 42, 180, 0, 20, 43, 83]
abbrev dktJ34_addLast_0 : List UInt8 := dkwJ34_addLast_0 ++ dktJ34_addLast_1
theorem dksJ34_addLast_0 : cJ34_addLast.data.toList.drop 0 = dktJ34_addLast_0 := by decide +kernel
theorem dksJ34_addLast_1 : cJ34_addLast.data.toList.drop 24 = dktJ34_addLast_1 := dk_seg dksJ34_addLast_0 24 rfl rfl
theorem dksJ34_addLast_2 : cJ34_addLast.data.toList.drop 47 = dktJ34_addLast_2 := dk_seg dksJ34_addLast_1 23 rfl rfl
theorem dJ34_addLast_0 : decode cJ34_addLast 0 = .ok (.aload_n 1, 1) := dk_43 (dk_at dksJ34_addLast_0 0 rfl rfl)
theorem dJ34_addLast_1 : decode cJ34_addLast 1 = .ok (.ifnonnull 11, 3) := dk_199 0 11 (dk_at dksJ34_addLast_0 1 rfl rfl)
theorem dJ34_addLast_4 : decode cJ34_addLast 4 = .ok (.new 65, 3) := dk_187 0 65 (dk_at dksJ34_addLast_0 4 rfl rfl)
theorem dJ34_addLast_7 : decode cJ34_addLast 7 = .ok (.dup, 1) := dk_89 (dk_at dksJ34_addLast_0 7 rfl rfl)
theorem dJ34_addLast_8 : decode cJ34_addLast 8 = .ok (.invokespecial 67, 3) := dk_183 0 67 (dk_at dksJ34_addLast_0 8 rfl rfl)
theorem dJ34_addLast_11 : decode cJ34_addLast 11 = .ok (.athrow, 1) := dk_191 (dk_at dksJ34_addLast_0 11 rfl rfl)
theorem dJ34_addLast_12 : decode cJ34_addLast 12 = .ok (.aload_n 0, 1) := dk_42 (dk_at dksJ34_addLast_0 12 rfl rfl)
theorem dJ34_addLast_13 : decode cJ34_addLast 13 = .ok (.getfield 3, 3) := dk_180 0 3 (dk_at dksJ34_addLast_0 13 rfl rfl)
theorem dJ34_addLast_16 : decode cJ34_addLast 16 = .ok (.astore_n 2, 1) := dk_77 (dk_at dksJ34_addLast_0 16 rfl rfl)
theorem dJ34_addLast_17 : decode cJ34_addLast 17 = .ok (.aload_n 2, 1) := dk_44 (dk_at dksJ34_addLast_0 17 rfl rfl)
theorem dJ34_addLast_18 : decode cJ34_addLast 18 = .ok (.aload_n 0, 1) := dk_42 (dk_at dksJ34_addLast_0 18 rfl rfl)
theorem dJ34_addLast_19 : decode cJ34_addLast 19 = .ok (.getfield 20, 3) := dk_180 0 20 (dk_at dksJ34_addLast_0 19 rfl rfl)
theorem dJ34_addLast_22 : decode cJ34_addLast 22 = .ok (.aload_n 1, 1) := dk_43 (dk_at dksJ34_addLast_0 22 rfl rfl)
theorem dJ34_addLast_23 : decode cJ34_addLast 23 = .ok (.aastore, 1) := dk_83 (dk_at dksJ34_addLast_0 23 rfl rfl)
theorem dJ34_addLast_24 : decode cJ34_addLast 24 = .ok (.aload_n 0, 1) := dk_42 (dk_at dksJ34_addLast_1 0 rfl rfl)
theorem dJ34_addLast_25 : decode cJ34_addLast 25 = .ok (.getfield 24, 3) := dk_180 0 24 (dk_at dksJ34_addLast_1 1 rfl rfl)
theorem dJ34_addLast_28 : decode cJ34_addLast 28 = .ok (.aload_n 0, 1) := dk_42 (dk_at dksJ34_addLast_1 4 rfl rfl)
theorem dJ34_addLast_29 : decode cJ34_addLast 29 = .ok (.aload_n 0, 1) := dk_42 (dk_at dksJ34_addLast_1 5 rfl rfl)
theorem dJ34_addLast_30 : decode cJ34_addLast 30 = .ok (.getfield 20, 3) := dk_180 0 20 (dk_at dksJ34_addLast_1 6 rfl rfl)
theorem dJ34_addLast_33 : decode cJ34_addLast 33 = .ok (.aload_n 2, 1) := dk_44 (dk_at dksJ34_addLast_1 9 rfl rfl)
theorem dJ34_addLast_34 : decode cJ34_addLast 34 = .ok (.arraylength, 1) := dk_190 (dk_at dksJ34_addLast_1 10 rfl rfl)
theorem dJ34_addLast_35 : decode cJ34_addLast 35 = .ok (.invokestatic 74, 3) := dk_184 0 74 (dk_at dksJ34_addLast_1 11 rfl rfl)
theorem dJ34_addLast_38 : decode cJ34_addLast 38 = .ok (.dup_x1, 1) := dk_90 (dk_at dksJ34_addLast_1 14 rfl rfl)
theorem dJ34_addLast_39 : decode cJ34_addLast 39 = .ok (.putfield 20, 3) := dk_181 0 20 (dk_at dksJ34_addLast_1 15 rfl rfl)
theorem dJ34_addLast_42 : decode cJ34_addLast 42 = .ok (.if_icmp .ne 8, 3) := dk_160 0 8 (dk_at dksJ34_addLast_1 18 rfl rfl)
theorem dJ34_addLast_45 : decode cJ34_addLast 45 = .ok (.aload_n 0, 1) := dk_42 (dk_at dksJ34_addLast_1 21 rfl rfl)
theorem dJ34_addLast_46 : decode cJ34_addLast 46 = .ok (.iconst 1, 1) := dk_4 (dk_at dksJ34_addLast_1 22 rfl rfl)
theorem dJ34_addLast_47 : decode cJ34_addLast 47 = .ok (.invokevirtual 71, 3) := dk_182 0 71 (dk_at dksJ34_addLast_2 0 rfl rfl)
theorem dJ34_addLast_50 : decode cJ34_addLast 50 = .ok (.return_, 1) := dk_177 (dk_at dksJ34_addLast_2 3 rfl rfl)
abbrev cJ34_inc : ByteArray := prog_54_method_6_code
def yJ34_inc : MethodName := ⟨RJ34, "inc", "(II)I"⟩
def dkwJ34_inc_0 : List UInt8 := [132, 0, 1, 26, 27, 161, 0, 5, 3, 59, 26, 172]
abbrev dktJ34_inc_0 : List UInt8 := dkwJ34_inc_0 ++ []
theorem dksJ34_inc_0 : cJ34_inc.data.toList.drop 0 = dktJ34_inc_0 := by decide +kernel
theorem dJ34_inc_0 : decode cJ34_inc 0 = .ok (.iinc 0 1, 3) := dk_132 0 1 (dk_at dksJ34_inc_0 0 rfl rfl)
theorem dJ34_inc_3 : decode cJ34_inc 3 = .ok (.iload_n 0, 1) := dk_26 (dk_at dksJ34_inc_0 3 rfl rfl)
theorem dJ34_inc_4 : decode cJ34_inc 4 = .ok (.iload_n 1, 1) := dk_27 (dk_at dksJ34_inc_0 4 rfl rfl)
theorem dJ34_inc_5 : decode cJ34_inc 5 = .ok (.if_icmp .lt 5, 3) := dk_161 0 5 (dk_at dksJ34_inc_0 5 rfl rfl)
theorem dJ34_inc_8 : decode cJ34_inc 8 = .ok (.iconst 0, 1) := dk_3 (dk_at dksJ34_inc_0 8 rfl rfl)
theorem dJ34_inc_9 : decode cJ34_inc 9 = .ok (.istore_n 0, 1) := dk_59 (dk_at dksJ34_inc_0 9 rfl rfl)
theorem dJ34_inc_10 : decode cJ34_inc 10 = .ok (.iload_n 0, 1) := dk_26 (dk_at dksJ34_inc_0 10 rfl rfl)
theorem dJ34_inc_11 : decode cJ34_inc 11 = .ok (.ireturn, 1) := dk_172 (dk_at dksJ34_inc_0 11 rfl rfl)
abbrev cJ34_grow : ByteArray := prog_54_method_1_code
def yJ34_grow : MethodName := ⟨RJ34, "grow", "(I)V"⟩
def dkwJ34_grow_7 : List UInt8 := [177]
abbrev dktJ34_grow_7 : List UInt8 := dkwJ34_grow_7 ++ []
def dkwJ34_grow_6 : List UInt8 := [181, 0, 24, 54, 8, 21, 7, 21, 8, 162, 0, 15, 25, 5, 21, 7, 1, 83, 132, 7, 1, 167, 255, 240]
abbrev dktJ34_grow_6 : List UInt8 := dkwJ34_grow_6 ++ dktJ34_grow_7
def dkwJ34_grow_5 : List UInt8 := [42, 180, 0, 24, 100, 184, 0, 27, 42, 180, 0, 24, 54, 7, 42, 89, 180, 0, 24, 21, 6, 96, 90]
abbrev dktJ34_grow_5 : List UInt8 := dkwJ34_grow_5 ++ dktJ34_grow_6
def dkwJ34_grow_4 : List UInt8 := [198, 0, 71, 29, 28, 100, 54, 6, 25, 5, 42, 180, 0, 24, 25, 5, 42, 180, 0, 24, 21, 6, 96, 28]
abbrev dktJ34_grow_4 : List UInt8 := dkwJ34_grow_4 ++ dktJ34_grow_5
def dkwJ34_grow_3 : List UInt8 := [180, 0, 24, 161, 0, 24, 42, 180, 0, 20, 42, 180, 0, 24, 160, 0, 81, 25, 5, 42, 180, 0, 24, 50]
abbrev dktJ34_grow_3 : List UInt8 := dkwJ34_grow_3 ++ dktJ34_grow_4
def dkwJ34_grow_2 : List UInt8 := [182, 0, 10, 62, 42, 42, 180, 0, 3, 29, 184, 0, 14, 90, 181, 0, 3, 58, 5, 42, 180, 0, 20, 42]
abbrev dktJ34_grow_2 : List UInt8 := dkwJ34_grow_2 ++ dktJ34_grow_3
def dkwJ34_grow_1 : List UInt8 := [21, 4, 27, 161, 0, 15, 28, 21, 4, 96, 89, 62, 18, 9, 100, 158, 0, 11, 42, 27, 21, 4]
abbrev dktJ34_grow_1 : List UInt8 := dkwJ34_grow_1 ++ dktJ34_grow_2
def dkwJ34_grow_0 : List UInt8 := [42, 180, 0, 3, 190, 61, 28, 16, 64, 162, 0, 9, 28, 5, 96, 167, 0, 6, 28, 4, 122, 54, 4]
abbrev dktJ34_grow_0 : List UInt8 := dkwJ34_grow_0 ++ dktJ34_grow_1
theorem dksJ34_grow_0 : cJ34_grow.data.toList.drop 0 = dktJ34_grow_0 := by decide +kernel
theorem dksJ34_grow_1 : cJ34_grow.data.toList.drop 23 = dktJ34_grow_1 := dk_seg dksJ34_grow_0 23 rfl rfl
theorem dksJ34_grow_2 : cJ34_grow.data.toList.drop 45 = dktJ34_grow_2 := dk_seg dksJ34_grow_1 22 rfl rfl
theorem dksJ34_grow_3 : cJ34_grow.data.toList.drop 69 = dktJ34_grow_3 := dk_seg dksJ34_grow_2 24 rfl rfl
theorem dksJ34_grow_4 : cJ34_grow.data.toList.drop 93 = dktJ34_grow_4 := dk_seg dksJ34_grow_3 24 rfl rfl
theorem dksJ34_grow_5 : cJ34_grow.data.toList.drop 117 = dktJ34_grow_5 := dk_seg dksJ34_grow_4 24 rfl rfl
theorem dksJ34_grow_6 : cJ34_grow.data.toList.drop 140 = dktJ34_grow_6 := dk_seg dksJ34_grow_5 23 rfl rfl
theorem dksJ34_grow_7 : cJ34_grow.data.toList.drop 164 = dktJ34_grow_7 := dk_seg dksJ34_grow_6 24 rfl rfl
theorem dJ34_grow_0 : decode cJ34_grow 0 = .ok (.aload_n 0, 1) := dk_42 (dk_at dksJ34_grow_0 0 rfl rfl)
theorem dJ34_grow_1 : decode cJ34_grow 1 = .ok (.getfield 3, 3) := dk_180 0 3 (dk_at dksJ34_grow_0 1 rfl rfl)
theorem dJ34_grow_4 : decode cJ34_grow 4 = .ok (.arraylength, 1) := dk_190 (dk_at dksJ34_grow_0 4 rfl rfl)
theorem dJ34_grow_5 : decode cJ34_grow 5 = .ok (.istore_n 2, 1) := dk_61 (dk_at dksJ34_grow_0 5 rfl rfl)
theorem dJ34_grow_6 : decode cJ34_grow 6 = .ok (.iload_n 2, 1) := dk_28 (dk_at dksJ34_grow_0 6 rfl rfl)
theorem dJ34_grow_7 : decode cJ34_grow 7 = .ok (.bipush 64, 2) := dk_16 64 (dk_at dksJ34_grow_0 7 rfl rfl)
theorem dJ34_grow_9 : decode cJ34_grow 9 = .ok (.if_icmp .ge 9, 3) := dk_162 0 9 (dk_at dksJ34_grow_0 9 rfl rfl)
theorem dJ34_grow_12 : decode cJ34_grow 12 = .ok (.iload_n 2, 1) := dk_28 (dk_at dksJ34_grow_0 12 rfl rfl)
theorem dJ34_grow_13 : decode cJ34_grow 13 = .ok (.iconst 2, 1) := dk_5 (dk_at dksJ34_grow_0 13 rfl rfl)
theorem dJ34_grow_14 : decode cJ34_grow 14 = .ok (.iadd, 1) := dk_96 (dk_at dksJ34_grow_0 14 rfl rfl)
theorem dJ34_grow_15 : decode cJ34_grow 15 = .ok (.goto 6, 3) := dk_167 0 6 (dk_at dksJ34_grow_0 15 rfl rfl)
theorem dJ34_grow_18 : decode cJ34_grow 18 = .ok (.iload_n 2, 1) := dk_28 (dk_at dksJ34_grow_0 18 rfl rfl)
theorem dJ34_grow_19 : decode cJ34_grow 19 = .ok (.iconst 1, 1) := dk_4 (dk_at dksJ34_grow_0 19 rfl rfl)
theorem dJ34_grow_20 : decode cJ34_grow 20 = .ok (.ishr, 1) := dk_122 (dk_at dksJ34_grow_0 20 rfl rfl)
theorem dJ34_grow_21 : decode cJ34_grow 21 = .ok (.istore 4, 2) := dk_54 4 (dk_at dksJ34_grow_0 21 rfl rfl)
theorem dJ34_grow_23 : decode cJ34_grow 23 = .ok (.iload 4, 2) := dk_21 4 (dk_at dksJ34_grow_1 0 rfl rfl)
theorem dJ34_grow_25 : decode cJ34_grow 25 = .ok (.iload_n 1, 1) := dk_27 (dk_at dksJ34_grow_1 2 rfl rfl)
theorem dJ34_grow_26 : decode cJ34_grow 26 = .ok (.if_icmp .lt 15, 3) := dk_161 0 15 (dk_at dksJ34_grow_1 3 rfl rfl)
theorem dJ34_grow_29 : decode cJ34_grow 29 = .ok (.iload_n 2, 1) := dk_28 (dk_at dksJ34_grow_1 6 rfl rfl)
theorem dJ34_grow_30 : decode cJ34_grow 30 = .ok (.iload 4, 2) := dk_21 4 (dk_at dksJ34_grow_1 7 rfl rfl)
theorem dJ34_grow_32 : decode cJ34_grow 32 = .ok (.iadd, 1) := dk_96 (dk_at dksJ34_grow_1 9 rfl rfl)
theorem dJ34_grow_33 : decode cJ34_grow 33 = .ok (.dup, 1) := dk_89 (dk_at dksJ34_grow_1 10 rfl rfl)
theorem dJ34_grow_34 : decode cJ34_grow 34 = .ok (.istore_n 3, 1) := dk_62 (dk_at dksJ34_grow_1 11 rfl rfl)
theorem dJ34_grow_35 : decode cJ34_grow 35 = .ok (.ldc 9, 2) := dk_18 9 (dk_at dksJ34_grow_1 12 rfl rfl)
theorem dJ34_grow_37 : decode cJ34_grow 37 = .ok (.isub, 1) := dk_100 (dk_at dksJ34_grow_1 14 rfl rfl)
theorem dJ34_grow_38 : decode cJ34_grow 38 = .ok (.ifCond .le 11, 3) := dk_158 0 11 (dk_at dksJ34_grow_1 15 rfl rfl)
theorem dJ34_grow_41 : decode cJ34_grow 41 = .ok (.aload_n 0, 1) := dk_42 (dk_at dksJ34_grow_1 18 rfl rfl)
theorem dJ34_grow_42 : decode cJ34_grow 42 = .ok (.iload_n 1, 1) := dk_27 (dk_at dksJ34_grow_1 19 rfl rfl)
theorem dJ34_grow_43 : decode cJ34_grow 43 = .ok (.iload 4, 2) := dk_21 4 (dk_at dksJ34_grow_1 20 rfl rfl)
theorem dJ34_grow_45 : decode cJ34_grow 45 = .ok (.invokevirtual 10, 3) := dk_182 0 10 (dk_at dksJ34_grow_2 0 rfl rfl)
theorem dJ34_grow_48 : decode cJ34_grow 48 = .ok (.istore_n 3, 1) := dk_62 (dk_at dksJ34_grow_2 3 rfl rfl)
theorem dJ34_grow_49 : decode cJ34_grow 49 = .ok (.aload_n 0, 1) := dk_42 (dk_at dksJ34_grow_2 4 rfl rfl)
theorem dJ34_grow_50 : decode cJ34_grow 50 = .ok (.aload_n 0, 1) := dk_42 (dk_at dksJ34_grow_2 5 rfl rfl)
theorem dJ34_grow_51 : decode cJ34_grow 51 = .ok (.getfield 3, 3) := dk_180 0 3 (dk_at dksJ34_grow_2 6 rfl rfl)
theorem dJ34_grow_54 : decode cJ34_grow 54 = .ok (.iload_n 3, 1) := dk_29 (dk_at dksJ34_grow_2 9 rfl rfl)
theorem dJ34_grow_55 : decode cJ34_grow 55 = .ok (.invokestatic 14, 3) := dk_184 0 14 (dk_at dksJ34_grow_2 10 rfl rfl)
theorem dJ34_grow_58 : decode cJ34_grow 58 = .ok (.dup_x1, 1) := dk_90 (dk_at dksJ34_grow_2 13 rfl rfl)
theorem dJ34_grow_59 : decode cJ34_grow 59 = .ok (.putfield 3, 3) := dk_181 0 3 (dk_at dksJ34_grow_2 14 rfl rfl)
theorem dJ34_grow_62 : decode cJ34_grow 62 = .ok (.astore 5, 2) := dk_58 5 (dk_at dksJ34_grow_2 17 rfl rfl)
theorem dJ34_grow_64 : decode cJ34_grow 64 = .ok (.aload_n 0, 1) := dk_42 (dk_at dksJ34_grow_2 19 rfl rfl)
theorem dJ34_grow_65 : decode cJ34_grow 65 = .ok (.getfield 20, 3) := dk_180 0 20 (dk_at dksJ34_grow_2 20 rfl rfl)
theorem dJ34_grow_68 : decode cJ34_grow 68 = .ok (.aload_n 0, 1) := dk_42 (dk_at dksJ34_grow_2 23 rfl rfl)
theorem dJ34_grow_69 : decode cJ34_grow 69 = .ok (.getfield 24, 3) := dk_180 0 24 (dk_at dksJ34_grow_3 0 rfl rfl)
theorem dJ34_grow_72 : decode cJ34_grow 72 = .ok (.if_icmp .lt 24, 3) := dk_161 0 24 (dk_at dksJ34_grow_3 3 rfl rfl)
theorem dJ34_grow_75 : decode cJ34_grow 75 = .ok (.aload_n 0, 1) := dk_42 (dk_at dksJ34_grow_3 6 rfl rfl)
theorem dJ34_grow_76 : decode cJ34_grow 76 = .ok (.getfield 20, 3) := dk_180 0 20 (dk_at dksJ34_grow_3 7 rfl rfl)
theorem dJ34_grow_79 : decode cJ34_grow 79 = .ok (.aload_n 0, 1) := dk_42 (dk_at dksJ34_grow_3 10 rfl rfl)
theorem dJ34_grow_80 : decode cJ34_grow 80 = .ok (.getfield 24, 3) := dk_180 0 24 (dk_at dksJ34_grow_3 11 rfl rfl)
theorem dJ34_grow_83 : decode cJ34_grow 83 = .ok (.if_icmp .ne 81, 3) := dk_160 0 81 (dk_at dksJ34_grow_3 14 rfl rfl)
theorem dJ34_grow_86 : decode cJ34_grow 86 = .ok (.aload 5, 2) := dk_25 5 (dk_at dksJ34_grow_3 17 rfl rfl)
theorem dJ34_grow_88 : decode cJ34_grow 88 = .ok (.aload_n 0, 1) := dk_42 (dk_at dksJ34_grow_3 19 rfl rfl)
theorem dJ34_grow_89 : decode cJ34_grow 89 = .ok (.getfield 24, 3) := dk_180 0 24 (dk_at dksJ34_grow_3 20 rfl rfl)
theorem dJ34_grow_92 : decode cJ34_grow 92 = .ok (.aaload, 1) := dk_50 (dk_at dksJ34_grow_3 23 rfl rfl)
theorem dJ34_grow_93 : decode cJ34_grow 93 = .ok (.ifnull 71, 3) := dk_198 0 71 (dk_at dksJ34_grow_4 0 rfl rfl)
theorem dJ34_grow_96 : decode cJ34_grow 96 = .ok (.iload_n 3, 1) := dk_29 (dk_at dksJ34_grow_4 3 rfl rfl)
theorem dJ34_grow_97 : decode cJ34_grow 97 = .ok (.iload_n 2, 1) := dk_28 (dk_at dksJ34_grow_4 4 rfl rfl)
theorem dJ34_grow_98 : decode cJ34_grow 98 = .ok (.isub, 1) := dk_100 (dk_at dksJ34_grow_4 5 rfl rfl)
theorem dJ34_grow_99 : decode cJ34_grow 99 = .ok (.istore 6, 2) := dk_54 6 (dk_at dksJ34_grow_4 6 rfl rfl)
theorem dJ34_grow_101 : decode cJ34_grow 101 = .ok (.aload 5, 2) := dk_25 5 (dk_at dksJ34_grow_4 8 rfl rfl)
theorem dJ34_grow_103 : decode cJ34_grow 103 = .ok (.aload_n 0, 1) := dk_42 (dk_at dksJ34_grow_4 10 rfl rfl)
theorem dJ34_grow_104 : decode cJ34_grow 104 = .ok (.getfield 24, 3) := dk_180 0 24 (dk_at dksJ34_grow_4 11 rfl rfl)
theorem dJ34_grow_107 : decode cJ34_grow 107 = .ok (.aload 5, 2) := dk_25 5 (dk_at dksJ34_grow_4 14 rfl rfl)
theorem dJ34_grow_109 : decode cJ34_grow 109 = .ok (.aload_n 0, 1) := dk_42 (dk_at dksJ34_grow_4 16 rfl rfl)
theorem dJ34_grow_110 : decode cJ34_grow 110 = .ok (.getfield 24, 3) := dk_180 0 24 (dk_at dksJ34_grow_4 17 rfl rfl)
theorem dJ34_grow_113 : decode cJ34_grow 113 = .ok (.iload 6, 2) := dk_21 6 (dk_at dksJ34_grow_4 20 rfl rfl)
theorem dJ34_grow_115 : decode cJ34_grow 115 = .ok (.iadd, 1) := dk_96 (dk_at dksJ34_grow_4 22 rfl rfl)
theorem dJ34_grow_116 : decode cJ34_grow 116 = .ok (.iload_n 2, 1) := dk_28 (dk_at dksJ34_grow_4 23 rfl rfl)
theorem dJ34_grow_117 : decode cJ34_grow 117 = .ok (.aload_n 0, 1) := dk_42 (dk_at dksJ34_grow_5 0 rfl rfl)
theorem dJ34_grow_118 : decode cJ34_grow 118 = .ok (.getfield 24, 3) := dk_180 0 24 (dk_at dksJ34_grow_5 1 rfl rfl)
theorem dJ34_grow_121 : decode cJ34_grow 121 = .ok (.isub, 1) := dk_100 (dk_at dksJ34_grow_5 4 rfl rfl)
theorem dJ34_grow_122 : decode cJ34_grow 122 = .ok (.invokestatic 27, 3) := dk_184 0 27 (dk_at dksJ34_grow_5 5 rfl rfl)
theorem dJ34_grow_125 : decode cJ34_grow 125 = .ok (.aload_n 0, 1) := dk_42 (dk_at dksJ34_grow_5 8 rfl rfl)
theorem dJ34_grow_126 : decode cJ34_grow 126 = .ok (.getfield 24, 3) := dk_180 0 24 (dk_at dksJ34_grow_5 9 rfl rfl)
theorem dJ34_grow_129 : decode cJ34_grow 129 = .ok (.istore 7, 2) := dk_54 7 (dk_at dksJ34_grow_5 12 rfl rfl)
theorem dJ34_grow_131 : decode cJ34_grow 131 = .ok (.aload_n 0, 1) := dk_42 (dk_at dksJ34_grow_5 14 rfl rfl)
theorem dJ34_grow_132 : decode cJ34_grow 132 = .ok (.dup, 1) := dk_89 (dk_at dksJ34_grow_5 15 rfl rfl)
theorem dJ34_grow_133 : decode cJ34_grow 133 = .ok (.getfield 24, 3) := dk_180 0 24 (dk_at dksJ34_grow_5 16 rfl rfl)
theorem dJ34_grow_136 : decode cJ34_grow 136 = .ok (.iload 6, 2) := dk_21 6 (dk_at dksJ34_grow_5 19 rfl rfl)
theorem dJ34_grow_138 : decode cJ34_grow 138 = .ok (.iadd, 1) := dk_96 (dk_at dksJ34_grow_5 21 rfl rfl)
theorem dJ34_grow_139 : decode cJ34_grow 139 = .ok (.dup_x1, 1) := dk_90 (dk_at dksJ34_grow_5 22 rfl rfl)
theorem dJ34_grow_140 : decode cJ34_grow 140 = .ok (.putfield 24, 3) := dk_181 0 24 (dk_at dksJ34_grow_6 0 rfl rfl)
theorem dJ34_grow_143 : decode cJ34_grow 143 = .ok (.istore 8, 2) := dk_54 8 (dk_at dksJ34_grow_6 3 rfl rfl)
theorem dJ34_grow_145 : decode cJ34_grow 145 = .ok (.iload 7, 2) := dk_21 7 (dk_at dksJ34_grow_6 5 rfl rfl)
theorem dJ34_grow_147 : decode cJ34_grow 147 = .ok (.iload 8, 2) := dk_21 8 (dk_at dksJ34_grow_6 7 rfl rfl)
theorem dJ34_grow_149 : decode cJ34_grow 149 = .ok (.if_icmp .ge 15, 3) := dk_162 0 15 (dk_at dksJ34_grow_6 9 rfl rfl)
theorem dJ34_grow_152 : decode cJ34_grow 152 = .ok (.aload 5, 2) := dk_25 5 (dk_at dksJ34_grow_6 12 rfl rfl)
theorem dJ34_grow_154 : decode cJ34_grow 154 = .ok (.iload 7, 2) := dk_21 7 (dk_at dksJ34_grow_6 14 rfl rfl)
theorem dJ34_grow_156 : decode cJ34_grow 156 = .ok (.aconst_null, 1) := dk_1 (dk_at dksJ34_grow_6 16 rfl rfl)
theorem dJ34_grow_157 : decode cJ34_grow 157 = .ok (.aastore, 1) := dk_83 (dk_at dksJ34_grow_6 17 rfl rfl)
theorem dJ34_grow_158 : decode cJ34_grow 158 = .ok (.iinc 7 1, 3) := dk_132 7 1 (dk_at dksJ34_grow_6 18 rfl rfl)
theorem dJ34_grow_161 : decode cJ34_grow 161 = .ok (.goto (-16), 3) := dk_167 255 240 (dk_at dksJ34_grow_6 21 rfl rfl)
theorem dJ34_grow_164 : decode cJ34_grow 164 = .ok (.return_, 1) := dk_177 (dk_at dksJ34_grow_7 0 rfl rfl)
abbrev cJ34_newCapacity : ByteArray := prog_54_method_2_code
def yJ34_newCapacity : MethodName := ⟨RJ34, "newCapacity", "(II)I"⟩
def dkwJ34_newCapacity_2 : List UInt8 := [18, 9, 100, 156, 0, 9, 29, 28, 96, 167, 0, 5, 18, 9, 172]
abbrev dktJ34_newCapacity_2 : List UInt8 := dkwJ34_newCapacity_2 ++ []
def dkwJ34_newCapacity_1 : List UInt8 := [187, 0, 33, 89, 18, 35, 183, 0, 37, 191, 18, 41, 172, 27, 28, 164, 0, 6, 21, 4, 172, 29, 28, 96]
abbrev dktJ34_newCapacity_1 : List UInt8 := dkwJ34_newCapacity_1 ++ dktJ34_newCapacity_2
def dkwJ34_newCapacity_0 : List UInt8 := [42, 180, 0, 3, 190, 62, 29, 27, 96, 89, 54, 4, 18, 9, 100, 158, 0, 21, 21, 4, 156, 0, 13]
abbrev dktJ34_newCapacity_0 : List UInt8 := dkwJ34_newCapacity_0 ++ dktJ34_newCapacity_1
theorem dksJ34_newCapacity_0 : cJ34_newCapacity.data.toList.drop 0 = dktJ34_newCapacity_0 := by decide +kernel
theorem dksJ34_newCapacity_1 : cJ34_newCapacity.data.toList.drop 23 = dktJ34_newCapacity_1 := dk_seg dksJ34_newCapacity_0 23 rfl rfl
theorem dksJ34_newCapacity_2 : cJ34_newCapacity.data.toList.drop 47 = dktJ34_newCapacity_2 := dk_seg dksJ34_newCapacity_1 24 rfl rfl
theorem dJ34_newCapacity_0 : decode cJ34_newCapacity 0 = .ok (.aload_n 0, 1) := dk_42 (dk_at dksJ34_newCapacity_0 0 rfl rfl)
theorem dJ34_newCapacity_1 : decode cJ34_newCapacity 1 = .ok (.getfield 3, 3) := dk_180 0 3 (dk_at dksJ34_newCapacity_0 1 rfl rfl)
theorem dJ34_newCapacity_4 : decode cJ34_newCapacity 4 = .ok (.arraylength, 1) := dk_190 (dk_at dksJ34_newCapacity_0 4 rfl rfl)
theorem dJ34_newCapacity_5 : decode cJ34_newCapacity 5 = .ok (.istore_n 3, 1) := dk_62 (dk_at dksJ34_newCapacity_0 5 rfl rfl)
theorem dJ34_newCapacity_6 : decode cJ34_newCapacity 6 = .ok (.iload_n 3, 1) := dk_29 (dk_at dksJ34_newCapacity_0 6 rfl rfl)
theorem dJ34_newCapacity_7 : decode cJ34_newCapacity 7 = .ok (.iload_n 1, 1) := dk_27 (dk_at dksJ34_newCapacity_0 7 rfl rfl)
theorem dJ34_newCapacity_8 : decode cJ34_newCapacity 8 = .ok (.iadd, 1) := dk_96 (dk_at dksJ34_newCapacity_0 8 rfl rfl)
theorem dJ34_newCapacity_9 : decode cJ34_newCapacity 9 = .ok (.dup, 1) := dk_89 (dk_at dksJ34_newCapacity_0 9 rfl rfl)
theorem dJ34_newCapacity_10 : decode cJ34_newCapacity 10 = .ok (.istore 4, 2) := dk_54 4 (dk_at dksJ34_newCapacity_0 10 rfl rfl)
theorem dJ34_newCapacity_12 : decode cJ34_newCapacity 12 = .ok (.ldc 9, 2) := dk_18 9 (dk_at dksJ34_newCapacity_0 12 rfl rfl)
theorem dJ34_newCapacity_14 : decode cJ34_newCapacity 14 = .ok (.isub, 1) := dk_100 (dk_at dksJ34_newCapacity_0 14 rfl rfl)
theorem dJ34_newCapacity_15 : decode cJ34_newCapacity 15 = .ok (.ifCond .le 21, 3) := dk_158 0 21 (dk_at dksJ34_newCapacity_0 15 rfl rfl)
theorem dJ34_newCapacity_18 : decode cJ34_newCapacity 18 = .ok (.iload 4, 2) := dk_21 4 (dk_at dksJ34_newCapacity_0 18 rfl rfl)
theorem dJ34_newCapacity_20 : decode cJ34_newCapacity 20 = .ok (.ifCond .ge 13, 3) := dk_156 0 13 (dk_at dksJ34_newCapacity_0 20 rfl rfl)
theorem dJ34_newCapacity_23 : decode cJ34_newCapacity 23 = .ok (.new 33, 3) := dk_187 0 33 (dk_at dksJ34_newCapacity_1 0 rfl rfl)
theorem dJ34_newCapacity_26 : decode cJ34_newCapacity 26 = .ok (.dup, 1) := dk_89 (dk_at dksJ34_newCapacity_1 3 rfl rfl)
theorem dJ34_newCapacity_27 : decode cJ34_newCapacity 27 = .ok (.ldc 35, 2) := dk_18 35 (dk_at dksJ34_newCapacity_1 4 rfl rfl)
theorem dJ34_newCapacity_29 : decode cJ34_newCapacity 29 = .ok (.invokespecial 37, 3) := dk_183 0 37 (dk_at dksJ34_newCapacity_1 6 rfl rfl)
theorem dJ34_newCapacity_32 : decode cJ34_newCapacity 32 = .ok (.athrow, 1) := dk_191 (dk_at dksJ34_newCapacity_1 9 rfl rfl)
theorem dJ34_newCapacity_33 : decode cJ34_newCapacity 33 = .ok (.ldc 41, 2) := dk_18 41 (dk_at dksJ34_newCapacity_1 10 rfl rfl)
theorem dJ34_newCapacity_35 : decode cJ34_newCapacity 35 = .ok (.ireturn, 1) := dk_172 (dk_at dksJ34_newCapacity_1 12 rfl rfl)
theorem dJ34_newCapacity_36 : decode cJ34_newCapacity 36 = .ok (.iload_n 1, 1) := dk_27 (dk_at dksJ34_newCapacity_1 13 rfl rfl)
theorem dJ34_newCapacity_37 : decode cJ34_newCapacity 37 = .ok (.iload_n 2, 1) := dk_28 (dk_at dksJ34_newCapacity_1 14 rfl rfl)
theorem dJ34_newCapacity_38 : decode cJ34_newCapacity 38 = .ok (.if_icmp .le 6, 3) := dk_164 0 6 (dk_at dksJ34_newCapacity_1 15 rfl rfl)
theorem dJ34_newCapacity_41 : decode cJ34_newCapacity 41 = .ok (.iload 4, 2) := dk_21 4 (dk_at dksJ34_newCapacity_1 18 rfl rfl)
theorem dJ34_newCapacity_43 : decode cJ34_newCapacity 43 = .ok (.ireturn, 1) := dk_172 (dk_at dksJ34_newCapacity_1 20 rfl rfl)
theorem dJ34_newCapacity_44 : decode cJ34_newCapacity 44 = .ok (.iload_n 3, 1) := dk_29 (dk_at dksJ34_newCapacity_1 21 rfl rfl)
theorem dJ34_newCapacity_45 : decode cJ34_newCapacity 45 = .ok (.iload_n 2, 1) := dk_28 (dk_at dksJ34_newCapacity_1 22 rfl rfl)
theorem dJ34_newCapacity_46 : decode cJ34_newCapacity 46 = .ok (.iadd, 1) := dk_96 (dk_at dksJ34_newCapacity_1 23 rfl rfl)
theorem dJ34_newCapacity_47 : decode cJ34_newCapacity 47 = .ok (.ldc 9, 2) := dk_18 9 (dk_at dksJ34_newCapacity_2 0 rfl rfl)
theorem dJ34_newCapacity_49 : decode cJ34_newCapacity 49 = .ok (.isub, 1) := dk_100 (dk_at dksJ34_newCapacity_2 2 rfl rfl)
theorem dJ34_newCapacity_50 : decode cJ34_newCapacity 50 = .ok (.ifCond .ge 9, 3) := dk_156 0 9 (dk_at dksJ34_newCapacity_2 3 rfl rfl)
theorem dJ34_newCapacity_53 : decode cJ34_newCapacity 53 = .ok (.iload_n 3, 1) := dk_29 (dk_at dksJ34_newCapacity_2 6 rfl rfl)
theorem dJ34_newCapacity_54 : decode cJ34_newCapacity 54 = .ok (.iload_n 2, 1) := dk_28 (dk_at dksJ34_newCapacity_2 7 rfl rfl)
theorem dJ34_newCapacity_55 : decode cJ34_newCapacity 55 = .ok (.iadd, 1) := dk_96 (dk_at dksJ34_newCapacity_2 8 rfl rfl)
theorem dJ34_newCapacity_56 : decode cJ34_newCapacity 56 = .ok (.goto 5, 3) := dk_167 0 5 (dk_at dksJ34_newCapacity_2 9 rfl rfl)
theorem dJ34_newCapacity_59 : decode cJ34_newCapacity 59 = .ok (.ldc 9, 2) := dk_18 9 (dk_at dksJ34_newCapacity_2 12 rfl rfl)
theorem dJ34_newCapacity_61 : decode cJ34_newCapacity 61 = .ok (.ireturn, 1) := dk_172 (dk_at dksJ34_newCapacity_2 14 rfl rfl)
abbrev cJ34_isEmpty : ByteArray := prog_54_method_38_code
def yJ34_isEmpty : MethodName := ⟨RJ34, "isEmpty", "()Z"⟩
def dkwJ34_isEmpty_0 : List UInt8 := [42, 180, 0, 24, 42, 180, 0, 20, 160, 0, 7, 4, 167, 0, 4, 3, 172]
abbrev dktJ34_isEmpty_0 : List UInt8 := dkwJ34_isEmpty_0 ++ []
theorem dksJ34_isEmpty_0 : cJ34_isEmpty.data.toList.drop 0 = dktJ34_isEmpty_0 := by decide +kernel
theorem dJ34_isEmpty_0 : decode cJ34_isEmpty 0 = .ok (.aload_n 0, 1) := dk_42 (dk_at dksJ34_isEmpty_0 0 rfl rfl)
theorem dJ34_isEmpty_1 : decode cJ34_isEmpty 1 = .ok (.getfield 24, 3) := dk_180 0 24 (dk_at dksJ34_isEmpty_0 1 rfl rfl)
theorem dJ34_isEmpty_4 : decode cJ34_isEmpty 4 = .ok (.aload_n 0, 1) := dk_42 (dk_at dksJ34_isEmpty_0 4 rfl rfl)
theorem dJ34_isEmpty_5 : decode cJ34_isEmpty 5 = .ok (.getfield 20, 3) := dk_180 0 20 (dk_at dksJ34_isEmpty_0 5 rfl rfl)
theorem dJ34_isEmpty_8 : decode cJ34_isEmpty 8 = .ok (.if_icmp .ne 7, 3) := dk_160 0 7 (dk_at dksJ34_isEmpty_0 8 rfl rfl)
theorem dJ34_isEmpty_11 : decode cJ34_isEmpty 11 = .ok (.iconst 1, 1) := dk_4 (dk_at dksJ34_isEmpty_0 11 rfl rfl)
theorem dJ34_isEmpty_12 : decode cJ34_isEmpty 12 = .ok (.goto 4, 3) := dk_167 0 4 (dk_at dksJ34_isEmpty_0 12 rfl rfl)
theorem dJ34_isEmpty_15 : decode cJ34_isEmpty 15 = .ok (.iconst 0, 1) := dk_3 (dk_at dksJ34_isEmpty_0 15 rfl rfl)
theorem dJ34_isEmpty_16 : decode cJ34_isEmpty 16 = .ok (.ireturn, 1) := dk_172 (dk_at dksJ34_isEmpty_0 16 rfl rfl)
abbrev cJ34_removeFirst : ByteArray := prog_54_method_18_code
def yJ34_removeFirst : MethodName := ⟨RJ34, "removeFirst", "()Ljava/lang/Object;"⟩
def dkwJ34_removeFirst_0 : List UInt8 := [42, 182, 0, 93, 76, 43, 199, 0, 11, 187, 0, 97, 89, 183, 0, 99, 191, 43, 176]
abbrev dktJ34_removeFirst_0 : List UInt8 := dkwJ34_removeFirst_0 ++ []
theorem dksJ34_removeFirst_0 : cJ34_removeFirst.data.toList.drop 0 = dktJ34_removeFirst_0 := by decide +kernel
theorem dJ34_removeFirst_0 : decode cJ34_removeFirst 0 = .ok (.aload_n 0, 1) := dk_42 (dk_at dksJ34_removeFirst_0 0 rfl rfl)
theorem dJ34_removeFirst_1 : decode cJ34_removeFirst 1 = .ok (.invokevirtual 93, 3) := dk_182 0 93 (dk_at dksJ34_removeFirst_0 1 rfl rfl)
theorem dJ34_removeFirst_4 : decode cJ34_removeFirst 4 = .ok (.astore_n 1, 1) := dk_76 (dk_at dksJ34_removeFirst_0 4 rfl rfl)
theorem dJ34_removeFirst_5 : decode cJ34_removeFirst 5 = .ok (.aload_n 1, 1) := dk_43 (dk_at dksJ34_removeFirst_0 5 rfl rfl)
theorem dJ34_removeFirst_6 : decode cJ34_removeFirst 6 = .ok (.ifnonnull 11, 3) := dk_199 0 11 (dk_at dksJ34_removeFirst_0 6 rfl rfl)
theorem dJ34_removeFirst_9 : decode cJ34_removeFirst 9 = .ok (.new 97, 3) := dk_187 0 97 (dk_at dksJ34_removeFirst_0 9 rfl rfl)
theorem dJ34_removeFirst_12 : decode cJ34_removeFirst 12 = .ok (.dup, 1) := dk_89 (dk_at dksJ34_removeFirst_0 12 rfl rfl)
theorem dJ34_removeFirst_13 : decode cJ34_removeFirst 13 = .ok (.invokespecial 99, 3) := dk_183 0 99 (dk_at dksJ34_removeFirst_0 13 rfl rfl)
theorem dJ34_removeFirst_16 : decode cJ34_removeFirst 16 = .ok (.athrow, 1) := dk_191 (dk_at dksJ34_removeFirst_0 16 rfl rfl)
theorem dJ34_removeFirst_17 : decode cJ34_removeFirst 17 = .ok (.aload_n 1, 1) := dk_43 (dk_at dksJ34_removeFirst_0 17 rfl rfl)
theorem dJ34_removeFirst_18 : decode cJ34_removeFirst 18 = .ok (.areturn, 1) := dk_176 (dk_at dksJ34_removeFirst_0 18 rfl rfl)
abbrev cJ34_pollFirst : ByteArray := prog_54_method_20_code
def yJ34_pollFirst : MethodName := ⟨RJ34, "pollFirst", "()Ljava/lang/Object;"⟩
def dkwJ34_pollFirst_1 : List UInt8 := [42, 28, 43, 190, 184, 0, 74, 181, 0, 24, 45, 176]
abbrev dktJ34_pollFirst_1 : List UInt8 := dkwJ34_pollFirst_1 ++ []
def dkwJ34_pollFirst_0 : List UInt8 := [42, 180, 0, 3, 89, 76, 42, 180, 0, 24, 89, 61, 184, 0, 103, 78, 45, 198, 0, 17, 43, 28, 1, 83]
abbrev dktJ34_pollFirst_0 : List UInt8 := dkwJ34_pollFirst_0 ++ dktJ34_pollFirst_1
theorem dksJ34_pollFirst_0 : cJ34_pollFirst.data.toList.drop 0 = dktJ34_pollFirst_0 := by decide +kernel
theorem dksJ34_pollFirst_1 : cJ34_pollFirst.data.toList.drop 24 = dktJ34_pollFirst_1 := dk_seg dksJ34_pollFirst_0 24 rfl rfl
theorem dJ34_pollFirst_0 : decode cJ34_pollFirst 0 = .ok (.aload_n 0, 1) := dk_42 (dk_at dksJ34_pollFirst_0 0 rfl rfl)
theorem dJ34_pollFirst_1 : decode cJ34_pollFirst 1 = .ok (.getfield 3, 3) := dk_180 0 3 (dk_at dksJ34_pollFirst_0 1 rfl rfl)
theorem dJ34_pollFirst_4 : decode cJ34_pollFirst 4 = .ok (.dup, 1) := dk_89 (dk_at dksJ34_pollFirst_0 4 rfl rfl)
theorem dJ34_pollFirst_5 : decode cJ34_pollFirst 5 = .ok (.astore_n 1, 1) := dk_76 (dk_at dksJ34_pollFirst_0 5 rfl rfl)
theorem dJ34_pollFirst_6 : decode cJ34_pollFirst 6 = .ok (.aload_n 0, 1) := dk_42 (dk_at dksJ34_pollFirst_0 6 rfl rfl)
theorem dJ34_pollFirst_7 : decode cJ34_pollFirst 7 = .ok (.getfield 24, 3) := dk_180 0 24 (dk_at dksJ34_pollFirst_0 7 rfl rfl)
theorem dJ34_pollFirst_10 : decode cJ34_pollFirst 10 = .ok (.dup, 1) := dk_89 (dk_at dksJ34_pollFirst_0 10 rfl rfl)
theorem dJ34_pollFirst_11 : decode cJ34_pollFirst 11 = .ok (.istore_n 2, 1) := dk_61 (dk_at dksJ34_pollFirst_0 11 rfl rfl)
theorem dJ34_pollFirst_12 : decode cJ34_pollFirst 12 = .ok (.invokestatic 103, 3) := dk_184 0 103 (dk_at dksJ34_pollFirst_0 12 rfl rfl)
theorem dJ34_pollFirst_15 : decode cJ34_pollFirst 15 = .ok (.astore_n 3, 1) := dk_78 (dk_at dksJ34_pollFirst_0 15 rfl rfl)
theorem dJ34_pollFirst_16 : decode cJ34_pollFirst 16 = .ok (.aload_n 3, 1) := dk_45 (dk_at dksJ34_pollFirst_0 16 rfl rfl)
theorem dJ34_pollFirst_17 : decode cJ34_pollFirst 17 = .ok (.ifnull 17, 3) := dk_198 0 17 (dk_at dksJ34_pollFirst_0 17 rfl rfl)
theorem dJ34_pollFirst_20 : decode cJ34_pollFirst 20 = .ok (.aload_n 1, 1) := dk_43 (dk_at dksJ34_pollFirst_0 20 rfl rfl)
theorem dJ34_pollFirst_21 : decode cJ34_pollFirst 21 = .ok (.iload_n 2, 1) := dk_28 (dk_at dksJ34_pollFirst_0 21 rfl rfl)
theorem dJ34_pollFirst_22 : decode cJ34_pollFirst 22 = .ok (.aconst_null, 1) := dk_1 (dk_at dksJ34_pollFirst_0 22 rfl rfl)
theorem dJ34_pollFirst_23 : decode cJ34_pollFirst 23 = .ok (.aastore, 1) := dk_83 (dk_at dksJ34_pollFirst_0 23 rfl rfl)
theorem dJ34_pollFirst_24 : decode cJ34_pollFirst 24 = .ok (.aload_n 0, 1) := dk_42 (dk_at dksJ34_pollFirst_1 0 rfl rfl)
theorem dJ34_pollFirst_25 : decode cJ34_pollFirst 25 = .ok (.iload_n 2, 1) := dk_28 (dk_at dksJ34_pollFirst_1 1 rfl rfl)
theorem dJ34_pollFirst_26 : decode cJ34_pollFirst 26 = .ok (.aload_n 1, 1) := dk_43 (dk_at dksJ34_pollFirst_1 2 rfl rfl)
theorem dJ34_pollFirst_27 : decode cJ34_pollFirst 27 = .ok (.arraylength, 1) := dk_190 (dk_at dksJ34_pollFirst_1 3 rfl rfl)
theorem dJ34_pollFirst_28 : decode cJ34_pollFirst 28 = .ok (.invokestatic 74, 3) := dk_184 0 74 (dk_at dksJ34_pollFirst_1 4 rfl rfl)
theorem dJ34_pollFirst_31 : decode cJ34_pollFirst 31 = .ok (.putfield 24, 3) := dk_181 0 24 (dk_at dksJ34_pollFirst_1 7 rfl rfl)
theorem dJ34_pollFirst_34 : decode cJ34_pollFirst 34 = .ok (.aload_n 3, 1) := dk_45 (dk_at dksJ34_pollFirst_1 10 rfl rfl)
theorem dJ34_pollFirst_35 : decode cJ34_pollFirst 35 = .ok (.areturn, 1) := dk_176 (dk_at dksJ34_pollFirst_1 11 rfl rfl)
abbrev cJ34_elementAt : ByteArray := prog_54_method_10_code
def yJ34_elementAt : MethodName := ⟨RJ34, "elementAt", "([Ljava/lang/Object;I)Ljava/lang/Object;"⟩
def dkwJ34_elementAt_0 : List UInt8 := [42, 27, 50, 176]
abbrev dktJ34_elementAt_0 : List UInt8 := dkwJ34_elementAt_0 ++ []
theorem dksJ34_elementAt_0 : cJ34_elementAt.data.toList.drop 0 = dktJ34_elementAt_0 := by decide +kernel
theorem dJ34_elementAt_0 : decode cJ34_elementAt 0 = .ok (.aload_n 0, 1) := dk_42 (dk_at dksJ34_elementAt_0 0 rfl rfl)
theorem dJ34_elementAt_1 : decode cJ34_elementAt 1 = .ok (.iload_n 1, 1) := dk_27 (dk_at dksJ34_elementAt_0 1 rfl rfl)
theorem dJ34_elementAt_2 : decode cJ34_elementAt 2 = .ok (.aaload, 1) := dk_50 (dk_at dksJ34_elementAt_0 2 rfl rfl)
theorem dJ34_elementAt_3 : decode cJ34_elementAt 3 = .ok (.areturn, 1) := dk_176 (dk_at dksJ34_elementAt_0 3 rfl rfl)
theorem q161 : (Jvm.Cond.initialized "java/util/ArrayDeque") ∈ lw_all := lw_g (lw_at lw_m1 54 rfl) rfl
theorem q1140 : (Jvm.Cond.selects "java/util/ArrayDeque" ({ cls := "java/lang/Object", name := "getClass", desc := "()Ljava/lang/Class;" } : Jvm.MethodName) ({ cls := "java/lang/Object", name := "getClass", desc := "()Ljava/lang/Class;" } : Jvm.MethodName)) ∈ lw_all := lw_g (lw_at lw_m5 73 rfl) rfl
theorem q2588 : (Jvm.Cond.instantiable "java/util/ArrayDeque" (3 : Nat)) ∈ lw_all := lw_g (lw_at lw_m11 81 rfl) rfl
theorem q2590 : (Jvm.Cond.instanceMethod ({ cls := "java/util/ArrayDeque", name := "<init>", desc := "()V" } : Jvm.MethodName)) ∈ lw_all := lw_g (lw_at lw_m11 83 rfl) rfl
theorem q2591 : (Jvm.Cond.code ({ cls := "java/util/ArrayDeque", name := "<init>", desc := "()V" } : Jvm.MethodName) prog_54_method_3_code (1 : Nat) (Option.none : Option Jvm.ClassFile.FieldType)) ∈ lw_all := lw_g (lw_at lw_m11 84 rfl) rfl
theorem q2592 : (Jvm.Cond.methodLink "java/util/ArrayDeque" (42 : Nat) ({ cls := "java/util/AbstractCollection", name := "<init>", desc := "()V" } : Jvm.MethodName)) ∈ lw_all := lw_g (lw_at lw_m11 85 rfl) rfl
theorem q2593 : (Jvm.Cond.classLink "java/util/ArrayDeque" (47 : Nat) "java/lang/Object") ∈ lw_all := lw_g (lw_at lw_m11 86 rfl) rfl
theorem q2594 : (Jvm.Cond.fieldLink "java/util/ArrayDeque" (3 : Nat) "java/util/ArrayDeque" "elements" "[Ljava/lang/Object;") ∈ lw_all := lw_g (lw_at lw_m11 87 rfl) rfl
theorem q2595 : (Jvm.Cond.fieldLink "java/util/ArrayDeque" (24 : Nat) "java/util/ArrayDeque" "head" "I") ∈ lw_all := lw_g (lw_at lw_m11 88 rfl) rfl
theorem q2596 : (Jvm.Cond.fieldLink "java/util/ArrayDeque" (20 : Nat) "java/util/ArrayDeque" "tail" "I") ∈ lw_all := lw_g (lw_at lw_m11 89 rfl) rfl
theorem q2597 : (Jvm.Cond.lays "java/util/ArrayDeque" "java/util/ArrayDeque" "elements" "[Ljava/lang/Object;") ∈ lw_all := lw_g (lw_at lw_m11 90 rfl) rfl
theorem q2598 : (Jvm.Cond.soleField "java/util/ArrayDeque" "elements") ∈ lw_all := lw_g (lw_at lw_m11 91 rfl) rfl
theorem q2599 : (Jvm.Cond.lays "java/util/ArrayDeque" "java/util/ArrayDeque" "head" "I") ∈ lw_all := lw_g (lw_at lw_m11 92 rfl) rfl
theorem q2600 : (Jvm.Cond.soleField "java/util/ArrayDeque" "head") ∈ lw_all := lw_g (lw_at lw_m11 93 rfl) rfl
theorem q2601 : (Jvm.Cond.lays "java/util/ArrayDeque" "java/util/ArrayDeque" "tail" "I") ∈ lw_all := lw_g (lw_at lw_m11 94 rfl) rfl
theorem q2602 : (Jvm.Cond.soleField "java/util/ArrayDeque" "tail") ∈ lw_all := lw_g (lw_at lw_m11 95 rfl) rfl
theorem q2603 : (Jvm.Cond.superclass "java/util/ArrayDeque" "java/util/AbstractCollection") ∈ lw_all := lw_g (lw_at lw_m11 96 rfl) rfl
theorem q2625 : (Jvm.Cond.instanceMethod ({ cls := "java/util/ArrayDeque", name := "addLast", desc := "(Ljava/lang/Object;)V" } : Jvm.MethodName)) ∈ lw_all := lw_g (lw_at lw_m11 118 rfl) rfl
theorem q2626 : (Jvm.Cond.selects "java/util/ArrayDeque" ({ cls := "java/util/ArrayDeque", name := "addLast", desc := "(Ljava/lang/Object;)V" } : Jvm.MethodName) ({ cls := "java/util/ArrayDeque", name := "addLast", desc := "(Ljava/lang/Object;)V" } : Jvm.MethodName)) ∈ lw_all := lw_g (lw_at lw_m11 119 rfl) rfl
theorem q2627 : (Jvm.Cond.code ({ cls := "java/util/ArrayDeque", name := "addLast", desc := "(Ljava/lang/Object;)V" } : Jvm.MethodName) prog_54_method_13_code (3 : Nat) (Option.none : Option Jvm.ClassFile.FieldType)) ∈ lw_all := lw_g (lw_at lw_m11 120 rfl) rfl
theorem q2628 : (Jvm.Cond.methodLink "java/util/ArrayDeque" (74 : Nat) ({ cls := "java/util/ArrayDeque", name := "inc", desc := "(II)I" } : Jvm.MethodName)) ∈ lw_all := lw_g (lw_at lw_m11 121 rfl) rfl
theorem q2629 : (Jvm.Cond.static ({ cls := "java/util/ArrayDeque", name := "inc", desc := "(II)I" } : Jvm.MethodName)) ∈ lw_all := lw_g (lw_at lw_m11 122 rfl) rfl
theorem q2630 : (Jvm.Cond.code ({ cls := "java/util/ArrayDeque", name := "inc", desc := "(II)I" } : Jvm.MethodName) prog_54_method_6_code (2 : Nat) (Option.some Jvm.ClassFile.FieldType.int)) ∈ lw_all := lw_g (lw_at lw_m11 123 rfl) rfl
theorem q2631 : (Jvm.Cond.methodLink "java/util/ArrayDeque" (71 : Nat) ({ cls := "java/util/ArrayDeque", name := "grow", desc := "(I)V" } : Jvm.MethodName)) ∈ lw_all := lw_g (lw_at lw_m11 124 rfl) rfl
theorem q2632 : (Jvm.Cond.privateMethod ({ cls := "java/util/ArrayDeque", name := "grow", desc := "(I)V" } : Jvm.MethodName)) ∈ lw_tbl := lw_at lw_m11 125 rfl
theorem q2633 : (Jvm.Cond.instanceMethod ({ cls := "java/util/ArrayDeque", name := "grow", desc := "(I)V" } : Jvm.MethodName)) ∈ lw_all := lw_g (lw_at lw_m11 126 rfl) rfl
theorem q2634 : (Jvm.Cond.code ({ cls := "java/util/ArrayDeque", name := "grow", desc := "(I)V" } : Jvm.MethodName) prog_54_method_1_code (9 : Nat) (Option.none : Option Jvm.ClassFile.FieldType)) ∈ lw_all := lw_g (lw_at lw_m11 127 rfl) rfl
theorem q2635 : (Jvm.Cond.constant "java/util/ArrayDeque" (9 : Nat) (2147483639 : Int32)) ∈ lw_all := lw_g (lw_at lw_m11 128 rfl) rfl
theorem q2636 : (Jvm.Cond.methodLink "java/util/ArrayDeque" (10 : Nat) ({ cls := "java/util/ArrayDeque", name := "newCapacity", desc := "(II)I" } : Jvm.MethodName)) ∈ lw_all := lw_g (lw_at lw_m11 129 rfl) rfl
theorem q2637 : (Jvm.Cond.privateMethod ({ cls := "java/util/ArrayDeque", name := "newCapacity", desc := "(II)I" } : Jvm.MethodName)) ∈ lw_tbl := lw_at lw_m11 130 rfl
theorem q2638 : (Jvm.Cond.instanceMethod ({ cls := "java/util/ArrayDeque", name := "newCapacity", desc := "(II)I" } : Jvm.MethodName)) ∈ lw_all := lw_g (lw_at lw_m11 131 rfl) rfl
theorem q2639 : (Jvm.Cond.code ({ cls := "java/util/ArrayDeque", name := "newCapacity", desc := "(II)I" } : Jvm.MethodName) prog_54_method_2_code (5 : Nat) (Option.some Jvm.ClassFile.FieldType.int)) ∈ lw_all := lw_g (lw_at lw_m11 132 rfl) rfl
theorem q2640 : (Jvm.Cond.classLink "java/util/ArrayDeque" (33 : Nat) "java/lang/IllegalStateException") ∈ lw_all := lw_g (lw_at lw_m11 133 rfl) rfl
theorem q2641 : (Jvm.Cond.stringRef "java/util/ArrayDeque" (35 : Nat) "Sorry, deque too big") ∈ lw_tbl := lw_at lw_m11 134 rfl
theorem q2642 : (Jvm.Cond.methodLink "java/util/ArrayDeque" (37 : Nat) ({ cls := "java/lang/IllegalStateException", name := "<init>", desc := "(Ljava/lang/String;)V" } : Jvm.MethodName)) ∈ lw_all := lw_g (lw_at lw_m11 135 rfl) rfl
theorem q2646 : (Jvm.Cond.constant "java/util/ArrayDeque" (41 : Nat) (2147483647 : Int32)) ∈ lw_all := lw_g (lw_at lw_m11 139 rfl) rfl
theorem q2647 : (Jvm.Cond.methodLink "java/util/ArrayDeque" (14 : Nat) ({ cls := "java/util/Arrays", name := "copyOf", desc := "([Ljava/lang/Object;I)[Ljava/lang/Object;" } : Jvm.MethodName)) ∈ lw_all := lw_g (lw_at lw_m11 140 rfl) rfl
theorem q2648 : (Jvm.Cond.methodLink "java/util/ArrayDeque" (27 : Nat) ({ cls := "java/lang/System", name := "arraycopy", desc := "(Ljava/lang/Object;ILjava/lang/Object;II)V" } : Jvm.MethodName)) ∈ lw_all := lw_g (lw_at lw_m11 141 rfl) rfl
theorem q2650 : (Jvm.Cond.instanceMethod ({ cls := "java/util/ArrayDeque", name := "isEmpty", desc := "()Z" } : Jvm.MethodName)) ∈ lw_all := lw_g (lw_at lw_m11 143 rfl) rfl
theorem q2651 : (Jvm.Cond.selects "java/util/ArrayDeque" ({ cls := "java/util/ArrayDeque", name := "isEmpty", desc := "()Z" } : Jvm.MethodName) ({ cls := "java/util/ArrayDeque", name := "isEmpty", desc := "()Z" } : Jvm.MethodName)) ∈ lw_all := lw_g (lw_at lw_m11 144 rfl) rfl
theorem q2652 : (Jvm.Cond.code ({ cls := "java/util/ArrayDeque", name := "isEmpty", desc := "()Z" } : Jvm.MethodName) prog_54_method_38_code (1 : Nat) (Option.some Jvm.ClassFile.FieldType.boolean)) ∈ lw_all := lw_g (lw_at lw_m11 145 rfl) rfl
theorem q2655 : (Jvm.Cond.instanceMethod ({ cls := "java/util/ArrayDeque", name := "removeFirst", desc := "()Ljava/lang/Object;" } : Jvm.MethodName)) ∈ lw_all := lw_g (lw_at lw_m11 148 rfl) rfl
theorem q2656 : (Jvm.Cond.selects "java/util/ArrayDeque" ({ cls := "java/util/ArrayDeque", name := "removeFirst", desc := "()Ljava/lang/Object;" } : Jvm.MethodName) ({ cls := "java/util/ArrayDeque", name := "removeFirst", desc := "()Ljava/lang/Object;" } : Jvm.MethodName)) ∈ lw_all := lw_g (lw_at lw_m11 149 rfl) rfl
theorem q2657 : (Jvm.Cond.code ({ cls := "java/util/ArrayDeque", name := "removeFirst", desc := "()Ljava/lang/Object;" } : Jvm.MethodName) prog_54_method_18_code (2 : Nat) (Option.some (Jvm.ClassFile.FieldType.object "java/lang/Object"))) ∈ lw_all := lw_g (lw_at lw_m11 150 rfl) rfl
theorem q2658 : (Jvm.Cond.methodLink "java/util/ArrayDeque" (93 : Nat) ({ cls := "java/util/ArrayDeque", name := "pollFirst", desc := "()Ljava/lang/Object;" } : Jvm.MethodName)) ∈ lw_all := lw_g (lw_at lw_m11 151 rfl) rfl
theorem q2659 : (Jvm.Cond.instanceMethod ({ cls := "java/util/ArrayDeque", name := "pollFirst", desc := "()Ljava/lang/Object;" } : Jvm.MethodName)) ∈ lw_all := lw_g (lw_at lw_m11 152 rfl) rfl
theorem q2660 : (Jvm.Cond.selects "java/util/ArrayDeque" ({ cls := "java/util/ArrayDeque", name := "pollFirst", desc := "()Ljava/lang/Object;" } : Jvm.MethodName) ({ cls := "java/util/ArrayDeque", name := "pollFirst", desc := "()Ljava/lang/Object;" } : Jvm.MethodName)) ∈ lw_all := lw_g (lw_at lw_m11 153 rfl) rfl
theorem q2661 : (Jvm.Cond.code ({ cls := "java/util/ArrayDeque", name := "pollFirst", desc := "()Ljava/lang/Object;" } : Jvm.MethodName) prog_54_method_20_code (4 : Nat) (Option.some (Jvm.ClassFile.FieldType.object "java/lang/Object"))) ∈ lw_all := lw_g (lw_at lw_m11 154 rfl) rfl
theorem q2662 : (Jvm.Cond.methodLink "java/util/ArrayDeque" (103 : Nat) ({ cls := "java/util/ArrayDeque", name := "elementAt", desc := "([Ljava/lang/Object;I)Ljava/lang/Object;" } : Jvm.MethodName)) ∈ lw_all := lw_g (lw_at lw_m11 155 rfl) rfl
theorem q2663 : (Jvm.Cond.static ({ cls := "java/util/ArrayDeque", name := "elementAt", desc := "([Ljava/lang/Object;I)Ljava/lang/Object;" } : Jvm.MethodName)) ∈ lw_all := lw_g (lw_at lw_m11 156 rfl) rfl
theorem q2664 : (Jvm.Cond.code ({ cls := "java/util/ArrayDeque", name := "elementAt", desc := "([Ljava/lang/Object;I)Ljava/lang/Object;" } : Jvm.MethodName) prog_54_method_10_code (2 : Nat) (Option.some (Jvm.ClassFile.FieldType.object "java/lang/Object"))) ∈ lw_all := lw_g (lw_at lw_m11 157 rfl) rfl
theorem q3322 : (Jvm.Cond.castable "java/util/ArrayDeque" "java/lang/Object") ∈ lw_tbl := lw_at lw_m14 95 rfl
theorem in_J34 : ∀ w ∈ wsJ340, w ∈ lw_all := lw_in wsJ340 [2597, 2599, 2601] (by decide +kernel) (by decide +kernel)

/-! java/lang/Object -/
set_option maxRecDepth 100000
def RJ35 : String := "java/lang/Object"
abbrev cJ35_init : ByteArray := object_method_1_code
def yJ35_init : MethodName := ⟨RJ35, "<init>", "()V"⟩
abbrev cJ35_equals : ByteArray := object_method_4_code
def yJ35_equals : MethodName := ⟨RJ35, "equals", "(Ljava/lang/Object;)Z"⟩
theorem q170 : (Jvm.Cond.instanceMethod ({ cls := "java/lang/Object", name := "<init>", desc := "()V" } : Jvm.MethodName)) ∈ lw_all := lw_g (lw_at lw_m1 63 rfl) rfl
theorem q171 : (Jvm.Cond.code ({ cls := "java/lang/Object", name := "<init>", desc := "()V" } : Jvm.MethodName) object_method_1_code (1 : Nat) (Option.none : Option Jvm.ClassFile.FieldType)) ∈ lw_all := lw_g (lw_at lw_m1 64 rfl) rfl
theorem q300 : (Jvm.Cond.native ({ cls := "java/lang/Object", name := "clone", desc := "()Ljava/lang/Object;" } : Jvm.MethodName)) ∈ lw_all := lw_g (lw_at lw_m1 193 rfl) rfl
theorem q301 : (Jvm.Cond.instanceMethod ({ cls := "java/lang/Object", name := "clone", desc := "()Ljava/lang/Object;" } : Jvm.MethodName)) ∈ lw_all := lw_g (lw_at lw_m1 194 rfl) rfl
theorem q1112 : (Jvm.Cond.instanceMethod ({ cls := "java/lang/Object", name := "getClass", desc := "()Ljava/lang/Class;" } : Jvm.MethodName)) ∈ lw_all := lw_g (lw_at lw_m5 45 rfl) rfl
theorem q1113 : (Jvm.Cond.sameMethod "java/lang/Object" "java/lang/Object" "getClass" "()Ljava/lang/Class;") ∈ lw_all := lw_g (lw_at lw_m5 46 rfl) rfl
theorem q1149 : (Jvm.Cond.native ({ cls := "java/lang/Object", name := "getClass", desc := "()Ljava/lang/Class;" } : Jvm.MethodName)) ∈ lw_all := lw_g (lw_at lw_m5 82 rfl) rfl
theorem q1270 : (Jvm.Cond.declares ({ cls := "java/lang/Object", name := "hashCode", desc := "()I" } : Jvm.MethodName)) ∈ lw_tbl := lw_at lw_m5 203 rfl
theorem q1272 : (Jvm.Cond.instanceMethod ({ cls := "java/lang/Object", name := "hashCode", desc := "()I" } : Jvm.MethodName)) ∈ lw_all := lw_g (lw_at lw_m5 205 rfl) rfl
theorem q1273 : (Jvm.Cond.sameMethod "java/lang/Object" "java/lang/Object" "hashCode" "()I") ∈ lw_all := lw_g (lw_at lw_m5 206 rfl) rfl
theorem q1366 : (Jvm.Cond.native ({ cls := "java/lang/Object", name := "hashCode", desc := "()I" } : Jvm.MethodName)) ∈ lw_all := lw_g (lw_at lw_m6 59 rfl) rfl
theorem q1367 : (Jvm.Cond.declares ({ cls := "java/lang/Object", name := "equals", desc := "(Ljava/lang/Object;)Z" } : Jvm.MethodName)) ∈ lw_tbl := lw_at lw_m6 60 rfl
theorem q1369 : (Jvm.Cond.instanceMethod ({ cls := "java/lang/Object", name := "equals", desc := "(Ljava/lang/Object;)Z" } : Jvm.MethodName)) ∈ lw_all := lw_g (lw_at lw_m6 62 rfl) rfl
theorem q1370 : (Jvm.Cond.sameMethod "java/lang/Object" "java/lang/Object" "equals" "(Ljava/lang/Object;)Z") ∈ lw_all := lw_g (lw_at lw_m6 63 rfl) rfl
theorem q1417 : (Jvm.Cond.code ({ cls := "java/lang/Object", name := "equals", desc := "(Ljava/lang/Object;)Z" } : Jvm.MethodName) object_method_4_code (2 : Nat) (Option.some Jvm.ClassFile.FieldType.boolean)) ∈ lw_all := lw_g (lw_at lw_m6 110 rfl) rfl
theorem q3283 : (Jvm.Cond.initialized "java/lang/Object") ∈ lw_all := lw_g (lw_at lw_m14 56 rfl) rfl
theorem q3330 : (Jvm.Cond.declares ({ cls := "java/lang/Object", name := "getClass", desc := "()Ljava/lang/Class;" } : Jvm.MethodName)) ∈ lw_tbl := lw_at lw_m14 103 rfl
theorem q3341 : (Jvm.Cond.instantiable "java/lang/Object" (0 : Nat)) ∈ lw_all := lw_g (lw_at lw_m14 114 rfl) rfl

/-! java/lang/System$2 -/
set_option maxRecDepth 100000
def RJ36 : String := "java/lang/System$2"
abbrev cJ36_getUTF16Char : ByteArray := prog_46_method_45_code
def yJ36_getUTF16Char : MethodName := ⟨RJ36, "getUTF16Char", "([BI)C"⟩
theorem q1139 : (Jvm.Cond.selects "java/lang/System$2" ({ cls := "java/lang/Object", name := "getClass", desc := "()Ljava/lang/Class;" } : Jvm.MethodName) ({ cls := "java/lang/Object", name := "getClass", desc := "()Ljava/lang/Class;" } : Jvm.MethodName)) ∈ lw_all := lw_g (lw_at lw_m5 72 rfl) rfl
theorem q1328 : (Jvm.Cond.castable "java/lang/System$2" "jdk/internal/access/JavaLangAccess") ∈ lw_tbl := lw_at lw_m6 21 rfl
theorem q1329 : (Jvm.Cond.selects "java/lang/System$2" ({ cls := "jdk/internal/access/JavaLangAccess", name := "getUTF16Char", desc := "([BI)C" } : Jvm.MethodName) ({ cls := "java/lang/System$2", name := "getUTF16Char", desc := "([BI)C" } : Jvm.MethodName)) ∈ lw_all := lw_g (lw_at lw_m6 22 rfl) rfl
theorem q1330 : (Jvm.Cond.unhidden "java/lang/System$2" "getUTF16Char" "([BI)C") ∈ lw_tbl := lw_at lw_m6 23 rfl
theorem q1331 : (Jvm.Cond.instanceMethod ({ cls := "java/lang/System$2", name := "getUTF16Char", desc := "([BI)C" } : Jvm.MethodName)) ∈ lw_all := lw_g (lw_at lw_m6 24 rfl) rfl
theorem q1332 : (Jvm.Cond.publicMethod ({ cls := "java/lang/System$2", name := "getUTF16Char", desc := "([BI)C" } : Jvm.MethodName)) ∈ lw_tbl := lw_at lw_m6 25 rfl
theorem q1333 : (Jvm.Cond.code ({ cls := "java/lang/System$2", name := "getUTF16Char", desc := "([BI)C" } : Jvm.MethodName) prog_46_method_45_code (3 : Nat) (Option.some Jvm.ClassFile.FieldType.char)) ∈ lw_all := lw_g (lw_at lw_m6 26 rfl) rfl
theorem q1334 : (Jvm.Cond.methodLink "java/lang/System$2" (185 : Nat) ({ cls := "java/lang/StringUTF16", name := "getChar", desc := "([BI)C" } : Jvm.MethodName)) ∈ lw_all := lw_g (lw_at lw_m6 27 rfl) rfl
theorem q1364 : (Jvm.Cond.selects "java/lang/System$2" ({ cls := "java/lang/Object", name := "hashCode", desc := "()I" } : Jvm.MethodName) ({ cls := "java/lang/Object", name := "hashCode", desc := "()I" } : Jvm.MethodName)) ∈ lw_all := lw_g (lw_at lw_m6 57 rfl) rfl
theorem q1415 : (Jvm.Cond.selects "java/lang/System$2" ({ cls := "java/lang/Object", name := "equals", desc := "(Ljava/lang/Object;)Z" } : Jvm.MethodName) ({ cls := "java/lang/Object", name := "equals", desc := "(Ljava/lang/Object;)Z" } : Jvm.MethodName)) ∈ lw_all := lw_g (lw_at lw_m6 108 rfl) rfl
theorem q3318 : (Jvm.Cond.castable "java/lang/System$2" "java/lang/Object") ∈ lw_tbl := lw_at lw_m14 91 rfl

/-! java/lang/Exception -/
set_option maxRecDepth 100000
def RJ4 : String := "java/lang/Exception"
abbrev cJ4_init : ByteArray := prog_29_method_2_code
def yJ4_init : MethodName := ⟨RJ4, "<init>", "(Ljava/lang/String;)V"⟩
def dkwJ4_init_0 : List UInt8 := [42, 43, 183, 0, 7, 177]
abbrev dktJ4_init_0 : List UInt8 := dkwJ4_init_0 ++ []
theorem dksJ4_init_0 : cJ4_init.data.toList.drop 0 = dktJ4_init_0 := by decide +kernel
theorem dJ4_init_0 : decode cJ4_init 0 = .ok (.aload_n 0, 1) := dk_42 (dk_at dksJ4_init_0 0 rfl rfl)
theorem dJ4_init_1 : decode cJ4_init 1 = .ok (.aload_n 1, 1) := dk_43 (dk_at dksJ4_init_0 1 rfl rfl)
theorem dJ4_init_2 : decode cJ4_init 2 = .ok (.invokespecial 7, 3) := dk_183 0 7 (dk_at dksJ4_init_0 2 rfl rfl)
theorem dJ4_init_5 : decode cJ4_init 5 = .ok (.return_, 1) := dk_177 (dk_at dksJ4_init_0 5 rfl rfl)
abbrev cJ4_init_2 : ByteArray := prog_29_method_1_code
def yJ4_init_2 : MethodName := ⟨RJ4, "<init>", "()V"⟩
theorem dJ4_init_2_0 : decode cJ4_init_2 0 = .ok (.aload_n 0, 1) := by decide +kernel
theorem dJ4_init_2_1 : decode cJ4_init_2 1 = .ok (.invokespecial 1, 3) := by decide +kernel
theorem dJ4_init_2_4 : decode cJ4_init_2 4 = .ok (.return_, 1) := by decide +kernel
theorem q113 : (Jvm.Cond.initialized "java/lang/Exception") ∈ lw_all := lw_g (lw_at lw_m1 6 rfl) rfl
theorem q193 : (Jvm.Cond.declares ({ cls := "java/lang/Exception", name := "<init>", desc := "()V" } : Jvm.MethodName)) ∈ lw_tbl := lw_at lw_m1 86 rfl
theorem q194 : (Jvm.Cond.declares ({ cls := "java/lang/Exception", name := "<init>", desc := "(Ljava/lang/String;)V" } : Jvm.MethodName)) ∈ lw_tbl := lw_at lw_m1 87 rfl
theorem q460 : (Jvm.Cond.instanceMethod ({ cls := "java/lang/Exception", name := "<init>", desc := "(Ljava/lang/String;)V" } : Jvm.MethodName)) ∈ lw_all := lw_g (lw_at lw_m2 113 rfl) rfl
theorem q461 : (Jvm.Cond.code ({ cls := "java/lang/Exception", name := "<init>", desc := "(Ljava/lang/String;)V" } : Jvm.MethodName) prog_29_method_2_code (2 : Nat) (Option.none : Option Jvm.ClassFile.FieldType)) ∈ lw_all := lw_g (lw_at lw_m2 114 rfl) rfl
theorem q462 : (Jvm.Cond.methodLink "java/lang/Exception" (7 : Nat) ({ cls := "java/lang/Throwable", name := "<init>", desc := "(Ljava/lang/String;)V" } : Jvm.MethodName)) ∈ lw_all := lw_g (lw_at lw_m2 115 rfl) rfl
theorem q1921 : (Jvm.Cond.instanceMethod ({ cls := "java/lang/Exception", name := "<init>", desc := "()V" } : Jvm.MethodName)) ∈ lw_all := lw_g (lw_at lw_m8 134 rfl) rfl
theorem q1922 : (Jvm.Cond.code ({ cls := "java/lang/Exception", name := "<init>", desc := "()V" } : Jvm.MethodName) prog_29_method_1_code (1 : Nat) (Option.none : Option Jvm.ClassFile.FieldType)) ∈ lw_all := lw_g (lw_at lw_m8 135 rfl) rfl
theorem q1923 : (Jvm.Cond.methodLink "java/lang/Exception" (1 : Nat) ({ cls := "java/lang/Throwable", name := "<init>", desc := "()V" } : Jvm.MethodName)) ∈ lw_all := lw_g (lw_at lw_m8 136 rfl) rfl

/-! java/lang/RuntimeException -/
set_option maxRecDepth 100000
def RJ5 : String := "java/lang/RuntimeException"
abbrev cJ5_init : ByteArray := prog_39_method_2_code
def yJ5_init : MethodName := ⟨RJ5, "<init>", "(Ljava/lang/String;)V"⟩
def dkwJ5_init_0 : List UInt8 := [42, 43, 183, 0, 7, 177]
abbrev dktJ5_init_0 : List UInt8 := dkwJ5_init_0 ++ []
theorem dksJ5_init_0 : cJ5_init.data.toList.drop 0 = dktJ5_init_0 := by decide +kernel
theorem dJ5_init_0 : decode cJ5_init 0 = .ok (.aload_n 0, 1) := dk_42 (dk_at dksJ5_init_0 0 rfl rfl)
theorem dJ5_init_1 : decode cJ5_init 1 = .ok (.aload_n 1, 1) := dk_43 (dk_at dksJ5_init_0 1 rfl rfl)
theorem dJ5_init_2 : decode cJ5_init 2 = .ok (.invokespecial 7, 3) := dk_183 0 7 (dk_at dksJ5_init_0 2 rfl rfl)
theorem dJ5_init_5 : decode cJ5_init 5 = .ok (.return_, 1) := dk_177 (dk_at dksJ5_init_0 5 rfl rfl)
abbrev cJ5_init_2 : ByteArray := prog_39_method_1_code
def yJ5_init_2 : MethodName := ⟨RJ5, "<init>", "()V"⟩
theorem dJ5_init_2_0 : decode cJ5_init_2 0 = .ok (.aload_n 0, 1) := by decide +kernel
theorem dJ5_init_2_1 : decode cJ5_init_2 1 = .ok (.invokespecial 1, 3) := by decide +kernel
theorem dJ5_init_2_4 : decode cJ5_init_2 4 = .ok (.return_, 1) := by decide +kernel
theorem q114 : (Jvm.Cond.initialized "java/lang/RuntimeException") ∈ lw_all := lw_g (lw_at lw_m1 7 rfl) rfl
theorem q191 : (Jvm.Cond.declares ({ cls := "java/lang/RuntimeException", name := "<init>", desc := "()V" } : Jvm.MethodName)) ∈ lw_tbl := lw_at lw_m1 84 rfl
theorem q192 : (Jvm.Cond.declares ({ cls := "java/lang/RuntimeException", name := "<init>", desc := "(Ljava/lang/String;)V" } : Jvm.MethodName)) ∈ lw_tbl := lw_at lw_m1 85 rfl
theorem q457 : (Jvm.Cond.instanceMethod ({ cls := "java/lang/RuntimeException", name := "<init>", desc := "(Ljava/lang/String;)V" } : Jvm.MethodName)) ∈ lw_all := lw_g (lw_at lw_m2 110 rfl) rfl
theorem q458 : (Jvm.Cond.code ({ cls := "java/lang/RuntimeException", name := "<init>", desc := "(Ljava/lang/String;)V" } : Jvm.MethodName) prog_39_method_2_code (2 : Nat) (Option.none : Option Jvm.ClassFile.FieldType)) ∈ lw_all := lw_g (lw_at lw_m2 111 rfl) rfl
theorem q459 : (Jvm.Cond.methodLink "java/lang/RuntimeException" (7 : Nat) ({ cls := "java/lang/Exception", name := "<init>", desc := "(Ljava/lang/String;)V" } : Jvm.MethodName)) ∈ lw_all := lw_g (lw_at lw_m2 112 rfl) rfl
theorem q1918 : (Jvm.Cond.instanceMethod ({ cls := "java/lang/RuntimeException", name := "<init>", desc := "()V" } : Jvm.MethodName)) ∈ lw_all := lw_g (lw_at lw_m8 131 rfl) rfl
theorem q1919 : (Jvm.Cond.code ({ cls := "java/lang/RuntimeException", name := "<init>", desc := "()V" } : Jvm.MethodName) prog_39_method_1_code (1 : Nat) (Option.none : Option Jvm.ClassFile.FieldType)) ∈ lw_all := lw_g (lw_at lw_m8 132 rfl) rfl
theorem q1920 : (Jvm.Cond.methodLink "java/lang/RuntimeException" (1 : Nat) ({ cls := "java/lang/Exception", name := "<init>", desc := "()V" } : Jvm.MethodName)) ∈ lw_all := lw_g (lw_at lw_m8 133 rfl) rfl

/-! java/lang/IllegalArgumentException -/
set_option maxRecDepth 100000
def RJ6 : String := "java/lang/IllegalArgumentException"
def TJ6 : u_T := fun k => match k with
  | 0 => ("java/lang/Throwable", "cause", "Ljava/lang/Throwable;", false)
  | 1 => ("java/lang/Throwable", "stackTrace", "[Ljava/lang/StackTraceElement;", false)
  | 2 => ("java/lang/Throwable", "suppressedExceptions", "Ljava/util/List;", false)
  | 3 => ("java/lang/Throwable", "detailMessage", "Ljava/lang/String;", false)
  | 4 => ("java/lang/Throwable", "backtrace", "Ljava/lang/Object;", false)
  | _ => ("java/lang/Throwable", "depth", "I", false)
def tyJ6 : Nat → FieldType := fun k => match k with
  | 0 => .object "java/lang/Throwable"
  | 1 => .array (.object "java/lang/StackTraceElement")
  | 2 => .object "java/util/List"
  | 3 => .object "java/lang/String"
  | 4 => .object "java/lang/Object"
  | _ => .int
abbrev wsJ60 : List Cond := u_ws RJ6 TJ6 6
theorem nmJ6 : ∀ a, a < 6 → ∀ b, b < 6 → a ≠ b → (TJ6 a).2.1 ≠ (TJ6 b).2.1 := by decide +kernel
theorem tyJ6_ok : ∀ k, k < 6 → parseFieldDescriptor (TJ6 k).2.2.1 = some (tyJ6 k) := by decide +kernel
abbrev cJ6_init : ByteArray := prog_30_method_2_code
def yJ6_init : MethodName := ⟨RJ6, "<init>", "(Ljava/lang/String;)V"⟩
def dkwJ6_init_0 : List UInt8 := [42, 43, 183, 0, 7, 177]
abbrev dktJ6_init_0 : List UInt8 := dkwJ6_init_0 ++ []
theorem dksJ6_init_0 : cJ6_init.data.toList.drop 0 = dktJ6_init_0 := by decide +kernel
theorem dJ6_init_0 : decode cJ6_init 0 = .ok (.aload_n 0, 1) := dk_42 (dk_at dksJ6_init_0 0 rfl rfl)
theorem dJ6_init_1 : decode cJ6_init 1 = .ok (.aload_n 1, 1) := dk_43 (dk_at dksJ6_init_0 1 rfl rfl)
theorem dJ6_init_2 : decode cJ6_init 2 = .ok (.invokespecial 7, 3) := dk_183 0 7 (dk_at dksJ6_init_0 2 rfl rfl)
theorem dJ6_init_5 : decode cJ6_init 5 = .ok (.return_, 1) := dk_177 (dk_at dksJ6_init_0 5 rfl rfl)
abbrev cJ6_init_2 : ByteArray := prog_30_method_1_code
def yJ6_init_2 : MethodName := ⟨RJ6, "<init>", "()V"⟩
theorem dJ6_init_2_0 : decode cJ6_init_2 0 = .ok (.aload_n 0, 1) := by decide +kernel
theorem dJ6_init_2_1 : decode cJ6_init_2 1 = .ok (.invokespecial 1, 3) := by decide +kernel
theorem dJ6_init_2_4 : decode cJ6_init_2 4 = .ok (.return_, 1) := by decide +kernel
theorem q115 : (Jvm.Cond.initialized "java/lang/IllegalArgumentException") ∈ lw_all := lw_g (lw_at lw_m1 8 rfl) rfl
theorem q189 : (Jvm.Cond.instantiable "java/lang/IllegalArgumentException" (6 : Nat)) ∈ lw_all := lw_g (lw_at lw_m1 82 rfl) rfl
theorem q190 : (Jvm.Cond.castable "java/lang/IllegalArgumentException" "java/lang/IllegalArgumentException") ∈ lw_tbl := lw_at lw_m1 83 rfl
theorem q197 : (Jvm.Cond.selects "java/lang/IllegalArgumentException" ({ cls := "java/lang/Throwable", name := "fillInStackTrace", desc := "(I)Ljava/lang/Throwable;" } : Jvm.MethodName) ({ cls := "java/lang/Throwable", name := "fillInStackTrace", desc := "(I)Ljava/lang/Throwable;" } : Jvm.MethodName)) ∈ lw_all := lw_g (lw_at lw_m1 90 rfl) rfl
theorem q198 : (Jvm.Cond.selects "java/lang/IllegalArgumentException" ({ cls := "java/lang/Throwable", name := "fillInStackTrace", desc := "()Ljava/lang/Throwable;" } : Jvm.MethodName) ({ cls := "java/lang/Throwable", name := "fillInStackTrace", desc := "()Ljava/lang/Throwable;" } : Jvm.MethodName)) ∈ lw_all := lw_g (lw_at lw_m1 91 rfl) rfl
theorem q199 : (Jvm.Cond.lays "java/lang/IllegalArgumentException" "java/lang/Throwable" "cause" "Ljava/lang/Throwable;") ∈ lw_all := lw_g (lw_at lw_m1 92 rfl) rfl
theorem q201 : (Jvm.Cond.lays "java/lang/IllegalArgumentException" "java/lang/Throwable" "stackTrace" "[Ljava/lang/StackTraceElement;") ∈ lw_all := lw_g (lw_at lw_m1 94 rfl) rfl
theorem q203 : (Jvm.Cond.lays "java/lang/IllegalArgumentException" "java/lang/Throwable" "suppressedExceptions" "Ljava/util/List;") ∈ lw_all := lw_g (lw_at lw_m1 96 rfl) rfl
theorem q205 : (Jvm.Cond.lays "java/lang/IllegalArgumentException" "java/lang/Throwable" "detailMessage" "Ljava/lang/String;") ∈ lw_all := lw_g (lw_at lw_m1 98 rfl) rfl
theorem q207 : (Jvm.Cond.lays "java/lang/IllegalArgumentException" "java/lang/Throwable" "backtrace" "Ljava/lang/Object;") ∈ lw_all := lw_g (lw_at lw_m1 100 rfl) rfl
theorem q454 : (Jvm.Cond.instanceMethod ({ cls := "java/lang/IllegalArgumentException", name := "<init>", desc := "(Ljava/lang/String;)V" } : Jvm.MethodName)) ∈ lw_all := lw_g (lw_at lw_m2 107 rfl) rfl
theorem q455 : (Jvm.Cond.code ({ cls := "java/lang/IllegalArgumentException", name := "<init>", desc := "(Ljava/lang/String;)V" } : Jvm.MethodName) prog_30_method_2_code (2 : Nat) (Option.none : Option Jvm.ClassFile.FieldType)) ∈ lw_all := lw_g (lw_at lw_m2 108 rfl) rfl
theorem q456 : (Jvm.Cond.methodLink "java/lang/IllegalArgumentException" (7 : Nat) ({ cls := "java/lang/RuntimeException", name := "<init>", desc := "(Ljava/lang/String;)V" } : Jvm.MethodName)) ∈ lw_all := lw_g (lw_at lw_m2 109 rfl) rfl
theorem q474 : (Jvm.Cond.lays "java/lang/IllegalArgumentException" "java/lang/Throwable" "depth" "I") ∈ lw_all := lw_g (lw_at lw_m2 127 rfl) rfl
theorem q477 : (Jvm.Cond.superclass "java/lang/IllegalArgumentException" "java/lang/RuntimeException") ∈ lw_all := lw_g (lw_at lw_m2 130 rfl) rfl
theorem q1132 : (Jvm.Cond.selects "java/lang/IllegalArgumentException" ({ cls := "java/lang/Object", name := "getClass", desc := "()Ljava/lang/Class;" } : Jvm.MethodName) ({ cls := "java/lang/Object", name := "getClass", desc := "()Ljava/lang/Class;" } : Jvm.MethodName)) ∈ lw_all := lw_g (lw_at lw_m5 65 rfl) rfl
theorem q1297 : (Jvm.Cond.selects "java/lang/IllegalArgumentException" ({ cls := "java/lang/Object", name := "hashCode", desc := "()I" } : Jvm.MethodName) ({ cls := "java/lang/Object", name := "hashCode", desc := "()I" } : Jvm.MethodName)) ∈ lw_all := lw_g (lw_at lw_m5 230 rfl) rfl
theorem q1395 : (Jvm.Cond.selects "java/lang/IllegalArgumentException" ({ cls := "java/lang/Object", name := "equals", desc := "(Ljava/lang/Object;)Z" } : Jvm.MethodName) ({ cls := "java/lang/Object", name := "equals", desc := "(Ljava/lang/Object;)Z" } : Jvm.MethodName)) ∈ lw_all := lw_g (lw_at lw_m6 88 rfl) rfl
theorem q1915 : (Jvm.Cond.instanceMethod ({ cls := "java/lang/IllegalArgumentException", name := "<init>", desc := "()V" } : Jvm.MethodName)) ∈ lw_all := lw_g (lw_at lw_m8 128 rfl) rfl
theorem q1916 : (Jvm.Cond.code ({ cls := "java/lang/IllegalArgumentException", name := "<init>", desc := "()V" } : Jvm.MethodName) prog_30_method_1_code (1 : Nat) (Option.none : Option Jvm.ClassFile.FieldType)) ∈ lw_all := lw_g (lw_at lw_m8 129 rfl) rfl
theorem q1917 : (Jvm.Cond.methodLink "java/lang/IllegalArgumentException" (1 : Nat) ({ cls := "java/lang/RuntimeException", name := "<init>", desc := "()V" } : Jvm.MethodName)) ∈ lw_all := lw_g (lw_at lw_m8 130 rfl) rfl
theorem q3294 : (Jvm.Cond.castable "java/lang/IllegalArgumentException" "java/lang/Object") ∈ lw_tbl := lw_at lw_m14 67 rfl
theorem in_J6 : ∀ w ∈ wsJ60, w ∈ lw_all := lw_in wsJ60 [199, 201, 203, 205, 207, 474] (by decide +kernel) (by decide +kernel)

/-! java/lang/AbstractStringBuilder -/
set_option maxRecDepth 100000
def RJ7 : String := "java/lang/AbstractStringBuilder"
abbrev cJ7_init : ByteArray := prog_21_method_2_code
def yJ7_init : MethodName := ⟨RJ7, "<init>", "(I)V"⟩
def dkwJ7_init_1 : List UInt8 := [167, 0, 16, 42, 27, 184, 0, 26, 181, 0, 15, 42, 4, 181, 0, 22, 177]
abbrev dktJ7_init_1 : List UInt8 := dkwJ7_init_1 ++ []
def dkwJ7_init_0 : List UInt8 := [42, 183, 0, 3, 178, 0, 18, 153, 0, 18, 42, 27, 188, 8, 181, 0, 15, 42, 3, 181, 0, 22]
abbrev dktJ7_init_0 : List UInt8 := dkwJ7_init_0 ++ dktJ7_init_1
theorem dksJ7_init_0 : cJ7_init.data.toList.drop 0 = dktJ7_init_0 := by decide +kernel
theorem dksJ7_init_1 : cJ7_init.data.toList.drop 22 = dktJ7_init_1 := dk_seg dksJ7_init_0 22 rfl rfl
theorem dJ7_init_0 : decode cJ7_init 0 = .ok (.aload_n 0, 1) := dk_42 (dk_at dksJ7_init_0 0 rfl rfl)
theorem dJ7_init_1 : decode cJ7_init 1 = .ok (.invokespecial 3, 3) := dk_183 0 3 (dk_at dksJ7_init_0 1 rfl rfl)
theorem dJ7_init_4 : decode cJ7_init 4 = .ok (.getstatic 18, 3) := dk_178 0 18 (dk_at dksJ7_init_0 4 rfl rfl)
theorem dJ7_init_7 : decode cJ7_init 7 = .ok (.ifCond .eq 18, 3) := dk_153 0 18 (dk_at dksJ7_init_0 7 rfl rfl)
theorem dJ7_init_10 : decode cJ7_init 10 = .ok (.aload_n 0, 1) := dk_42 (dk_at dksJ7_init_0 10 rfl rfl)
theorem dJ7_init_11 : decode cJ7_init 11 = .ok (.iload_n 1, 1) := dk_27 (dk_at dksJ7_init_0 11 rfl rfl)
theorem dJ7_init_12 : decode cJ7_init 12 = .ok (.newarray .byte, 2) := dk_188_8 (dk_at dksJ7_init_0 12 rfl rfl)
theorem dJ7_init_14 : decode cJ7_init 14 = .ok (.putfield 15, 3) := dk_181 0 15 (dk_at dksJ7_init_0 14 rfl rfl)
theorem dJ7_init_17 : decode cJ7_init 17 = .ok (.aload_n 0, 1) := dk_42 (dk_at dksJ7_init_0 17 rfl rfl)
theorem dJ7_init_18 : decode cJ7_init 18 = .ok (.iconst 0, 1) := dk_3 (dk_at dksJ7_init_0 18 rfl rfl)
theorem dJ7_init_19 : decode cJ7_init 19 = .ok (.putfield 22, 3) := dk_181 0 22 (dk_at dksJ7_init_0 19 rfl rfl)
theorem dJ7_init_22 : decode cJ7_init 22 = .ok (.goto 16, 3) := dk_167 0 16 (dk_at dksJ7_init_1 0 rfl rfl)
theorem dJ7_init_25 : decode cJ7_init 25 = .ok (.aload_n 0, 1) := dk_42 (dk_at dksJ7_init_1 3 rfl rfl)
theorem dJ7_init_26 : decode cJ7_init 26 = .ok (.iload_n 1, 1) := dk_27 (dk_at dksJ7_init_1 4 rfl rfl)
theorem dJ7_init_27 : decode cJ7_init 27 = .ok (.invokestatic 26, 3) := dk_184 0 26 (dk_at dksJ7_init_1 5 rfl rfl)
theorem dJ7_init_30 : decode cJ7_init 30 = .ok (.putfield 15, 3) := dk_181 0 15 (dk_at dksJ7_init_1 8 rfl rfl)
theorem dJ7_init_33 : decode cJ7_init 33 = .ok (.aload_n 0, 1) := dk_42 (dk_at dksJ7_init_1 11 rfl rfl)
theorem dJ7_init_34 : decode cJ7_init 34 = .ok (.iconst 1, 1) := dk_4 (dk_at dksJ7_init_1 12 rfl rfl)
theorem dJ7_init_35 : decode cJ7_init 35 = .ok (.putfield 22, 3) := dk_181 0 22 (dk_at dksJ7_init_1 13 rfl rfl)
theorem dJ7_init_38 : decode cJ7_init 38 = .ok (.return_, 1) := dk_177 (dk_at dksJ7_init_1 16 rfl rfl)
abbrev cJ7_append : ByteArray := prog_21_method_22_code
def yJ7_append : MethodName := ⟨RJ7, "append", "(Ljava/lang/String;)Ljava/lang/AbstractStringBuilder;"⟩
def dkwJ7_append_1 : List UInt8 := [42, 42, 180, 0, 79, 43, 182, 0, 208, 42, 89, 180, 0, 79, 28, 96, 181, 0, 79, 42, 176]
abbrev dktJ7_append_1 : List UInt8 := dkwJ7_append_1 ++ []
def dkwJ7_append_0 : List UInt8 := [43, 199, 0, 8, 42, 182, 0, 204, 176, 43, 182, 0, 32, 61, 42, 42, 180, 0, 79, 28, 96, 182, 0, 100]
abbrev dktJ7_append_0 : List UInt8 := dkwJ7_append_0 ++ dktJ7_append_1
theorem dksJ7_append_0 : cJ7_append.data.toList.drop 0 = dktJ7_append_0 := by decide +kernel
theorem dksJ7_append_1 : cJ7_append.data.toList.drop 24 = dktJ7_append_1 := dk_seg dksJ7_append_0 24 rfl rfl
theorem dJ7_append_0 : decode cJ7_append 0 = .ok (.aload_n 1, 1) := dk_43 (dk_at dksJ7_append_0 0 rfl rfl)
theorem dJ7_append_1 : decode cJ7_append 1 = .ok (.ifnonnull 8, 3) := dk_199 0 8 (dk_at dksJ7_append_0 1 rfl rfl)
theorem dJ7_append_4 : decode cJ7_append 4 = .ok (.aload_n 0, 1) := dk_42 (dk_at dksJ7_append_0 4 rfl rfl)
theorem dJ7_append_5 : decode cJ7_append 5 = .ok (.invokevirtual 204, 3) := dk_182 0 204 (dk_at dksJ7_append_0 5 rfl rfl)
theorem dJ7_append_8 : decode cJ7_append 8 = .ok (.areturn, 1) := dk_176 (dk_at dksJ7_append_0 8 rfl rfl)
theorem dJ7_append_9 : decode cJ7_append 9 = .ok (.aload_n 1, 1) := dk_43 (dk_at dksJ7_append_0 9 rfl rfl)
theorem dJ7_append_10 : decode cJ7_append 10 = .ok (.invokevirtual 32, 3) := dk_182 0 32 (dk_at dksJ7_append_0 10 rfl rfl)
theorem dJ7_append_13 : decode cJ7_append 13 = .ok (.istore_n 2, 1) := dk_61 (dk_at dksJ7_append_0 13 rfl rfl)
theorem dJ7_append_14 : decode cJ7_append 14 = .ok (.aload_n 0, 1) := dk_42 (dk_at dksJ7_append_0 14 rfl rfl)
theorem dJ7_append_15 : decode cJ7_append 15 = .ok (.aload_n 0, 1) := dk_42 (dk_at dksJ7_append_0 15 rfl rfl)
theorem dJ7_append_16 : decode cJ7_append 16 = .ok (.getfield 79, 3) := dk_180 0 79 (dk_at dksJ7_append_0 16 rfl rfl)
theorem dJ7_append_19 : decode cJ7_append 19 = .ok (.iload_n 2, 1) := dk_28 (dk_at dksJ7_append_0 19 rfl rfl)
theorem dJ7_append_20 : decode cJ7_append 20 = .ok (.iadd, 1) := dk_96 (dk_at dksJ7_append_0 20 rfl rfl)
theorem dJ7_append_21 : decode cJ7_append 21 = .ok (.invokevirtual 100, 3) := dk_182 0 100 (dk_at dksJ7_append_0 21 rfl rfl)
theorem dJ7_append_24 : decode cJ7_append 24 = .ok (.aload_n 0, 1) := dk_42 (dk_at dksJ7_append_1 0 rfl rfl)
theorem dJ7_append_25 : decode cJ7_append 25 = .ok (.aload_n 0, 1) := dk_42 (dk_at dksJ7_append_1 1 rfl rfl)
theorem dJ7_append_26 : decode cJ7_append 26 = .ok (.getfield 79, 3) := dk_180 0 79 (dk_at dksJ7_append_1 2 rfl rfl)
theorem dJ7_append_29 : decode cJ7_append 29 = .ok (.aload_n 1, 1) := dk_43 (dk_at dksJ7_append_1 5 rfl rfl)
theorem dJ7_append_30 : decode cJ7_append 30 = .ok (.invokevirtual 208, 3) := dk_182 0 208 (dk_at dksJ7_append_1 6 rfl rfl)
theorem dJ7_append_33 : decode cJ7_append 33 = .ok (.aload_n 0, 1) := dk_42 (dk_at dksJ7_append_1 9 rfl rfl)
theorem dJ7_append_34 : decode cJ7_append 34 = .ok (.dup, 1) := dk_89 (dk_at dksJ7_append_1 10 rfl rfl)
theorem dJ7_append_35 : decode cJ7_append 35 = .ok (.getfield 79, 3) := dk_180 0 79 (dk_at dksJ7_append_1 11 rfl rfl)
theorem dJ7_append_38 : decode cJ7_append 38 = .ok (.iload_n 2, 1) := dk_28 (dk_at dksJ7_append_1 14 rfl rfl)
theorem dJ7_append_39 : decode cJ7_append 39 = .ok (.iadd, 1) := dk_96 (dk_at dksJ7_append_1 15 rfl rfl)
theorem dJ7_append_40 : decode cJ7_append 40 = .ok (.putfield 79, 3) := dk_181 0 79 (dk_at dksJ7_append_1 16 rfl rfl)
theorem dJ7_append_43 : decode cJ7_append 43 = .ok (.aload_n 0, 1) := dk_42 (dk_at dksJ7_append_1 19 rfl rfl)
theorem dJ7_append_44 : decode cJ7_append 44 = .ok (.areturn, 1) := dk_176 (dk_at dksJ7_append_1 20 rfl rfl)
abbrev cJ7_appendNull : ByteArray := prog_21_method_26_code
def yJ7_appendNull : MethodName := ⟨RJ7, "appendNull", "()Ljava/lang/AbstractStringBuilder;"⟩
def dkwJ7_appendNull_3 : List UInt8 := [184, 0, 226, 60, 42, 27, 181, 0, 79, 42, 176]
abbrev dktJ7_appendNull_3 : List UInt8 := dkwJ7_appendNull_3 ++ []
def dkwJ7_appendNull_2 : List UInt8 := [16, 108, 84, 44, 27, 132, 1, 1, 16, 108, 84, 167, 0, 17, 44, 27, 16, 110, 16, 117, 16, 108, 16, 108]
abbrev dktJ7_appendNull_2 : List UInt8 := dkwJ7_appendNull_2 ++ dktJ7_appendNull_3
def dkwJ7_appendNull_1 : List UInt8 := [153, 0, 38, 44, 27, 132, 1, 1, 16, 110, 84, 44, 27, 132, 1, 1, 16, 117, 84, 44, 27, 132, 1, 1]
abbrev dktJ7_appendNull_1 : List UInt8 := dkwJ7_appendNull_1 ++ dktJ7_appendNull_2
def dkwJ7_appendNull_0 : List UInt8 := [42, 42, 180, 0, 79, 7, 96, 182, 0, 100, 42, 180, 0, 79, 60, 42, 180, 0, 15, 77, 42, 182, 0, 83]
abbrev dktJ7_appendNull_0 : List UInt8 := dkwJ7_appendNull_0 ++ dktJ7_appendNull_1
theorem dksJ7_appendNull_0 : cJ7_appendNull.data.toList.drop 0 = dktJ7_appendNull_0 := by decide +kernel
theorem dksJ7_appendNull_1 : cJ7_appendNull.data.toList.drop 24 = dktJ7_appendNull_1 := dk_seg dksJ7_appendNull_0 24 rfl rfl
theorem dksJ7_appendNull_2 : cJ7_appendNull.data.toList.drop 48 = dktJ7_appendNull_2 := dk_seg dksJ7_appendNull_1 24 rfl rfl
theorem dksJ7_appendNull_3 : cJ7_appendNull.data.toList.drop 72 = dktJ7_appendNull_3 := dk_seg dksJ7_appendNull_2 24 rfl rfl
theorem dJ7_appendNull_0 : decode cJ7_appendNull 0 = .ok (.aload_n 0, 1) := dk_42 (dk_at dksJ7_appendNull_0 0 rfl rfl)
theorem dJ7_appendNull_1 : decode cJ7_appendNull 1 = .ok (.aload_n 0, 1) := dk_42 (dk_at dksJ7_appendNull_0 1 rfl rfl)
theorem dJ7_appendNull_2 : decode cJ7_appendNull 2 = .ok (.getfield 79, 3) := dk_180 0 79 (dk_at dksJ7_appendNull_0 2 rfl rfl)
theorem dJ7_appendNull_5 : decode cJ7_appendNull 5 = .ok (.iconst 4, 1) := dk_7 (dk_at dksJ7_appendNull_0 5 rfl rfl)
theorem dJ7_appendNull_6 : decode cJ7_appendNull 6 = .ok (.iadd, 1) := dk_96 (dk_at dksJ7_appendNull_0 6 rfl rfl)
theorem dJ7_appendNull_7 : decode cJ7_appendNull 7 = .ok (.invokevirtual 100, 3) := dk_182 0 100 (dk_at dksJ7_appendNull_0 7 rfl rfl)
theorem dJ7_appendNull_10 : decode cJ7_appendNull 10 = .ok (.aload_n 0, 1) := dk_42 (dk_at dksJ7_appendNull_0 10 rfl rfl)
theorem dJ7_appendNull_11 : decode cJ7_appendNull 11 = .ok (.getfield 79, 3) := dk_180 0 79 (dk_at dksJ7_appendNull_0 11 rfl rfl)
theorem dJ7_appendNull_14 : decode cJ7_appendNull 14 = .ok (.istore_n 1, 1) := dk_60 (dk_at dksJ7_appendNull_0 14 rfl rfl)
theorem dJ7_appendNull_15 : decode cJ7_appendNull 15 = .ok (.aload_n 0, 1) := dk_42 (dk_at dksJ7_appendNull_0 15 rfl rfl)
theorem dJ7_appendNull_16 : decode cJ7_appendNull 16 = .ok (.getfield 15, 3) := dk_180 0 15 (dk_at dksJ7_appendNull_0 16 rfl rfl)
theorem dJ7_appendNull_19 : decode cJ7_appendNull 19 = .ok (.astore_n 2, 1) := dk_77 (dk_at dksJ7_appendNull_0 19 rfl rfl)
theorem dJ7_appendNull_20 : decode cJ7_appendNull 20 = .ok (.aload_n 0, 1) := dk_42 (dk_at dksJ7_appendNull_0 20 rfl rfl)
theorem dJ7_appendNull_21 : decode cJ7_appendNull 21 = .ok (.invokevirtual 83, 3) := dk_182 0 83 (dk_at dksJ7_appendNull_0 21 rfl rfl)
theorem dJ7_appendNull_24 : decode cJ7_appendNull 24 = .ok (.ifCond .eq 38, 3) := dk_153 0 38 (dk_at dksJ7_appendNull_1 0 rfl rfl)
theorem dJ7_appendNull_27 : decode cJ7_appendNull 27 = .ok (.aload_n 2, 1) := dk_44 (dk_at dksJ7_appendNull_1 3 rfl rfl)
theorem dJ7_appendNull_28 : decode cJ7_appendNull 28 = .ok (.iload_n 1, 1) := dk_27 (dk_at dksJ7_appendNull_1 4 rfl rfl)
theorem dJ7_appendNull_29 : decode cJ7_appendNull 29 = .ok (.iinc 1 1, 3) := dk_132 1 1 (dk_at dksJ7_appendNull_1 5 rfl rfl)
theorem dJ7_appendNull_32 : decode cJ7_appendNull 32 = .ok (.bipush 110, 2) := dk_16 110 (dk_at dksJ7_appendNull_1 8 rfl rfl)
theorem dJ7_appendNull_34 : decode cJ7_appendNull 34 = .ok (.bastore, 1) := dk_84 (dk_at dksJ7_appendNull_1 10 rfl rfl)
theorem dJ7_appendNull_35 : decode cJ7_appendNull 35 = .ok (.aload_n 2, 1) := dk_44 (dk_at dksJ7_appendNull_1 11 rfl rfl)
theorem dJ7_appendNull_36 : decode cJ7_appendNull 36 = .ok (.iload_n 1, 1) := dk_27 (dk_at dksJ7_appendNull_1 12 rfl rfl)
theorem dJ7_appendNull_37 : decode cJ7_appendNull 37 = .ok (.iinc 1 1, 3) := dk_132 1 1 (dk_at dksJ7_appendNull_1 13 rfl rfl)
theorem dJ7_appendNull_40 : decode cJ7_appendNull 40 = .ok (.bipush 117, 2) := dk_16 117 (dk_at dksJ7_appendNull_1 16 rfl rfl)
theorem dJ7_appendNull_42 : decode cJ7_appendNull 42 = .ok (.bastore, 1) := dk_84 (dk_at dksJ7_appendNull_1 18 rfl rfl)
theorem dJ7_appendNull_43 : decode cJ7_appendNull 43 = .ok (.aload_n 2, 1) := dk_44 (dk_at dksJ7_appendNull_1 19 rfl rfl)
theorem dJ7_appendNull_44 : decode cJ7_appendNull 44 = .ok (.iload_n 1, 1) := dk_27 (dk_at dksJ7_appendNull_1 20 rfl rfl)
theorem dJ7_appendNull_45 : decode cJ7_appendNull 45 = .ok (.iinc 1 1, 3) := dk_132 1 1 (dk_at dksJ7_appendNull_1 21 rfl rfl)
theorem dJ7_appendNull_48 : decode cJ7_appendNull 48 = .ok (.bipush 108, 2) := dk_16 108 (dk_at dksJ7_appendNull_2 0 rfl rfl)
theorem dJ7_appendNull_50 : decode cJ7_appendNull 50 = .ok (.bastore, 1) := dk_84 (dk_at dksJ7_appendNull_2 2 rfl rfl)
theorem dJ7_appendNull_51 : decode cJ7_appendNull 51 = .ok (.aload_n 2, 1) := dk_44 (dk_at dksJ7_appendNull_2 3 rfl rfl)
theorem dJ7_appendNull_52 : decode cJ7_appendNull 52 = .ok (.iload_n 1, 1) := dk_27 (dk_at dksJ7_appendNull_2 4 rfl rfl)
theorem dJ7_appendNull_53 : decode cJ7_appendNull 53 = .ok (.iinc 1 1, 3) := dk_132 1 1 (dk_at dksJ7_appendNull_2 5 rfl rfl)
theorem dJ7_appendNull_56 : decode cJ7_appendNull 56 = .ok (.bipush 108, 2) := dk_16 108 (dk_at dksJ7_appendNull_2 8 rfl rfl)
theorem dJ7_appendNull_58 : decode cJ7_appendNull 58 = .ok (.bastore, 1) := dk_84 (dk_at dksJ7_appendNull_2 10 rfl rfl)
theorem dJ7_appendNull_59 : decode cJ7_appendNull 59 = .ok (.goto 17, 3) := dk_167 0 17 (dk_at dksJ7_appendNull_2 11 rfl rfl)
theorem dJ7_appendNull_62 : decode cJ7_appendNull 62 = .ok (.aload_n 2, 1) := dk_44 (dk_at dksJ7_appendNull_2 14 rfl rfl)
theorem dJ7_appendNull_63 : decode cJ7_appendNull 63 = .ok (.iload_n 1, 1) := dk_27 (dk_at dksJ7_appendNull_2 15 rfl rfl)
theorem dJ7_appendNull_64 : decode cJ7_appendNull 64 = .ok (.bipush 110, 2) := dk_16 110 (dk_at dksJ7_appendNull_2 16 rfl rfl)
theorem dJ7_appendNull_66 : decode cJ7_appendNull 66 = .ok (.bipush 117, 2) := dk_16 117 (dk_at dksJ7_appendNull_2 18 rfl rfl)
theorem dJ7_appendNull_68 : decode cJ7_appendNull 68 = .ok (.bipush 108, 2) := dk_16 108 (dk_at dksJ7_appendNull_2 20 rfl rfl)
theorem dJ7_appendNull_70 : decode cJ7_appendNull 70 = .ok (.bipush 108, 2) := dk_16 108 (dk_at dksJ7_appendNull_2 22 rfl rfl)
theorem dJ7_appendNull_72 : decode cJ7_appendNull 72 = .ok (.invokestatic 226, 3) := dk_184 0 226 (dk_at dksJ7_appendNull_3 0 rfl rfl)
theorem dJ7_appendNull_75 : decode cJ7_appendNull 75 = .ok (.istore_n 1, 1) := dk_60 (dk_at dksJ7_appendNull_3 3 rfl rfl)
theorem dJ7_appendNull_76 : decode cJ7_appendNull 76 = .ok (.aload_n 0, 1) := dk_42 (dk_at dksJ7_appendNull_3 4 rfl rfl)
theorem dJ7_appendNull_77 : decode cJ7_appendNull 77 = .ok (.iload_n 1, 1) := dk_27 (dk_at dksJ7_appendNull_3 5 rfl rfl)
theorem dJ7_appendNull_78 : decode cJ7_appendNull 78 = .ok (.putfield 79, 3) := dk_181 0 79 (dk_at dksJ7_appendNull_3 6 rfl rfl)
theorem dJ7_appendNull_81 : decode cJ7_appendNull 81 = .ok (.aload_n 0, 1) := dk_42 (dk_at dksJ7_appendNull_3 9 rfl rfl)
theorem dJ7_appendNull_82 : decode cJ7_appendNull 82 = .ok (.areturn, 1) := dk_176 (dk_at dksJ7_appendNull_3 10 rfl rfl)
abbrev cJ7_ensureCapacityInternal : ByteArray := prog_21_method_9_code
def yJ7_ensureCapacityInternal : MethodName := ⟨RJ7, "ensureCapacityInternal", "(I)V"⟩
def dkwJ7_ensureCapacityInternal_1 : List UInt8 := [182, 0, 104, 42, 180, 0, 22, 120, 184, 0, 108, 181, 0, 15, 177]
abbrev dktJ7_ensureCapacityInternal_1 : List UInt8 := dkwJ7_ensureCapacityInternal_1 ++ []
def dkwJ7_ensureCapacityInternal_0 : List UInt8 := [42, 180, 0, 15, 190, 42, 180, 0, 22, 122, 61, 27, 28, 100, 158, 0, 24, 42, 42, 180, 0, 15, 42, 27]
abbrev dktJ7_ensureCapacityInternal_0 : List UInt8 := dkwJ7_ensureCapacityInternal_0 ++ dktJ7_ensureCapacityInternal_1
theorem dksJ7_ensureCapacityInternal_0 : cJ7_ensureCapacityInternal.data.toList.drop 0 = dktJ7_ensureCapacityInternal_0 := by decide +kernel
theorem dksJ7_ensureCapacityInternal_1 : cJ7_ensureCapacityInternal.data.toList.drop 24 = dktJ7_ensureCapacityInternal_1 := dk_seg dksJ7_ensureCapacityInternal_0 24 rfl rfl
theorem dJ7_ensureCapacityInternal_0 : decode cJ7_ensureCapacityInternal 0 = .ok (.aload_n 0, 1) := dk_42 (dk_at dksJ7_ensureCapacityInternal_0 0 rfl rfl)
theorem dJ7_ensureCapacityInternal_1 : decode cJ7_ensureCapacityInternal 1 = .ok (.getfield 15, 3) := dk_180 0 15 (dk_at dksJ7_ensureCapacityInternal_0 1 rfl rfl)
theorem dJ7_ensureCapacityInternal_4 : decode cJ7_ensureCapacityInternal 4 = .ok (.arraylength, 1) := dk_190 (dk_at dksJ7_ensureCapacityInternal_0 4 rfl rfl)
theorem dJ7_ensureCapacityInternal_5 : decode cJ7_ensureCapacityInternal 5 = .ok (.aload_n 0, 1) := dk_42 (dk_at dksJ7_ensureCapacityInternal_0 5 rfl rfl)
theorem dJ7_ensureCapacityInternal_6 : decode cJ7_ensureCapacityInternal 6 = .ok (.getfield 22, 3) := dk_180 0 22 (dk_at dksJ7_ensureCapacityInternal_0 6 rfl rfl)
theorem dJ7_ensureCapacityInternal_9 : decode cJ7_ensureCapacityInternal 9 = .ok (.ishr, 1) := dk_122 (dk_at dksJ7_ensureCapacityInternal_0 9 rfl rfl)
theorem dJ7_ensureCapacityInternal_10 : decode cJ7_ensureCapacityInternal 10 = .ok (.istore_n 2, 1) := dk_61 (dk_at dksJ7_ensureCapacityInternal_0 10 rfl rfl)
theorem dJ7_ensureCapacityInternal_11 : decode cJ7_ensureCapacityInternal 11 = .ok (.iload_n 1, 1) := dk_27 (dk_at dksJ7_ensureCapacityInternal_0 11 rfl rfl)
theorem dJ7_ensureCapacityInternal_12 : decode cJ7_ensureCapacityInternal 12 = .ok (.iload_n 2, 1) := dk_28 (dk_at dksJ7_ensureCapacityInternal_0 12 rfl rfl)
theorem dJ7_ensureCapacityInternal_13 : decode cJ7_ensureCapacityInternal 13 = .ok (.isub, 1) := dk_100 (dk_at dksJ7_ensureCapacityInternal_0 13 rfl rfl)
theorem dJ7_ensureCapacityInternal_14 : decode cJ7_ensureCapacityInternal 14 = .ok (.ifCond .le 24, 3) := dk_158 0 24 (dk_at dksJ7_ensureCapacityInternal_0 14 rfl rfl)
theorem dJ7_ensureCapacityInternal_17 : decode cJ7_ensureCapacityInternal 17 = .ok (.aload_n 0, 1) := dk_42 (dk_at dksJ7_ensureCapacityInternal_0 17 rfl rfl)
theorem dJ7_ensureCapacityInternal_18 : decode cJ7_ensureCapacityInternal 18 = .ok (.aload_n 0, 1) := dk_42 (dk_at dksJ7_ensureCapacityInternal_0 18 rfl rfl)
theorem dJ7_ensureCapacityInternal_19 : decode cJ7_ensureCapacityInternal 19 = .ok (.getfield 15, 3) := dk_180 0 15 (dk_at dksJ7_ensureCapacityInternal_0 19 rfl rfl)
theorem dJ7_ensureCapacityInternal_22 : decode cJ7_ensureCapacityInternal 22 = .ok (.aload_n 0, 1) := dk_42 (dk_at dksJ7_ensureCapacityInternal_0 22 rfl rfl)
theorem dJ7_ensureCapacityInternal_23 : decode cJ7_ensureCapacityInternal 23 = .ok (.iload_n 1, 1) := dk_27 (dk_at dksJ7_ensureCapacityInternal_0 23 rfl rfl)
theorem dJ7_ensureCapacityInternal_24 : decode cJ7_ensureCapacityInternal 24 = .ok (.invokevirtual 104, 3) := dk_182 0 104 (dk_at dksJ7_ensureCapacityInternal_1 0 rfl rfl)
theorem dJ7_ensureCapacityInternal_27 : decode cJ7_ensureCapacityInternal 27 = .ok (.aload_n 0, 1) := dk_42 (dk_at dksJ7_ensureCapacityInternal_1 3 rfl rfl)
theorem dJ7_ensureCapacityInternal_28 : decode cJ7_ensureCapacityInternal 28 = .ok (.getfield 22, 3) := dk_180 0 22 (dk_at dksJ7_ensureCapacityInternal_1 4 rfl rfl)
theorem dJ7_ensureCapacityInternal_31 : decode cJ7_ensureCapacityInternal 31 = .ok (.ishl, 1) := dk_120 (dk_at dksJ7_ensureCapacityInternal_1 7 rfl rfl)
theorem dJ7_ensureCapacityInternal_32 : decode cJ7_ensureCapacityInternal 32 = .ok (.invokestatic 108, 3) := dk_184 0 108 (dk_at dksJ7_ensureCapacityInternal_1 8 rfl rfl)
theorem dJ7_ensureCapacityInternal_35 : decode cJ7_ensureCapacityInternal 35 = .ok (.putfield 15, 3) := dk_181 0 15 (dk_at dksJ7_ensureCapacityInternal_1 11 rfl rfl)
theorem dJ7_ensureCapacityInternal_38 : decode cJ7_ensureCapacityInternal 38 = .ok (.return_, 1) := dk_177 (dk_at dksJ7_ensureCapacityInternal_1 14 rfl rfl)
abbrev cJ7_newCapacity : ByteArray := prog_21_method_10_code
def yJ7_newCapacity : MethodName := ⟨RJ7, "newCapacity", "(I)I"⟩
def dkwJ7_newCapacity_2 : List UInt8 := [183, 0, 124, 191, 21, 5, 42, 180, 0, 22, 122, 172]
abbrev dktJ7_newCapacity_2 : List UInt8 := dkwJ7_newCapacity_2 ++ []
def dkwJ7_newCapacity_1 : List UInt8 := [180, 0, 22, 120, 96, 184, 0, 114, 54, 5, 21, 5, 18, 39, 160, 0, 13, 187, 0, 120, 89, 18, 122]
abbrev dktJ7_newCapacity_1 : List UInt8 := dkwJ7_newCapacity_1 ++ dktJ7_newCapacity_2
def dkwJ7_newCapacity_0 : List UInt8 := [42, 180, 0, 15, 190, 61, 27, 42, 180, 0, 22, 120, 62, 29, 28, 100, 54, 4, 28, 21, 4, 28, 5, 42]
abbrev dktJ7_newCapacity_0 : List UInt8 := dkwJ7_newCapacity_0 ++ dktJ7_newCapacity_1
theorem dksJ7_newCapacity_0 : cJ7_newCapacity.data.toList.drop 0 = dktJ7_newCapacity_0 := by decide +kernel
theorem dksJ7_newCapacity_1 : cJ7_newCapacity.data.toList.drop 24 = dktJ7_newCapacity_1 := dk_seg dksJ7_newCapacity_0 24 rfl rfl
theorem dksJ7_newCapacity_2 : cJ7_newCapacity.data.toList.drop 47 = dktJ7_newCapacity_2 := dk_seg dksJ7_newCapacity_1 23 rfl rfl
theorem dJ7_newCapacity_0 : decode cJ7_newCapacity 0 = .ok (.aload_n 0, 1) := dk_42 (dk_at dksJ7_newCapacity_0 0 rfl rfl)
theorem dJ7_newCapacity_1 : decode cJ7_newCapacity 1 = .ok (.getfield 15, 3) := dk_180 0 15 (dk_at dksJ7_newCapacity_0 1 rfl rfl)
theorem dJ7_newCapacity_4 : decode cJ7_newCapacity 4 = .ok (.arraylength, 1) := dk_190 (dk_at dksJ7_newCapacity_0 4 rfl rfl)
theorem dJ7_newCapacity_5 : decode cJ7_newCapacity 5 = .ok (.istore_n 2, 1) := dk_61 (dk_at dksJ7_newCapacity_0 5 rfl rfl)
theorem dJ7_newCapacity_6 : decode cJ7_newCapacity 6 = .ok (.iload_n 1, 1) := dk_27 (dk_at dksJ7_newCapacity_0 6 rfl rfl)
theorem dJ7_newCapacity_7 : decode cJ7_newCapacity 7 = .ok (.aload_n 0, 1) := dk_42 (dk_at dksJ7_newCapacity_0 7 rfl rfl)
theorem dJ7_newCapacity_8 : decode cJ7_newCapacity 8 = .ok (.getfield 22, 3) := dk_180 0 22 (dk_at dksJ7_newCapacity_0 8 rfl rfl)
theorem dJ7_newCapacity_11 : decode cJ7_newCapacity 11 = .ok (.ishl, 1) := dk_120 (dk_at dksJ7_newCapacity_0 11 rfl rfl)
theorem dJ7_newCapacity_12 : decode cJ7_newCapacity 12 = .ok (.istore_n 3, 1) := dk_62 (dk_at dksJ7_newCapacity_0 12 rfl rfl)
theorem dJ7_newCapacity_13 : decode cJ7_newCapacity 13 = .ok (.iload_n 3, 1) := dk_29 (dk_at dksJ7_newCapacity_0 13 rfl rfl)
theorem dJ7_newCapacity_14 : decode cJ7_newCapacity 14 = .ok (.iload_n 2, 1) := dk_28 (dk_at dksJ7_newCapacity_0 14 rfl rfl)
theorem dJ7_newCapacity_15 : decode cJ7_newCapacity 15 = .ok (.isub, 1) := dk_100 (dk_at dksJ7_newCapacity_0 15 rfl rfl)
theorem dJ7_newCapacity_16 : decode cJ7_newCapacity 16 = .ok (.istore 4, 2) := dk_54 4 (dk_at dksJ7_newCapacity_0 16 rfl rfl)
theorem dJ7_newCapacity_18 : decode cJ7_newCapacity 18 = .ok (.iload_n 2, 1) := dk_28 (dk_at dksJ7_newCapacity_0 18 rfl rfl)
theorem dJ7_newCapacity_19 : decode cJ7_newCapacity 19 = .ok (.iload 4, 2) := dk_21 4 (dk_at dksJ7_newCapacity_0 19 rfl rfl)
theorem dJ7_newCapacity_21 : decode cJ7_newCapacity 21 = .ok (.iload_n 2, 1) := dk_28 (dk_at dksJ7_newCapacity_0 21 rfl rfl)
theorem dJ7_newCapacity_22 : decode cJ7_newCapacity 22 = .ok (.iconst 2, 1) := dk_5 (dk_at dksJ7_newCapacity_0 22 rfl rfl)
theorem dJ7_newCapacity_23 : decode cJ7_newCapacity 23 = .ok (.aload_n 0, 1) := dk_42 (dk_at dksJ7_newCapacity_0 23 rfl rfl)
theorem dJ7_newCapacity_24 : decode cJ7_newCapacity 24 = .ok (.getfield 22, 3) := dk_180 0 22 (dk_at dksJ7_newCapacity_1 0 rfl rfl)
theorem dJ7_newCapacity_27 : decode cJ7_newCapacity 27 = .ok (.ishl, 1) := dk_120 (dk_at dksJ7_newCapacity_1 3 rfl rfl)
theorem dJ7_newCapacity_28 : decode cJ7_newCapacity 28 = .ok (.iadd, 1) := dk_96 (dk_at dksJ7_newCapacity_1 4 rfl rfl)
theorem dJ7_newCapacity_29 : decode cJ7_newCapacity 29 = .ok (.invokestatic 114, 3) := dk_184 0 114 (dk_at dksJ7_newCapacity_1 5 rfl rfl)
theorem dJ7_newCapacity_32 : decode cJ7_newCapacity 32 = .ok (.istore 5, 2) := dk_54 5 (dk_at dksJ7_newCapacity_1 8 rfl rfl)
theorem dJ7_newCapacity_34 : decode cJ7_newCapacity 34 = .ok (.iload 5, 2) := dk_21 5 (dk_at dksJ7_newCapacity_1 10 rfl rfl)
theorem dJ7_newCapacity_36 : decode cJ7_newCapacity 36 = .ok (.ldc 39, 2) := dk_18 39 (dk_at dksJ7_newCapacity_1 12 rfl rfl)
theorem dJ7_newCapacity_38 : decode cJ7_newCapacity 38 = .ok (.if_icmp .ne 13, 3) := dk_160 0 13 (dk_at dksJ7_newCapacity_1 14 rfl rfl)
theorem dJ7_newCapacity_41 : decode cJ7_newCapacity 41 = .ok (.new 120, 3) := dk_187 0 120 (dk_at dksJ7_newCapacity_1 17 rfl rfl)
theorem dJ7_newCapacity_44 : decode cJ7_newCapacity 44 = .ok (.dup, 1) := dk_89 (dk_at dksJ7_newCapacity_1 20 rfl rfl)
theorem dJ7_newCapacity_45 : decode cJ7_newCapacity 45 = .ok (.ldc 122, 2) := dk_18 122 (dk_at dksJ7_newCapacity_1 21 rfl rfl)
theorem dJ7_newCapacity_47 : decode cJ7_newCapacity 47 = .ok (.invokespecial 124, 3) := dk_183 0 124 (dk_at dksJ7_newCapacity_2 0 rfl rfl)
theorem dJ7_newCapacity_50 : decode cJ7_newCapacity 50 = .ok (.athrow, 1) := dk_191 (dk_at dksJ7_newCapacity_2 3 rfl rfl)
theorem dJ7_newCapacity_51 : decode cJ7_newCapacity 51 = .ok (.iload 5, 2) := dk_21 5 (dk_at dksJ7_newCapacity_2 4 rfl rfl)
theorem dJ7_newCapacity_53 : decode cJ7_newCapacity 53 = .ok (.aload_n 0, 1) := dk_42 (dk_at dksJ7_newCapacity_2 6 rfl rfl)
theorem dJ7_newCapacity_54 : decode cJ7_newCapacity 54 = .ok (.getfield 22, 3) := dk_180 0 22 (dk_at dksJ7_newCapacity_2 7 rfl rfl)
theorem dJ7_newCapacity_57 : decode cJ7_newCapacity 57 = .ok (.ishr, 1) := dk_122 (dk_at dksJ7_newCapacity_2 10 rfl rfl)
theorem dJ7_newCapacity_58 : decode cJ7_newCapacity 58 = .ok (.ireturn, 1) := dk_172 (dk_at dksJ7_newCapacity_2 11 rfl rfl)
abbrev cJ7_isLatin1 : ByteArray := prog_21_method_68_code
def yJ7_isLatin1 : MethodName := ⟨RJ7, "isLatin1", "()Z"⟩
def dkwJ7_isLatin1_0 : List UInt8 := [178, 0, 18, 153, 0, 14, 42, 180, 0, 22, 154, 0, 7, 4, 167, 0, 4, 3, 172]
abbrev dktJ7_isLatin1_0 : List UInt8 := dkwJ7_isLatin1_0 ++ []
theorem dksJ7_isLatin1_0 : cJ7_isLatin1.data.toList.drop 0 = dktJ7_isLatin1_0 := by decide +kernel
theorem dJ7_isLatin1_0 : decode cJ7_isLatin1 0 = .ok (.getstatic 18, 3) := dk_178 0 18 (dk_at dksJ7_isLatin1_0 0 rfl rfl)
theorem dJ7_isLatin1_3 : decode cJ7_isLatin1 3 = .ok (.ifCond .eq 14, 3) := dk_153 0 14 (dk_at dksJ7_isLatin1_0 3 rfl rfl)
theorem dJ7_isLatin1_6 : decode cJ7_isLatin1 6 = .ok (.aload_n 0, 1) := dk_42 (dk_at dksJ7_isLatin1_0 6 rfl rfl)
theorem dJ7_isLatin1_7 : decode cJ7_isLatin1 7 = .ok (.getfield 22, 3) := dk_180 0 22 (dk_at dksJ7_isLatin1_0 7 rfl rfl)
theorem dJ7_isLatin1_10 : decode cJ7_isLatin1 10 = .ok (.ifCond .ne 7, 3) := dk_154 0 7 (dk_at dksJ7_isLatin1_0 10 rfl rfl)
theorem dJ7_isLatin1_13 : decode cJ7_isLatin1 13 = .ok (.iconst 1, 1) := dk_4 (dk_at dksJ7_isLatin1_0 13 rfl rfl)
theorem dJ7_isLatin1_14 : decode cJ7_isLatin1 14 = .ok (.goto 4, 3) := dk_167 0 4 (dk_at dksJ7_isLatin1_0 14 rfl rfl)
theorem dJ7_isLatin1_17 : decode cJ7_isLatin1 17 = .ok (.iconst 0, 1) := dk_3 (dk_at dksJ7_isLatin1_0 17 rfl rfl)
theorem dJ7_isLatin1_18 : decode cJ7_isLatin1 18 = .ok (.ireturn, 1) := dk_172 (dk_at dksJ7_isLatin1_0 18 rfl rfl)
abbrev cJ7_putStringAt : ByteArray := prog_21_method_73_code
def yJ7_putStringAt : MethodName := ⟨RJ7, "putStringAt", "(ILjava/lang/String;)V"⟩
def dkwJ7_putStringAt_0 : List UInt8 := [42, 44, 182, 1, 141, 44, 42, 180, 0, 15, 27, 42, 180, 0, 22, 182, 1, 143, 177]
abbrev dktJ7_putStringAt_0 : List UInt8 := dkwJ7_putStringAt_0 ++ []
theorem dksJ7_putStringAt_0 : cJ7_putStringAt.data.toList.drop 0 = dktJ7_putStringAt_0 := by decide +kernel
theorem dJ7_putStringAt_0 : decode cJ7_putStringAt 0 = .ok (.aload_n 0, 1) := dk_42 (dk_at dksJ7_putStringAt_0 0 rfl rfl)
theorem dJ7_putStringAt_1 : decode cJ7_putStringAt 1 = .ok (.aload_n 2, 1) := dk_44 (dk_at dksJ7_putStringAt_0 1 rfl rfl)
theorem dJ7_putStringAt_2 : decode cJ7_putStringAt 2 = .ok (.invokevirtual 397, 3) := dk_182 1 141 (dk_at dksJ7_putStringAt_0 2 rfl rfl)
theorem dJ7_putStringAt_5 : decode cJ7_putStringAt 5 = .ok (.aload_n 2, 1) := dk_44 (dk_at dksJ7_putStringAt_0 5 rfl rfl)
theorem dJ7_putStringAt_6 : decode cJ7_putStringAt 6 = .ok (.aload_n 0, 1) := dk_42 (dk_at dksJ7_putStringAt_0 6 rfl rfl)
theorem dJ7_putStringAt_7 : decode cJ7_putStringAt 7 = .ok (.getfield 15, 3) := dk_180 0 15 (dk_at dksJ7_putStringAt_0 7 rfl rfl)
theorem dJ7_putStringAt_10 : decode cJ7_putStringAt 10 = .ok (.iload_n 1, 1) := dk_27 (dk_at dksJ7_putStringAt_0 10 rfl rfl)
theorem dJ7_putStringAt_11 : decode cJ7_putStringAt 11 = .ok (.aload_n 0, 1) := dk_42 (dk_at dksJ7_putStringAt_0 11 rfl rfl)
theorem dJ7_putStringAt_12 : decode cJ7_putStringAt 12 = .ok (.getfield 22, 3) := dk_180 0 22 (dk_at dksJ7_putStringAt_0 12 rfl rfl)
theorem dJ7_putStringAt_15 : decode cJ7_putStringAt 15 = .ok (.invokevirtual 399, 3) := dk_182 1 143 (dk_at dksJ7_putStringAt_0 15 rfl rfl)
theorem dJ7_putStringAt_18 : decode cJ7_putStringAt 18 = .ok (.return_, 1) := dk_177 (dk_at dksJ7_putStringAt_0 18 rfl rfl)
abbrev cJ7_inflateIfNeededFor : ByteArray := prog_21_method_71_code
def yJ7_inflateIfNeededFor : MethodName := ⟨RJ7, "inflateIfNeededFor", "(Ljava/lang/String;)V"⟩
def dkwJ7_inflateIfNeededFor_0 : List UInt8 := [178, 0, 18, 153, 0, 18, 42, 180, 0, 22, 43, 182, 0, 40, 159, 0, 7, 42, 182, 0, 195, 177]
abbrev dktJ7_inflateIfNeededFor_0 : List UInt8 := dkwJ7_inflateIfNeededFor_0 ++ []
theorem dksJ7_inflateIfNeededFor_0 : cJ7_inflateIfNeededFor.data.toList.drop 0 = dktJ7_inflateIfNeededFor_0 := by decide +kernel
theorem dJ7_inflateIfNeededFor_0 : decode cJ7_inflateIfNeededFor 0 = .ok (.getstatic 18, 3) := dk_178 0 18 (dk_at dksJ7_inflateIfNeededFor_0 0 rfl rfl)
theorem dJ7_inflateIfNeededFor_3 : decode cJ7_inflateIfNeededFor 3 = .ok (.ifCond .eq 18, 3) := dk_153 0 18 (dk_at dksJ7_inflateIfNeededFor_0 3 rfl rfl)
theorem dJ7_inflateIfNeededFor_6 : decode cJ7_inflateIfNeededFor 6 = .ok (.aload_n 0, 1) := dk_42 (dk_at dksJ7_inflateIfNeededFor_0 6 rfl rfl)
theorem dJ7_inflateIfNeededFor_7 : decode cJ7_inflateIfNeededFor 7 = .ok (.getfield 22, 3) := dk_180 0 22 (dk_at dksJ7_inflateIfNeededFor_0 7 rfl rfl)
theorem dJ7_inflateIfNeededFor_10 : decode cJ7_inflateIfNeededFor 10 = .ok (.aload_n 1, 1) := dk_43 (dk_at dksJ7_inflateIfNeededFor_0 10 rfl rfl)
theorem dJ7_inflateIfNeededFor_11 : decode cJ7_inflateIfNeededFor 11 = .ok (.invokevirtual 40, 3) := dk_182 0 40 (dk_at dksJ7_inflateIfNeededFor_0 11 rfl rfl)
theorem dJ7_inflateIfNeededFor_14 : decode cJ7_inflateIfNeededFor 14 = .ok (.if_icmp .eq 7, 3) := dk_159 0 7 (dk_at dksJ7_inflateIfNeededFor_0 14 rfl rfl)
theorem dJ7_inflateIfNeededFor_17 : decode cJ7_inflateIfNeededFor 17 = .ok (.aload_n 0, 1) := dk_42 (dk_at dksJ7_inflateIfNeededFor_0 17 rfl rfl)
theorem dJ7_inflateIfNeededFor_18 : decode cJ7_inflateIfNeededFor 18 = .ok (.invokevirtual 195, 3) := dk_182 0 195 (dk_at dksJ7_inflateIfNeededFor_0 18 rfl rfl)
theorem dJ7_inflateIfNeededFor_21 : decode cJ7_inflateIfNeededFor 21 = .ok (.return_, 1) := dk_177 (dk_at dksJ7_inflateIfNeededFor_0 21 rfl rfl)
abbrev cJ7_inflate : ByteArray := prog_21_method_11_code
def yJ7_inflate : MethodName := ⟨RJ7, "inflate", "()V"⟩
def dkwJ7_inflate_1 : List UInt8 := [42, 180, 0, 79, 184, 0, 125, 42, 43, 181, 0, 15, 42, 4, 181, 0, 22, 177]
abbrev dktJ7_inflate_1 : List UInt8 := dkwJ7_inflate_1 ++ []
def dkwJ7_inflate_0 : List UInt8 := [42, 182, 0, 83, 154, 0, 4, 177, 42, 180, 0, 15, 190, 184, 0, 26, 76, 42, 180, 0, 15, 3, 43, 3]
abbrev dktJ7_inflate_0 : List UInt8 := dkwJ7_inflate_0 ++ dktJ7_inflate_1
theorem dksJ7_inflate_0 : cJ7_inflate.data.toList.drop 0 = dktJ7_inflate_0 := by decide +kernel
theorem dksJ7_inflate_1 : cJ7_inflate.data.toList.drop 24 = dktJ7_inflate_1 := dk_seg dksJ7_inflate_0 24 rfl rfl
theorem dJ7_inflate_0 : decode cJ7_inflate 0 = .ok (.aload_n 0, 1) := dk_42 (dk_at dksJ7_inflate_0 0 rfl rfl)
theorem dJ7_inflate_1 : decode cJ7_inflate 1 = .ok (.invokevirtual 83, 3) := dk_182 0 83 (dk_at dksJ7_inflate_0 1 rfl rfl)
theorem dJ7_inflate_4 : decode cJ7_inflate 4 = .ok (.ifCond .ne 4, 3) := dk_154 0 4 (dk_at dksJ7_inflate_0 4 rfl rfl)
theorem dJ7_inflate_7 : decode cJ7_inflate 7 = .ok (.return_, 1) := dk_177 (dk_at dksJ7_inflate_0 7 rfl rfl)
theorem dJ7_inflate_8 : decode cJ7_inflate 8 = .ok (.aload_n 0, 1) := dk_42 (dk_at dksJ7_inflate_0 8 rfl rfl)
theorem dJ7_inflate_9 : decode cJ7_inflate 9 = .ok (.getfield 15, 3) := dk_180 0 15 (dk_at dksJ7_inflate_0 9 rfl rfl)
theorem dJ7_inflate_12 : decode cJ7_inflate 12 = .ok (.arraylength, 1) := dk_190 (dk_at dksJ7_inflate_0 12 rfl rfl)
theorem dJ7_inflate_13 : decode cJ7_inflate 13 = .ok (.invokestatic 26, 3) := dk_184 0 26 (dk_at dksJ7_inflate_0 13 rfl rfl)
theorem dJ7_inflate_16 : decode cJ7_inflate 16 = .ok (.astore_n 1, 1) := dk_76 (dk_at dksJ7_inflate_0 16 rfl rfl)
theorem dJ7_inflate_17 : decode cJ7_inflate 17 = .ok (.aload_n 0, 1) := dk_42 (dk_at dksJ7_inflate_0 17 rfl rfl)
theorem dJ7_inflate_18 : decode cJ7_inflate 18 = .ok (.getfield 15, 3) := dk_180 0 15 (dk_at dksJ7_inflate_0 18 rfl rfl)
theorem dJ7_inflate_21 : decode cJ7_inflate 21 = .ok (.iconst 0, 1) := dk_3 (dk_at dksJ7_inflate_0 21 rfl rfl)
theorem dJ7_inflate_22 : decode cJ7_inflate 22 = .ok (.aload_n 1, 1) := dk_43 (dk_at dksJ7_inflate_0 22 rfl rfl)
theorem dJ7_inflate_23 : decode cJ7_inflate 23 = .ok (.iconst 0, 1) := dk_3 (dk_at dksJ7_inflate_0 23 rfl rfl)
theorem dJ7_inflate_24 : decode cJ7_inflate 24 = .ok (.aload_n 0, 1) := dk_42 (dk_at dksJ7_inflate_1 0 rfl rfl)
theorem dJ7_inflate_25 : decode cJ7_inflate 25 = .ok (.getfield 79, 3) := dk_180 0 79 (dk_at dksJ7_inflate_1 1 rfl rfl)
theorem dJ7_inflate_28 : decode cJ7_inflate 28 = .ok (.invokestatic 125, 3) := dk_184 0 125 (dk_at dksJ7_inflate_1 4 rfl rfl)
theorem dJ7_inflate_31 : decode cJ7_inflate 31 = .ok (.aload_n 0, 1) := dk_42 (dk_at dksJ7_inflate_1 7 rfl rfl)
theorem dJ7_inflate_32 : decode cJ7_inflate 32 = .ok (.aload_n 1, 1) := dk_43 (dk_at dksJ7_inflate_1 8 rfl rfl)
theorem dJ7_inflate_33 : decode cJ7_inflate 33 = .ok (.putfield 15, 3) := dk_181 0 15 (dk_at dksJ7_inflate_1 9 rfl rfl)
theorem dJ7_inflate_36 : decode cJ7_inflate 36 = .ok (.aload_n 0, 1) := dk_42 (dk_at dksJ7_inflate_1 12 rfl rfl)
theorem dJ7_inflate_37 : decode cJ7_inflate 37 = .ok (.iconst 1, 1) := dk_4 (dk_at dksJ7_inflate_1 13 rfl rfl)
theorem dJ7_inflate_38 : decode cJ7_inflate 38 = .ok (.putfield 22, 3) := dk_181 0 22 (dk_at dksJ7_inflate_1 14 rfl rfl)
theorem dJ7_inflate_41 : decode cJ7_inflate 41 = .ok (.return_, 1) := dk_177 (dk_at dksJ7_inflate_1 17 rfl rfl)
abbrev cJ7_append_2 : ByteArray := prog_21_method_32_code
def yJ7_append_2 : MethodName := ⟨RJ7, "append", "(I)Ljava/lang/AbstractStringBuilder;"⟩
def dkwJ7_append_2_2 : List UInt8 := [42, 29, 181, 0, 79, 42, 176]
abbrev dktJ7_append_2_2 : List UInt8 := dkwJ7_append_2_2 ++ []
def dkwJ7_append_2_1 : List UInt8 := [27, 29, 42, 180, 0, 15, 184, 0, 248, 87, 167, 0, 14, 27, 28, 29, 42, 180, 0, 15, 184, 0, 251, 87]
abbrev dktJ7_append_2_1 : List UInt8 := dkwJ7_append_2_1 ++ dktJ7_append_2_2
def dkwJ7_append_2_0 : List UInt8 := [42, 180, 0, 79, 61, 28, 27, 184, 0, 245, 96, 62, 42, 29, 182, 0, 100, 42, 182, 0, 83, 153, 0, 16]
abbrev dktJ7_append_2_0 : List UInt8 := dkwJ7_append_2_0 ++ dktJ7_append_2_1
theorem dksJ7_append_2_0 : cJ7_append_2.data.toList.drop 0 = dktJ7_append_2_0 := by decide +kernel
theorem dksJ7_append_2_1 : cJ7_append_2.data.toList.drop 24 = dktJ7_append_2_1 := dk_seg dksJ7_append_2_0 24 rfl rfl
theorem dksJ7_append_2_2 : cJ7_append_2.data.toList.drop 48 = dktJ7_append_2_2 := dk_seg dksJ7_append_2_1 24 rfl rfl
theorem dJ7_append_2_0 : decode cJ7_append_2 0 = .ok (.aload_n 0, 1) := dk_42 (dk_at dksJ7_append_2_0 0 rfl rfl)
theorem dJ7_append_2_1 : decode cJ7_append_2 1 = .ok (.getfield 79, 3) := dk_180 0 79 (dk_at dksJ7_append_2_0 1 rfl rfl)
theorem dJ7_append_2_4 : decode cJ7_append_2 4 = .ok (.istore_n 2, 1) := dk_61 (dk_at dksJ7_append_2_0 4 rfl rfl)
theorem dJ7_append_2_5 : decode cJ7_append_2 5 = .ok (.iload_n 2, 1) := dk_28 (dk_at dksJ7_append_2_0 5 rfl rfl)
theorem dJ7_append_2_6 : decode cJ7_append_2 6 = .ok (.iload_n 1, 1) := dk_27 (dk_at dksJ7_append_2_0 6 rfl rfl)
theorem dJ7_append_2_7 : decode cJ7_append_2 7 = .ok (.invokestatic 245, 3) := dk_184 0 245 (dk_at dksJ7_append_2_0 7 rfl rfl)
theorem dJ7_append_2_10 : decode cJ7_append_2 10 = .ok (.iadd, 1) := dk_96 (dk_at dksJ7_append_2_0 10 rfl rfl)
theorem dJ7_append_2_11 : decode cJ7_append_2 11 = .ok (.istore_n 3, 1) := dk_62 (dk_at dksJ7_append_2_0 11 rfl rfl)
theorem dJ7_append_2_12 : decode cJ7_append_2 12 = .ok (.aload_n 0, 1) := dk_42 (dk_at dksJ7_append_2_0 12 rfl rfl)
theorem dJ7_append_2_13 : decode cJ7_append_2 13 = .ok (.iload_n 3, 1) := dk_29 (dk_at dksJ7_append_2_0 13 rfl rfl)
theorem dJ7_append_2_14 : decode cJ7_append_2 14 = .ok (.invokevirtual 100, 3) := dk_182 0 100 (dk_at dksJ7_append_2_0 14 rfl rfl)
theorem dJ7_append_2_17 : decode cJ7_append_2 17 = .ok (.aload_n 0, 1) := dk_42 (dk_at dksJ7_append_2_0 17 rfl rfl)
theorem dJ7_append_2_18 : decode cJ7_append_2 18 = .ok (.invokevirtual 83, 3) := dk_182 0 83 (dk_at dksJ7_append_2_0 18 rfl rfl)
theorem dJ7_append_2_21 : decode cJ7_append_2 21 = .ok (.ifCond .eq 16, 3) := dk_153 0 16 (dk_at dksJ7_append_2_0 21 rfl rfl)
theorem dJ7_append_2_24 : decode cJ7_append_2 24 = .ok (.iload_n 1, 1) := dk_27 (dk_at dksJ7_append_2_1 0 rfl rfl)
theorem dJ7_append_2_25 : decode cJ7_append_2 25 = .ok (.iload_n 3, 1) := dk_29 (dk_at dksJ7_append_2_1 1 rfl rfl)
theorem dJ7_append_2_26 : decode cJ7_append_2 26 = .ok (.aload_n 0, 1) := dk_42 (dk_at dksJ7_append_2_1 2 rfl rfl)
theorem dJ7_append_2_27 : decode cJ7_append_2 27 = .ok (.getfield 15, 3) := dk_180 0 15 (dk_at dksJ7_append_2_1 3 rfl rfl)
theorem dJ7_append_2_30 : decode cJ7_append_2 30 = .ok (.invokestatic 248, 3) := dk_184 0 248 (dk_at dksJ7_append_2_1 6 rfl rfl)
theorem dJ7_append_2_33 : decode cJ7_append_2 33 = .ok (.pop, 1) := dk_87 (dk_at dksJ7_append_2_1 9 rfl rfl)
theorem dJ7_append_2_34 : decode cJ7_append_2 34 = .ok (.goto 14, 3) := dk_167 0 14 (dk_at dksJ7_append_2_1 10 rfl rfl)
theorem dJ7_append_2_37 : decode cJ7_append_2 37 = .ok (.iload_n 1, 1) := dk_27 (dk_at dksJ7_append_2_1 13 rfl rfl)
theorem dJ7_append_2_38 : decode cJ7_append_2 38 = .ok (.iload_n 2, 1) := dk_28 (dk_at dksJ7_append_2_1 14 rfl rfl)
theorem dJ7_append_2_39 : decode cJ7_append_2 39 = .ok (.iload_n 3, 1) := dk_29 (dk_at dksJ7_append_2_1 15 rfl rfl)
theorem dJ7_append_2_40 : decode cJ7_append_2 40 = .ok (.aload_n 0, 1) := dk_42 (dk_at dksJ7_append_2_1 16 rfl rfl)
theorem dJ7_append_2_41 : decode cJ7_append_2 41 = .ok (.getfield 15, 3) := dk_180 0 15 (dk_at dksJ7_append_2_1 17 rfl rfl)
theorem dJ7_append_2_44 : decode cJ7_append_2 44 = .ok (.invokestatic 251, 3) := dk_184 0 251 (dk_at dksJ7_append_2_1 20 rfl rfl)
theorem dJ7_append_2_47 : decode cJ7_append_2 47 = .ok (.pop, 1) := dk_87 (dk_at dksJ7_append_2_1 23 rfl rfl)
theorem dJ7_append_2_48 : decode cJ7_append_2 48 = .ok (.aload_n 0, 1) := dk_42 (dk_at dksJ7_append_2_2 0 rfl rfl)
theorem dJ7_append_2_49 : decode cJ7_append_2 49 = .ok (.iload_n 3, 1) := dk_29 (dk_at dksJ7_append_2_2 1 rfl rfl)
theorem dJ7_append_2_50 : decode cJ7_append_2 50 = .ok (.putfield 79, 3) := dk_181 0 79 (dk_at dksJ7_append_2_2 2 rfl rfl)
theorem dJ7_append_2_53 : decode cJ7_append_2 53 = .ok (.aload_n 0, 1) := dk_42 (dk_at dksJ7_append_2_2 5 rfl rfl)
theorem dJ7_append_2_54 : decode cJ7_append_2 54 = .ok (.areturn, 1) := dk_176 (dk_at dksJ7_append_2_2 6 rfl rfl)
abbrev cJ7_getValue : ByteArray := prog_21_method_64_code
def yJ7_getValue : MethodName := ⟨RJ7, "getValue", "()[B"⟩
theorem dJ7_getValue_0 : decode cJ7_getValue 0 = .ok (.aload_n 0, 1) := by decide +kernel
theorem dJ7_getValue_1 : decode cJ7_getValue 1 = .ok (.getfield 15, 3) := by decide +kernel
theorem dJ7_getValue_4 : decode cJ7_getValue 4 = .ok (.areturn, 1) := by decide +kernel
abbrev cJ7_length : ByteArray := prog_21_method_6_code
def yJ7_length : MethodName := ⟨RJ7, "length", "()I"⟩
theorem dJ7_length_0 : decode cJ7_length 0 = .ok (.aload_n 0, 1) := by decide +kernel
theorem dJ7_length_1 : decode cJ7_length 1 = .ok (.getfield 79, 3) := by decide +kernel
theorem dJ7_length_4 : decode cJ7_length 4 = .ok (.ireturn, 1) := by decide +kernel
abbrev cJ7_setLength : ByteArray := prog_21_method_13_code
def yJ7_setLength : MethodName := ⟨RJ7, "setLength", "(I)V"⟩
def dkwJ7_setLength_3 : List UInt8 := [164, 0, 8, 42, 4, 181, 0, 73, 42, 27, 181, 0, 79, 177]
abbrev dktJ7_setLength_3 : List UInt8 := dkwJ7_setLength_3 ++ []
def dkwJ7_setLength_2 : List UInt8 := [167, 0, 31, 42, 180, 0, 15, 42, 180, 0, 79, 27, 184, 0, 137, 167, 0, 16, 42, 180, 0, 79, 27]
abbrev dktJ7_setLength_2 : List UInt8 := dkwJ7_setLength_2 ++ dktJ7_setLength_3
def dkwJ7_setLength_1 : List UInt8 := [162, 0, 40, 42, 182, 0, 83, 153, 0, 18, 42, 180, 0, 15, 42, 180, 0, 79, 27, 184, 0, 133]
abbrev dktJ7_setLength_1 : List UInt8 := dkwJ7_setLength_1 ++ dktJ7_setLength_2
def dkwJ7_setLength_0 : List UInt8 := [27, 156, 0, 12, 187, 0, 129, 89, 27, 183, 0, 131, 191, 42, 27, 182, 0, 100, 42, 180, 0, 79, 27]
abbrev dktJ7_setLength_0 : List UInt8 := dkwJ7_setLength_0 ++ dktJ7_setLength_1
theorem dksJ7_setLength_0 : cJ7_setLength.data.toList.drop 0 = dktJ7_setLength_0 := by decide +kernel
theorem dksJ7_setLength_1 : cJ7_setLength.data.toList.drop 23 = dktJ7_setLength_1 := dk_seg dksJ7_setLength_0 23 rfl rfl
theorem dksJ7_setLength_2 : cJ7_setLength.data.toList.drop 45 = dktJ7_setLength_2 := dk_seg dksJ7_setLength_1 22 rfl rfl
theorem dksJ7_setLength_3 : cJ7_setLength.data.toList.drop 68 = dktJ7_setLength_3 := dk_seg dksJ7_setLength_2 23 rfl rfl
theorem dJ7_setLength_0 : decode cJ7_setLength 0 = .ok (.iload_n 1, 1) := dk_27 (dk_at dksJ7_setLength_0 0 rfl rfl)
theorem dJ7_setLength_1 : decode cJ7_setLength 1 = .ok (.ifCond .ge 12, 3) := dk_156 0 12 (dk_at dksJ7_setLength_0 1 rfl rfl)
theorem dJ7_setLength_4 : decode cJ7_setLength 4 = .ok (.new 129, 3) := dk_187 0 129 (dk_at dksJ7_setLength_0 4 rfl rfl)
theorem dJ7_setLength_7 : decode cJ7_setLength 7 = .ok (.dup, 1) := dk_89 (dk_at dksJ7_setLength_0 7 rfl rfl)
theorem dJ7_setLength_8 : decode cJ7_setLength 8 = .ok (.iload_n 1, 1) := dk_27 (dk_at dksJ7_setLength_0 8 rfl rfl)
theorem dJ7_setLength_9 : decode cJ7_setLength 9 = .ok (.invokespecial 131, 3) := dk_183 0 131 (dk_at dksJ7_setLength_0 9 rfl rfl)
theorem dJ7_setLength_12 : decode cJ7_setLength 12 = .ok (.athrow, 1) := dk_191 (dk_at dksJ7_setLength_0 12 rfl rfl)
theorem dJ7_setLength_13 : decode cJ7_setLength 13 = .ok (.aload_n 0, 1) := dk_42 (dk_at dksJ7_setLength_0 13 rfl rfl)
theorem dJ7_setLength_14 : decode cJ7_setLength 14 = .ok (.iload_n 1, 1) := dk_27 (dk_at dksJ7_setLength_0 14 rfl rfl)
theorem dJ7_setLength_15 : decode cJ7_setLength 15 = .ok (.invokevirtual 100, 3) := dk_182 0 100 (dk_at dksJ7_setLength_0 15 rfl rfl)
theorem dJ7_setLength_18 : decode cJ7_setLength 18 = .ok (.aload_n 0, 1) := dk_42 (dk_at dksJ7_setLength_0 18 rfl rfl)
theorem dJ7_setLength_19 : decode cJ7_setLength 19 = .ok (.getfield 79, 3) := dk_180 0 79 (dk_at dksJ7_setLength_0 19 rfl rfl)
theorem dJ7_setLength_22 : decode cJ7_setLength 22 = .ok (.iload_n 1, 1) := dk_27 (dk_at dksJ7_setLength_0 22 rfl rfl)
theorem dJ7_setLength_23 : decode cJ7_setLength 23 = .ok (.if_icmp .ge 40, 3) := dk_162 0 40 (dk_at dksJ7_setLength_1 0 rfl rfl)
theorem dJ7_setLength_26 : decode cJ7_setLength 26 = .ok (.aload_n 0, 1) := dk_42 (dk_at dksJ7_setLength_1 3 rfl rfl)
theorem dJ7_setLength_27 : decode cJ7_setLength 27 = .ok (.invokevirtual 83, 3) := dk_182 0 83 (dk_at dksJ7_setLength_1 4 rfl rfl)
theorem dJ7_setLength_30 : decode cJ7_setLength 30 = .ok (.ifCond .eq 18, 3) := dk_153 0 18 (dk_at dksJ7_setLength_1 7 rfl rfl)
theorem dJ7_setLength_33 : decode cJ7_setLength 33 = .ok (.aload_n 0, 1) := dk_42 (dk_at dksJ7_setLength_1 10 rfl rfl)
theorem dJ7_setLength_34 : decode cJ7_setLength 34 = .ok (.getfield 15, 3) := dk_180 0 15 (dk_at dksJ7_setLength_1 11 rfl rfl)
theorem dJ7_setLength_37 : decode cJ7_setLength 37 = .ok (.aload_n 0, 1) := dk_42 (dk_at dksJ7_setLength_1 14 rfl rfl)
theorem dJ7_setLength_38 : decode cJ7_setLength 38 = .ok (.getfield 79, 3) := dk_180 0 79 (dk_at dksJ7_setLength_1 15 rfl rfl)
theorem dJ7_setLength_41 : decode cJ7_setLength 41 = .ok (.iload_n 1, 1) := dk_27 (dk_at dksJ7_setLength_1 18 rfl rfl)
theorem dJ7_setLength_42 : decode cJ7_setLength 42 = .ok (.invokestatic 133, 3) := dk_184 0 133 (dk_at dksJ7_setLength_1 19 rfl rfl)
theorem dJ7_setLength_45 : decode cJ7_setLength 45 = .ok (.goto 31, 3) := dk_167 0 31 (dk_at dksJ7_setLength_2 0 rfl rfl)
theorem dJ7_setLength_48 : decode cJ7_setLength 48 = .ok (.aload_n 0, 1) := dk_42 (dk_at dksJ7_setLength_2 3 rfl rfl)
theorem dJ7_setLength_49 : decode cJ7_setLength 49 = .ok (.getfield 15, 3) := dk_180 0 15 (dk_at dksJ7_setLength_2 4 rfl rfl)
theorem dJ7_setLength_52 : decode cJ7_setLength 52 = .ok (.aload_n 0, 1) := dk_42 (dk_at dksJ7_setLength_2 7 rfl rfl)
theorem dJ7_setLength_53 : decode cJ7_setLength 53 = .ok (.getfield 79, 3) := dk_180 0 79 (dk_at dksJ7_setLength_2 8 rfl rfl)
theorem dJ7_setLength_56 : decode cJ7_setLength 56 = .ok (.iload_n 1, 1) := dk_27 (dk_at dksJ7_setLength_2 11 rfl rfl)
theorem dJ7_setLength_57 : decode cJ7_setLength 57 = .ok (.invokestatic 137, 3) := dk_184 0 137 (dk_at dksJ7_setLength_2 12 rfl rfl)
theorem dJ7_setLength_60 : decode cJ7_setLength 60 = .ok (.goto 16, 3) := dk_167 0 16 (dk_at dksJ7_setLength_2 15 rfl rfl)
theorem dJ7_setLength_63 : decode cJ7_setLength 63 = .ok (.aload_n 0, 1) := dk_42 (dk_at dksJ7_setLength_2 18 rfl rfl)
theorem dJ7_setLength_64 : decode cJ7_setLength 64 = .ok (.getfield 79, 3) := dk_180 0 79 (dk_at dksJ7_setLength_2 19 rfl rfl)
theorem dJ7_setLength_67 : decode cJ7_setLength 67 = .ok (.iload_n 1, 1) := dk_27 (dk_at dksJ7_setLength_2 22 rfl rfl)
theorem dJ7_setLength_68 : decode cJ7_setLength 68 = .ok (.if_icmp .le 8, 3) := dk_164 0 8 (dk_at dksJ7_setLength_3 0 rfl rfl)
theorem dJ7_setLength_71 : decode cJ7_setLength 71 = .ok (.aload_n 0, 1) := dk_42 (dk_at dksJ7_setLength_3 3 rfl rfl)
theorem dJ7_setLength_72 : decode cJ7_setLength 72 = .ok (.iconst 1, 1) := dk_4 (dk_at dksJ7_setLength_3 4 rfl rfl)
theorem dJ7_setLength_73 : decode cJ7_setLength 73 = .ok (.putfield 73, 3) := dk_181 0 73 (dk_at dksJ7_setLength_3 5 rfl rfl)
theorem dJ7_setLength_76 : decode cJ7_setLength 76 = .ok (.aload_n 0, 1) := dk_42 (dk_at dksJ7_setLength_3 8 rfl rfl)
theorem dJ7_setLength_77 : decode cJ7_setLength 77 = .ok (.iload_n 1, 1) := dk_27 (dk_at dksJ7_setLength_3 9 rfl rfl)
theorem dJ7_setLength_78 : decode cJ7_setLength 78 = .ok (.putfield 79, 3) := dk_181 0 79 (dk_at dksJ7_setLength_3 10 rfl rfl)
theorem dJ7_setLength_81 : decode cJ7_setLength 81 = .ok (.return_, 1) := dk_177 (dk_at dksJ7_setLength_3 13 rfl rfl)
abbrev cJ7_charAt : ByteArray := prog_21_method_14_code
def yJ7_charAt : MethodName := ⟨RJ7, "charAt", "(I)C"⟩
def dkwJ7_charAt_1 : List UInt8 := [21, 4, 184, 0, 144, 28, 154, 0, 12, 45, 27, 51, 17, 0, 255, 126, 146, 172, 45, 27, 184, 0, 148, 172]
abbrev dktJ7_charAt_1 : List UInt8 := dkwJ7_charAt_1 ++ []
def dkwJ7_charAt_0 : List UInt8 := [42, 180, 0, 22, 61, 42, 180, 0, 15, 78, 42, 180, 0, 79, 45, 190, 28, 122, 184, 0, 138, 54, 4, 27]
abbrev dktJ7_charAt_0 : List UInt8 := dkwJ7_charAt_0 ++ dktJ7_charAt_1
theorem dksJ7_charAt_0 : cJ7_charAt.data.toList.drop 0 = dktJ7_charAt_0 := by decide +kernel
theorem dksJ7_charAt_1 : cJ7_charAt.data.toList.drop 24 = dktJ7_charAt_1 := dk_seg dksJ7_charAt_0 24 rfl rfl
theorem dJ7_charAt_0 : decode cJ7_charAt 0 = .ok (.aload_n 0, 1) := dk_42 (dk_at dksJ7_charAt_0 0 rfl rfl)
theorem dJ7_charAt_1 : decode cJ7_charAt 1 = .ok (.getfield 22, 3) := dk_180 0 22 (dk_at dksJ7_charAt_0 1 rfl rfl)
theorem dJ7_charAt_4 : decode cJ7_charAt 4 = .ok (.istore_n 2, 1) := dk_61 (dk_at dksJ7_charAt_0 4 rfl rfl)
theorem dJ7_charAt_5 : decode cJ7_charAt 5 = .ok (.aload_n 0, 1) := dk_42 (dk_at dksJ7_charAt_0 5 rfl rfl)
theorem dJ7_charAt_6 : decode cJ7_charAt 6 = .ok (.getfield 15, 3) := dk_180 0 15 (dk_at dksJ7_charAt_0 6 rfl rfl)
theorem dJ7_charAt_9 : decode cJ7_charAt 9 = .ok (.astore_n 3, 1) := dk_78 (dk_at dksJ7_charAt_0 9 rfl rfl)
theorem dJ7_charAt_10 : decode cJ7_charAt 10 = .ok (.aload_n 0, 1) := dk_42 (dk_at dksJ7_charAt_0 10 rfl rfl)
theorem dJ7_charAt_11 : decode cJ7_charAt 11 = .ok (.getfield 79, 3) := dk_180 0 79 (dk_at dksJ7_charAt_0 11 rfl rfl)
theorem dJ7_charAt_14 : decode cJ7_charAt 14 = .ok (.aload_n 3, 1) := dk_45 (dk_at dksJ7_charAt_0 14 rfl rfl)
theorem dJ7_charAt_15 : decode cJ7_charAt 15 = .ok (.arraylength, 1) := dk_190 (dk_at dksJ7_charAt_0 15 rfl rfl)
theorem dJ7_charAt_16 : decode cJ7_charAt 16 = .ok (.iload_n 2, 1) := dk_28 (dk_at dksJ7_charAt_0 16 rfl rfl)
theorem dJ7_charAt_17 : decode cJ7_charAt 17 = .ok (.ishr, 1) := dk_122 (dk_at dksJ7_charAt_0 17 rfl rfl)
theorem dJ7_charAt_18 : decode cJ7_charAt 18 = .ok (.invokestatic 138, 3) := dk_184 0 138 (dk_at dksJ7_charAt_0 18 rfl rfl)
theorem dJ7_charAt_21 : decode cJ7_charAt 21 = .ok (.istore 4, 2) := dk_54 4 (dk_at dksJ7_charAt_0 21 rfl rfl)
theorem dJ7_charAt_23 : decode cJ7_charAt 23 = .ok (.iload_n 1, 1) := dk_27 (dk_at dksJ7_charAt_0 23 rfl rfl)
theorem dJ7_charAt_24 : decode cJ7_charAt 24 = .ok (.iload 4, 2) := dk_21 4 (dk_at dksJ7_charAt_1 0 rfl rfl)
theorem dJ7_charAt_26 : decode cJ7_charAt 26 = .ok (.invokestatic 144, 3) := dk_184 0 144 (dk_at dksJ7_charAt_1 2 rfl rfl)
theorem dJ7_charAt_29 : decode cJ7_charAt 29 = .ok (.iload_n 2, 1) := dk_28 (dk_at dksJ7_charAt_1 5 rfl rfl)
theorem dJ7_charAt_30 : decode cJ7_charAt 30 = .ok (.ifCond .ne 12, 3) := dk_154 0 12 (dk_at dksJ7_charAt_1 6 rfl rfl)
theorem dJ7_charAt_33 : decode cJ7_charAt 33 = .ok (.aload_n 3, 1) := dk_45 (dk_at dksJ7_charAt_1 9 rfl rfl)
theorem dJ7_charAt_34 : decode cJ7_charAt 34 = .ok (.iload_n 1, 1) := dk_27 (dk_at dksJ7_charAt_1 10 rfl rfl)
theorem dJ7_charAt_35 : decode cJ7_charAt 35 = .ok (.baload, 1) := dk_51 (dk_at dksJ7_charAt_1 11 rfl rfl)
theorem dJ7_charAt_36 : decode cJ7_charAt 36 = .ok (.sipush 255, 3) := dk_17 0 255 (dk_at dksJ7_charAt_1 12 rfl rfl)
theorem dJ7_charAt_39 : decode cJ7_charAt 39 = .ok (.iand, 1) := dk_126 (dk_at dksJ7_charAt_1 15 rfl rfl)
theorem dJ7_charAt_40 : decode cJ7_charAt 40 = .ok (.i2c, 1) := dk_146 (dk_at dksJ7_charAt_1 16 rfl rfl)
theorem dJ7_charAt_41 : decode cJ7_charAt 41 = .ok (.ireturn, 1) := dk_172 (dk_at dksJ7_charAt_1 17 rfl rfl)
theorem dJ7_charAt_42 : decode cJ7_charAt 42 = .ok (.aload_n 3, 1) := dk_45 (dk_at dksJ7_charAt_1 18 rfl rfl)
theorem dJ7_charAt_43 : decode cJ7_charAt 43 = .ok (.iload_n 1, 1) := dk_27 (dk_at dksJ7_charAt_1 19 rfl rfl)
theorem dJ7_charAt_44 : decode cJ7_charAt 44 = .ok (.invokestatic 148, 3) := dk_184 0 148 (dk_at dksJ7_charAt_1 20 rfl rfl)
theorem dJ7_charAt_47 : decode cJ7_charAt 47 = .ok (.ireturn, 1) := dk_172 (dk_at dksJ7_charAt_1 23 rfl rfl)
abbrev cJ7_compareTo : ByteArray := prog_21_method_5_code
def yJ7_compareTo : MethodName := ⟨RJ7, "compareTo", "(Ljava/lang/AbstractStringBuilder;)I"⟩
def dkwJ7_compareTo_4 : List UInt8 := [184, 0, 97, 172]
abbrev dktJ7_compareTo_4 : List UInt8 := dkwJ7_compareTo_4 ++ []
def dkwJ7_compareTo_3 : List UInt8 := [182, 0, 83, 153, 0, 15, 44, 45, 21, 4, 21, 5, 184, 0, 94, 167, 0, 12, 44, 45, 21, 4, 21, 5]
abbrev dktJ7_compareTo_3 : List UInt8 := dkwJ7_compareTo_3 ++ dktJ7_compareTo_4
def dkwJ7_compareTo_2 : List UInt8 := [45, 21, 4, 21, 5, 184, 0, 87, 167, 0, 12, 44, 45, 21, 4, 21, 5, 184, 0, 93, 172, 42]
abbrev dktJ7_compareTo_2 : List UInt8 := dkwJ7_compareTo_2 ++ dktJ7_compareTo_3
def dkwJ7_compareTo_1 : List UInt8 := [180, 0, 79, 54, 5, 42, 180, 0, 22, 43, 180, 0, 22, 160, 0, 32, 42, 182, 0, 83, 153, 0, 15, 44]
abbrev dktJ7_compareTo_1 : List UInt8 := dkwJ7_compareTo_1 ++ dktJ7_compareTo_2
def dkwJ7_compareTo_0 : List UInt8 := [42, 43, 166, 0, 5, 3, 172, 42, 180, 0, 15, 77, 43, 180, 0, 15, 78, 42, 180, 0, 79, 54, 4, 43]
abbrev dktJ7_compareTo_0 : List UInt8 := dkwJ7_compareTo_0 ++ dktJ7_compareTo_1
theorem dksJ7_compareTo_0 : cJ7_compareTo.data.toList.drop 0 = dktJ7_compareTo_0 := by decide +kernel
theorem dksJ7_compareTo_1 : cJ7_compareTo.data.toList.drop 24 = dktJ7_compareTo_1 := dk_seg dksJ7_compareTo_0 24 rfl rfl
theorem dksJ7_compareTo_2 : cJ7_compareTo.data.toList.drop 48 = dktJ7_compareTo_2 := dk_seg dksJ7_compareTo_1 24 rfl rfl
theorem dksJ7_compareTo_3 : cJ7_compareTo.data.toList.drop 70 = dktJ7_compareTo_3 := dk_seg dksJ7_compareTo_2 22 rfl rfl
theorem dksJ7_compareTo_4 : cJ7_compareTo.data.toList.drop 94 = dktJ7_compareTo_4 := dk_seg dksJ7_compareTo_3 24 rfl rfl
theorem dJ7_compareTo_0 : decode cJ7_compareTo 0 = .ok (.aload_n 0, 1) := dk_42 (dk_at dksJ7_compareTo_0 0 rfl rfl)
theorem dJ7_compareTo_1 : decode cJ7_compareTo 1 = .ok (.aload_n 1, 1) := dk_43 (dk_at dksJ7_compareTo_0 1 rfl rfl)
theorem dJ7_compareTo_2 : decode cJ7_compareTo 2 = .ok (.if_acmp .ne 5, 3) := dk_166 0 5 (dk_at dksJ7_compareTo_0 2 rfl rfl)
theorem dJ7_compareTo_5 : decode cJ7_compareTo 5 = .ok (.iconst 0, 1) := dk_3 (dk_at dksJ7_compareTo_0 5 rfl rfl)
theorem dJ7_compareTo_6 : decode cJ7_compareTo 6 = .ok (.ireturn, 1) := dk_172 (dk_at dksJ7_compareTo_0 6 rfl rfl)
theorem dJ7_compareTo_7 : decode cJ7_compareTo 7 = .ok (.aload_n 0, 1) := dk_42 (dk_at dksJ7_compareTo_0 7 rfl rfl)
theorem dJ7_compareTo_8 : decode cJ7_compareTo 8 = .ok (.getfield 15, 3) := dk_180 0 15 (dk_at dksJ7_compareTo_0 8 rfl rfl)
theorem dJ7_compareTo_11 : decode cJ7_compareTo 11 = .ok (.astore_n 2, 1) := dk_77 (dk_at dksJ7_compareTo_0 11 rfl rfl)
theorem dJ7_compareTo_12 : decode cJ7_compareTo 12 = .ok (.aload_n 1, 1) := dk_43 (dk_at dksJ7_compareTo_0 12 rfl rfl)
theorem dJ7_compareTo_13 : decode cJ7_compareTo 13 = .ok (.getfield 15, 3) := dk_180 0 15 (dk_at dksJ7_compareTo_0 13 rfl rfl)
theorem dJ7_compareTo_16 : decode cJ7_compareTo 16 = .ok (.astore_n 3, 1) := dk_78 (dk_at dksJ7_compareTo_0 16 rfl rfl)
theorem dJ7_compareTo_17 : decode cJ7_compareTo 17 = .ok (.aload_n 0, 1) := dk_42 (dk_at dksJ7_compareTo_0 17 rfl rfl)
theorem dJ7_compareTo_18 : decode cJ7_compareTo 18 = .ok (.getfield 79, 3) := dk_180 0 79 (dk_at dksJ7_compareTo_0 18 rfl rfl)
theorem dJ7_compareTo_21 : decode cJ7_compareTo 21 = .ok (.istore 4, 2) := dk_54 4 (dk_at dksJ7_compareTo_0 21 rfl rfl)
theorem dJ7_compareTo_23 : decode cJ7_compareTo 23 = .ok (.aload_n 1, 1) := dk_43 (dk_at dksJ7_compareTo_0 23 rfl rfl)
theorem dJ7_compareTo_24 : decode cJ7_compareTo 24 = .ok (.getfield 79, 3) := dk_180 0 79 (dk_at dksJ7_compareTo_1 0 rfl rfl)
theorem dJ7_compareTo_27 : decode cJ7_compareTo 27 = .ok (.istore 5, 2) := dk_54 5 (dk_at dksJ7_compareTo_1 3 rfl rfl)
theorem dJ7_compareTo_29 : decode cJ7_compareTo 29 = .ok (.aload_n 0, 1) := dk_42 (dk_at dksJ7_compareTo_1 5 rfl rfl)
theorem dJ7_compareTo_30 : decode cJ7_compareTo 30 = .ok (.getfield 22, 3) := dk_180 0 22 (dk_at dksJ7_compareTo_1 6 rfl rfl)
theorem dJ7_compareTo_33 : decode cJ7_compareTo 33 = .ok (.aload_n 1, 1) := dk_43 (dk_at dksJ7_compareTo_1 9 rfl rfl)
theorem dJ7_compareTo_34 : decode cJ7_compareTo 34 = .ok (.getfield 22, 3) := dk_180 0 22 (dk_at dksJ7_compareTo_1 10 rfl rfl)
theorem dJ7_compareTo_37 : decode cJ7_compareTo 37 = .ok (.if_icmp .ne 32, 3) := dk_160 0 32 (dk_at dksJ7_compareTo_1 13 rfl rfl)
theorem dJ7_compareTo_40 : decode cJ7_compareTo 40 = .ok (.aload_n 0, 1) := dk_42 (dk_at dksJ7_compareTo_1 16 rfl rfl)
theorem dJ7_compareTo_41 : decode cJ7_compareTo 41 = .ok (.invokevirtual 83, 3) := dk_182 0 83 (dk_at dksJ7_compareTo_1 17 rfl rfl)
theorem dJ7_compareTo_44 : decode cJ7_compareTo 44 = .ok (.ifCond .eq 15, 3) := dk_153 0 15 (dk_at dksJ7_compareTo_1 20 rfl rfl)
theorem dJ7_compareTo_47 : decode cJ7_compareTo 47 = .ok (.aload_n 2, 1) := dk_44 (dk_at dksJ7_compareTo_1 23 rfl rfl)
theorem dJ7_compareTo_48 : decode cJ7_compareTo 48 = .ok (.aload_n 3, 1) := dk_45 (dk_at dksJ7_compareTo_2 0 rfl rfl)
theorem dJ7_compareTo_49 : decode cJ7_compareTo 49 = .ok (.iload 4, 2) := dk_21 4 (dk_at dksJ7_compareTo_2 1 rfl rfl)
theorem dJ7_compareTo_51 : decode cJ7_compareTo 51 = .ok (.iload 5, 2) := dk_21 5 (dk_at dksJ7_compareTo_2 3 rfl rfl)
theorem dJ7_compareTo_53 : decode cJ7_compareTo 53 = .ok (.invokestatic 87, 3) := dk_184 0 87 (dk_at dksJ7_compareTo_2 5 rfl rfl)
theorem dJ7_compareTo_56 : decode cJ7_compareTo 56 = .ok (.goto 12, 3) := dk_167 0 12 (dk_at dksJ7_compareTo_2 8 rfl rfl)
theorem dJ7_compareTo_59 : decode cJ7_compareTo 59 = .ok (.aload_n 2, 1) := dk_44 (dk_at dksJ7_compareTo_2 11 rfl rfl)
theorem dJ7_compareTo_60 : decode cJ7_compareTo 60 = .ok (.aload_n 3, 1) := dk_45 (dk_at dksJ7_compareTo_2 12 rfl rfl)
theorem dJ7_compareTo_61 : decode cJ7_compareTo 61 = .ok (.iload 4, 2) := dk_21 4 (dk_at dksJ7_compareTo_2 13 rfl rfl)
theorem dJ7_compareTo_63 : decode cJ7_compareTo 63 = .ok (.iload 5, 2) := dk_21 5 (dk_at dksJ7_compareTo_2 15 rfl rfl)
theorem dJ7_compareTo_65 : decode cJ7_compareTo 65 = .ok (.invokestatic 93, 3) := dk_184 0 93 (dk_at dksJ7_compareTo_2 17 rfl rfl)
theorem dJ7_compareTo_68 : decode cJ7_compareTo 68 = .ok (.ireturn, 1) := dk_172 (dk_at dksJ7_compareTo_2 20 rfl rfl)
theorem dJ7_compareTo_69 : decode cJ7_compareTo 69 = .ok (.aload_n 0, 1) := dk_42 (dk_at dksJ7_compareTo_2 21 rfl rfl)
theorem dJ7_compareTo_70 : decode cJ7_compareTo 70 = .ok (.invokevirtual 83, 3) := dk_182 0 83 (dk_at dksJ7_compareTo_3 0 rfl rfl)
theorem dJ7_compareTo_73 : decode cJ7_compareTo 73 = .ok (.ifCond .eq 15, 3) := dk_153 0 15 (dk_at dksJ7_compareTo_3 3 rfl rfl)
theorem dJ7_compareTo_76 : decode cJ7_compareTo 76 = .ok (.aload_n 2, 1) := dk_44 (dk_at dksJ7_compareTo_3 6 rfl rfl)
theorem dJ7_compareTo_77 : decode cJ7_compareTo 77 = .ok (.aload_n 3, 1) := dk_45 (dk_at dksJ7_compareTo_3 7 rfl rfl)
theorem dJ7_compareTo_78 : decode cJ7_compareTo 78 = .ok (.iload 4, 2) := dk_21 4 (dk_at dksJ7_compareTo_3 8 rfl rfl)
theorem dJ7_compareTo_80 : decode cJ7_compareTo 80 = .ok (.iload 5, 2) := dk_21 5 (dk_at dksJ7_compareTo_3 10 rfl rfl)
theorem dJ7_compareTo_82 : decode cJ7_compareTo 82 = .ok (.invokestatic 94, 3) := dk_184 0 94 (dk_at dksJ7_compareTo_3 12 rfl rfl)
theorem dJ7_compareTo_85 : decode cJ7_compareTo 85 = .ok (.goto 12, 3) := dk_167 0 12 (dk_at dksJ7_compareTo_3 15 rfl rfl)
theorem dJ7_compareTo_88 : decode cJ7_compareTo 88 = .ok (.aload_n 2, 1) := dk_44 (dk_at dksJ7_compareTo_3 18 rfl rfl)
theorem dJ7_compareTo_89 : decode cJ7_compareTo 89 = .ok (.aload_n 3, 1) := dk_45 (dk_at dksJ7_compareTo_3 19 rfl rfl)
theorem dJ7_compareTo_90 : decode cJ7_compareTo 90 = .ok (.iload 4, 2) := dk_21 4 (dk_at dksJ7_compareTo_3 20 rfl rfl)
theorem dJ7_compareTo_92 : decode cJ7_compareTo 92 = .ok (.iload 5, 2) := dk_21 5 (dk_at dksJ7_compareTo_3 22 rfl rfl)
theorem dJ7_compareTo_94 : decode cJ7_compareTo 94 = .ok (.invokestatic 97, 3) := dk_184 0 97 (dk_at dksJ7_compareTo_4 0 rfl rfl)
theorem dJ7_compareTo_97 : decode cJ7_compareTo 97 = .ok (.ireturn, 1) := dk_172 (dk_at dksJ7_compareTo_4 3 rfl rfl)
abbrev cJ7_append_3 : ByteArray := prog_21_method_31_code
def yJ7_append_3 : MethodName := ⟨RJ7, "append", "(C)Ljava/lang/AbstractStringBuilder;"⟩
def dkwJ7_append_3_3 : List UInt8 := [181, 0, 79, 27, 184, 0, 197, 42, 176]
abbrev dktJ7_append_3_3 : List UInt8 := dkwJ7_append_3_3 ++ []
def dkwJ7_append_3_2 : List UInt8 := [182, 0, 83, 153, 0, 7, 42, 182, 0, 195, 42, 180, 0, 15, 42, 89, 180, 0, 79, 90, 4, 96]
abbrev dktJ7_append_3_2 : List UInt8 := dkwJ7_append_3_2 ++ dktJ7_append_3_3
def dkwJ7_append_3_1 : List UInt8 := [42, 180, 0, 15, 42, 89, 180, 0, 79, 90, 4, 96, 181, 0, 79, 27, 145, 84, 167, 0, 33, 42]
abbrev dktJ7_append_3_1 : List UInt8 := dkwJ7_append_3_1 ++ dktJ7_append_3_2
def dkwJ7_append_3_0 : List UInt8 := [42, 42, 180, 0, 79, 4, 96, 182, 0, 100, 42, 182, 0, 83, 153, 0, 31, 27, 184, 0, 191, 153, 0, 24]
abbrev dktJ7_append_3_0 : List UInt8 := dkwJ7_append_3_0 ++ dktJ7_append_3_1
theorem dksJ7_append_3_0 : cJ7_append_3.data.toList.drop 0 = dktJ7_append_3_0 := by decide +kernel
theorem dksJ7_append_3_1 : cJ7_append_3.data.toList.drop 24 = dktJ7_append_3_1 := dk_seg dksJ7_append_3_0 24 rfl rfl
theorem dksJ7_append_3_2 : cJ7_append_3.data.toList.drop 46 = dktJ7_append_3_2 := dk_seg dksJ7_append_3_1 22 rfl rfl
theorem dksJ7_append_3_3 : cJ7_append_3.data.toList.drop 68 = dktJ7_append_3_3 := dk_seg dksJ7_append_3_2 22 rfl rfl
theorem dJ7_append_3_0 : decode cJ7_append_3 0 = .ok (.aload_n 0, 1) := dk_42 (dk_at dksJ7_append_3_0 0 rfl rfl)
theorem dJ7_append_3_1 : decode cJ7_append_3 1 = .ok (.aload_n 0, 1) := dk_42 (dk_at dksJ7_append_3_0 1 rfl rfl)
theorem dJ7_append_3_2 : decode cJ7_append_3 2 = .ok (.getfield 79, 3) := dk_180 0 79 (dk_at dksJ7_append_3_0 2 rfl rfl)
theorem dJ7_append_3_5 : decode cJ7_append_3 5 = .ok (.iconst 1, 1) := dk_4 (dk_at dksJ7_append_3_0 5 rfl rfl)
theorem dJ7_append_3_6 : decode cJ7_append_3 6 = .ok (.iadd, 1) := dk_96 (dk_at dksJ7_append_3_0 6 rfl rfl)
theorem dJ7_append_3_7 : decode cJ7_append_3 7 = .ok (.invokevirtual 100, 3) := dk_182 0 100 (dk_at dksJ7_append_3_0 7 rfl rfl)
theorem dJ7_append_3_10 : decode cJ7_append_3 10 = .ok (.aload_n 0, 1) := dk_42 (dk_at dksJ7_append_3_0 10 rfl rfl)
theorem dJ7_append_3_11 : decode cJ7_append_3 11 = .ok (.invokevirtual 83, 3) := dk_182 0 83 (dk_at dksJ7_append_3_0 11 rfl rfl)
theorem dJ7_append_3_14 : decode cJ7_append_3 14 = .ok (.ifCond .eq 31, 3) := dk_153 0 31 (dk_at dksJ7_append_3_0 14 rfl rfl)
theorem dJ7_append_3_17 : decode cJ7_append_3 17 = .ok (.iload_n 1, 1) := dk_27 (dk_at dksJ7_append_3_0 17 rfl rfl)
theorem dJ7_append_3_18 : decode cJ7_append_3 18 = .ok (.invokestatic 191, 3) := dk_184 0 191 (dk_at dksJ7_append_3_0 18 rfl rfl)
theorem dJ7_append_3_21 : decode cJ7_append_3 21 = .ok (.ifCond .eq 24, 3) := dk_153 0 24 (dk_at dksJ7_append_3_0 21 rfl rfl)
theorem dJ7_append_3_24 : decode cJ7_append_3 24 = .ok (.aload_n 0, 1) := dk_42 (dk_at dksJ7_append_3_1 0 rfl rfl)
theorem dJ7_append_3_25 : decode cJ7_append_3 25 = .ok (.getfield 15, 3) := dk_180 0 15 (dk_at dksJ7_append_3_1 1 rfl rfl)
theorem dJ7_append_3_28 : decode cJ7_append_3 28 = .ok (.aload_n 0, 1) := dk_42 (dk_at dksJ7_append_3_1 4 rfl rfl)
theorem dJ7_append_3_29 : decode cJ7_append_3 29 = .ok (.dup, 1) := dk_89 (dk_at dksJ7_append_3_1 5 rfl rfl)
theorem dJ7_append_3_30 : decode cJ7_append_3 30 = .ok (.getfield 79, 3) := dk_180 0 79 (dk_at dksJ7_append_3_1 6 rfl rfl)
theorem dJ7_append_3_33 : decode cJ7_append_3 33 = .ok (.dup_x1, 1) := dk_90 (dk_at dksJ7_append_3_1 9 rfl rfl)
theorem dJ7_append_3_34 : decode cJ7_append_3 34 = .ok (.iconst 1, 1) := dk_4 (dk_at dksJ7_append_3_1 10 rfl rfl)
theorem dJ7_append_3_35 : decode cJ7_append_3 35 = .ok (.iadd, 1) := dk_96 (dk_at dksJ7_append_3_1 11 rfl rfl)
theorem dJ7_append_3_36 : decode cJ7_append_3 36 = .ok (.putfield 79, 3) := dk_181 0 79 (dk_at dksJ7_append_3_1 12 rfl rfl)
theorem dJ7_append_3_39 : decode cJ7_append_3 39 = .ok (.iload_n 1, 1) := dk_27 (dk_at dksJ7_append_3_1 15 rfl rfl)
theorem dJ7_append_3_40 : decode cJ7_append_3 40 = .ok (.i2b, 1) := dk_145 (dk_at dksJ7_append_3_1 16 rfl rfl)
theorem dJ7_append_3_41 : decode cJ7_append_3 41 = .ok (.bastore, 1) := dk_84 (dk_at dksJ7_append_3_1 17 rfl rfl)
theorem dJ7_append_3_42 : decode cJ7_append_3 42 = .ok (.goto 33, 3) := dk_167 0 33 (dk_at dksJ7_append_3_1 18 rfl rfl)
theorem dJ7_append_3_45 : decode cJ7_append_3 45 = .ok (.aload_n 0, 1) := dk_42 (dk_at dksJ7_append_3_1 21 rfl rfl)
theorem dJ7_append_3_46 : decode cJ7_append_3 46 = .ok (.invokevirtual 83, 3) := dk_182 0 83 (dk_at dksJ7_append_3_2 0 rfl rfl)
theorem dJ7_append_3_49 : decode cJ7_append_3 49 = .ok (.ifCond .eq 7, 3) := dk_153 0 7 (dk_at dksJ7_append_3_2 3 rfl rfl)
theorem dJ7_append_3_52 : decode cJ7_append_3 52 = .ok (.aload_n 0, 1) := dk_42 (dk_at dksJ7_append_3_2 6 rfl rfl)
theorem dJ7_append_3_53 : decode cJ7_append_3 53 = .ok (.invokevirtual 195, 3) := dk_182 0 195 (dk_at dksJ7_append_3_2 7 rfl rfl)
theorem dJ7_append_3_56 : decode cJ7_append_3 56 = .ok (.aload_n 0, 1) := dk_42 (dk_at dksJ7_append_3_2 10 rfl rfl)
theorem dJ7_append_3_57 : decode cJ7_append_3 57 = .ok (.getfield 15, 3) := dk_180 0 15 (dk_at dksJ7_append_3_2 11 rfl rfl)
theorem dJ7_append_3_60 : decode cJ7_append_3 60 = .ok (.aload_n 0, 1) := dk_42 (dk_at dksJ7_append_3_2 14 rfl rfl)
theorem dJ7_append_3_61 : decode cJ7_append_3 61 = .ok (.dup, 1) := dk_89 (dk_at dksJ7_append_3_2 15 rfl rfl)
theorem dJ7_append_3_62 : decode cJ7_append_3 62 = .ok (.getfield 79, 3) := dk_180 0 79 (dk_at dksJ7_append_3_2 16 rfl rfl)
theorem dJ7_append_3_65 : decode cJ7_append_3 65 = .ok (.dup_x1, 1) := dk_90 (dk_at dksJ7_append_3_2 19 rfl rfl)
theorem dJ7_append_3_66 : decode cJ7_append_3 66 = .ok (.iconst 1, 1) := dk_4 (dk_at dksJ7_append_3_2 20 rfl rfl)
theorem dJ7_append_3_67 : decode cJ7_append_3 67 = .ok (.iadd, 1) := dk_96 (dk_at dksJ7_append_3_2 21 rfl rfl)
theorem dJ7_append_3_68 : decode cJ7_append_3 68 = .ok (.putfield 79, 3) := dk_181 0 79 (dk_at dksJ7_append_3_3 0 rfl rfl)
theorem dJ7_append_3_71 : decode cJ7_append_3 71 = .ok (.iload_n 1, 1) := dk_27 (dk_at dksJ7_append_3_3 3 rfl rfl)
theorem dJ7_append_3_72 : decode cJ7_append_3 72 = .ok (.invokestatic 197, 3) := dk_184 0 197 (dk_at dksJ7_append_3_3 4 rfl rfl)
theorem dJ7_append_3_75 : decode cJ7_append_3 75 = .ok (.aload_n 0, 1) := dk_42 (dk_at dksJ7_append_3_3 7 rfl rfl)
theorem dJ7_append_3_76 : decode cJ7_append_3 76 = .ok (.areturn, 1) := dk_176 (dk_at dksJ7_append_3_3 8 rfl rfl)
theorem q116 : (Jvm.Cond.initialized "java/lang/AbstractStringBuilder") ∈ lw_all := lw_g (lw_at lw_m1 9 rfl) rfl
theorem q237 : (Jvm.Cond.instanceMethod ({ cls := "java/lang/AbstractStringBuilder", name := "<init>", desc := "(I)V" } : Jvm.MethodName)) ∈ lw_all := lw_g (lw_at lw_m1 130 rfl) rfl
theorem q238 : (Jvm.Cond.code ({ cls := "java/lang/AbstractStringBuilder", name := "<init>", desc := "(I)V" } : Jvm.MethodName) prog_21_method_2_code (2 : Nat) (Option.none : Option Jvm.ClassFile.FieldType)) ∈ lw_all := lw_g (lw_at lw_m1 131 rfl) rfl
theorem q239 : (Jvm.Cond.methodLink "java/lang/AbstractStringBuilder" (3 : Nat) ({ cls := "java/lang/Object", name := "<init>", desc := "()V" } : Jvm.MethodName)) ∈ lw_all := lw_g (lw_at lw_m1 132 rfl) rfl
theorem q240 : (Jvm.Cond.fieldLink "java/lang/AbstractStringBuilder" (18 : Nat) "java/lang/String" "COMPACT_STRINGS" "Z") ∈ lw_all := lw_g (lw_at lw_m1 133 rfl) rfl
theorem q242 : (Jvm.Cond.methodLink "java/lang/AbstractStringBuilder" (26 : Nat) ({ cls := "java/lang/StringUTF16", name := "newBytesFor", desc := "(I)[B" } : Jvm.MethodName)) ∈ lw_all := lw_g (lw_at lw_m1 135 rfl) rfl
theorem q249 : (Jvm.Cond.fieldLink "java/lang/AbstractStringBuilder" (15 : Nat) "java/lang/AbstractStringBuilder" "value" "[B") ∈ lw_all := lw_g (lw_at lw_m1 142 rfl) rfl
theorem q250 : (Jvm.Cond.fieldLink "java/lang/AbstractStringBuilder" (22 : Nat) "java/lang/AbstractStringBuilder" "coder" "B") ∈ lw_all := lw_g (lw_at lw_m1 143 rfl) rfl
theorem q251 : (Jvm.Cond.fieldLink "java/lang/AbstractStringBuilder" (73 : Nat) "java/lang/AbstractStringBuilder" "maybeLatin1" "Z") ∈ lw_all := lw_g (lw_at lw_m1 144 rfl) rfl
theorem q253 : (Jvm.Cond.fieldLink "java/lang/AbstractStringBuilder" (79 : Nat) "java/lang/AbstractStringBuilder" "count" "I") ∈ lw_all := lw_g (lw_at lw_m1 146 rfl) rfl
theorem q255 : (Jvm.Cond.soleField "java/lang/AbstractStringBuilder" "value") ∈ lw_all := lw_g (lw_at lw_m1 148 rfl) rfl
theorem q257 : (Jvm.Cond.soleField "java/lang/AbstractStringBuilder" "coder") ∈ lw_all := lw_g (lw_at lw_m1 150 rfl) rfl
theorem q259 : (Jvm.Cond.soleField "java/lang/AbstractStringBuilder" "maybeLatin1") ∈ lw_all := lw_g (lw_at lw_m1 152 rfl) rfl
theorem q261 : (Jvm.Cond.soleField "java/lang/AbstractStringBuilder" "count") ∈ lw_all := lw_g (lw_at lw_m1 154 rfl) rfl
theorem q270 : (Jvm.Cond.instanceMethod ({ cls := "java/lang/AbstractStringBuilder", name := "append", desc := "(Ljava/lang/String;)Ljava/lang/AbstractStringBuilder;" } : Jvm.MethodName)) ∈ lw_all := lw_g (lw_at lw_m1 163 rfl) rfl
theorem q271 : (Jvm.Cond.code ({ cls := "java/lang/AbstractStringBuilder", name := "append", desc := "(Ljava/lang/String;)Ljava/lang/AbstractStringBuilder;" } : Jvm.MethodName) prog_21_method_22_code (3 : Nat) (Option.some (Jvm.ClassFile.FieldType.object "java/lang/AbstractStringBuilder"))) ∈ lw_all := lw_g (lw_at lw_m1 164 rfl) rfl
theorem q272 : (Jvm.Cond.methodLink "java/lang/AbstractStringBuilder" (204 : Nat) ({ cls := "java/lang/AbstractStringBuilder", name := "appendNull", desc := "()Ljava/lang/AbstractStringBuilder;" } : Jvm.MethodName)) ∈ lw_all := lw_g (lw_at lw_m1 165 rfl) rfl
theorem q273 : (Jvm.Cond.privateMethod ({ cls := "java/lang/AbstractStringBuilder", name := "appendNull", desc := "()Ljava/lang/AbstractStringBuilder;" } : Jvm.MethodName)) ∈ lw_tbl := lw_at lw_m1 166 rfl
theorem q274 : (Jvm.Cond.instanceMethod ({ cls := "java/lang/AbstractStringBuilder", name := "appendNull", desc := "()Ljava/lang/AbstractStringBuilder;" } : Jvm.MethodName)) ∈ lw_all := lw_g (lw_at lw_m1 167 rfl) rfl
theorem q275 : (Jvm.Cond.code ({ cls := "java/lang/AbstractStringBuilder", name := "appendNull", desc := "()Ljava/lang/AbstractStringBuilder;" } : Jvm.MethodName) prog_21_method_26_code (3 : Nat) (Option.some (Jvm.ClassFile.FieldType.object "java/lang/AbstractStringBuilder"))) ∈ lw_all := lw_g (lw_at lw_m1 168 rfl) rfl
theorem q276 : (Jvm.Cond.methodLink "java/lang/AbstractStringBuilder" (100 : Nat) ({ cls := "java/lang/AbstractStringBuilder", name := "ensureCapacityInternal", desc := "(I)V" } : Jvm.MethodName)) ∈ lw_all := lw_g (lw_at lw_m1 169 rfl) rfl
theorem q277 : (Jvm.Cond.privateMethod ({ cls := "java/lang/AbstractStringBuilder", name := "ensureCapacityInternal", desc := "(I)V" } : Jvm.MethodName)) ∈ lw_tbl := lw_at lw_m1 170 rfl
theorem q278 : (Jvm.Cond.instanceMethod ({ cls := "java/lang/AbstractStringBuilder", name := "ensureCapacityInternal", desc := "(I)V" } : Jvm.MethodName)) ∈ lw_all := lw_g (lw_at lw_m1 171 rfl) rfl
theorem q279 : (Jvm.Cond.code ({ cls := "java/lang/AbstractStringBuilder", name := "ensureCapacityInternal", desc := "(I)V" } : Jvm.MethodName) prog_21_method_9_code (3 : Nat) (Option.none : Option Jvm.ClassFile.FieldType)) ∈ lw_all := lw_g (lw_at lw_m1 172 rfl) rfl
theorem q280 : (Jvm.Cond.methodLink "java/lang/AbstractStringBuilder" (104 : Nat) ({ cls := "java/lang/AbstractStringBuilder", name := "newCapacity", desc := "(I)I" } : Jvm.MethodName)) ∈ lw_all := lw_g (lw_at lw_m1 173 rfl) rfl
theorem q281 : (Jvm.Cond.privateMethod ({ cls := "java/lang/AbstractStringBuilder", name := "newCapacity", desc := "(I)I" } : Jvm.MethodName)) ∈ lw_tbl := lw_at lw_m1 174 rfl
theorem q282 : (Jvm.Cond.instanceMethod ({ cls := "java/lang/AbstractStringBuilder", name := "newCapacity", desc := "(I)I" } : Jvm.MethodName)) ∈ lw_all := lw_g (lw_at lw_m1 175 rfl) rfl
theorem q283 : (Jvm.Cond.code ({ cls := "java/lang/AbstractStringBuilder", name := "newCapacity", desc := "(I)I" } : Jvm.MethodName) prog_21_method_10_code (6 : Nat) (Option.some Jvm.ClassFile.FieldType.int)) ∈ lw_all := lw_g (lw_at lw_m1 176 rfl) rfl
theorem q284 : (Jvm.Cond.methodLink "java/lang/AbstractStringBuilder" (114 : Nat) ({ cls := "jdk/internal/util/ArraysSupport", name := "newLength", desc := "(III)I" } : Jvm.MethodName)) ∈ lw_all := lw_g (lw_at lw_m1 177 rfl) rfl
theorem q294 : (Jvm.Cond.constant "java/lang/AbstractStringBuilder" (39 : Nat) (2147483647 : Int32)) ∈ lw_all := lw_g (lw_at lw_m1 187 rfl) rfl
theorem q295 : (Jvm.Cond.methodLink "java/lang/AbstractStringBuilder" (108 : Nat) ({ cls := "java/util/Arrays", name := "copyOf", desc := "([BI)[B" } : Jvm.MethodName)) ∈ lw_all := lw_g (lw_at lw_m1 188 rfl) rfl
theorem q311 : (Jvm.Cond.methodLink "java/lang/AbstractStringBuilder" (83 : Nat) ({ cls := "java/lang/AbstractStringBuilder", name := "isLatin1", desc := "()Z" } : Jvm.MethodName)) ∈ lw_all := lw_g (lw_at lw_m1 204 rfl) rfl
theorem q312 : (Jvm.Cond.instanceMethod ({ cls := "java/lang/AbstractStringBuilder", name := "isLatin1", desc := "()Z" } : Jvm.MethodName)) ∈ lw_all := lw_g (lw_at lw_m1 205 rfl) rfl
theorem q313 : (Jvm.Cond.sameMethod "java/lang/AbstractStringBuilder" "java/lang/AbstractStringBuilder" "isLatin1" "()Z") ∈ lw_all := lw_g (lw_at lw_m1 206 rfl) rfl
theorem q315 : (Jvm.Cond.code ({ cls := "java/lang/AbstractStringBuilder", name := "isLatin1", desc := "()Z" } : Jvm.MethodName) prog_21_method_68_code (1 : Nat) (Option.some Jvm.ClassFile.FieldType.boolean)) ∈ lw_all := lw_g (lw_at lw_m1 208 rfl) rfl
theorem q316 : (Jvm.Cond.methodLink "java/lang/AbstractStringBuilder" (226 : Nat) ({ cls := "java/lang/StringUTF16", name := "putCharsAt", desc := "([BICCCC)I" } : Jvm.MethodName)) ∈ lw_all := lw_g (lw_at lw_m1 209 rfl) rfl
theorem q342 : (Jvm.Cond.methodLink "java/lang/AbstractStringBuilder" (32 : Nat) ({ cls := "java/lang/String", name := "length", desc := "()I" } : Jvm.MethodName)) ∈ lw_all := lw_g (lw_at lw_m1 235 rfl) rfl
theorem q351 : (Jvm.Cond.methodLink "java/lang/AbstractStringBuilder" (208 : Nat) ({ cls := "java/lang/AbstractStringBuilder", name := "putStringAt", desc := "(ILjava/lang/String;)V" } : Jvm.MethodName)) ∈ lw_all := lw_g (lw_at lw_m2 4 rfl) rfl
theorem q352 : (Jvm.Cond.privateMethod ({ cls := "java/lang/AbstractStringBuilder", name := "putStringAt", desc := "(ILjava/lang/String;)V" } : Jvm.MethodName)) ∈ lw_tbl := lw_at lw_m2 5 rfl
theorem q353 : (Jvm.Cond.instanceMethod ({ cls := "java/lang/AbstractStringBuilder", name := "putStringAt", desc := "(ILjava/lang/String;)V" } : Jvm.MethodName)) ∈ lw_all := lw_g (lw_at lw_m2 6 rfl) rfl
theorem q354 : (Jvm.Cond.code ({ cls := "java/lang/AbstractStringBuilder", name := "putStringAt", desc := "(ILjava/lang/String;)V" } : Jvm.MethodName) prog_21_method_73_code (3 : Nat) (Option.none : Option Jvm.ClassFile.FieldType)) ∈ lw_all := lw_g (lw_at lw_m2 7 rfl) rfl
theorem q355 : (Jvm.Cond.methodLink "java/lang/AbstractStringBuilder" (397 : Nat) ({ cls := "java/lang/AbstractStringBuilder", name := "inflateIfNeededFor", desc := "(Ljava/lang/String;)V" } : Jvm.MethodName)) ∈ lw_all := lw_g (lw_at lw_m2 8 rfl) rfl
theorem q356 : (Jvm.Cond.privateMethod ({ cls := "java/lang/AbstractStringBuilder", name := "inflateIfNeededFor", desc := "(Ljava/lang/String;)V" } : Jvm.MethodName)) ∈ lw_tbl := lw_at lw_m2 9 rfl
theorem q357 : (Jvm.Cond.instanceMethod ({ cls := "java/lang/AbstractStringBuilder", name := "inflateIfNeededFor", desc := "(Ljava/lang/String;)V" } : Jvm.MethodName)) ∈ lw_all := lw_g (lw_at lw_m2 10 rfl) rfl
theorem q358 : (Jvm.Cond.code ({ cls := "java/lang/AbstractStringBuilder", name := "inflateIfNeededFor", desc := "(Ljava/lang/String;)V" } : Jvm.MethodName) prog_21_method_71_code (2 : Nat) (Option.none : Option Jvm.ClassFile.FieldType)) ∈ lw_all := lw_g (lw_at lw_m2 11 rfl) rfl
theorem q359 : (Jvm.Cond.methodLink "java/lang/AbstractStringBuilder" (40 : Nat) ({ cls := "java/lang/String", name := "coder", desc := "()B" } : Jvm.MethodName)) ∈ lw_all := lw_g (lw_at lw_m2 12 rfl) rfl
theorem q360 : (Jvm.Cond.methodLink "java/lang/AbstractStringBuilder" (195 : Nat) ({ cls := "java/lang/AbstractStringBuilder", name := "inflate", desc := "()V" } : Jvm.MethodName)) ∈ lw_all := lw_g (lw_at lw_m2 13 rfl) rfl
theorem q361 : (Jvm.Cond.privateMethod ({ cls := "java/lang/AbstractStringBuilder", name := "inflate", desc := "()V" } : Jvm.MethodName)) ∈ lw_tbl := lw_at lw_m2 14 rfl
theorem q362 : (Jvm.Cond.instanceMethod ({ cls := "java/lang/AbstractStringBuilder", name := "inflate", desc := "()V" } : Jvm.MethodName)) ∈ lw_all := lw_g (lw_at lw_m2 15 rfl) rfl
theorem q363 : (Jvm.Cond.code ({ cls := "java/lang/AbstractStringBuilder", name := "inflate", desc := "()V" } : Jvm.MethodName) prog_21_method_11_code (2 : Nat) (Option.none : Option Jvm.ClassFile.FieldType)) ∈ lw_all := lw_g (lw_at lw_m2 16 rfl) rfl
theorem q364 : (Jvm.Cond.methodLink "java/lang/AbstractStringBuilder" (125 : Nat) ({ cls := "java/lang/StringLatin1", name := "inflate", desc := "([BI[BII)V" } : Jvm.MethodName)) ∈ lw_all := lw_g (lw_at lw_m2 17 rfl) rfl
theorem q379 : (Jvm.Cond.methodLink "java/lang/AbstractStringBuilder" (399 : Nat) ({ cls := "java/lang/String", name := "getBytes", desc := "([BIB)V" } : Jvm.MethodName)) ∈ lw_all := lw_g (lw_at lw_m2 32 rfl) rfl
theorem q390 : (Jvm.Cond.instanceMethod ({ cls := "java/lang/AbstractStringBuilder", name := "append", desc := "(I)Ljava/lang/AbstractStringBuilder;" } : Jvm.MethodName)) ∈ lw_all := lw_g (lw_at lw_m2 43 rfl) rfl
theorem q391 : (Jvm.Cond.code ({ cls := "java/lang/AbstractStringBuilder", name := "append", desc := "(I)Ljava/lang/AbstractStringBuilder;" } : Jvm.MethodName) prog_21_method_32_code (4 : Nat) (Option.some (Jvm.ClassFile.FieldType.object "java/lang/AbstractStringBuilder"))) ∈ lw_all := lw_g (lw_at lw_m2 44 rfl) rfl
theorem q392 : (Jvm.Cond.methodLink "java/lang/AbstractStringBuilder" (245 : Nat) ({ cls := "java/lang/Integer", name := "stringSize", desc := "(I)I" } : Jvm.MethodName)) ∈ lw_all := lw_g (lw_at lw_m2 45 rfl) rfl
theorem q395 : (Jvm.Cond.methodLink "java/lang/AbstractStringBuilder" (248 : Nat) ({ cls := "java/lang/Integer", name := "getChars", desc := "(II[B)I" } : Jvm.MethodName)) ∈ lw_all := lw_g (lw_at lw_m2 48 rfl) rfl
theorem q402 : (Jvm.Cond.methodLink "java/lang/AbstractStringBuilder" (251 : Nat) ({ cls := "java/lang/StringUTF16", name := "getChars", desc := "(III[B)I" } : Jvm.MethodName)) ∈ lw_all := lw_g (lw_at lw_m2 55 rfl) rfl
theorem q424 : (Jvm.Cond.instanceMethod ({ cls := "java/lang/AbstractStringBuilder", name := "getValue", desc := "()[B" } : Jvm.MethodName)) ∈ lw_all := lw_g (lw_at lw_m2 77 rfl) rfl
theorem q425 : (Jvm.Cond.sameMethod "java/lang/AbstractStringBuilder" "java/lang/AbstractStringBuilder" "getValue" "()[B") ∈ lw_all := lw_g (lw_at lw_m2 78 rfl) rfl
theorem q427 : (Jvm.Cond.code ({ cls := "java/lang/AbstractStringBuilder", name := "getValue", desc := "()[B" } : Jvm.MethodName) prog_21_method_64_code (1 : Nat) (Option.some (Jvm.ClassFile.FieldType.array Jvm.ClassFile.FieldType.byte))) ∈ lw_all := lw_g (lw_at lw_m2 80 rfl) rfl
theorem q429 : (Jvm.Cond.instanceMethod ({ cls := "java/lang/AbstractStringBuilder", name := "length", desc := "()I" } : Jvm.MethodName)) ∈ lw_all := lw_g (lw_at lw_m2 82 rfl) rfl
theorem q430 : (Jvm.Cond.sameMethod "java/lang/AbstractStringBuilder" "java/lang/AbstractStringBuilder" "length" "()I") ∈ lw_all := lw_g (lw_at lw_m2 83 rfl) rfl
theorem q435 : (Jvm.Cond.code ({ cls := "java/lang/AbstractStringBuilder", name := "length", desc := "()I" } : Jvm.MethodName) prog_21_method_6_code (1 : Nat) (Option.some Jvm.ClassFile.FieldType.int)) ∈ lw_all := lw_g (lw_at lw_m2 88 rfl) rfl
theorem q894 : (Jvm.Cond.instanceMethod ({ cls := "java/lang/AbstractStringBuilder", name := "setLength", desc := "(I)V" } : Jvm.MethodName)) ∈ lw_all := lw_g (lw_at lw_m4 67 rfl) rfl
theorem q895 : (Jvm.Cond.code ({ cls := "java/lang/AbstractStringBuilder", name := "setLength", desc := "(I)V" } : Jvm.MethodName) prog_21_method_13_code (2 : Nat) (Option.none : Option Jvm.ClassFile.FieldType)) ∈ lw_all := lw_g (lw_at lw_m4 68 rfl) rfl
theorem q896 : (Jvm.Cond.classLink "java/lang/AbstractStringBuilder" (129 : Nat) "java/lang/StringIndexOutOfBoundsException") ∈ lw_all := lw_g (lw_at lw_m4 69 rfl) rfl
theorem q898 : (Jvm.Cond.methodLink "java/lang/AbstractStringBuilder" (131 : Nat) ({ cls := "java/lang/StringIndexOutOfBoundsException", name := "<init>", desc := "(I)V" } : Jvm.MethodName)) ∈ lw_all := lw_g (lw_at lw_m4 71 rfl) rfl
theorem q918 : (Jvm.Cond.methodLink "java/lang/AbstractStringBuilder" (133 : Nat) ({ cls := "java/lang/StringLatin1", name := "fillNull", desc := "([BII)V" } : Jvm.MethodName)) ∈ lw_all := lw_g (lw_at lw_m4 91 rfl) rfl
theorem q953 : (Jvm.Cond.methodLink "java/lang/AbstractStringBuilder" (137 : Nat) ({ cls := "java/lang/StringUTF16", name := "fillNull", desc := "([BII)V" } : Jvm.MethodName)) ∈ lw_all := lw_g (lw_at lw_m4 126 rfl) rfl
theorem q1006 : (Jvm.Cond.instanceMethod ({ cls := "java/lang/AbstractStringBuilder", name := "charAt", desc := "(I)C" } : Jvm.MethodName)) ∈ lw_all := lw_g (lw_at lw_m4 179 rfl) rfl
theorem q1007 : (Jvm.Cond.code ({ cls := "java/lang/AbstractStringBuilder", name := "charAt", desc := "(I)C" } : Jvm.MethodName) prog_21_method_14_code (5 : Nat) (Option.some Jvm.ClassFile.FieldType.char)) ∈ lw_all := lw_g (lw_at lw_m4 180 rfl) rfl
theorem q1008 : (Jvm.Cond.methodLink "java/lang/AbstractStringBuilder" (138 : Nat) ({ cls := "java/lang/Math", name := "min", desc := "(II)I" } : Jvm.MethodName)) ∈ lw_all := lw_g (lw_at lw_m4 181 rfl) rfl
theorem q1009 : (Jvm.Cond.methodLink "java/lang/AbstractStringBuilder" (144 : Nat) ({ cls := "java/lang/String", name := "checkIndex", desc := "(II)V" } : Jvm.MethodName)) ∈ lw_all := lw_g (lw_at lw_m4 182 rfl) rfl
theorem q1013 : (Jvm.Cond.methodLink "java/lang/AbstractStringBuilder" (148 : Nat) ({ cls := "java/lang/StringUTF16", name := "getChar", desc := "([BI)C" } : Jvm.MethodName)) ∈ lw_all := lw_g (lw_at lw_m4 186 rfl) rfl
theorem q1625 : (Jvm.Cond.instanceMethod ({ cls := "java/lang/AbstractStringBuilder", name := "compareTo", desc := "(Ljava/lang/AbstractStringBuilder;)I" } : Jvm.MethodName)) ∈ lw_all := lw_g (lw_at lw_m7 78 rfl) rfl
theorem q1626 : (Jvm.Cond.code ({ cls := "java/lang/AbstractStringBuilder", name := "compareTo", desc := "(Ljava/lang/AbstractStringBuilder;)I" } : Jvm.MethodName) prog_21_method_5_code (6 : Nat) (Option.some Jvm.ClassFile.FieldType.int)) ∈ lw_all := lw_g (lw_at lw_m7 79 rfl) rfl
theorem q1627 : (Jvm.Cond.methodLink "java/lang/AbstractStringBuilder" (87 : Nat) ({ cls := "java/lang/StringLatin1", name := "compareTo", desc := "([B[BII)I" } : Jvm.MethodName)) ∈ lw_all := lw_g (lw_at lw_m7 80 rfl) rfl
theorem q1628 : (Jvm.Cond.methodLink "java/lang/AbstractStringBuilder" (93 : Nat) ({ cls := "java/lang/StringUTF16", name := "compareTo", desc := "([B[BII)I" } : Jvm.MethodName)) ∈ lw_all := lw_g (lw_at lw_m7 81 rfl) rfl
theorem q1637 : (Jvm.Cond.methodLink "java/lang/AbstractStringBuilder" (94 : Nat) ({ cls := "java/lang/StringLatin1", name := "compareToUTF16", desc := "([B[BII)I" } : Jvm.MethodName)) ∈ lw_all := lw_g (lw_at lw_m7 90 rfl) rfl
theorem q1641 : (Jvm.Cond.methodLink "java/lang/AbstractStringBuilder" (97 : Nat) ({ cls := "java/lang/StringUTF16", name := "compareToLatin1", desc := "([B[BII)I" } : Jvm.MethodName)) ∈ lw_all := lw_g (lw_at lw_m7 94 rfl) rfl
theorem q2298 : (Jvm.Cond.instanceMethod ({ cls := "java/lang/AbstractStringBuilder", name := "append", desc := "(C)Ljava/lang/AbstractStringBuilder;" } : Jvm.MethodName)) ∈ lw_all := lw_g (lw_at lw_m10 31 rfl) rfl
theorem q2299 : (Jvm.Cond.code ({ cls := "java/lang/AbstractStringBuilder", name := "append", desc := "(C)Ljava/lang/AbstractStringBuilder;" } : Jvm.MethodName) prog_21_method_31_code (2 : Nat) (Option.some (Jvm.ClassFile.FieldType.object "java/lang/AbstractStringBuilder"))) ∈ lw_all := lw_g (lw_at lw_m10 32 rfl) rfl
theorem q2300 : (Jvm.Cond.methodLink "java/lang/AbstractStringBuilder" (191 : Nat) ({ cls := "java/lang/StringLatin1", name := "canEncode", desc := "(C)Z" } : Jvm.MethodName)) ∈ lw_all := lw_g (lw_at lw_m10 33 rfl) rfl
theorem q2303 : (Jvm.Cond.methodLink "java/lang/AbstractStringBuilder" (197 : Nat) ({ cls := "java/lang/StringUTF16", name := "putCharSB", desc := "([BII)V" } : Jvm.MethodName)) ∈ lw_all := lw_g (lw_at lw_m10 36 rfl) rfl
theorem q3268 : (Jvm.Cond.sameMethod "java/lang/AbstractStringBuilder" "java/lang/AbstractStringBuilder" "append" "(Ljava/lang/String;)Ljava/lang/AbstractStringBuilder;") ∈ lw_all := lw_g (lw_at lw_m14 41 rfl) rfl
theorem q3269 : (Jvm.Cond.sameMethod "java/lang/AbstractStringBuilder" "java/lang/AbstractStringBuilder" "appendNull" "()Ljava/lang/AbstractStringBuilder;") ∈ lw_all := lw_g (lw_at lw_m14 42 rfl) rfl
theorem q3270 : (Jvm.Cond.sameMethod "java/lang/AbstractStringBuilder" "java/lang/AbstractStringBuilder" "ensureCapacityInternal" "(I)V") ∈ lw_all := lw_g (lw_at lw_m14 43 rfl) rfl
theorem q3271 : (Jvm.Cond.sameMethod "java/lang/AbstractStringBuilder" "java/lang/AbstractStringBuilder" "newCapacity" "(I)I") ∈ lw_all := lw_g (lw_at lw_m14 44 rfl) rfl
theorem q3272 : (Jvm.Cond.sameMethod "java/lang/AbstractStringBuilder" "java/lang/AbstractStringBuilder" "putStringAt" "(ILjava/lang/String;)V") ∈ lw_all := lw_g (lw_at lw_m14 45 rfl) rfl
theorem q3273 : (Jvm.Cond.sameMethod "java/lang/AbstractStringBuilder" "java/lang/AbstractStringBuilder" "inflateIfNeededFor" "(Ljava/lang/String;)V") ∈ lw_all := lw_g (lw_at lw_m14 46 rfl) rfl
theorem q3274 : (Jvm.Cond.sameMethod "java/lang/AbstractStringBuilder" "java/lang/AbstractStringBuilder" "inflate" "()V") ∈ lw_all := lw_g (lw_at lw_m14 47 rfl) rfl
theorem q3275 : (Jvm.Cond.sameMethod "java/lang/AbstractStringBuilder" "java/lang/AbstractStringBuilder" "append" "(I)Ljava/lang/AbstractStringBuilder;") ∈ lw_all := lw_g (lw_at lw_m14 48 rfl) rfl
theorem q3277 : (Jvm.Cond.sameMethod "java/lang/AbstractStringBuilder" "java/lang/AbstractStringBuilder" "setLength" "(I)V") ∈ lw_all := lw_g (lw_at lw_m14 50 rfl) rfl
theorem q3278 : (Jvm.Cond.sameMethod "java/lang/AbstractStringBuilder" "java/lang/AbstractStringBuilder" "charAt" "(I)C") ∈ lw_all := lw_g (lw_at lw_m14 51 rfl) rfl
theorem q3279 : (Jvm.Cond.sameMethod "java/lang/AbstractStringBuilder" "java/lang/AbstractStringBuilder" "compareTo" "(Ljava/lang/AbstractStringBuilder;)I") ∈ lw_all := lw_g (lw_at lw_m14 52 rfl) rfl
theorem q3280 : (Jvm.Cond.sameMethod "java/lang/AbstractStringBuilder" "java/lang/AbstractStringBuilder" "append" "(C)Ljava/lang/AbstractStringBuilder;") ∈ lw_all := lw_g (lw_at lw_m14 53 rfl) rfl

/-! java/lang/StringBuilder -/
set_option maxRecDepth 100000
def RJ8 : String := "java/lang/StringBuilder"
def TJ8 : u_T := fun k => match k with
  | 0 => ("java/lang/AbstractStringBuilder", "value", "[B", false)
  | 1 => ("java/lang/AbstractStringBuilder", "coder", "B", false)
  | 2 => ("java/lang/AbstractStringBuilder", "maybeLatin1", "Z", false)
  | _ => ("java/lang/AbstractStringBuilder", "count", "I", false)
def tyJ8 : Nat → FieldType := fun k => match k with
  | 0 => .array .byte
  | 1 => .byte
  | 2 => .boolean
  | _ => .int
abbrev wsJ80 : List Cond := u_ws RJ8 TJ8 4
theorem nmJ8 : ∀ a, a < 4 → ∀ b, b < 4 → a ≠ b → (TJ8 a).2.1 ≠ (TJ8 b).2.1 := by decide +kernel
theorem tyJ8_ok : ∀ k, k < 4 → parseFieldDescriptor (TJ8 k).2.2.1 = some (tyJ8 k) := by decide +kernel
abbrev cJ8_init : ByteArray := prog_41_method_1_code
def yJ8_init : MethodName := ⟨RJ8, "<init>", "()V"⟩
def dkwJ8_init_0 : List UInt8 := [42, 16, 16, 183, 0, 1, 177]
abbrev dktJ8_init_0 : List UInt8 := dkwJ8_init_0 ++ []
theorem dksJ8_init_0 : cJ8_init.data.toList.drop 0 = dktJ8_init_0 := by decide +kernel
theorem dJ8_init_0 : decode cJ8_init 0 = .ok (.aload_n 0, 1) := dk_42 (dk_at dksJ8_init_0 0 rfl rfl)
theorem dJ8_init_1 : decode cJ8_init 1 = .ok (.bipush 16, 2) := dk_16 16 (dk_at dksJ8_init_0 1 rfl rfl)
theorem dJ8_init_3 : decode cJ8_init 3 = .ok (.invokespecial 1, 3) := dk_183 0 1 (dk_at dksJ8_init_0 3 rfl rfl)
theorem dJ8_init_6 : decode cJ8_init 6 = .ok (.return_, 1) := dk_177 (dk_at dksJ8_init_0 6 rfl rfl)
abbrev cJ8_append : ByteArray := prog_41_method_7_code
def yJ8_append : MethodName := ⟨RJ8, "append", "(Ljava/lang/String;)Ljava/lang/StringBuilder;"⟩
def dkwJ8_append_0 : List UInt8 := [42, 43, 183, 0, 29, 87, 42, 176]
abbrev dktJ8_append_0 : List UInt8 := dkwJ8_append_0 ++ []
theorem dksJ8_append_0 : cJ8_append.data.toList.drop 0 = dktJ8_append_0 := by decide +kernel
theorem dJ8_append_0 : decode cJ8_append 0 = .ok (.aload_n 0, 1) := dk_42 (dk_at dksJ8_append_0 0 rfl rfl)
theorem dJ8_append_1 : decode cJ8_append 1 = .ok (.aload_n 1, 1) := dk_43 (dk_at dksJ8_append_0 1 rfl rfl)
theorem dJ8_append_2 : decode cJ8_append 2 = .ok (.invokespecial 29, 3) := dk_183 0 29 (dk_at dksJ8_append_0 2 rfl rfl)
theorem dJ8_append_5 : decode cJ8_append 5 = .ok (.pop, 1) := dk_87 (dk_at dksJ8_append_0 5 rfl rfl)
theorem dJ8_append_6 : decode cJ8_append 6 = .ok (.aload_n 0, 1) := dk_42 (dk_at dksJ8_append_0 6 rfl rfl)
theorem dJ8_append_7 : decode cJ8_append 7 = .ok (.areturn, 1) := dk_176 (dk_at dksJ8_append_0 7 rfl rfl)
abbrev cJ8_append_2 : ByteArray := prog_41_method_15_code
def yJ8_append_2 : MethodName := ⟨RJ8, "append", "(I)Ljava/lang/StringBuilder;"⟩
def dkwJ8_append_2_0 : List UInt8 := [42, 27, 183, 0, 53, 87, 42, 176]
abbrev dktJ8_append_2_0 : List UInt8 := dkwJ8_append_2_0 ++ []
theorem dksJ8_append_2_0 : cJ8_append_2.data.toList.drop 0 = dktJ8_append_2_0 := by decide +kernel
theorem dJ8_append_2_0 : decode cJ8_append_2 0 = .ok (.aload_n 0, 1) := dk_42 (dk_at dksJ8_append_2_0 0 rfl rfl)
theorem dJ8_append_2_1 : decode cJ8_append_2 1 = .ok (.iload_n 1, 1) := dk_27 (dk_at dksJ8_append_2_0 1 rfl rfl)
theorem dJ8_append_2_2 : decode cJ8_append_2 2 = .ok (.invokespecial 53, 3) := dk_183 0 53 (dk_at dksJ8_append_2_0 2 rfl rfl)
theorem dJ8_append_2_5 : decode cJ8_append_2 5 = .ok (.pop, 1) := dk_87 (dk_at dksJ8_append_2_0 5 rfl rfl)
theorem dJ8_append_2_6 : decode cJ8_append_2 6 = .ok (.aload_n 0, 1) := dk_42 (dk_at dksJ8_append_2_0 6 rfl rfl)
theorem dJ8_append_2_7 : decode cJ8_append_2 7 = .ok (.areturn, 1) := dk_176 (dk_at dksJ8_append_2_0 7 rfl rfl)
abbrev cJ8_toString : ByteArray := prog_41_method_42_code
def yJ8_toString : MethodName := ⟨RJ8, "toString", "()Ljava/lang/String;"⟩
def dkwJ8_toString_0 : List UInt8 := [187, 0, 18, 89, 42, 183, 0, 137, 176]
abbrev dktJ8_toString_0 : List UInt8 := dkwJ8_toString_0 ++ []
theorem dksJ8_toString_0 : cJ8_toString.data.toList.drop 0 = dktJ8_toString_0 := by decide +kernel
theorem dJ8_toString_0 : decode cJ8_toString 0 = .ok (.new 18, 3) := dk_187 0 18 (dk_at dksJ8_toString_0 0 rfl rfl)
theorem dJ8_toString_3 : decode cJ8_toString 3 = .ok (.dup, 1) := dk_89 (dk_at dksJ8_toString_0 3 rfl rfl)
theorem dJ8_toString_4 : decode cJ8_toString 4 = .ok (.aload_n 0, 1) := dk_42 (dk_at dksJ8_toString_0 4 rfl rfl)
theorem dJ8_toString_5 : decode cJ8_toString 5 = .ok (.invokespecial 137, 3) := dk_183 0 137 (dk_at dksJ8_toString_0 5 rfl rfl)
theorem dJ8_toString_8 : decode cJ8_toString 8 = .ok (.areturn, 1) := dk_176 (dk_at dksJ8_toString_0 8 rfl rfl)
abbrev cJ8_length : ByteArray := prog_41_method_93_code
def yJ8_length : MethodName := ⟨RJ8, "length", "()I"⟩
theorem dJ8_length_0 : decode cJ8_length 0 = .ok (.aload_n 0, 1) := by decide +kernel
theorem dJ8_length_1 : decode cJ8_length 1 = .ok (.invokespecial 343, 3) := by decide +kernel
theorem dJ8_length_4 : decode cJ8_length 4 = .ok (.ireturn, 1) := by decide +kernel
abbrev cJ8_init_2 : ByteArray := prog_41_method_2_code
def yJ8_init_2 : MethodName := ⟨RJ8, "<init>", "(I)V"⟩
def dkwJ8_init_2_0 : List UInt8 := [42, 27, 183, 0, 1, 177]
abbrev dktJ8_init_2_0 : List UInt8 := dkwJ8_init_2_0 ++ []
theorem dksJ8_init_2_0 : cJ8_init_2.data.toList.drop 0 = dktJ8_init_2_0 := by decide +kernel
theorem dJ8_init_2_0 : decode cJ8_init_2 0 = .ok (.aload_n 0, 1) := dk_42 (dk_at dksJ8_init_2_0 0 rfl rfl)
theorem dJ8_init_2_1 : decode cJ8_init_2 1 = .ok (.iload_n 1, 1) := dk_27 (dk_at dksJ8_init_2_0 1 rfl rfl)
theorem dJ8_init_2_2 : decode cJ8_init_2 2 = .ok (.invokespecial 1, 3) := dk_183 0 1 (dk_at dksJ8_init_2_0 2 rfl rfl)
theorem dJ8_init_2_5 : decode cJ8_init_2 5 = .ok (.return_, 1) := dk_177 (dk_at dksJ8_init_2_0 5 rfl rfl)
abbrev cJ8_setLength : ByteArray := prog_41_method_89_code
def yJ8_setLength : MethodName := ⟨RJ8, "setLength", "(I)V"⟩
def dkwJ8_setLength_0 : List UInt8 := [42, 27, 183, 1, 77, 177]
abbrev dktJ8_setLength_0 : List UInt8 := dkwJ8_setLength_0 ++ []
theorem dksJ8_setLength_0 : cJ8_setLength.data.toList.drop 0 = dktJ8_setLength_0 := by decide +kernel
theorem dJ8_setLength_0 : decode cJ8_setLength 0 = .ok (.aload_n 0, 1) := dk_42 (dk_at dksJ8_setLength_0 0 rfl rfl)
theorem dJ8_setLength_1 : decode cJ8_setLength 1 = .ok (.iload_n 1, 1) := dk_27 (dk_at dksJ8_setLength_0 1 rfl rfl)
theorem dJ8_setLength_2 : decode cJ8_setLength 2 = .ok (.invokespecial 333, 3) := dk_183 1 77 (dk_at dksJ8_setLength_0 2 rfl rfl)
theorem dJ8_setLength_5 : decode cJ8_setLength 5 = .ok (.return_, 1) := dk_177 (dk_at dksJ8_setLength_0 5 rfl rfl)
abbrev cJ8_charAt : ByteArray := prog_41_method_88_code
def yJ8_charAt : MethodName := ⟨RJ8, "charAt", "(I)C"⟩
def dkwJ8_charAt_0 : List UInt8 := [42, 27, 183, 1, 73, 172]
abbrev dktJ8_charAt_0 : List UInt8 := dkwJ8_charAt_0 ++ []
theorem dksJ8_charAt_0 : cJ8_charAt.data.toList.drop 0 = dktJ8_charAt_0 := by decide +kernel
theorem dJ8_charAt_0 : decode cJ8_charAt 0 = .ok (.aload_n 0, 1) := dk_42 (dk_at dksJ8_charAt_0 0 rfl rfl)
theorem dJ8_charAt_1 : decode cJ8_charAt 1 = .ok (.iload_n 1, 1) := dk_27 (dk_at dksJ8_charAt_0 1 rfl rfl)
theorem dJ8_charAt_2 : decode cJ8_charAt 2 = .ok (.invokespecial 329, 3) := dk_183 1 73 (dk_at dksJ8_charAt_0 2 rfl rfl)
theorem dJ8_charAt_5 : decode cJ8_charAt 5 = .ok (.ireturn, 1) := dk_172 (dk_at dksJ8_charAt_0 5 rfl rfl)
abbrev cJ8_compareTo : ByteArray := prog_41_method_97_code
def yJ8_compareTo : MethodName := ⟨RJ8, "compareTo", "(Ljava/lang/Object;)I"⟩
def dkwJ8_compareTo_0 : List UInt8 := [42, 43, 192, 0, 24, 182, 1, 90, 172]
abbrev dktJ8_compareTo_0 : List UInt8 := dkwJ8_compareTo_0 ++ []
theorem dksJ8_compareTo_0 : cJ8_compareTo.data.toList.drop 0 = dktJ8_compareTo_0 := by decide +kernel
theorem dJ8_compareTo_0 : decode cJ8_compareTo 0 = .ok (.aload_n 0, 1) := dk_42 (dk_at dksJ8_compareTo_0 0 rfl rfl)
theorem dJ8_compareTo_1 : decode cJ8_compareTo 1 = .ok (.aload_n 1, 1) := dk_43 (dk_at dksJ8_compareTo_0 1 rfl rfl)
theorem dJ8_compareTo_2 : decode cJ8_compareTo 2 = .ok (.checkcast 24, 3) := dk_192 0 24 (dk_at dksJ8_compareTo_0 2 rfl rfl)
theorem dJ8_compareTo_5 : decode cJ8_compareTo 5 = .ok (.invokevirtual 346, 3) := dk_182 1 90 (dk_at dksJ8_compareTo_0 5 rfl rfl)
theorem dJ8_compareTo_8 : decode cJ8_compareTo 8 = .ok (.ireturn, 1) := dk_172 (dk_at dksJ8_compareTo_0 8 rfl rfl)
abbrev cJ8_compareTo_2 : ByteArray := prog_41_method_5_code
def yJ8_compareTo_2 : MethodName := ⟨RJ8, "compareTo", "(Ljava/lang/StringBuilder;)I"⟩
def dkwJ8_compareTo_2_0 : List UInt8 := [42, 43, 183, 0, 13, 172]
abbrev dktJ8_compareTo_2_0 : List UInt8 := dkwJ8_compareTo_2_0 ++ []
theorem dksJ8_compareTo_2_0 : cJ8_compareTo_2.data.toList.drop 0 = dktJ8_compareTo_2_0 := by decide +kernel
theorem dJ8_compareTo_2_0 : decode cJ8_compareTo_2 0 = .ok (.aload_n 0, 1) := dk_42 (dk_at dksJ8_compareTo_2_0 0 rfl rfl)
theorem dJ8_compareTo_2_1 : decode cJ8_compareTo_2 1 = .ok (.aload_n 1, 1) := dk_43 (dk_at dksJ8_compareTo_2_0 1 rfl rfl)
theorem dJ8_compareTo_2_2 : decode cJ8_compareTo_2 2 = .ok (.invokespecial 13, 3) := dk_183 0 13 (dk_at dksJ8_compareTo_2_0 2 rfl rfl)
theorem dJ8_compareTo_2_5 : decode cJ8_compareTo_2 5 = .ok (.ireturn, 1) := dk_172 (dk_at dksJ8_compareTo_2_0 5 rfl rfl)
abbrev cJ8_append_3 : ByteArray := prog_41_method_14_code
def yJ8_append_3 : MethodName := ⟨RJ8, "append", "(C)Ljava/lang/StringBuilder;"⟩
def dkwJ8_append_3_0 : List UInt8 := [42, 27, 183, 0, 50, 87, 42, 176]
abbrev dktJ8_append_3_0 : List UInt8 := dkwJ8_append_3_0 ++ []
theorem dksJ8_append_3_0 : cJ8_append_3.data.toList.drop 0 = dktJ8_append_3_0 := by decide +kernel
theorem dJ8_append_3_0 : decode cJ8_append_3 0 = .ok (.aload_n 0, 1) := dk_42 (dk_at dksJ8_append_3_0 0 rfl rfl)
theorem dJ8_append_3_1 : decode cJ8_append_3 1 = .ok (.iload_n 1, 1) := dk_27 (dk_at dksJ8_append_3_0 1 rfl rfl)
theorem dJ8_append_3_2 : decode cJ8_append_3 2 = .ok (.invokespecial 50, 3) := dk_183 0 50 (dk_at dksJ8_append_3_0 2 rfl rfl)
theorem dJ8_append_3_5 : decode cJ8_append_3 5 = .ok (.pop, 1) := dk_87 (dk_at dksJ8_append_3_0 5 rfl rfl)
theorem dJ8_append_3_6 : decode cJ8_append_3 6 = .ok (.aload_n 0, 1) := dk_42 (dk_at dksJ8_append_3_0 6 rfl rfl)
theorem dJ8_append_3_7 : decode cJ8_append_3 7 = .ok (.areturn, 1) := dk_176 (dk_at dksJ8_append_3_0 7 rfl rfl)
theorem q117 : (Jvm.Cond.initialized "java/lang/StringBuilder") ∈ lw_all := lw_g (lw_at lw_m1 10 rfl) rfl
theorem q232 : (Jvm.Cond.instantiable "java/lang/StringBuilder" (4 : Nat)) ∈ lw_all := lw_g (lw_at lw_m1 125 rfl) rfl
theorem q234 : (Jvm.Cond.instanceMethod ({ cls := "java/lang/StringBuilder", name := "<init>", desc := "()V" } : Jvm.MethodName)) ∈ lw_all := lw_g (lw_at lw_m1 127 rfl) rfl
theorem q235 : (Jvm.Cond.code ({ cls := "java/lang/StringBuilder", name := "<init>", desc := "()V" } : Jvm.MethodName) prog_41_method_1_code (1 : Nat) (Option.none : Option Jvm.ClassFile.FieldType)) ∈ lw_all := lw_g (lw_at lw_m1 128 rfl) rfl
theorem q236 : (Jvm.Cond.methodLink "java/lang/StringBuilder" (1 : Nat) ({ cls := "java/lang/AbstractStringBuilder", name := "<init>", desc := "(I)V" } : Jvm.MethodName)) ∈ lw_all := lw_g (lw_at lw_m1 129 rfl) rfl
theorem q254 : (Jvm.Cond.lays "java/lang/StringBuilder" "java/lang/AbstractStringBuilder" "value" "[B") ∈ lw_all := lw_g (lw_at lw_m1 147 rfl) rfl
theorem q256 : (Jvm.Cond.lays "java/lang/StringBuilder" "java/lang/AbstractStringBuilder" "coder" "B") ∈ lw_all := lw_g (lw_at lw_m1 149 rfl) rfl
theorem q258 : (Jvm.Cond.lays "java/lang/StringBuilder" "java/lang/AbstractStringBuilder" "maybeLatin1" "Z") ∈ lw_all := lw_g (lw_at lw_m1 151 rfl) rfl
theorem q260 : (Jvm.Cond.lays "java/lang/StringBuilder" "java/lang/AbstractStringBuilder" "count" "I") ∈ lw_all := lw_g (lw_at lw_m1 153 rfl) rfl
theorem q262 : (Jvm.Cond.superclass "java/lang/StringBuilder" "java/lang/AbstractStringBuilder") ∈ lw_all := lw_g (lw_at lw_m1 155 rfl) rfl
theorem q266 : (Jvm.Cond.instanceMethod ({ cls := "java/lang/StringBuilder", name := "append", desc := "(Ljava/lang/String;)Ljava/lang/StringBuilder;" } : Jvm.MethodName)) ∈ lw_all := lw_g (lw_at lw_m1 159 rfl) rfl
theorem q267 : (Jvm.Cond.selects "java/lang/StringBuilder" ({ cls := "java/lang/StringBuilder", name := "append", desc := "(Ljava/lang/String;)Ljava/lang/StringBuilder;" } : Jvm.MethodName) ({ cls := "java/lang/StringBuilder", name := "append", desc := "(Ljava/lang/String;)Ljava/lang/StringBuilder;" } : Jvm.MethodName)) ∈ lw_all := lw_g (lw_at lw_m1 160 rfl) rfl
theorem q268 : (Jvm.Cond.code ({ cls := "java/lang/StringBuilder", name := "append", desc := "(Ljava/lang/String;)Ljava/lang/StringBuilder;" } : Jvm.MethodName) prog_41_method_7_code (2 : Nat) (Option.some (Jvm.ClassFile.FieldType.object "java/lang/StringBuilder"))) ∈ lw_all := lw_g (lw_at lw_m1 161 rfl) rfl
theorem q269 : (Jvm.Cond.methodLink "java/lang/StringBuilder" (29 : Nat) ({ cls := "java/lang/AbstractStringBuilder", name := "append", desc := "(Ljava/lang/String;)Ljava/lang/AbstractStringBuilder;" } : Jvm.MethodName)) ∈ lw_all := lw_g (lw_at lw_m1 162 rfl) rfl
theorem q314 : (Jvm.Cond.selects "java/lang/StringBuilder" ({ cls := "java/lang/AbstractStringBuilder", name := "isLatin1", desc := "()Z" } : Jvm.MethodName) ({ cls := "java/lang/AbstractStringBuilder", name := "isLatin1", desc := "()Z" } : Jvm.MethodName)) ∈ lw_all := lw_g (lw_at lw_m1 207 rfl) rfl
theorem q386 : (Jvm.Cond.instanceMethod ({ cls := "java/lang/StringBuilder", name := "append", desc := "(I)Ljava/lang/StringBuilder;" } : Jvm.MethodName)) ∈ lw_all := lw_g (lw_at lw_m2 39 rfl) rfl
theorem q387 : (Jvm.Cond.selects "java/lang/StringBuilder" ({ cls := "java/lang/StringBuilder", name := "append", desc := "(I)Ljava/lang/StringBuilder;" } : Jvm.MethodName) ({ cls := "java/lang/StringBuilder", name := "append", desc := "(I)Ljava/lang/StringBuilder;" } : Jvm.MethodName)) ∈ lw_all := lw_g (lw_at lw_m2 40 rfl) rfl
theorem q388 : (Jvm.Cond.code ({ cls := "java/lang/StringBuilder", name := "append", desc := "(I)Ljava/lang/StringBuilder;" } : Jvm.MethodName) prog_41_method_15_code (2 : Nat) (Option.some (Jvm.ClassFile.FieldType.object "java/lang/StringBuilder"))) ∈ lw_all := lw_g (lw_at lw_m2 41 rfl) rfl
theorem q389 : (Jvm.Cond.methodLink "java/lang/StringBuilder" (53 : Nat) ({ cls := "java/lang/AbstractStringBuilder", name := "append", desc := "(I)Ljava/lang/AbstractStringBuilder;" } : Jvm.MethodName)) ∈ lw_all := lw_g (lw_at lw_m2 42 rfl) rfl
theorem q411 : (Jvm.Cond.instanceMethod ({ cls := "java/lang/StringBuilder", name := "toString", desc := "()Ljava/lang/String;" } : Jvm.MethodName)) ∈ lw_all := lw_g (lw_at lw_m2 64 rfl) rfl
theorem q412 : (Jvm.Cond.selects "java/lang/StringBuilder" ({ cls := "java/lang/StringBuilder", name := "toString", desc := "()Ljava/lang/String;" } : Jvm.MethodName) ({ cls := "java/lang/StringBuilder", name := "toString", desc := "()Ljava/lang/String;" } : Jvm.MethodName)) ∈ lw_all := lw_g (lw_at lw_m2 65 rfl) rfl
theorem q413 : (Jvm.Cond.code ({ cls := "java/lang/StringBuilder", name := "toString", desc := "()Ljava/lang/String;" } : Jvm.MethodName) prog_41_method_42_code (1 : Nat) (Option.some (Jvm.ClassFile.FieldType.object "java/lang/String"))) ∈ lw_all := lw_g (lw_at lw_m2 66 rfl) rfl
theorem q414 : (Jvm.Cond.classLink "java/lang/StringBuilder" (18 : Nat) "java/lang/String") ∈ lw_all := lw_g (lw_at lw_m2 67 rfl) rfl
theorem q416 : (Jvm.Cond.methodLink "java/lang/StringBuilder" (137 : Nat) ({ cls := "java/lang/String", name := "<init>", desc := "(Ljava/lang/StringBuilder;)V" } : Jvm.MethodName)) ∈ lw_all := lw_g (lw_at lw_m2 69 rfl) rfl
theorem q426 : (Jvm.Cond.selects "java/lang/StringBuilder" ({ cls := "java/lang/AbstractStringBuilder", name := "getValue", desc := "()[B" } : Jvm.MethodName) ({ cls := "java/lang/AbstractStringBuilder", name := "getValue", desc := "()[B" } : Jvm.MethodName)) ∈ lw_all := lw_g (lw_at lw_m2 79 rfl) rfl
theorem q431 : (Jvm.Cond.selects "java/lang/StringBuilder" ({ cls := "java/lang/AbstractStringBuilder", name := "length", desc := "()I" } : Jvm.MethodName) ({ cls := "java/lang/StringBuilder", name := "length", desc := "()I" } : Jvm.MethodName)) ∈ lw_all := lw_g (lw_at lw_m2 84 rfl) rfl
theorem q432 : (Jvm.Cond.instanceMethod ({ cls := "java/lang/StringBuilder", name := "length", desc := "()I" } : Jvm.MethodName)) ∈ lw_all := lw_g (lw_at lw_m2 85 rfl) rfl
theorem q433 : (Jvm.Cond.code ({ cls := "java/lang/StringBuilder", name := "length", desc := "()I" } : Jvm.MethodName) prog_41_method_93_code (1 : Nat) (Option.some Jvm.ClassFile.FieldType.int)) ∈ lw_all := lw_g (lw_at lw_m2 86 rfl) rfl
theorem q434 : (Jvm.Cond.methodLink "java/lang/StringBuilder" (343 : Nat) ({ cls := "java/lang/AbstractStringBuilder", name := "length", desc := "()I" } : Jvm.MethodName)) ∈ lw_all := lw_g (lw_at lw_m2 87 rfl) rfl
theorem q611 : (Jvm.Cond.instanceMethod ({ cls := "java/lang/StringBuilder", name := "<init>", desc := "(I)V" } : Jvm.MethodName)) ∈ lw_all := lw_g (lw_at lw_m3 24 rfl) rfl
theorem q612 : (Jvm.Cond.code ({ cls := "java/lang/StringBuilder", name := "<init>", desc := "(I)V" } : Jvm.MethodName) prog_41_method_2_code (2 : Nat) (Option.none : Option Jvm.ClassFile.FieldType)) ∈ lw_all := lw_g (lw_at lw_m3 25 rfl) rfl
theorem q890 : (Jvm.Cond.instanceMethod ({ cls := "java/lang/StringBuilder", name := "setLength", desc := "(I)V" } : Jvm.MethodName)) ∈ lw_all := lw_g (lw_at lw_m4 63 rfl) rfl
theorem q891 : (Jvm.Cond.selects "java/lang/StringBuilder" ({ cls := "java/lang/StringBuilder", name := "setLength", desc := "(I)V" } : Jvm.MethodName) ({ cls := "java/lang/StringBuilder", name := "setLength", desc := "(I)V" } : Jvm.MethodName)) ∈ lw_all := lw_g (lw_at lw_m4 64 rfl) rfl
theorem q892 : (Jvm.Cond.code ({ cls := "java/lang/StringBuilder", name := "setLength", desc := "(I)V" } : Jvm.MethodName) prog_41_method_89_code (2 : Nat) (Option.none : Option Jvm.ClassFile.FieldType)) ∈ lw_all := lw_g (lw_at lw_m4 65 rfl) rfl
theorem q893 : (Jvm.Cond.methodLink "java/lang/StringBuilder" (333 : Nat) ({ cls := "java/lang/AbstractStringBuilder", name := "setLength", desc := "(I)V" } : Jvm.MethodName)) ∈ lw_all := lw_g (lw_at lw_m4 66 rfl) rfl
theorem q1002 : (Jvm.Cond.instanceMethod ({ cls := "java/lang/StringBuilder", name := "charAt", desc := "(I)C" } : Jvm.MethodName)) ∈ lw_all := lw_g (lw_at lw_m4 175 rfl) rfl
theorem q1003 : (Jvm.Cond.selects "java/lang/StringBuilder" ({ cls := "java/lang/StringBuilder", name := "charAt", desc := "(I)C" } : Jvm.MethodName) ({ cls := "java/lang/StringBuilder", name := "charAt", desc := "(I)C" } : Jvm.MethodName)) ∈ lw_all := lw_g (lw_at lw_m4 176 rfl) rfl
theorem q1004 : (Jvm.Cond.code ({ cls := "java/lang/StringBuilder", name := "charAt", desc := "(I)C" } : Jvm.MethodName) prog_41_method_88_code (2 : Nat) (Option.some Jvm.ClassFile.FieldType.char)) ∈ lw_all := lw_g (lw_at lw_m4 177 rfl) rfl
theorem q1005 : (Jvm.Cond.methodLink "java/lang/StringBuilder" (329 : Nat) ({ cls := "java/lang/AbstractStringBuilder", name := "charAt", desc := "(I)C" } : Jvm.MethodName)) ∈ lw_all := lw_g (lw_at lw_m4 178 rfl) rfl
theorem q1137 : (Jvm.Cond.selects "java/lang/StringBuilder" ({ cls := "java/lang/Object", name := "getClass", desc := "()Ljava/lang/Class;" } : Jvm.MethodName) ({ cls := "java/lang/Object", name := "getClass", desc := "()Ljava/lang/Class;" } : Jvm.MethodName)) ∈ lw_all := lw_g (lw_at lw_m5 70 rfl) rfl
theorem q1362 : (Jvm.Cond.selects "java/lang/StringBuilder" ({ cls := "java/lang/Object", name := "hashCode", desc := "()I" } : Jvm.MethodName) ({ cls := "java/lang/Object", name := "hashCode", desc := "()I" } : Jvm.MethodName)) ∈ lw_all := lw_g (lw_at lw_m6 55 rfl) rfl
theorem q1413 : (Jvm.Cond.selects "java/lang/StringBuilder" ({ cls := "java/lang/Object", name := "equals", desc := "(Ljava/lang/Object;)Z" } : Jvm.MethodName) ({ cls := "java/lang/Object", name := "equals", desc := "(Ljava/lang/Object;)Z" } : Jvm.MethodName)) ∈ lw_all := lw_g (lw_at lw_m6 106 rfl) rfl
theorem q1613 : (Jvm.Cond.castable "java/lang/StringBuilder" "java/lang/Comparable") ∈ lw_tbl := lw_at lw_m7 66 rfl
theorem q1614 : (Jvm.Cond.selects "java/lang/StringBuilder" ({ cls := "java/lang/Comparable", name := "compareTo", desc := "(Ljava/lang/Object;)I" } : Jvm.MethodName) ({ cls := "java/lang/StringBuilder", name := "compareTo", desc := "(Ljava/lang/Object;)I" } : Jvm.MethodName)) ∈ lw_all := lw_g (lw_at lw_m7 67 rfl) rfl
theorem q1615 : (Jvm.Cond.unhidden "java/lang/StringBuilder" "compareTo" "(Ljava/lang/Object;)I") ∈ lw_tbl := lw_at lw_m7 68 rfl
theorem q1616 : (Jvm.Cond.instanceMethod ({ cls := "java/lang/StringBuilder", name := "compareTo", desc := "(Ljava/lang/Object;)I" } : Jvm.MethodName)) ∈ lw_all := lw_g (lw_at lw_m7 69 rfl) rfl
theorem q1617 : (Jvm.Cond.publicMethod ({ cls := "java/lang/StringBuilder", name := "compareTo", desc := "(Ljava/lang/Object;)I" } : Jvm.MethodName)) ∈ lw_tbl := lw_at lw_m7 70 rfl
theorem q1618 : (Jvm.Cond.code ({ cls := "java/lang/StringBuilder", name := "compareTo", desc := "(Ljava/lang/Object;)I" } : Jvm.MethodName) prog_41_method_97_code (2 : Nat) (Option.some Jvm.ClassFile.FieldType.int)) ∈ lw_all := lw_g (lw_at lw_m7 71 rfl) rfl
theorem q1619 : (Jvm.Cond.classLink "java/lang/StringBuilder" (24 : Nat) "java/lang/StringBuilder") ∈ lw_all := lw_g (lw_at lw_m7 72 rfl) rfl
theorem q1620 : (Jvm.Cond.methodLink "java/lang/StringBuilder" (346 : Nat) ({ cls := "java/lang/StringBuilder", name := "compareTo", desc := "(Ljava/lang/StringBuilder;)I" } : Jvm.MethodName)) ∈ lw_all := lw_g (lw_at lw_m7 73 rfl) rfl
theorem q1621 : (Jvm.Cond.instanceMethod ({ cls := "java/lang/StringBuilder", name := "compareTo", desc := "(Ljava/lang/StringBuilder;)I" } : Jvm.MethodName)) ∈ lw_all := lw_g (lw_at lw_m7 74 rfl) rfl
theorem q1622 : (Jvm.Cond.selects "java/lang/StringBuilder" ({ cls := "java/lang/StringBuilder", name := "compareTo", desc := "(Ljava/lang/StringBuilder;)I" } : Jvm.MethodName) ({ cls := "java/lang/StringBuilder", name := "compareTo", desc := "(Ljava/lang/StringBuilder;)I" } : Jvm.MethodName)) ∈ lw_all := lw_g (lw_at lw_m7 75 rfl) rfl
theorem q1623 : (Jvm.Cond.code ({ cls := "java/lang/StringBuilder", name := "compareTo", desc := "(Ljava/lang/StringBuilder;)I" } : Jvm.MethodName) prog_41_method_5_code (2 : Nat) (Option.some Jvm.ClassFile.FieldType.int)) ∈ lw_all := lw_g (lw_at lw_m7 76 rfl) rfl
theorem q1624 : (Jvm.Cond.methodLink "java/lang/StringBuilder" (13 : Nat) ({ cls := "java/lang/AbstractStringBuilder", name := "compareTo", desc := "(Ljava/lang/AbstractStringBuilder;)I" } : Jvm.MethodName)) ∈ lw_all := lw_g (lw_at lw_m7 77 rfl) rfl
theorem q2294 : (Jvm.Cond.instanceMethod ({ cls := "java/lang/StringBuilder", name := "append", desc := "(C)Ljava/lang/StringBuilder;" } : Jvm.MethodName)) ∈ lw_all := lw_g (lw_at lw_m10 27 rfl) rfl
theorem q2295 : (Jvm.Cond.selects "java/lang/StringBuilder" ({ cls := "java/lang/StringBuilder", name := "append", desc := "(C)Ljava/lang/StringBuilder;" } : Jvm.MethodName) ({ cls := "java/lang/StringBuilder", name := "append", desc := "(C)Ljava/lang/StringBuilder;" } : Jvm.MethodName)) ∈ lw_all := lw_g (lw_at lw_m10 28 rfl) rfl
theorem q2296 : (Jvm.Cond.code ({ cls := "java/lang/StringBuilder", name := "append", desc := "(C)Ljava/lang/StringBuilder;" } : Jvm.MethodName) prog_41_method_14_code (2 : Nat) (Option.some (Jvm.ClassFile.FieldType.object "java/lang/StringBuilder"))) ∈ lw_all := lw_g (lw_at lw_m10 29 rfl) rfl
theorem q2297 : (Jvm.Cond.methodLink "java/lang/StringBuilder" (50 : Nat) ({ cls := "java/lang/AbstractStringBuilder", name := "append", desc := "(C)Ljava/lang/AbstractStringBuilder;" } : Jvm.MethodName)) ∈ lw_all := lw_g (lw_at lw_m10 30 rfl) rfl
theorem q3276 : (Jvm.Cond.selects "java/lang/StringBuilder" ({ cls := "java/lang/StringBuilder", name := "length", desc := "()I" } : Jvm.MethodName) ({ cls := "java/lang/StringBuilder", name := "length", desc := "()I" } : Jvm.MethodName)) ∈ lw_all := lw_g (lw_at lw_m14 49 rfl) rfl
theorem q3295 : (Jvm.Cond.castable "java/lang/StringBuilder" "java/lang/Object") ∈ lw_tbl := lw_at lw_m14 68 rfl
theorem in_J8 : ∀ w ∈ wsJ80, w ∈ lw_all := lw_in wsJ80 [254, 256, 258, 260] (by decide +kernel) (by decide +kernel)

/-! java/lang/String -/
set_option maxRecDepth 100000
def RJ9 : String := "java/lang/String"
def TJ9 : u_T := fun k => match k with
  | 0 => ("java/lang/String", "value", "[B", true)
  | 1 => ("java/lang/String", "coder", "B", true)
  | 2 => ("java/lang/String", "hash", "I", false)
  | _ => ("java/lang/String", "hashIsZero", "Z", false)
def tyJ9 : Nat → FieldType := fun k => match k with
  | 0 => .array .byte
  | 1 => .byte
  | 2 => .int
  | _ => .boolean
abbrev wsJ90 : List Cond := u_ws RJ9 TJ9 4
theorem nmJ9 : ∀ a, a < 4 → ∀ b, b < 4 → a ≠ b → (TJ9 a).2.1 ≠ (TJ9 b).2.1 := by decide +kernel
theorem tyJ9_ok : ∀ k, k < 4 → parseFieldDescriptor (TJ9 k).2.2.1 = some (tyJ9 k) := by decide +kernel
abbrev cJ9_checkBoundsBeginEnd : ByteArray := prog_40_method_158_code
def yJ9_checkBoundsBeginEnd : MethodName := ⟨RJ9, "checkBoundsBeginEnd", "(III)V"⟩
def dkwJ9_checkBoundsBeginEnd_0 : List UInt8 := [26, 27, 28, 178, 4, 29, 184, 4, 38, 87, 177]
abbrev dktJ9_checkBoundsBeginEnd_0 : List UInt8 := dkwJ9_checkBoundsBeginEnd_0 ++ []
theorem dksJ9_checkBoundsBeginEnd_0 : cJ9_checkBoundsBeginEnd.data.toList.drop 0 = dktJ9_checkBoundsBeginEnd_0 := by decide +kernel
theorem dJ9_checkBoundsBeginEnd_0 : decode cJ9_checkBoundsBeginEnd 0 = .ok (.iload_n 0, 1) := dk_26 (dk_at dksJ9_checkBoundsBeginEnd_0 0 rfl rfl)
theorem dJ9_checkBoundsBeginEnd_1 : decode cJ9_checkBoundsBeginEnd 1 = .ok (.iload_n 1, 1) := dk_27 (dk_at dksJ9_checkBoundsBeginEnd_0 1 rfl rfl)
theorem dJ9_checkBoundsBeginEnd_2 : decode cJ9_checkBoundsBeginEnd 2 = .ok (.iload_n 2, 1) := dk_28 (dk_at dksJ9_checkBoundsBeginEnd_0 2 rfl rfl)
theorem dJ9_checkBoundsBeginEnd_3 : decode cJ9_checkBoundsBeginEnd 3 = .ok (.getstatic 1053, 3) := dk_178 4 29 (dk_at dksJ9_checkBoundsBeginEnd_0 3 rfl rfl)
theorem dJ9_checkBoundsBeginEnd_6 : decode cJ9_checkBoundsBeginEnd 6 = .ok (.invokestatic 1062, 3) := dk_184 4 38 (dk_at dksJ9_checkBoundsBeginEnd_0 6 rfl rfl)
theorem dJ9_checkBoundsBeginEnd_9 : decode cJ9_checkBoundsBeginEnd 9 = .ok (.pop, 1) := dk_87 (dk_at dksJ9_checkBoundsBeginEnd_0 9 rfl rfl)
theorem dJ9_checkBoundsBeginEnd_10 : decode cJ9_checkBoundsBeginEnd 10 = .ok (.return_, 1) := dk_177 (dk_at dksJ9_checkBoundsBeginEnd_0 10 rfl rfl)
abbrev cJ9_length : ByteArray := prog_40_method_54_code
def yJ9_length : MethodName := ⟨RJ9, "length", "()I"⟩
def dkwJ9_length_0 : List UInt8 := [42, 180, 0, 9, 190, 42, 182, 1, 79, 122, 172]
abbrev dktJ9_length_0 : List UInt8 := dkwJ9_length_0 ++ []
theorem dksJ9_length_0 : cJ9_length.data.toList.drop 0 = dktJ9_length_0 := by decide +kernel
theorem dJ9_length_0 : decode cJ9_length 0 = .ok (.aload_n 0, 1) := dk_42 (dk_at dksJ9_length_0 0 rfl rfl)
theorem dJ9_length_1 : decode cJ9_length 1 = .ok (.getfield 9, 3) := dk_180 0 9 (dk_at dksJ9_length_0 1 rfl rfl)
theorem dJ9_length_4 : decode cJ9_length 4 = .ok (.arraylength, 1) := dk_190 (dk_at dksJ9_length_0 4 rfl rfl)
theorem dJ9_length_5 : decode cJ9_length 5 = .ok (.aload_n 0, 1) := dk_42 (dk_at dksJ9_length_0 5 rfl rfl)
theorem dJ9_length_6 : decode cJ9_length 6 = .ok (.invokevirtual 335, 3) := dk_182 1 79 (dk_at dksJ9_length_0 6 rfl rfl)
theorem dJ9_length_9 : decode cJ9_length 9 = .ok (.ishr, 1) := dk_122 (dk_at dksJ9_length_0 9 rfl rfl)
theorem dJ9_length_10 : decode cJ9_length 10 = .ok (.ireturn, 1) := dk_172 (dk_at dksJ9_length_0 10 rfl rfl)
abbrev cJ9_coder : ByteArray := prog_40_method_152_code
def yJ9_coder : MethodName := ⟨RJ9, "coder", "()B"⟩
def dkwJ9_coder_0 : List UInt8 := [178, 0, 38, 153, 0, 10, 42, 180, 0, 15, 167, 0, 4, 4, 172]
abbrev dktJ9_coder_0 : List UInt8 := dkwJ9_coder_0 ++ []
theorem dksJ9_coder_0 : cJ9_coder.data.toList.drop 0 = dktJ9_coder_0 := by decide +kernel
theorem dJ9_coder_0 : decode cJ9_coder 0 = .ok (.getstatic 38, 3) := dk_178 0 38 (dk_at dksJ9_coder_0 0 rfl rfl)
theorem dJ9_coder_3 : decode cJ9_coder 3 = .ok (.ifCond .eq 10, 3) := dk_153 0 10 (dk_at dksJ9_coder_0 3 rfl rfl)
theorem dJ9_coder_6 : decode cJ9_coder 6 = .ok (.aload_n 0, 1) := dk_42 (dk_at dksJ9_coder_0 6 rfl rfl)
theorem dJ9_coder_7 : decode cJ9_coder 7 = .ok (.getfield 15, 3) := dk_180 0 15 (dk_at dksJ9_coder_0 7 rfl rfl)
theorem dJ9_coder_10 : decode cJ9_coder 10 = .ok (.goto 4, 3) := dk_167 0 4 (dk_at dksJ9_coder_0 10 rfl rfl)
theorem dJ9_coder_13 : decode cJ9_coder 13 = .ok (.iconst 1, 1) := dk_4 (dk_at dksJ9_coder_0 13 rfl rfl)
theorem dJ9_coder_14 : decode cJ9_coder 14 = .ok (.ireturn, 1) := dk_172 (dk_at dksJ9_coder_0 14 rfl rfl)
abbrev cJ9_checkBoundsOffCount : ByteArray := prog_40_method_157_code
def yJ9_checkBoundsOffCount : MethodName := ⟨RJ9, "checkBoundsOffCount", "(III)I"⟩
def dkwJ9_checkBoundsOffCount_0 : List UInt8 := [26, 27, 28, 178, 4, 29, 184, 4, 41, 172]
abbrev dktJ9_checkBoundsOffCount_0 : List UInt8 := dkwJ9_checkBoundsOffCount_0 ++ []
theorem dksJ9_checkBoundsOffCount_0 : cJ9_checkBoundsOffCount.data.toList.drop 0 = dktJ9_checkBoundsOffCount_0 := by decide +kernel
theorem dJ9_checkBoundsOffCount_0 : decode cJ9_checkBoundsOffCount 0 = .ok (.iload_n 0, 1) := dk_26 (dk_at dksJ9_checkBoundsOffCount_0 0 rfl rfl)
theorem dJ9_checkBoundsOffCount_1 : decode cJ9_checkBoundsOffCount 1 = .ok (.iload_n 1, 1) := dk_27 (dk_at dksJ9_checkBoundsOffCount_0 1 rfl rfl)
theorem dJ9_checkBoundsOffCount_2 : decode cJ9_checkBoundsOffCount 2 = .ok (.iload_n 2, 1) := dk_28 (dk_at dksJ9_checkBoundsOffCount_0 2 rfl rfl)
theorem dJ9_checkBoundsOffCount_3 : decode cJ9_checkBoundsOffCount 3 = .ok (.getstatic 1053, 3) := dk_178 4 29 (dk_at dksJ9_checkBoundsOffCount_0 3 rfl rfl)
theorem dJ9_checkBoundsOffCount_6 : decode cJ9_checkBoundsOffCount 6 = .ok (.invokestatic 1065, 3) := dk_184 4 41 (dk_at dksJ9_checkBoundsOffCount_0 6 rfl rfl)
theorem dJ9_checkBoundsOffCount_9 : decode cJ9_checkBoundsOffCount 9 = .ok (.ireturn, 1) := dk_172 (dk_at dksJ9_checkBoundsOffCount_0 9 rfl rfl)
abbrev cJ9_getBytes : ByteArray := prog_40_method_147_code
def yJ9_getBytes : MethodName := ⟨RJ9, "getBytes", "([BIB)V"⟩
def dkwJ9_getBytes_1 : List UInt8 := [184, 0, 212, 167, 0, 18, 42, 180, 0, 9, 3, 43, 28, 42, 180, 0, 9, 190, 184, 0, 106, 177]
abbrev dktJ9_getBytes_1 : List UInt8 := dkwJ9_getBytes_1 ++ []
def dkwJ9_getBytes_0 : List UInt8 := [42, 182, 1, 79, 29, 160, 0, 23, 42, 180, 0, 9, 3, 43, 28, 29, 120, 42, 180, 0, 9, 190]
abbrev dktJ9_getBytes_0 : List UInt8 := dkwJ9_getBytes_0 ++ dktJ9_getBytes_1
theorem dksJ9_getBytes_0 : cJ9_getBytes.data.toList.drop 0 = dktJ9_getBytes_0 := by decide +kernel
theorem dksJ9_getBytes_1 : cJ9_getBytes.data.toList.drop 22 = dktJ9_getBytes_1 := dk_seg dksJ9_getBytes_0 22 rfl rfl
theorem dJ9_getBytes_0 : decode cJ9_getBytes 0 = .ok (.aload_n 0, 1) := dk_42 (dk_at dksJ9_getBytes_0 0 rfl rfl)
theorem dJ9_getBytes_1 : decode cJ9_getBytes 1 = .ok (.invokevirtual 335, 3) := dk_182 1 79 (dk_at dksJ9_getBytes_0 1 rfl rfl)
theorem dJ9_getBytes_4 : decode cJ9_getBytes 4 = .ok (.iload_n 3, 1) := dk_29 (dk_at dksJ9_getBytes_0 4 rfl rfl)
theorem dJ9_getBytes_5 : decode cJ9_getBytes 5 = .ok (.if_icmp .ne 23, 3) := dk_160 0 23 (dk_at dksJ9_getBytes_0 5 rfl rfl)
theorem dJ9_getBytes_8 : decode cJ9_getBytes 8 = .ok (.aload_n 0, 1) := dk_42 (dk_at dksJ9_getBytes_0 8 rfl rfl)
theorem dJ9_getBytes_9 : decode cJ9_getBytes 9 = .ok (.getfield 9, 3) := dk_180 0 9 (dk_at dksJ9_getBytes_0 9 rfl rfl)
theorem dJ9_getBytes_12 : decode cJ9_getBytes 12 = .ok (.iconst 0, 1) := dk_3 (dk_at dksJ9_getBytes_0 12 rfl rfl)
theorem dJ9_getBytes_13 : decode cJ9_getBytes 13 = .ok (.aload_n 1, 1) := dk_43 (dk_at dksJ9_getBytes_0 13 rfl rfl)
theorem dJ9_getBytes_14 : decode cJ9_getBytes 14 = .ok (.iload_n 2, 1) := dk_28 (dk_at dksJ9_getBytes_0 14 rfl rfl)
theorem dJ9_getBytes_15 : decode cJ9_getBytes 15 = .ok (.iload_n 3, 1) := dk_29 (dk_at dksJ9_getBytes_0 15 rfl rfl)
theorem dJ9_getBytes_16 : decode cJ9_getBytes 16 = .ok (.ishl, 1) := dk_120 (dk_at dksJ9_getBytes_0 16 rfl rfl)
theorem dJ9_getBytes_17 : decode cJ9_getBytes 17 = .ok (.aload_n 0, 1) := dk_42 (dk_at dksJ9_getBytes_0 17 rfl rfl)
theorem dJ9_getBytes_18 : decode cJ9_getBytes 18 = .ok (.getfield 9, 3) := dk_180 0 9 (dk_at dksJ9_getBytes_0 18 rfl rfl)
theorem dJ9_getBytes_21 : decode cJ9_getBytes 21 = .ok (.arraylength, 1) := dk_190 (dk_at dksJ9_getBytes_0 21 rfl rfl)
theorem dJ9_getBytes_22 : decode cJ9_getBytes 22 = .ok (.invokestatic 212, 3) := dk_184 0 212 (dk_at dksJ9_getBytes_1 0 rfl rfl)
theorem dJ9_getBytes_25 : decode cJ9_getBytes 25 = .ok (.goto 18, 3) := dk_167 0 18 (dk_at dksJ9_getBytes_1 3 rfl rfl)
theorem dJ9_getBytes_28 : decode cJ9_getBytes 28 = .ok (.aload_n 0, 1) := dk_42 (dk_at dksJ9_getBytes_1 6 rfl rfl)
theorem dJ9_getBytes_29 : decode cJ9_getBytes 29 = .ok (.getfield 9, 3) := dk_180 0 9 (dk_at dksJ9_getBytes_1 7 rfl rfl)
theorem dJ9_getBytes_32 : decode cJ9_getBytes 32 = .ok (.iconst 0, 1) := dk_3 (dk_at dksJ9_getBytes_1 10 rfl rfl)
theorem dJ9_getBytes_33 : decode cJ9_getBytes 33 = .ok (.aload_n 1, 1) := dk_43 (dk_at dksJ9_getBytes_1 11 rfl rfl)
theorem dJ9_getBytes_34 : decode cJ9_getBytes 34 = .ok (.iload_n 2, 1) := dk_28 (dk_at dksJ9_getBytes_1 12 rfl rfl)
theorem dJ9_getBytes_35 : decode cJ9_getBytes 35 = .ok (.aload_n 0, 1) := dk_42 (dk_at dksJ9_getBytes_1 13 rfl rfl)
theorem dJ9_getBytes_36 : decode cJ9_getBytes 36 = .ok (.getfield 9, 3) := dk_180 0 9 (dk_at dksJ9_getBytes_1 14 rfl rfl)
theorem dJ9_getBytes_39 : decode cJ9_getBytes 39 = .ok (.arraylength, 1) := dk_190 (dk_at dksJ9_getBytes_1 17 rfl rfl)
theorem dJ9_getBytes_40 : decode cJ9_getBytes 40 = .ok (.invokestatic 106, 3) := dk_184 0 106 (dk_at dksJ9_getBytes_1 18 rfl rfl)
theorem dJ9_getBytes_43 : decode cJ9_getBytes 43 = .ok (.return_, 1) := dk_177 (dk_at dksJ9_getBytes_1 21 rfl rfl)
abbrev cJ9_init : ByteArray := prog_40_method_53_code
def yJ9_init : MethodName := ⟨RJ9, "<init>", "(Ljava/lang/StringBuilder;)V"⟩
def dkwJ9_init_0 : List UInt8 := [42, 43, 1, 183, 1, 233, 177]
abbrev dktJ9_init_0 : List UInt8 := dkwJ9_init_0 ++ []
theorem dksJ9_init_0 : cJ9_init.data.toList.drop 0 = dktJ9_init_0 := by decide +kernel
theorem dJ9_init_0 : decode cJ9_init 0 = .ok (.aload_n 0, 1) := dk_42 (dk_at dksJ9_init_0 0 rfl rfl)
theorem dJ9_init_1 : decode cJ9_init 1 = .ok (.aload_n 1, 1) := dk_43 (dk_at dksJ9_init_0 1 rfl rfl)
theorem dJ9_init_2 : decode cJ9_init 2 = .ok (.aconst_null, 1) := dk_1 (dk_at dksJ9_init_0 2 rfl rfl)
theorem dJ9_init_3 : decode cJ9_init 3 = .ok (.invokespecial 489, 3) := dk_183 1 233 (dk_at dksJ9_init_0 3 rfl rfl)
theorem dJ9_init_6 : decode cJ9_init 6 = .ok (.return_, 1) := dk_177 (dk_at dksJ9_init_0 6 rfl rfl)
abbrev cJ9_init_2 : ByteArray := prog_40_method_150_code
def yJ9_init_2 : MethodName := ⟨RJ9, "<init>", "(Ljava/lang/AbstractStringBuilder;Ljava/lang/Void;)V"⟩
def dkwJ9_init_2_4 : List UInt8 := [181, 0, 9, 177]
abbrev dktJ9_init_2_4 : List UInt8 := dkwJ9_init_2_4 ++ []
def dkwJ9_init_2_3 : List UInt8 := [184, 0, 47, 181, 0, 15, 177, 42, 4, 181, 0, 15, 42, 45, 3, 21, 4, 4, 120, 184, 0, 54]
abbrev dktJ9_init_2_3 : List UInt8 := dkwJ9_init_2_3 ++ dktJ9_init_2_4
def dkwJ9_init_2_2 : List UInt8 := [180, 4, 24, 153, 0, 28, 42, 45, 3, 21, 4, 184, 4, 27, 181, 0, 9, 42, 42, 180, 0, 9, 21, 4]
abbrev dktJ9_init_2_2 : List UInt8 := dkwJ9_init_2_2 ++ dktJ9_init_2_3
def dkwJ9_init_2_1 : List UInt8 := [181, 0, 15, 42, 45, 3, 21, 4, 184, 0, 54, 181, 0, 9, 167, 0, 59, 178, 0, 38, 153, 0, 35, 43]
abbrev dktJ9_init_2_1 : List UInt8 := dkwJ9_init_2_1 ++ dktJ9_init_2_2
def dkwJ9_init_2_0 : List UInt8 := [42, 183, 0, 1, 43, 182, 2, 40, 78, 43, 182, 2, 37, 54, 4, 43, 182, 4, 23, 153, 0, 22, 42, 3]
abbrev dktJ9_init_2_0 : List UInt8 := dkwJ9_init_2_0 ++ dktJ9_init_2_1
theorem dksJ9_init_2_0 : cJ9_init_2.data.toList.drop 0 = dktJ9_init_2_0 := by decide +kernel
theorem dksJ9_init_2_1 : cJ9_init_2.data.toList.drop 24 = dktJ9_init_2_1 := dk_seg dksJ9_init_2_0 24 rfl rfl
theorem dksJ9_init_2_2 : cJ9_init_2.data.toList.drop 48 = dktJ9_init_2_2 := dk_seg dksJ9_init_2_1 24 rfl rfl
theorem dksJ9_init_2_3 : cJ9_init_2.data.toList.drop 72 = dktJ9_init_2_3 := dk_seg dksJ9_init_2_2 24 rfl rfl
theorem dksJ9_init_2_4 : cJ9_init_2.data.toList.drop 94 = dktJ9_init_2_4 := dk_seg dksJ9_init_2_3 22 rfl rfl
theorem dJ9_init_2_0 : decode cJ9_init_2 0 = .ok (.aload_n 0, 1) := dk_42 (dk_at dksJ9_init_2_0 0 rfl rfl)
theorem dJ9_init_2_1 : decode cJ9_init_2 1 = .ok (.invokespecial 1, 3) := dk_183 0 1 (dk_at dksJ9_init_2_0 1 rfl rfl)
theorem dJ9_init_2_4 : decode cJ9_init_2 4 = .ok (.aload_n 1, 1) := dk_43 (dk_at dksJ9_init_2_0 4 rfl rfl)
theorem dJ9_init_2_5 : decode cJ9_init_2 5 = .ok (.invokevirtual 552, 3) := dk_182 2 40 (dk_at dksJ9_init_2_0 5 rfl rfl)
theorem dJ9_init_2_8 : decode cJ9_init_2 8 = .ok (.astore_n 3, 1) := dk_78 (dk_at dksJ9_init_2_0 8 rfl rfl)
theorem dJ9_init_2_9 : decode cJ9_init_2 9 = .ok (.aload_n 1, 1) := dk_43 (dk_at dksJ9_init_2_0 9 rfl rfl)
theorem dJ9_init_2_10 : decode cJ9_init_2 10 = .ok (.invokevirtual 549, 3) := dk_182 2 37 (dk_at dksJ9_init_2_0 10 rfl rfl)
theorem dJ9_init_2_13 : decode cJ9_init_2 13 = .ok (.istore 4, 2) := dk_54 4 (dk_at dksJ9_init_2_0 13 rfl rfl)
theorem dJ9_init_2_15 : decode cJ9_init_2 15 = .ok (.aload_n 1, 1) := dk_43 (dk_at dksJ9_init_2_0 15 rfl rfl)
theorem dJ9_init_2_16 : decode cJ9_init_2 16 = .ok (.invokevirtual 1047, 3) := dk_182 4 23 (dk_at dksJ9_init_2_0 16 rfl rfl)
theorem dJ9_init_2_19 : decode cJ9_init_2 19 = .ok (.ifCond .eq 22, 3) := dk_153 0 22 (dk_at dksJ9_init_2_0 19 rfl rfl)
theorem dJ9_init_2_22 : decode cJ9_init_2 22 = .ok (.aload_n 0, 1) := dk_42 (dk_at dksJ9_init_2_0 22 rfl rfl)
theorem dJ9_init_2_23 : decode cJ9_init_2 23 = .ok (.iconst 0, 1) := dk_3 (dk_at dksJ9_init_2_0 23 rfl rfl)
theorem dJ9_init_2_24 : decode cJ9_init_2 24 = .ok (.putfield 15, 3) := dk_181 0 15 (dk_at dksJ9_init_2_1 0 rfl rfl)
theorem dJ9_init_2_27 : decode cJ9_init_2 27 = .ok (.aload_n 0, 1) := dk_42 (dk_at dksJ9_init_2_1 3 rfl rfl)
theorem dJ9_init_2_28 : decode cJ9_init_2 28 = .ok (.aload_n 3, 1) := dk_45 (dk_at dksJ9_init_2_1 4 rfl rfl)
theorem dJ9_init_2_29 : decode cJ9_init_2 29 = .ok (.iconst 0, 1) := dk_3 (dk_at dksJ9_init_2_1 5 rfl rfl)
theorem dJ9_init_2_30 : decode cJ9_init_2 30 = .ok (.iload 4, 2) := dk_21 4 (dk_at dksJ9_init_2_1 6 rfl rfl)
theorem dJ9_init_2_32 : decode cJ9_init_2 32 = .ok (.invokestatic 54, 3) := dk_184 0 54 (dk_at dksJ9_init_2_1 8 rfl rfl)
theorem dJ9_init_2_35 : decode cJ9_init_2 35 = .ok (.putfield 9, 3) := dk_181 0 9 (dk_at dksJ9_init_2_1 11 rfl rfl)
theorem dJ9_init_2_38 : decode cJ9_init_2 38 = .ok (.goto 59, 3) := dk_167 0 59 (dk_at dksJ9_init_2_1 14 rfl rfl)
theorem dJ9_init_2_41 : decode cJ9_init_2 41 = .ok (.getstatic 38, 3) := dk_178 0 38 (dk_at dksJ9_init_2_1 17 rfl rfl)
theorem dJ9_init_2_44 : decode cJ9_init_2 44 = .ok (.ifCond .eq 35, 3) := dk_153 0 35 (dk_at dksJ9_init_2_1 20 rfl rfl)
theorem dJ9_init_2_47 : decode cJ9_init_2 47 = .ok (.aload_n 1, 1) := dk_43 (dk_at dksJ9_init_2_1 23 rfl rfl)
theorem dJ9_init_2_48 : decode cJ9_init_2 48 = .ok (.getfield 1048, 3) := dk_180 4 24 (dk_at dksJ9_init_2_2 0 rfl rfl)
theorem dJ9_init_2_51 : decode cJ9_init_2 51 = .ok (.ifCond .eq 28, 3) := dk_153 0 28 (dk_at dksJ9_init_2_2 3 rfl rfl)
theorem dJ9_init_2_54 : decode cJ9_init_2 54 = .ok (.aload_n 0, 1) := dk_42 (dk_at dksJ9_init_2_2 6 rfl rfl)
theorem dJ9_init_2_55 : decode cJ9_init_2 55 = .ok (.aload_n 3, 1) := dk_45 (dk_at dksJ9_init_2_2 7 rfl rfl)
theorem dJ9_init_2_56 : decode cJ9_init_2 56 = .ok (.iconst 0, 1) := dk_3 (dk_at dksJ9_init_2_2 8 rfl rfl)
theorem dJ9_init_2_57 : decode cJ9_init_2 57 = .ok (.iload 4, 2) := dk_21 4 (dk_at dksJ9_init_2_2 9 rfl rfl)
theorem dJ9_init_2_59 : decode cJ9_init_2 59 = .ok (.invokestatic 1051, 3) := dk_184 4 27 (dk_at dksJ9_init_2_2 11 rfl rfl)
theorem dJ9_init_2_62 : decode cJ9_init_2 62 = .ok (.putfield 9, 3) := dk_181 0 9 (dk_at dksJ9_init_2_2 14 rfl rfl)
theorem dJ9_init_2_65 : decode cJ9_init_2 65 = .ok (.aload_n 0, 1) := dk_42 (dk_at dksJ9_init_2_2 17 rfl rfl)
theorem dJ9_init_2_66 : decode cJ9_init_2 66 = .ok (.aload_n 0, 1) := dk_42 (dk_at dksJ9_init_2_2 18 rfl rfl)
theorem dJ9_init_2_67 : decode cJ9_init_2 67 = .ok (.getfield 9, 3) := dk_180 0 9 (dk_at dksJ9_init_2_2 19 rfl rfl)
theorem dJ9_init_2_70 : decode cJ9_init_2 70 = .ok (.iload 4, 2) := dk_21 4 (dk_at dksJ9_init_2_2 22 rfl rfl)
theorem dJ9_init_2_72 : decode cJ9_init_2 72 = .ok (.invokestatic 47, 3) := dk_184 0 47 (dk_at dksJ9_init_2_3 0 rfl rfl)
theorem dJ9_init_2_75 : decode cJ9_init_2 75 = .ok (.putfield 15, 3) := dk_181 0 15 (dk_at dksJ9_init_2_3 3 rfl rfl)
theorem dJ9_init_2_78 : decode cJ9_init_2 78 = .ok (.return_, 1) := dk_177 (dk_at dksJ9_init_2_3 6 rfl rfl)
theorem dJ9_init_2_79 : decode cJ9_init_2 79 = .ok (.aload_n 0, 1) := dk_42 (dk_at dksJ9_init_2_3 7 rfl rfl)
theorem dJ9_init_2_80 : decode cJ9_init_2 80 = .ok (.iconst 1, 1) := dk_4 (dk_at dksJ9_init_2_3 8 rfl rfl)
theorem dJ9_init_2_81 : decode cJ9_init_2 81 = .ok (.putfield 15, 3) := dk_181 0 15 (dk_at dksJ9_init_2_3 9 rfl rfl)
theorem dJ9_init_2_84 : decode cJ9_init_2 84 = .ok (.aload_n 0, 1) := dk_42 (dk_at dksJ9_init_2_3 12 rfl rfl)
theorem dJ9_init_2_85 : decode cJ9_init_2 85 = .ok (.aload_n 3, 1) := dk_45 (dk_at dksJ9_init_2_3 13 rfl rfl)
theorem dJ9_init_2_86 : decode cJ9_init_2 86 = .ok (.iconst 0, 1) := dk_3 (dk_at dksJ9_init_2_3 14 rfl rfl)
theorem dJ9_init_2_87 : decode cJ9_init_2 87 = .ok (.iload 4, 2) := dk_21 4 (dk_at dksJ9_init_2_3 15 rfl rfl)
theorem dJ9_init_2_89 : decode cJ9_init_2 89 = .ok (.iconst 1, 1) := dk_4 (dk_at dksJ9_init_2_3 17 rfl rfl)
theorem dJ9_init_2_90 : decode cJ9_init_2 90 = .ok (.ishl, 1) := dk_120 (dk_at dksJ9_init_2_3 18 rfl rfl)
theorem dJ9_init_2_91 : decode cJ9_init_2 91 = .ok (.invokestatic 54, 3) := dk_184 0 54 (dk_at dksJ9_init_2_3 19 rfl rfl)
theorem dJ9_init_2_94 : decode cJ9_init_2 94 = .ok (.putfield 9, 3) := dk_181 0 9 (dk_at dksJ9_init_2_4 0 rfl rfl)
theorem dJ9_init_2_97 : decode cJ9_init_2 97 = .ok (.return_, 1) := dk_177 (dk_at dksJ9_init_2_4 3 rfl rfl)
abbrev cJ9_checkIndex : ByteArray := prog_40_method_155_code
def yJ9_checkIndex : MethodName := ⟨RJ9, "checkIndex", "(II)V"⟩
def dkwJ9_checkIndex_0 : List UInt8 := [26, 27, 178, 4, 29, 184, 4, 35, 87, 177]
abbrev dktJ9_checkIndex_0 : List UInt8 := dkwJ9_checkIndex_0 ++ []
theorem dksJ9_checkIndex_0 : cJ9_checkIndex.data.toList.drop 0 = dktJ9_checkIndex_0 := by decide +kernel
theorem dJ9_checkIndex_0 : decode cJ9_checkIndex 0 = .ok (.iload_n 0, 1) := dk_26 (dk_at dksJ9_checkIndex_0 0 rfl rfl)
theorem dJ9_checkIndex_1 : decode cJ9_checkIndex 1 = .ok (.iload_n 1, 1) := dk_27 (dk_at dksJ9_checkIndex_0 1 rfl rfl)
theorem dJ9_checkIndex_2 : decode cJ9_checkIndex 2 = .ok (.getstatic 1053, 3) := dk_178 4 29 (dk_at dksJ9_checkIndex_0 2 rfl rfl)
theorem dJ9_checkIndex_5 : decode cJ9_checkIndex 5 = .ok (.invokestatic 1059, 3) := dk_184 4 35 (dk_at dksJ9_checkIndex_0 5 rfl rfl)
theorem dJ9_checkIndex_8 : decode cJ9_checkIndex 8 = .ok (.pop, 1) := dk_87 (dk_at dksJ9_checkIndex_0 8 rfl rfl)
theorem dJ9_checkIndex_9 : decode cJ9_checkIndex 9 = .ok (.return_, 1) := dk_177 (dk_at dksJ9_checkIndex_0 9 rfl rfl)
abbrev cJ9_indexOf : ByteArray := prog_40_method_79_code
def yJ9_indexOf : MethodName := ⟨RJ9, "indexOf", "(I)I"⟩
def dkwJ9_indexOf_0 : List UInt8 := [42, 27, 3, 182, 2, 121, 172]
abbrev dktJ9_indexOf_0 : List UInt8 := dkwJ9_indexOf_0 ++ []
theorem dksJ9_indexOf_0 : cJ9_indexOf.data.toList.drop 0 = dktJ9_indexOf_0 := by decide +kernel
theorem dJ9_indexOf_0 : decode cJ9_indexOf 0 = .ok (.aload_n 0, 1) := dk_42 (dk_at dksJ9_indexOf_0 0 rfl rfl)
theorem dJ9_indexOf_1 : decode cJ9_indexOf 1 = .ok (.iload_n 1, 1) := dk_27 (dk_at dksJ9_indexOf_0 1 rfl rfl)
theorem dJ9_indexOf_2 : decode cJ9_indexOf 2 = .ok (.iconst 0, 1) := dk_3 (dk_at dksJ9_indexOf_0 2 rfl rfl)
theorem dJ9_indexOf_3 : decode cJ9_indexOf 3 = .ok (.invokevirtual 633, 3) := dk_182 2 121 (dk_at dksJ9_indexOf_0 3 rfl rfl)
theorem dJ9_indexOf_6 : decode cJ9_indexOf 6 = .ok (.ireturn, 1) := dk_172 (dk_at dksJ9_indexOf_0 6 rfl rfl)
abbrev cJ9_indexOf_2 : ByteArray := prog_40_method_80_code
def yJ9_indexOf_2 : MethodName := ⟨RJ9, "indexOf", "(II)I"⟩
def dkwJ9_indexOf_2_1 : List UInt8 := [180, 0, 9, 27, 28, 42, 182, 1, 249, 184, 2, 128, 172]
abbrev dktJ9_indexOf_2_1 : List UInt8 := dkwJ9_indexOf_2_1 ++ []
def dkwJ9_indexOf_2_0 : List UInt8 := [42, 182, 1, 236, 153, 0, 19, 42, 180, 0, 9, 27, 28, 42, 182, 1, 249, 184, 2, 125, 167, 0, 16, 42]
abbrev dktJ9_indexOf_2_0 : List UInt8 := dkwJ9_indexOf_2_0 ++ dktJ9_indexOf_2_1
theorem dksJ9_indexOf_2_0 : cJ9_indexOf_2.data.toList.drop 0 = dktJ9_indexOf_2_0 := by decide +kernel
theorem dksJ9_indexOf_2_1 : cJ9_indexOf_2.data.toList.drop 24 = dktJ9_indexOf_2_1 := dk_seg dksJ9_indexOf_2_0 24 rfl rfl
theorem dJ9_indexOf_2_0 : decode cJ9_indexOf_2 0 = .ok (.aload_n 0, 1) := dk_42 (dk_at dksJ9_indexOf_2_0 0 rfl rfl)
theorem dJ9_indexOf_2_1 : decode cJ9_indexOf_2 1 = .ok (.invokevirtual 492, 3) := dk_182 1 236 (dk_at dksJ9_indexOf_2_0 1 rfl rfl)
theorem dJ9_indexOf_2_4 : decode cJ9_indexOf_2 4 = .ok (.ifCond .eq 19, 3) := dk_153 0 19 (dk_at dksJ9_indexOf_2_0 4 rfl rfl)
theorem dJ9_indexOf_2_7 : decode cJ9_indexOf_2 7 = .ok (.aload_n 0, 1) := dk_42 (dk_at dksJ9_indexOf_2_0 7 rfl rfl)
theorem dJ9_indexOf_2_8 : decode cJ9_indexOf_2 8 = .ok (.getfield 9, 3) := dk_180 0 9 (dk_at dksJ9_indexOf_2_0 8 rfl rfl)
theorem dJ9_indexOf_2_11 : decode cJ9_indexOf_2 11 = .ok (.iload_n 1, 1) := dk_27 (dk_at dksJ9_indexOf_2_0 11 rfl rfl)
theorem dJ9_indexOf_2_12 : decode cJ9_indexOf_2 12 = .ok (.iload_n 2, 1) := dk_28 (dk_at dksJ9_indexOf_2_0 12 rfl rfl)
theorem dJ9_indexOf_2_13 : decode cJ9_indexOf_2 13 = .ok (.aload_n 0, 1) := dk_42 (dk_at dksJ9_indexOf_2_0 13 rfl rfl)
theorem dJ9_indexOf_2_14 : decode cJ9_indexOf_2 14 = .ok (.invokevirtual 505, 3) := dk_182 1 249 (dk_at dksJ9_indexOf_2_0 14 rfl rfl)
theorem dJ9_indexOf_2_17 : decode cJ9_indexOf_2 17 = .ok (.invokestatic 637, 3) := dk_184 2 125 (dk_at dksJ9_indexOf_2_0 17 rfl rfl)
theorem dJ9_indexOf_2_20 : decode cJ9_indexOf_2 20 = .ok (.goto 16, 3) := dk_167 0 16 (dk_at dksJ9_indexOf_2_0 20 rfl rfl)
theorem dJ9_indexOf_2_23 : decode cJ9_indexOf_2 23 = .ok (.aload_n 0, 1) := dk_42 (dk_at dksJ9_indexOf_2_0 23 rfl rfl)
theorem dJ9_indexOf_2_24 : decode cJ9_indexOf_2 24 = .ok (.getfield 9, 3) := dk_180 0 9 (dk_at dksJ9_indexOf_2_1 0 rfl rfl)
theorem dJ9_indexOf_2_27 : decode cJ9_indexOf_2 27 = .ok (.iload_n 1, 1) := dk_27 (dk_at dksJ9_indexOf_2_1 3 rfl rfl)
theorem dJ9_indexOf_2_28 : decode cJ9_indexOf_2 28 = .ok (.iload_n 2, 1) := dk_28 (dk_at dksJ9_indexOf_2_1 4 rfl rfl)
theorem dJ9_indexOf_2_29 : decode cJ9_indexOf_2 29 = .ok (.aload_n 0, 1) := dk_42 (dk_at dksJ9_indexOf_2_1 5 rfl rfl)
theorem dJ9_indexOf_2_30 : decode cJ9_indexOf_2 30 = .ok (.invokevirtual 505, 3) := dk_182 1 249 (dk_at dksJ9_indexOf_2_1 6 rfl rfl)
theorem dJ9_indexOf_2_33 : decode cJ9_indexOf_2 33 = .ok (.invokestatic 640, 3) := dk_184 2 128 (dk_at dksJ9_indexOf_2_1 9 rfl rfl)
theorem dJ9_indexOf_2_36 : decode cJ9_indexOf_2 36 = .ok (.ireturn, 1) := dk_172 (dk_at dksJ9_indexOf_2_1 12 rfl rfl)
abbrev cJ9_isLatin1 : ByteArray := prog_40_method_154_code
def yJ9_isLatin1 : MethodName := ⟨RJ9, "isLatin1", "()Z"⟩
def dkwJ9_isLatin1_0 : List UInt8 := [178, 0, 38, 153, 0, 14, 42, 180, 0, 15, 154, 0, 7, 4, 167, 0, 4, 3, 172]
abbrev dktJ9_isLatin1_0 : List UInt8 := dkwJ9_isLatin1_0 ++ []
theorem dksJ9_isLatin1_0 : cJ9_isLatin1.data.toList.drop 0 = dktJ9_isLatin1_0 := by decide +kernel
theorem dJ9_isLatin1_0 : decode cJ9_isLatin1 0 = .ok (.getstatic 38, 3) := dk_178 0 38 (dk_at dksJ9_isLatin1_0 0 rfl rfl)
theorem dJ9_isLatin1_3 : decode cJ9_isLatin1 3 = .ok (.ifCond .eq 14, 3) := dk_153 0 14 (dk_at dksJ9_isLatin1_0 3 rfl rfl)
theorem dJ9_isLatin1_6 : decode cJ9_isLatin1 6 = .ok (.aload_n 0, 1) := dk_42 (dk_at dksJ9_isLatin1_0 6 rfl rfl)
theorem dJ9_isLatin1_7 : decode cJ9_isLatin1 7 = .ok (.getfield 15, 3) := dk_180 0 15 (dk_at dksJ9_isLatin1_0 7 rfl rfl)
theorem dJ9_isLatin1_10 : decode cJ9_isLatin1 10 = .ok (.ifCond .ne 7, 3) := dk_154 0 7 (dk_at dksJ9_isLatin1_0 10 rfl rfl)
theorem dJ9_isLatin1_13 : decode cJ9_isLatin1 13 = .ok (.iconst 1, 1) := dk_4 (dk_at dksJ9_isLatin1_0 13 rfl rfl)
theorem dJ9_isLatin1_14 : decode cJ9_isLatin1 14 = .ok (.goto 4, 3) := dk_167 0 4 (dk_at dksJ9_isLatin1_0 14 rfl rfl)
theorem dJ9_isLatin1_17 : decode cJ9_isLatin1 17 = .ok (.iconst 0, 1) := dk_3 (dk_at dksJ9_isLatin1_0 17 rfl rfl)
theorem dJ9_isLatin1_18 : decode cJ9_isLatin1 18 = .ok (.ireturn, 1) := dk_172 (dk_at dksJ9_isLatin1_0 18 rfl rfl)
abbrev cJ9_hashCode : ByteArray := prog_40_method_78_code
def yJ9_hashCode : MethodName := ⟨RJ9, "hashCode", "()I"⟩
def dkwJ9_hashCode_2 : List UInt8 := [181, 0, 23, 167, 0, 8, 42, 27, 181, 0, 19, 27, 172]
abbrev dktJ9_hashCode_2 : List UInt8 := dkwJ9_hashCode_2 ++ []
def dkwJ9_hashCode_1 : List UInt8 := [180, 0, 9, 184, 2, 116, 167, 0, 10, 42, 180, 0, 9, 184, 2, 120, 60, 27, 154, 0, 11, 42, 4]
abbrev dktJ9_hashCode_1 : List UInt8 := dkwJ9_hashCode_1 ++ dktJ9_hashCode_2
def dkwJ9_hashCode_0 : List UInt8 := [42, 180, 0, 19, 60, 27, 154, 0, 52, 42, 180, 0, 23, 154, 0, 45, 42, 182, 1, 236, 153, 0, 13, 42]
abbrev dktJ9_hashCode_0 : List UInt8 := dkwJ9_hashCode_0 ++ dktJ9_hashCode_1
theorem dksJ9_hashCode_0 : cJ9_hashCode.data.toList.drop 0 = dktJ9_hashCode_0 := by decide +kernel
theorem dksJ9_hashCode_1 : cJ9_hashCode.data.toList.drop 24 = dktJ9_hashCode_1 := dk_seg dksJ9_hashCode_0 24 rfl rfl
theorem dksJ9_hashCode_2 : cJ9_hashCode.data.toList.drop 47 = dktJ9_hashCode_2 := dk_seg dksJ9_hashCode_1 23 rfl rfl
theorem dJ9_hashCode_0 : decode cJ9_hashCode 0 = .ok (.aload_n 0, 1) := dk_42 (dk_at dksJ9_hashCode_0 0 rfl rfl)
theorem dJ9_hashCode_1 : decode cJ9_hashCode 1 = .ok (.getfield 19, 3) := dk_180 0 19 (dk_at dksJ9_hashCode_0 1 rfl rfl)
theorem dJ9_hashCode_4 : decode cJ9_hashCode 4 = .ok (.istore_n 1, 1) := dk_60 (dk_at dksJ9_hashCode_0 4 rfl rfl)
theorem dJ9_hashCode_5 : decode cJ9_hashCode 5 = .ok (.iload_n 1, 1) := dk_27 (dk_at dksJ9_hashCode_0 5 rfl rfl)
theorem dJ9_hashCode_6 : decode cJ9_hashCode 6 = .ok (.ifCond .ne 52, 3) := dk_154 0 52 (dk_at dksJ9_hashCode_0 6 rfl rfl)
theorem dJ9_hashCode_9 : decode cJ9_hashCode 9 = .ok (.aload_n 0, 1) := dk_42 (dk_at dksJ9_hashCode_0 9 rfl rfl)
theorem dJ9_hashCode_10 : decode cJ9_hashCode 10 = .ok (.getfield 23, 3) := dk_180 0 23 (dk_at dksJ9_hashCode_0 10 rfl rfl)
theorem dJ9_hashCode_13 : decode cJ9_hashCode 13 = .ok (.ifCond .ne 45, 3) := dk_154 0 45 (dk_at dksJ9_hashCode_0 13 rfl rfl)
theorem dJ9_hashCode_16 : decode cJ9_hashCode 16 = .ok (.aload_n 0, 1) := dk_42 (dk_at dksJ9_hashCode_0 16 rfl rfl)
theorem dJ9_hashCode_17 : decode cJ9_hashCode 17 = .ok (.invokevirtual 492, 3) := dk_182 1 236 (dk_at dksJ9_hashCode_0 17 rfl rfl)
theorem dJ9_hashCode_20 : decode cJ9_hashCode 20 = .ok (.ifCond .eq 13, 3) := dk_153 0 13 (dk_at dksJ9_hashCode_0 20 rfl rfl)
theorem dJ9_hashCode_23 : decode cJ9_hashCode 23 = .ok (.aload_n 0, 1) := dk_42 (dk_at dksJ9_hashCode_0 23 rfl rfl)
theorem dJ9_hashCode_24 : decode cJ9_hashCode 24 = .ok (.getfield 9, 3) := dk_180 0 9 (dk_at dksJ9_hashCode_1 0 rfl rfl)
theorem dJ9_hashCode_27 : decode cJ9_hashCode 27 = .ok (.invokestatic 628, 3) := dk_184 2 116 (dk_at dksJ9_hashCode_1 3 rfl rfl)
theorem dJ9_hashCode_30 : decode cJ9_hashCode 30 = .ok (.goto 10, 3) := dk_167 0 10 (dk_at dksJ9_hashCode_1 6 rfl rfl)
theorem dJ9_hashCode_33 : decode cJ9_hashCode 33 = .ok (.aload_n 0, 1) := dk_42 (dk_at dksJ9_hashCode_1 9 rfl rfl)
theorem dJ9_hashCode_34 : decode cJ9_hashCode 34 = .ok (.getfield 9, 3) := dk_180 0 9 (dk_at dksJ9_hashCode_1 10 rfl rfl)
theorem dJ9_hashCode_37 : decode cJ9_hashCode 37 = .ok (.invokestatic 632, 3) := dk_184 2 120 (dk_at dksJ9_hashCode_1 13 rfl rfl)
theorem dJ9_hashCode_40 : decode cJ9_hashCode 40 = .ok (.istore_n 1, 1) := dk_60 (dk_at dksJ9_hashCode_1 16 rfl rfl)
theorem dJ9_hashCode_41 : decode cJ9_hashCode 41 = .ok (.iload_n 1, 1) := dk_27 (dk_at dksJ9_hashCode_1 17 rfl rfl)
theorem dJ9_hashCode_42 : decode cJ9_hashCode 42 = .ok (.ifCond .ne 11, 3) := dk_154 0 11 (dk_at dksJ9_hashCode_1 18 rfl rfl)
theorem dJ9_hashCode_45 : decode cJ9_hashCode 45 = .ok (.aload_n 0, 1) := dk_42 (dk_at dksJ9_hashCode_1 21 rfl rfl)
theorem dJ9_hashCode_46 : decode cJ9_hashCode 46 = .ok (.iconst 1, 1) := dk_4 (dk_at dksJ9_hashCode_1 22 rfl rfl)
theorem dJ9_hashCode_47 : decode cJ9_hashCode 47 = .ok (.putfield 23, 3) := dk_181 0 23 (dk_at dksJ9_hashCode_2 0 rfl rfl)
theorem dJ9_hashCode_50 : decode cJ9_hashCode 50 = .ok (.goto 8, 3) := dk_167 0 8 (dk_at dksJ9_hashCode_2 3 rfl rfl)
theorem dJ9_hashCode_53 : decode cJ9_hashCode 53 = .ok (.aload_n 0, 1) := dk_42 (dk_at dksJ9_hashCode_2 6 rfl rfl)
theorem dJ9_hashCode_54 : decode cJ9_hashCode 54 = .ok (.iload_n 1, 1) := dk_27 (dk_at dksJ9_hashCode_2 7 rfl rfl)
theorem dJ9_hashCode_55 : decode cJ9_hashCode 55 = .ok (.putfield 19, 3) := dk_181 0 19 (dk_at dksJ9_hashCode_2 8 rfl rfl)
theorem dJ9_hashCode_58 : decode cJ9_hashCode 58 = .ok (.iload_n 1, 1) := dk_27 (dk_at dksJ9_hashCode_2 11 rfl rfl)
theorem dJ9_hashCode_59 : decode cJ9_hashCode 59 = .ok (.ireturn, 1) := dk_172 (dk_at dksJ9_hashCode_2 12 rfl rfl)
abbrev cJ9_equals : ByteArray := prog_40_method_66_code
def yJ9_equals : MethodName := ⟨RJ9, "equals", "(Ljava/lang/Object;)Z"⟩
def dkwJ9_equals_2 : List UInt8 := [184, 2, 29, 153, 0, 7, 4, 167, 0, 4, 3, 172]
abbrev dktJ9_equals_2 : List UInt8 := dkwJ9_equals_2 ++ []
def dkwJ9_equals_1 : List UInt8 := [153, 0, 14, 42, 180, 0, 15, 44, 180, 0, 15, 160, 0, 21, 42, 180, 0, 9, 44, 180, 0, 9]
abbrev dktJ9_equals_1 : List UInt8 := dkwJ9_equals_1 ++ dktJ9_equals_2
def dkwJ9_equals_0 : List UInt8 := [42, 43, 166, 0, 5, 4, 172, 43, 193, 0, 10, 153, 0, 43, 43, 192, 0, 10, 77, 178, 0, 38]
abbrev dktJ9_equals_0 : List UInt8 := dkwJ9_equals_0 ++ dktJ9_equals_1
theorem dksJ9_equals_0 : cJ9_equals.data.toList.drop 0 = dktJ9_equals_0 := by decide +kernel
theorem dksJ9_equals_1 : cJ9_equals.data.toList.drop 22 = dktJ9_equals_1 := dk_seg dksJ9_equals_0 22 rfl rfl
theorem dksJ9_equals_2 : cJ9_equals.data.toList.drop 44 = dktJ9_equals_2 := dk_seg dksJ9_equals_1 22 rfl rfl
theorem dJ9_equals_0 : decode cJ9_equals 0 = .ok (.aload_n 0, 1) := dk_42 (dk_at dksJ9_equals_0 0 rfl rfl)
theorem dJ9_equals_1 : decode cJ9_equals 1 = .ok (.aload_n 1, 1) := dk_43 (dk_at dksJ9_equals_0 1 rfl rfl)
theorem dJ9_equals_2 : decode cJ9_equals 2 = .ok (.if_acmp .ne 5, 3) := dk_166 0 5 (dk_at dksJ9_equals_0 2 rfl rfl)
theorem dJ9_equals_5 : decode cJ9_equals 5 = .ok (.iconst 1, 1) := dk_4 (dk_at dksJ9_equals_0 5 rfl rfl)
theorem dJ9_equals_6 : decode cJ9_equals 6 = .ok (.ireturn, 1) := dk_172 (dk_at dksJ9_equals_0 6 rfl rfl)
theorem dJ9_equals_7 : decode cJ9_equals 7 = .ok (.aload_n 1, 1) := dk_43 (dk_at dksJ9_equals_0 7 rfl rfl)
theorem dJ9_equals_8 : decode cJ9_equals 8 = .ok (.instanceof 10, 3) := dk_193 0 10 (dk_at dksJ9_equals_0 8 rfl rfl)
theorem dJ9_equals_11 : decode cJ9_equals 11 = .ok (.ifCond .eq 43, 3) := dk_153 0 43 (dk_at dksJ9_equals_0 11 rfl rfl)
theorem dJ9_equals_14 : decode cJ9_equals 14 = .ok (.aload_n 1, 1) := dk_43 (dk_at dksJ9_equals_0 14 rfl rfl)
theorem dJ9_equals_15 : decode cJ9_equals 15 = .ok (.checkcast 10, 3) := dk_192 0 10 (dk_at dksJ9_equals_0 15 rfl rfl)
theorem dJ9_equals_18 : decode cJ9_equals 18 = .ok (.astore_n 2, 1) := dk_77 (dk_at dksJ9_equals_0 18 rfl rfl)
theorem dJ9_equals_19 : decode cJ9_equals 19 = .ok (.getstatic 38, 3) := dk_178 0 38 (dk_at dksJ9_equals_0 19 rfl rfl)
theorem dJ9_equals_22 : decode cJ9_equals 22 = .ok (.ifCond .eq 14, 3) := dk_153 0 14 (dk_at dksJ9_equals_1 0 rfl rfl)
theorem dJ9_equals_25 : decode cJ9_equals 25 = .ok (.aload_n 0, 1) := dk_42 (dk_at dksJ9_equals_1 3 rfl rfl)
theorem dJ9_equals_26 : decode cJ9_equals 26 = .ok (.getfield 15, 3) := dk_180 0 15 (dk_at dksJ9_equals_1 4 rfl rfl)
theorem dJ9_equals_29 : decode cJ9_equals 29 = .ok (.aload_n 2, 1) := dk_44 (dk_at dksJ9_equals_1 7 rfl rfl)
theorem dJ9_equals_30 : decode cJ9_equals 30 = .ok (.getfield 15, 3) := dk_180 0 15 (dk_at dksJ9_equals_1 8 rfl rfl)
theorem dJ9_equals_33 : decode cJ9_equals 33 = .ok (.if_icmp .ne 21, 3) := dk_160 0 21 (dk_at dksJ9_equals_1 11 rfl rfl)
theorem dJ9_equals_36 : decode cJ9_equals 36 = .ok (.aload_n 0, 1) := dk_42 (dk_at dksJ9_equals_1 14 rfl rfl)
theorem dJ9_equals_37 : decode cJ9_equals 37 = .ok (.getfield 9, 3) := dk_180 0 9 (dk_at dksJ9_equals_1 15 rfl rfl)
theorem dJ9_equals_40 : decode cJ9_equals 40 = .ok (.aload_n 2, 1) := dk_44 (dk_at dksJ9_equals_1 18 rfl rfl)
theorem dJ9_equals_41 : decode cJ9_equals 41 = .ok (.getfield 9, 3) := dk_180 0 9 (dk_at dksJ9_equals_1 19 rfl rfl)
theorem dJ9_equals_44 : decode cJ9_equals 44 = .ok (.invokestatic 541, 3) := dk_184 2 29 (dk_at dksJ9_equals_2 0 rfl rfl)
theorem dJ9_equals_47 : decode cJ9_equals 47 = .ok (.ifCond .eq 7, 3) := dk_153 0 7 (dk_at dksJ9_equals_2 3 rfl rfl)
theorem dJ9_equals_50 : decode cJ9_equals 50 = .ok (.iconst 1, 1) := dk_4 (dk_at dksJ9_equals_2 6 rfl rfl)
theorem dJ9_equals_51 : decode cJ9_equals 51 = .ok (.goto 4, 3) := dk_167 0 4 (dk_at dksJ9_equals_2 7 rfl rfl)
theorem dJ9_equals_54 : decode cJ9_equals 54 = .ok (.iconst 0, 1) := dk_3 (dk_at dksJ9_equals_2 10 rfl rfl)
theorem dJ9_equals_55 : decode cJ9_equals 55 = .ok (.ireturn, 1) := dk_172 (dk_at dksJ9_equals_2 11 rfl rfl)
abbrev cJ9_compareTo : ByteArray := prog_40_method_162_code
def yJ9_compareTo : MethodName := ⟨RJ9, "compareTo", "(Ljava/lang/Object;)I"⟩
def dkwJ9_compareTo_0 : List UInt8 := [42, 43, 192, 0, 10, 182, 4, 60, 172]
abbrev dktJ9_compareTo_0 : List UInt8 := dkwJ9_compareTo_0 ++ []
theorem dksJ9_compareTo_0 : cJ9_compareTo.data.toList.drop 0 = dktJ9_compareTo_0 := by decide +kernel
theorem dJ9_compareTo_0 : decode cJ9_compareTo 0 = .ok (.aload_n 0, 1) := dk_42 (dk_at dksJ9_compareTo_0 0 rfl rfl)
theorem dJ9_compareTo_1 : decode cJ9_compareTo 1 = .ok (.aload_n 1, 1) := dk_43 (dk_at dksJ9_compareTo_0 1 rfl rfl)
theorem dJ9_compareTo_2 : decode cJ9_compareTo 2 = .ok (.checkcast 10, 3) := dk_192 0 10 (dk_at dksJ9_compareTo_0 2 rfl rfl)
theorem dJ9_compareTo_5 : decode cJ9_compareTo 5 = .ok (.invokevirtual 1084, 3) := dk_182 4 60 (dk_at dksJ9_compareTo_0 5 rfl rfl)
theorem dJ9_compareTo_8 : decode cJ9_compareTo 8 = .ok (.ireturn, 1) := dk_172 (dk_at dksJ9_compareTo_0 8 rfl rfl)
abbrev cJ9_compareTo_2 : ByteArray := prog_40_method_71_code
def yJ9_compareTo_2 : MethodName := ⟨RJ9, "compareTo", "(Ljava/lang/String;)I"⟩
def dkwJ9_compareTo_2_2 : List UInt8 := [154, 0, 11, 44, 45, 184, 2, 79, 167, 0, 8, 44, 45, 184, 2, 82, 172]
abbrev dktJ9_compareTo_2_2 : List UInt8 := dkwJ9_compareTo_2_2 ++ []
def dkwJ9_compareTo_2_1 : List UInt8 := [160, 0, 22, 21, 4, 154, 0, 11, 44, 45, 184, 2, 74, 167, 0, 8, 44, 45, 184, 2, 78, 172, 21, 4]
abbrev dktJ9_compareTo_2_1 : List UInt8 := dkwJ9_compareTo_2_1 ++ dktJ9_compareTo_2_2
def dkwJ9_compareTo_2_0 : List UInt8 := [42, 180, 0, 9, 77, 43, 180, 0, 9, 78, 42, 182, 1, 79, 54, 4, 21, 4, 43, 182, 1, 79]
abbrev dktJ9_compareTo_2_0 : List UInt8 := dkwJ9_compareTo_2_0 ++ dktJ9_compareTo_2_1
theorem dksJ9_compareTo_2_0 : cJ9_compareTo_2.data.toList.drop 0 = dktJ9_compareTo_2_0 := by decide +kernel
theorem dksJ9_compareTo_2_1 : cJ9_compareTo_2.data.toList.drop 22 = dktJ9_compareTo_2_1 := dk_seg dksJ9_compareTo_2_0 22 rfl rfl
theorem dksJ9_compareTo_2_2 : cJ9_compareTo_2.data.toList.drop 46 = dktJ9_compareTo_2_2 := dk_seg dksJ9_compareTo_2_1 24 rfl rfl
theorem dJ9_compareTo_2_0 : decode cJ9_compareTo_2 0 = .ok (.aload_n 0, 1) := dk_42 (dk_at dksJ9_compareTo_2_0 0 rfl rfl)
theorem dJ9_compareTo_2_1 : decode cJ9_compareTo_2 1 = .ok (.getfield 9, 3) := dk_180 0 9 (dk_at dksJ9_compareTo_2_0 1 rfl rfl)
theorem dJ9_compareTo_2_4 : decode cJ9_compareTo_2 4 = .ok (.astore_n 2, 1) := dk_77 (dk_at dksJ9_compareTo_2_0 4 rfl rfl)
theorem dJ9_compareTo_2_5 : decode cJ9_compareTo_2 5 = .ok (.aload_n 1, 1) := dk_43 (dk_at dksJ9_compareTo_2_0 5 rfl rfl)
theorem dJ9_compareTo_2_6 : decode cJ9_compareTo_2 6 = .ok (.getfield 9, 3) := dk_180 0 9 (dk_at dksJ9_compareTo_2_0 6 rfl rfl)
theorem dJ9_compareTo_2_9 : decode cJ9_compareTo_2 9 = .ok (.astore_n 3, 1) := dk_78 (dk_at dksJ9_compareTo_2_0 9 rfl rfl)
theorem dJ9_compareTo_2_10 : decode cJ9_compareTo_2 10 = .ok (.aload_n 0, 1) := dk_42 (dk_at dksJ9_compareTo_2_0 10 rfl rfl)
theorem dJ9_compareTo_2_11 : decode cJ9_compareTo_2 11 = .ok (.invokevirtual 335, 3) := dk_182 1 79 (dk_at dksJ9_compareTo_2_0 11 rfl rfl)
theorem dJ9_compareTo_2_14 : decode cJ9_compareTo_2 14 = .ok (.istore 4, 2) := dk_54 4 (dk_at dksJ9_compareTo_2_0 14 rfl rfl)
theorem dJ9_compareTo_2_16 : decode cJ9_compareTo_2 16 = .ok (.iload 4, 2) := dk_21 4 (dk_at dksJ9_compareTo_2_0 16 rfl rfl)
theorem dJ9_compareTo_2_18 : decode cJ9_compareTo_2 18 = .ok (.aload_n 1, 1) := dk_43 (dk_at dksJ9_compareTo_2_0 18 rfl rfl)
theorem dJ9_compareTo_2_19 : decode cJ9_compareTo_2 19 = .ok (.invokevirtual 335, 3) := dk_182 1 79 (dk_at dksJ9_compareTo_2_0 19 rfl rfl)
theorem dJ9_compareTo_2_22 : decode cJ9_compareTo_2 22 = .ok (.if_icmp .ne 22, 3) := dk_160 0 22 (dk_at dksJ9_compareTo_2_1 0 rfl rfl)
theorem dJ9_compareTo_2_25 : decode cJ9_compareTo_2 25 = .ok (.iload 4, 2) := dk_21 4 (dk_at dksJ9_compareTo_2_1 3 rfl rfl)
theorem dJ9_compareTo_2_27 : decode cJ9_compareTo_2 27 = .ok (.ifCond .ne 11, 3) := dk_154 0 11 (dk_at dksJ9_compareTo_2_1 5 rfl rfl)
theorem dJ9_compareTo_2_30 : decode cJ9_compareTo_2 30 = .ok (.aload_n 2, 1) := dk_44 (dk_at dksJ9_compareTo_2_1 8 rfl rfl)
theorem dJ9_compareTo_2_31 : decode cJ9_compareTo_2 31 = .ok (.aload_n 3, 1) := dk_45 (dk_at dksJ9_compareTo_2_1 9 rfl rfl)
theorem dJ9_compareTo_2_32 : decode cJ9_compareTo_2 32 = .ok (.invokestatic 586, 3) := dk_184 2 74 (dk_at dksJ9_compareTo_2_1 10 rfl rfl)
theorem dJ9_compareTo_2_35 : decode cJ9_compareTo_2 35 = .ok (.goto 8, 3) := dk_167 0 8 (dk_at dksJ9_compareTo_2_1 13 rfl rfl)
theorem dJ9_compareTo_2_38 : decode cJ9_compareTo_2 38 = .ok (.aload_n 2, 1) := dk_44 (dk_at dksJ9_compareTo_2_1 16 rfl rfl)
theorem dJ9_compareTo_2_39 : decode cJ9_compareTo_2 39 = .ok (.aload_n 3, 1) := dk_45 (dk_at dksJ9_compareTo_2_1 17 rfl rfl)
theorem dJ9_compareTo_2_40 : decode cJ9_compareTo_2 40 = .ok (.invokestatic 590, 3) := dk_184 2 78 (dk_at dksJ9_compareTo_2_1 18 rfl rfl)
theorem dJ9_compareTo_2_43 : decode cJ9_compareTo_2 43 = .ok (.ireturn, 1) := dk_172 (dk_at dksJ9_compareTo_2_1 21 rfl rfl)
theorem dJ9_compareTo_2_44 : decode cJ9_compareTo_2 44 = .ok (.iload 4, 2) := dk_21 4 (dk_at dksJ9_compareTo_2_1 22 rfl rfl)
theorem dJ9_compareTo_2_46 : decode cJ9_compareTo_2 46 = .ok (.ifCond .ne 11, 3) := dk_154 0 11 (dk_at dksJ9_compareTo_2_2 0 rfl rfl)
theorem dJ9_compareTo_2_49 : decode cJ9_compareTo_2 49 = .ok (.aload_n 2, 1) := dk_44 (dk_at dksJ9_compareTo_2_2 3 rfl rfl)
theorem dJ9_compareTo_2_50 : decode cJ9_compareTo_2 50 = .ok (.aload_n 3, 1) := dk_45 (dk_at dksJ9_compareTo_2_2 4 rfl rfl)
theorem dJ9_compareTo_2_51 : decode cJ9_compareTo_2 51 = .ok (.invokestatic 591, 3) := dk_184 2 79 (dk_at dksJ9_compareTo_2_2 5 rfl rfl)
theorem dJ9_compareTo_2_54 : decode cJ9_compareTo_2 54 = .ok (.goto 8, 3) := dk_167 0 8 (dk_at dksJ9_compareTo_2_2 8 rfl rfl)
theorem dJ9_compareTo_2_57 : decode cJ9_compareTo_2 57 = .ok (.aload_n 2, 1) := dk_44 (dk_at dksJ9_compareTo_2_2 11 rfl rfl)
theorem dJ9_compareTo_2_58 : decode cJ9_compareTo_2 58 = .ok (.aload_n 3, 1) := dk_45 (dk_at dksJ9_compareTo_2_2 12 rfl rfl)
theorem dJ9_compareTo_2_59 : decode cJ9_compareTo_2 59 = .ok (.invokestatic 594, 3) := dk_184 2 82 (dk_at dksJ9_compareTo_2_2 13 rfl rfl)
theorem dJ9_compareTo_2_62 : decode cJ9_compareTo_2 62 = .ok (.ireturn, 1) := dk_172 (dk_at dksJ9_compareTo_2_2 16 rfl rfl)
abbrev cJ9_checkOffset : ByteArray := prog_40_method_156_code
def yJ9_checkOffset : MethodName := ⟨RJ9, "checkOffset", "(II)V"⟩
def dkwJ9_checkOffset_0 : List UInt8 := [26, 27, 27, 178, 4, 29, 184, 4, 38, 87, 177]
abbrev dktJ9_checkOffset_0 : List UInt8 := dkwJ9_checkOffset_0 ++ []
theorem dksJ9_checkOffset_0 : cJ9_checkOffset.data.toList.drop 0 = dktJ9_checkOffset_0 := by decide +kernel
theorem dJ9_checkOffset_0 : decode cJ9_checkOffset 0 = .ok (.iload_n 0, 1) := dk_26 (dk_at dksJ9_checkOffset_0 0 rfl rfl)
theorem dJ9_checkOffset_1 : decode cJ9_checkOffset 1 = .ok (.iload_n 1, 1) := dk_27 (dk_at dksJ9_checkOffset_0 1 rfl rfl)
theorem dJ9_checkOffset_2 : decode cJ9_checkOffset 2 = .ok (.iload_n 1, 1) := dk_27 (dk_at dksJ9_checkOffset_0 2 rfl rfl)
theorem dJ9_checkOffset_3 : decode cJ9_checkOffset 3 = .ok (.getstatic 1053, 3) := dk_178 4 29 (dk_at dksJ9_checkOffset_0 3 rfl rfl)
theorem dJ9_checkOffset_6 : decode cJ9_checkOffset 6 = .ok (.invokestatic 1062, 3) := dk_184 4 38 (dk_at dksJ9_checkOffset_0 6 rfl rfl)
theorem dJ9_checkOffset_9 : decode cJ9_checkOffset 9 = .ok (.pop, 1) := dk_87 (dk_at dksJ9_checkOffset_0 9 rfl rfl)
theorem dJ9_checkOffset_10 : decode cJ9_checkOffset 10 = .ok (.return_, 1) := dk_177 (dk_at dksJ9_checkOffset_0 10 rfl rfl)
theorem q118 : (Jvm.Cond.initialized "java/lang/String") ∈ lw_all := lw_g (lw_at lw_m1 11 rfl) rfl
theorem q241 : (Jvm.Cond.laysStatic "java/lang/String" "COMPACT_STRINGS" "Z") ∈ lw_tbl := lw_at lw_m1 134 rfl
theorem q252 : (Jvm.Cond.fieldLink "java/lang/String" (1048 : Nat) "java/lang/AbstractStringBuilder" "maybeLatin1" "Z") ∈ lw_all := lw_g (lw_at lw_m1 145 rfl) rfl
theorem q326 : (Jvm.Cond.static ({ cls := "java/lang/String", name := "checkBoundsBeginEnd", desc := "(III)V" } : Jvm.MethodName)) ∈ lw_all := lw_g (lw_at lw_m1 219 rfl) rfl
theorem q327 : (Jvm.Cond.code ({ cls := "java/lang/String", name := "checkBoundsBeginEnd", desc := "(III)V" } : Jvm.MethodName) prog_40_method_158_code (3 : Nat) (Option.none : Option Jvm.ClassFile.FieldType)) ∈ lw_all := lw_g (lw_at lw_m1 220 rfl) rfl
theorem q328 : (Jvm.Cond.fieldLink "java/lang/String" (1053 : Nat) "jdk/internal/util/Preconditions" "SIOOBE_FORMATTER" "Ljava/util/function/BiFunction;") ∈ lw_all := lw_g (lw_at lw_m1 221 rfl) rfl
theorem q330 : (Jvm.Cond.methodLink "java/lang/String" (1062 : Nat) ({ cls := "jdk/internal/util/Preconditions", name := "checkFromToIndex", desc := "(IIILjava/util/function/BiFunction;)I" } : Jvm.MethodName)) ∈ lw_all := lw_g (lw_at lw_m1 223 rfl) rfl
theorem q343 : (Jvm.Cond.instanceMethod ({ cls := "java/lang/String", name := "length", desc := "()I" } : Jvm.MethodName)) ∈ lw_all := lw_g (lw_at lw_m1 236 rfl) rfl
theorem q344 : (Jvm.Cond.selects "java/lang/String" ({ cls := "java/lang/String", name := "length", desc := "()I" } : Jvm.MethodName) ({ cls := "java/lang/String", name := "length", desc := "()I" } : Jvm.MethodName)) ∈ lw_all := lw_g (lw_at lw_m1 237 rfl) rfl
theorem q345 : (Jvm.Cond.code ({ cls := "java/lang/String", name := "length", desc := "()I" } : Jvm.MethodName) prog_40_method_54_code (1 : Nat) (Option.some Jvm.ClassFile.FieldType.int)) ∈ lw_all := lw_g (lw_at lw_m1 238 rfl) rfl
theorem q346 : (Jvm.Cond.methodLink "java/lang/String" (335 : Nat) ({ cls := "java/lang/String", name := "coder", desc := "()B" } : Jvm.MethodName)) ∈ lw_all := lw_g (lw_at lw_m1 239 rfl) rfl
theorem q347 : (Jvm.Cond.instanceMethod ({ cls := "java/lang/String", name := "coder", desc := "()B" } : Jvm.MethodName)) ∈ lw_all := lw_g (lw_at lw_m2 0 rfl) rfl
theorem q348 : (Jvm.Cond.selects "java/lang/String" ({ cls := "java/lang/String", name := "coder", desc := "()B" } : Jvm.MethodName) ({ cls := "java/lang/String", name := "coder", desc := "()B" } : Jvm.MethodName)) ∈ lw_all := lw_g (lw_at lw_m2 1 rfl) rfl
theorem q349 : (Jvm.Cond.code ({ cls := "java/lang/String", name := "coder", desc := "()B" } : Jvm.MethodName) prog_40_method_152_code (1 : Nat) (Option.some Jvm.ClassFile.FieldType.byte)) ∈ lw_all := lw_g (lw_at lw_m2 2 rfl) rfl
theorem q350 : (Jvm.Cond.fieldLink "java/lang/String" (38 : Nat) "java/lang/String" "COMPACT_STRINGS" "Z") ∈ lw_all := lw_g (lw_at lw_m2 3 rfl) rfl
theorem q374 : (Jvm.Cond.static ({ cls := "java/lang/String", name := "checkBoundsOffCount", desc := "(III)I" } : Jvm.MethodName)) ∈ lw_all := lw_g (lw_at lw_m2 27 rfl) rfl
theorem q375 : (Jvm.Cond.code ({ cls := "java/lang/String", name := "checkBoundsOffCount", desc := "(III)I" } : Jvm.MethodName) prog_40_method_157_code (3 : Nat) (Option.some Jvm.ClassFile.FieldType.int)) ∈ lw_all := lw_g (lw_at lw_m2 28 rfl) rfl
theorem q376 : (Jvm.Cond.methodLink "java/lang/String" (1065 : Nat) ({ cls := "jdk/internal/util/Preconditions", name := "checkFromIndexSize", desc := "(IIILjava/util/function/BiFunction;)I" } : Jvm.MethodName)) ∈ lw_all := lw_g (lw_at lw_m2 29 rfl) rfl
theorem q380 : (Jvm.Cond.instanceMethod ({ cls := "java/lang/String", name := "getBytes", desc := "([BIB)V" } : Jvm.MethodName)) ∈ lw_all := lw_g (lw_at lw_m2 33 rfl) rfl
theorem q381 : (Jvm.Cond.selects "java/lang/String" ({ cls := "java/lang/String", name := "getBytes", desc := "([BIB)V" } : Jvm.MethodName) ({ cls := "java/lang/String", name := "getBytes", desc := "([BIB)V" } : Jvm.MethodName)) ∈ lw_all := lw_g (lw_at lw_m2 34 rfl) rfl
theorem q382 : (Jvm.Cond.code ({ cls := "java/lang/String", name := "getBytes", desc := "([BIB)V" } : Jvm.MethodName) prog_40_method_147_code (4 : Nat) (Option.none : Option Jvm.ClassFile.FieldType)) ∈ lw_all := lw_g (lw_at lw_m2 35 rfl) rfl
theorem q383 : (Jvm.Cond.methodLink "java/lang/String" (212 : Nat) ({ cls := "java/lang/System", name := "arraycopy", desc := "(Ljava/lang/Object;ILjava/lang/Object;II)V" } : Jvm.MethodName)) ∈ lw_all := lw_g (lw_at lw_m2 36 rfl) rfl
theorem q384 : (Jvm.Cond.methodLink "java/lang/String" (106 : Nat) ({ cls := "java/lang/StringLatin1", name := "inflate", desc := "([BI[BII)V" } : Jvm.MethodName)) ∈ lw_all := lw_g (lw_at lw_m2 37 rfl) rfl
theorem q415 : (Jvm.Cond.instantiable "java/lang/String" (4 : Nat)) ∈ lw_all := lw_g (lw_at lw_m2 68 rfl) rfl
theorem q417 : (Jvm.Cond.instanceMethod ({ cls := "java/lang/String", name := "<init>", desc := "(Ljava/lang/StringBuilder;)V" } : Jvm.MethodName)) ∈ lw_all := lw_g (lw_at lw_m2 70 rfl) rfl
theorem q418 : (Jvm.Cond.code ({ cls := "java/lang/String", name := "<init>", desc := "(Ljava/lang/StringBuilder;)V" } : Jvm.MethodName) prog_40_method_53_code (2 : Nat) (Option.none : Option Jvm.ClassFile.FieldType)) ∈ lw_all := lw_g (lw_at lw_m2 71 rfl) rfl
theorem q419 : (Jvm.Cond.methodLink "java/lang/String" (489 : Nat) ({ cls := "java/lang/String", name := "<init>", desc := "(Ljava/lang/AbstractStringBuilder;Ljava/lang/Void;)V" } : Jvm.MethodName)) ∈ lw_all := lw_g (lw_at lw_m2 72 rfl) rfl
theorem q420 : (Jvm.Cond.instanceMethod ({ cls := "java/lang/String", name := "<init>", desc := "(Ljava/lang/AbstractStringBuilder;Ljava/lang/Void;)V" } : Jvm.MethodName)) ∈ lw_all := lw_g (lw_at lw_m2 73 rfl) rfl
theorem q421 : (Jvm.Cond.code ({ cls := "java/lang/String", name := "<init>", desc := "(Ljava/lang/AbstractStringBuilder;Ljava/lang/Void;)V" } : Jvm.MethodName) prog_40_method_150_code (5 : Nat) (Option.none : Option Jvm.ClassFile.FieldType)) ∈ lw_all := lw_g (lw_at lw_m2 74 rfl) rfl
theorem q422 : (Jvm.Cond.methodLink "java/lang/String" (1 : Nat) ({ cls := "java/lang/Object", name := "<init>", desc := "()V" } : Jvm.MethodName)) ∈ lw_all := lw_g (lw_at lw_m2 75 rfl) rfl
theorem q423 : (Jvm.Cond.methodLink "java/lang/String" (552 : Nat) ({ cls := "java/lang/AbstractStringBuilder", name := "getValue", desc := "()[B" } : Jvm.MethodName)) ∈ lw_all := lw_g (lw_at lw_m2 76 rfl) rfl
theorem q428 : (Jvm.Cond.methodLink "java/lang/String" (549 : Nat) ({ cls := "java/lang/AbstractStringBuilder", name := "length", desc := "()I" } : Jvm.MethodName)) ∈ lw_all := lw_g (lw_at lw_m2 81 rfl) rfl
theorem q436 : (Jvm.Cond.methodLink "java/lang/String" (1047 : Nat) ({ cls := "java/lang/AbstractStringBuilder", name := "isLatin1", desc := "()Z" } : Jvm.MethodName)) ∈ lw_all := lw_g (lw_at lw_m2 89 rfl) rfl
theorem q437 : (Jvm.Cond.methodLink "java/lang/String" (54 : Nat) ({ cls := "java/util/Arrays", name := "copyOfRange", desc := "([BII)[B" } : Jvm.MethodName)) ∈ lw_all := lw_g (lw_at lw_m2 90 rfl) rfl
theorem q478 : (Jvm.Cond.methodLink "java/lang/String" (1051 : Nat) ({ cls := "java/lang/StringUTF16", name := "compress", desc := "([BII)[B" } : Jvm.MethodName)) ∈ lw_all := lw_g (lw_at lw_m2 131 rfl) rfl
theorem q488 : (Jvm.Cond.methodLink "java/lang/String" (47 : Nat) ({ cls := "java/lang/StringUTF16", name := "coderFromArrayLen", desc := "([BI)B" } : Jvm.MethodName)) ∈ lw_all := lw_g (lw_at lw_m2 141 rfl) rfl
theorem q491 : (Jvm.Cond.fieldLink "java/lang/String" (9 : Nat) "java/lang/String" "value" "[B") ∈ lw_all := lw_g (lw_at lw_m2 144 rfl) rfl
theorem q492 : (Jvm.Cond.fieldLink "java/lang/String" (15 : Nat) "java/lang/String" "coder" "B") ∈ lw_all := lw_g (lw_at lw_m2 145 rfl) rfl
theorem q493 : (Jvm.Cond.fieldLink "java/lang/String" (19 : Nat) "java/lang/String" "hash" "I") ∈ lw_all := lw_g (lw_at lw_m2 146 rfl) rfl
theorem q494 : (Jvm.Cond.fieldLink "java/lang/String" (23 : Nat) "java/lang/String" "hashIsZero" "Z") ∈ lw_all := lw_g (lw_at lw_m2 147 rfl) rfl
theorem q495 : (Jvm.Cond.laysFinal "java/lang/String" "java/lang/String" "value" "[B") ∈ lw_all := lw_g (lw_at lw_m2 148 rfl) rfl
theorem q496 : (Jvm.Cond.soleField "java/lang/String" "value") ∈ lw_all := lw_g (lw_at lw_m2 149 rfl) rfl
theorem q497 : (Jvm.Cond.laysFinal "java/lang/String" "java/lang/String" "coder" "B") ∈ lw_all := lw_g (lw_at lw_m2 150 rfl) rfl
theorem q498 : (Jvm.Cond.soleField "java/lang/String" "coder") ∈ lw_all := lw_g (lw_at lw_m2 151 rfl) rfl
theorem q499 : (Jvm.Cond.lays "java/lang/String" "java/lang/String" "hash" "I") ∈ lw_all := lw_g (lw_at lw_m2 152 rfl) rfl
theorem q500 : (Jvm.Cond.soleField "java/lang/String" "hash") ∈ lw_all := lw_g (lw_at lw_m2 153 rfl) rfl
theorem q501 : (Jvm.Cond.lays "java/lang/String" "java/lang/String" "hashIsZero" "Z") ∈ lw_all := lw_g (lw_at lw_m2 154 rfl) rfl
theorem q502 : (Jvm.Cond.soleField "java/lang/String" "hashIsZero") ∈ lw_all := lw_g (lw_at lw_m2 155 rfl) rfl
theorem q503 : (Jvm.Cond.superclass "java/lang/String" "java/lang/Object") ∈ lw_all := lw_g (lw_at lw_m2 156 rfl) rfl
theorem q1010 : (Jvm.Cond.static ({ cls := "java/lang/String", name := "checkIndex", desc := "(II)V" } : Jvm.MethodName)) ∈ lw_all := lw_g (lw_at lw_m4 183 rfl) rfl
theorem q1011 : (Jvm.Cond.code ({ cls := "java/lang/String", name := "checkIndex", desc := "(II)V" } : Jvm.MethodName) prog_40_method_155_code (2 : Nat) (Option.none : Option Jvm.ClassFile.FieldType)) ∈ lw_all := lw_g (lw_at lw_m4 184 rfl) rfl
theorem q1012 : (Jvm.Cond.methodLink "java/lang/String" (1059 : Nat) ({ cls := "jdk/internal/util/Preconditions", name := "checkIndex", desc := "(IILjava/util/function/BiFunction;)I" } : Jvm.MethodName)) ∈ lw_all := lw_g (lw_at lw_m4 185 rfl) rfl
theorem q1136 : (Jvm.Cond.selects "java/lang/String" ({ cls := "java/lang/Object", name := "getClass", desc := "()Ljava/lang/Class;" } : Jvm.MethodName) ({ cls := "java/lang/Object", name := "getClass", desc := "()Ljava/lang/Class;" } : Jvm.MethodName)) ∈ lw_all := lw_g (lw_at lw_m5 69 rfl) rfl
theorem q1187 : (Jvm.Cond.instanceMethod ({ cls := "java/lang/String", name := "indexOf", desc := "(I)I" } : Jvm.MethodName)) ∈ lw_all := lw_g (lw_at lw_m5 120 rfl) rfl
theorem q1188 : (Jvm.Cond.selects "java/lang/String" ({ cls := "java/lang/String", name := "indexOf", desc := "(I)I" } : Jvm.MethodName) ({ cls := "java/lang/String", name := "indexOf", desc := "(I)I" } : Jvm.MethodName)) ∈ lw_all := lw_g (lw_at lw_m5 121 rfl) rfl
theorem q1189 : (Jvm.Cond.code ({ cls := "java/lang/String", name := "indexOf", desc := "(I)I" } : Jvm.MethodName) prog_40_method_79_code (2 : Nat) (Option.some Jvm.ClassFile.FieldType.int)) ∈ lw_all := lw_g (lw_at lw_m5 122 rfl) rfl
theorem q1190 : (Jvm.Cond.methodLink "java/lang/String" (633 : Nat) ({ cls := "java/lang/String", name := "indexOf", desc := "(II)I" } : Jvm.MethodName)) ∈ lw_all := lw_g (lw_at lw_m5 123 rfl) rfl
theorem q1191 : (Jvm.Cond.instanceMethod ({ cls := "java/lang/String", name := "indexOf", desc := "(II)I" } : Jvm.MethodName)) ∈ lw_all := lw_g (lw_at lw_m5 124 rfl) rfl
theorem q1192 : (Jvm.Cond.selects "java/lang/String" ({ cls := "java/lang/String", name := "indexOf", desc := "(II)I" } : Jvm.MethodName) ({ cls := "java/lang/String", name := "indexOf", desc := "(II)I" } : Jvm.MethodName)) ∈ lw_all := lw_g (lw_at lw_m5 125 rfl) rfl
theorem q1193 : (Jvm.Cond.code ({ cls := "java/lang/String", name := "indexOf", desc := "(II)I" } : Jvm.MethodName) prog_40_method_80_code (3 : Nat) (Option.some Jvm.ClassFile.FieldType.int)) ∈ lw_all := lw_g (lw_at lw_m5 126 rfl) rfl
theorem q1194 : (Jvm.Cond.methodLink "java/lang/String" (492 : Nat) ({ cls := "java/lang/String", name := "isLatin1", desc := "()Z" } : Jvm.MethodName)) ∈ lw_all := lw_g (lw_at lw_m5 127 rfl) rfl
theorem q1195 : (Jvm.Cond.instanceMethod ({ cls := "java/lang/String", name := "isLatin1", desc := "()Z" } : Jvm.MethodName)) ∈ lw_all := lw_g (lw_at lw_m5 128 rfl) rfl
theorem q1196 : (Jvm.Cond.selects "java/lang/String" ({ cls := "java/lang/String", name := "isLatin1", desc := "()Z" } : Jvm.MethodName) ({ cls := "java/lang/String", name := "isLatin1", desc := "()Z" } : Jvm.MethodName)) ∈ lw_all := lw_g (lw_at lw_m5 129 rfl) rfl
theorem q1197 : (Jvm.Cond.code ({ cls := "java/lang/String", name := "isLatin1", desc := "()Z" } : Jvm.MethodName) prog_40_method_154_code (1 : Nat) (Option.some Jvm.ClassFile.FieldType.boolean)) ∈ lw_all := lw_g (lw_at lw_m5 130 rfl) rfl
theorem q1198 : (Jvm.Cond.methodLink "java/lang/String" (505 : Nat) ({ cls := "java/lang/String", name := "length", desc := "()I" } : Jvm.MethodName)) ∈ lw_all := lw_g (lw_at lw_m5 131 rfl) rfl
theorem q1199 : (Jvm.Cond.methodLink "java/lang/String" (637 : Nat) ({ cls := "java/lang/StringLatin1", name := "indexOf", desc := "([BIII)I" } : Jvm.MethodName)) ∈ lw_all := lw_g (lw_at lw_m5 132 rfl) rfl
theorem q1210 : (Jvm.Cond.methodLink "java/lang/String" (640 : Nat) ({ cls := "java/lang/StringUTF16", name := "indexOf", desc := "([BIII)I" } : Jvm.MethodName)) ∈ lw_all := lw_g (lw_at lw_m5 143 rfl) rfl
theorem q1306 : (Jvm.Cond.selects "java/lang/String" ({ cls := "java/lang/Object", name := "hashCode", desc := "()I" } : Jvm.MethodName) ({ cls := "java/lang/String", name := "hashCode", desc := "()I" } : Jvm.MethodName)) ∈ lw_all := lw_g (lw_at lw_m5 239 rfl) rfl
theorem q1307 : (Jvm.Cond.instanceMethod ({ cls := "java/lang/String", name := "hashCode", desc := "()I" } : Jvm.MethodName)) ∈ lw_all := lw_g (lw_at lw_m6 0 rfl) rfl
theorem q1308 : (Jvm.Cond.code ({ cls := "java/lang/String", name := "hashCode", desc := "()I" } : Jvm.MethodName) prog_40_method_78_code (2 : Nat) (Option.some Jvm.ClassFile.FieldType.int)) ∈ lw_all := lw_g (lw_at lw_m6 1 rfl) rfl
theorem q1309 : (Jvm.Cond.methodLink "java/lang/String" (628 : Nat) ({ cls := "java/lang/StringLatin1", name := "hashCode", desc := "([B)I" } : Jvm.MethodName)) ∈ lw_all := lw_g (lw_at lw_m6 2 rfl) rfl
theorem q1358 : (Jvm.Cond.methodLink "java/lang/String" (632 : Nat) ({ cls := "java/lang/StringUTF16", name := "hashCode", desc := "([B)I" } : Jvm.MethodName)) ∈ lw_all := lw_g (lw_at lw_m6 51 rfl) rfl
theorem q1406 : (Jvm.Cond.selects "java/lang/String" ({ cls := "java/lang/Object", name := "equals", desc := "(Ljava/lang/Object;)Z" } : Jvm.MethodName) ({ cls := "java/lang/String", name := "equals", desc := "(Ljava/lang/Object;)Z" } : Jvm.MethodName)) ∈ lw_all := lw_g (lw_at lw_m6 99 rfl) rfl
theorem q1407 : (Jvm.Cond.instanceMethod ({ cls := "java/lang/String", name := "equals", desc := "(Ljava/lang/Object;)Z" } : Jvm.MethodName)) ∈ lw_all := lw_g (lw_at lw_m6 100 rfl) rfl
theorem q1408 : (Jvm.Cond.code ({ cls := "java/lang/String", name := "equals", desc := "(Ljava/lang/Object;)Z" } : Jvm.MethodName) prog_40_method_66_code (3 : Nat) (Option.some Jvm.ClassFile.FieldType.boolean)) ∈ lw_all := lw_g (lw_at lw_m6 101 rfl) rfl
theorem q1409 : (Jvm.Cond.classLink "java/lang/String" (10 : Nat) "java/lang/String") ∈ lw_all := lw_g (lw_at lw_m6 102 rfl) rfl
theorem q1410 : (Jvm.Cond.methodLink "java/lang/String" (541 : Nat) ({ cls := "java/lang/StringLatin1", name := "equals", desc := "([B[B)Z" } : Jvm.MethodName)) ∈ lw_all := lw_g (lw_at lw_m6 103 rfl) rfl
theorem q1469 : (Jvm.Cond.castable "java/lang/String" "java/lang/Comparable") ∈ lw_tbl := lw_at lw_m6 162 rfl
theorem q1470 : (Jvm.Cond.selects "java/lang/String" ({ cls := "java/lang/Comparable", name := "compareTo", desc := "(Ljava/lang/Object;)I" } : Jvm.MethodName) ({ cls := "java/lang/String", name := "compareTo", desc := "(Ljava/lang/Object;)I" } : Jvm.MethodName)) ∈ lw_all := lw_g (lw_at lw_m6 163 rfl) rfl
theorem q1471 : (Jvm.Cond.unhidden "java/lang/String" "compareTo" "(Ljava/lang/Object;)I") ∈ lw_tbl := lw_at lw_m6 164 rfl
theorem q1472 : (Jvm.Cond.instanceMethod ({ cls := "java/lang/String", name := "compareTo", desc := "(Ljava/lang/Object;)I" } : Jvm.MethodName)) ∈ lw_all := lw_g (lw_at lw_m6 165 rfl) rfl
theorem q1473 : (Jvm.Cond.publicMethod ({ cls := "java/lang/String", name := "compareTo", desc := "(Ljava/lang/Object;)I" } : Jvm.MethodName)) ∈ lw_tbl := lw_at lw_m6 166 rfl
theorem q1474 : (Jvm.Cond.code ({ cls := "java/lang/String", name := "compareTo", desc := "(Ljava/lang/Object;)I" } : Jvm.MethodName) prog_40_method_162_code (2 : Nat) (Option.some Jvm.ClassFile.FieldType.int)) ∈ lw_all := lw_g (lw_at lw_m6 167 rfl) rfl
theorem q1475 : (Jvm.Cond.methodLink "java/lang/String" (1084 : Nat) ({ cls := "java/lang/String", name := "compareTo", desc := "(Ljava/lang/String;)I" } : Jvm.MethodName)) ∈ lw_all := lw_g (lw_at lw_m6 168 rfl) rfl
theorem q1476 : (Jvm.Cond.instanceMethod ({ cls := "java/lang/String", name := "compareTo", desc := "(Ljava/lang/String;)I" } : Jvm.MethodName)) ∈ lw_all := lw_g (lw_at lw_m6 169 rfl) rfl
theorem q1477 : (Jvm.Cond.selects "java/lang/String" ({ cls := "java/lang/String", name := "compareTo", desc := "(Ljava/lang/String;)I" } : Jvm.MethodName) ({ cls := "java/lang/String", name := "compareTo", desc := "(Ljava/lang/String;)I" } : Jvm.MethodName)) ∈ lw_all := lw_g (lw_at lw_m6 170 rfl) rfl
theorem q1478 : (Jvm.Cond.code ({ cls := "java/lang/String", name := "compareTo", desc := "(Ljava/lang/String;)I" } : Jvm.MethodName) prog_40_method_71_code (5 : Nat) (Option.some Jvm.ClassFile.FieldType.int)) ∈ lw_all := lw_g (lw_at lw_m6 171 rfl) rfl
theorem q1479 : (Jvm.Cond.methodLink "java/lang/String" (586 : Nat) ({ cls := "java/lang/StringLatin1", name := "compareTo", desc := "([B[B)I" } : Jvm.MethodName)) ∈ lw_all := lw_g (lw_at lw_m6 172 rfl) rfl
theorem q1592 : (Jvm.Cond.methodLink "java/lang/String" (590 : Nat) ({ cls := "java/lang/StringUTF16", name := "compareTo", desc := "([B[B)I" } : Jvm.MethodName)) ∈ lw_all := lw_g (lw_at lw_m7 45 rfl) rfl
theorem q1598 : (Jvm.Cond.methodLink "java/lang/String" (591 : Nat) ({ cls := "java/lang/StringLatin1", name := "compareToUTF16", desc := "([B[B)I" } : Jvm.MethodName)) ∈ lw_all := lw_g (lw_at lw_m7 51 rfl) rfl
theorem q1609 : (Jvm.Cond.methodLink "java/lang/String" (594 : Nat) ({ cls := "java/lang/StringUTF16", name := "compareToLatin1", desc := "([B[B)I" } : Jvm.MethodName)) ∈ lw_all := lw_g (lw_at lw_m7 62 rfl) rfl
theorem q1635 : (Jvm.Cond.static ({ cls := "java/lang/String", name := "checkOffset", desc := "(II)V" } : Jvm.MethodName)) ∈ lw_all := lw_g (lw_at lw_m7 88 rfl) rfl
theorem q1636 : (Jvm.Cond.code ({ cls := "java/lang/String", name := "checkOffset", desc := "(II)V" } : Jvm.MethodName) prog_40_method_156_code (2 : Nat) (Option.none : Option Jvm.ClassFile.FieldType)) ∈ lw_all := lw_g (lw_at lw_m7 89 rfl) rfl
theorem q3296 : (Jvm.Cond.castable "java/lang/String" "java/lang/Object") ∈ lw_tbl := lw_at lw_m14 69 rfl
theorem in_J9 : ∀ w ∈ wsJ90, w ∈ lw_all := lw_in wsJ90 [495, 497, 499, 501] (by decide +kernel) (by decide +kernel)

theorem q2376 : (Jvm.Cond.interfaceMethod "AnimationController$Test" "AnimationController$Test" "holds" "(I)Z") ∈ lw_tbl := lw_at lw_m10 109 rfl
set_option maxRecDepth 100000
theorem q2377 : (Jvm.Cond.declares ({ cls := "AnimationController$Test", name := "holds", desc := "(I)Z" } : Jvm.MethodName)) ∈ lw_tbl := lw_at lw_m10 110 rfl

theorem q299 : (Jvm.Cond.sameMethod "[B" "java/lang/Object" "clone" "()Ljava/lang/Object;") ∈ lw_all := lw_g (lw_at lw_m1 192 rfl) rfl
set_option maxRecDepth 100000
theorem q302 : (Jvm.Cond.selects "[B" ({ cls := "[B", name := "clone", desc := "()Ljava/lang/Object;" } : Jvm.MethodName) ({ cls := "java/lang/Object", name := "clone", desc := "()Ljava/lang/Object;" } : Jvm.MethodName)) ∈ lw_all := lw_g (lw_at lw_m1 195 rfl) rfl
theorem q303 : (Jvm.Cond.castable "[B" "java/lang/Cloneable") ∈ lw_tbl := lw_at lw_m1 196 rfl
theorem q3332 : (Jvm.Cond.castable "[B" "java/lang/Object") ∈ lw_tbl := lw_at lw_m14 105 rfl

theorem q3333 : (Jvm.Cond.castable "[I" "java/lang/Object") ∈ lw_tbl := lw_at lw_m14 106 rfl
set_option maxRecDepth 100000

theorem q3338 : (Jvm.Cond.castable "[J" "java/lang/Object") ∈ lw_tbl := lw_at lw_m14 111 rfl
set_option maxRecDepth 100000

theorem q3335 : (Jvm.Cond.castable "[LAnimationController$Condition;" "java/lang/Object") ∈ lw_tbl := lw_at lw_m14 108 rfl
set_option maxRecDepth 100000

theorem q3337 : (Jvm.Cond.castable "[LAnimationController$Node;" "java/lang/Object") ∈ lw_tbl := lw_at lw_m14 110 rfl
set_option maxRecDepth 100000

theorem q3328 : (Jvm.Cond.sameMethod "[Ljava/lang/Object;" "java/lang/Object" "getClass" "()Ljava/lang/Class;") ∈ lw_all := lw_g (lw_at lw_m14 101 rfl) rfl
set_option maxRecDepth 100000
theorem q3329 : (Jvm.Cond.selects "[Ljava/lang/Object;" ({ cls := "java/lang/Object", name := "getClass", desc := "()Ljava/lang/Class;" } : Jvm.MethodName) ({ cls := "java/lang/Object", name := "getClass", desc := "()Ljava/lang/Class;" } : Jvm.MethodName)) ∈ lw_all := lw_g (lw_at lw_m14 102 rfl) rfl
theorem q3331 : (Jvm.Cond.castable "[Ljava/lang/Object;" "java/lang/Object") ∈ lw_tbl := lw_at lw_m14 104 rfl

theorem q3336 : (Jvm.Cond.castable "[Ljava/util/HashMap$Node;" "java/lang/Object") ∈ lw_tbl := lw_at lw_m14 109 rfl
set_option maxRecDepth 100000

theorem q3334 : (Jvm.Cond.castable "[Z" "java/lang/Object") ∈ lw_tbl := lw_at lw_m14 107 rfl
set_option maxRecDepth 100000

theorem q154 : (Jvm.Cond.initialized "java/lang/Character$CharacterCache") ∈ lw_all := lw_g (lw_at lw_m1 47 rfl) rfl
set_option maxRecDepth 100000
theorem q1240 : (Jvm.Cond.laysStatic "java/lang/Character$CharacterCache" "cache" "[Ljava/lang/Character;") ∈ lw_tbl := lw_at lw_m5 173 rfl

theorem q1443 : (Jvm.Cond.interfaceMethod "java/lang/Comparable" "java/lang/Comparable" "compareTo" "(Ljava/lang/Object;)I") ∈ lw_tbl := lw_at lw_m6 136 rfl
set_option maxRecDepth 100000
theorem q1444 : (Jvm.Cond.declares ({ cls := "java/lang/Comparable", name := "compareTo", desc := "(Ljava/lang/Object;)I" } : Jvm.MethodName)) ∈ lw_tbl := lw_at lw_m6 137 rfl

theorem q162 : (Jvm.Cond.initialized "java/lang/Integer$IntegerCache") ∈ lw_all := lw_g (lw_at lw_m1 55 rfl) rfl
set_option maxRecDepth 100000
theorem q2608 : (Jvm.Cond.laysStatic "java/lang/Integer$IntegerCache" "high" "I") ∈ lw_tbl := lw_at lw_m11 101 rfl
theorem q2610 : (Jvm.Cond.laysStatic "java/lang/Integer$IntegerCache" "cache" "[Ljava/lang/Integer;") ∈ lw_tbl := lw_at lw_m11 103 rfl

theorem q123 : (Jvm.Cond.initialized "java/lang/System") ∈ lw_all := lw_g (lw_at lw_m1 16 rfl) rfl
set_option maxRecDepth 100000
theorem q309 : (Jvm.Cond.static ({ cls := "java/lang/System", name := "arraycopy", desc := "(Ljava/lang/Object;ILjava/lang/Object;II)V" } : Jvm.MethodName)) ∈ lw_all := lw_g (lw_at lw_m1 202 rfl) rfl
theorem q310 : (Jvm.Cond.native ({ cls := "java/lang/System", name := "arraycopy", desc := "(Ljava/lang/Object;ILjava/lang/Object;II)V" } : Jvm.MethodName)) ∈ lw_all := lw_g (lw_at lw_m1 203 rfl) rfl

theorem q1326 : (Jvm.Cond.interfaceMethod "jdk/internal/access/JavaLangAccess" "jdk/internal/access/JavaLangAccess" "getUTF16Char" "([BI)C") ∈ lw_tbl := lw_at lw_m6 19 rfl
set_option maxRecDepth 100000
theorem q1327 : (Jvm.Cond.declares ({ cls := "jdk/internal/access/JavaLangAccess", name := "getUTF16Char", desc := "([BI)C" } : Jvm.MethodName)) ∈ lw_tbl := lw_at lw_m6 20 rfl

theorem q156 : (Jvm.Cond.initialized "jdk/internal/misc/UnsafeConstants") ∈ lw_all := lw_g (lw_at lw_m1 49 rfl) rfl
set_option maxRecDepth 100000
theorem q1525 : (Jvm.Cond.laysStatic "jdk/internal/misc/UnsafeConstants" "BIG_ENDIAN" "Z") ∈ lw_tbl := lw_at lw_m6 218 rfl

theorem q185 : (Jvm.Cond.arrayOver (Jvm.ClassFile.FieldType.object "java/lang/Object")) ∈ lw_tbl := lw_at lw_m1 78 rfl
set_option maxRecDepth 100000
theorem q263 : (Jvm.Cond.arrayClass Jvm.ClassFile.FieldType.byte) ∈ lw_all := lw_g (lw_at lw_m1 156 rfl) rfl
theorem q544 : (Jvm.Cond.arrayClass Jvm.ClassFile.FieldType.int) ∈ lw_all := lw_g (lw_at lw_m2 197 rfl) rfl
theorem q780 : (Jvm.Cond.arrayClass Jvm.ClassFile.FieldType.boolean) ∈ lw_all := lw_g (lw_at lw_m3 193 rfl) rfl
theorem q1045 : (Jvm.Cond.arrayOver (Jvm.ClassFile.FieldType.object "AnimationController$Condition")) ∈ lw_tbl := lw_at lw_m4 218 rfl
theorem q1673 : (Jvm.Cond.arrayOver (Jvm.ClassFile.FieldType.object "java/util/HashMap$Node")) ∈ lw_tbl := lw_at lw_m7 126 rfl
theorem q2130 : (Jvm.Cond.arrayOver (Jvm.ClassFile.FieldType.object "AnimationController$Node")) ∈ lw_tbl := lw_at lw_m9 103 rfl
theorem q2858 : (Jvm.Cond.arrayClass Jvm.ClassFile.FieldType.long) ∈ lw_all := lw_g (lw_at lw_m12 111 rfl) rfl
theorem q3339 : (Jvm.Cond.arrayClass Jvm.ClassFile.FieldType.char) ∈ lw_all := lw_g (lw_at lw_m14 112 rfl) rfl
theorem q3340 : (Jvm.Cond.arrayClass Jvm.ClassFile.FieldType.short) ∈ lw_all := lw_g (lw_at lw_m14 113 rfl) rfl
