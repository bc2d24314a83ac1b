set_option maxRecDepth 100000
def RJ0 : String := "java/util/AbstractMap"
abbrev cJ0_init : ByteArray := prog_41_method_1_code
def yJ0_init : MethodName := ⟨RJ0, "<init>", "()V"⟩
def RJ1 : String := "java/util/TreeMap"
def TJ1 : u_T := fun k => match k with
  | 0 => ("java/util/AbstractMap", "keySet", "Ljava/util/Set;", false)
  | 1 => ("java/util/AbstractMap", "values", "Ljava/util/Collection;", false)
  | 2 => ("java/util/TreeMap", "comparator", "Ljava/util/Comparator;", true)
  | 3 => ("java/util/TreeMap", "root", "Ljava/util/TreeMap$Entry;", false)
  | 4 => ("java/util/TreeMap", "size", "I", false)
  | 5 => ("java/util/TreeMap", "modCount", "I", false)
  | 6 => ("java/util/TreeMap", "entrySet", "Ljava/util/TreeMap$EntrySet;", false)
  | 7 => ("java/util/TreeMap", "navigableKeySet", "Ljava/util/TreeMap$KeySet;", false)
  | _ => ("java/util/TreeMap", "descendingMap", "Ljava/util/NavigableMap;", false)
def tyJ1 : Nat → FieldType := fun k => match k with
  | 0 => .object "java/util/Set"
  | 1 => .object "java/util/Collection"
  | 2 => .object "java/util/Comparator"
  | 3 => .object "java/util/TreeMap$Entry"
  | 4 => .int
  | 5 => .int
  | 6 => .object "java/util/TreeMap$EntrySet"
  | 7 => .object "java/util/TreeMap$KeySet"
  | _ => .object "java/util/NavigableMap"
abbrev wsJ10 : List Cond := u_ws RJ1 TJ1 9
theorem nmJ1 : ∀ a, a < 9 → ∀ b, b < 9 → a ≠ b → (TJ1 a).2.1 ≠ (TJ1 b).2.1 := by decide +kernel
theorem tyJ1_ok : ∀ k, k < 9 → parseFieldDescriptor (TJ1 k).2.2.1 = some (tyJ1 k) := by decide +kernel
abbrev cJ1_init : ByteArray := prog_66_method_1_code
def yJ1_init : MethodName := ⟨RJ1, "<init>", "()V"⟩
abbrev cJ1_containsKey : ByteArray := prog_66_method_6_code
def yJ1_containsKey : MethodName := ⟨RJ1, "containsKey", "(Ljava/lang/Object;)Z"⟩
abbrev cJ1_getEntry : ByteArray := prog_66_method_15_code
def yJ1_getEntry : MethodName := ⟨RJ1, "getEntry", "(Ljava/lang/Object;)Ljava/util/TreeMap$Entry;"⟩
abbrev cJ1_getEntryUsingComparator : ByteArray := prog_66_method_16_code
def yJ1_getEntryUsingComparator : MethodName := ⟨RJ1, "getEntryUsingComparator", "(Ljava/lang/Object;)Ljava/util/TreeMap$Entry;"⟩
abbrev cJ1_put : ByteArray := prog_66_method_21_code
def yJ1_put : MethodName := ⟨RJ1, "put", "(Ljava/lang/Object;Ljava/lang/Object;)Ljava/lang/Object;"⟩
abbrev cJ1_put_2 : ByteArray := prog_66_method_31_code
def yJ1_put_2 : MethodName := ⟨RJ1, "put", "(Ljava/lang/Object;Ljava/lang/Object;Z)Ljava/lang/Object;"⟩
abbrev cJ1_addEntryToEmptyMap : ByteArray := prog_66_method_30_code
def yJ1_addEntryToEmptyMap : MethodName := ⟨RJ1, "addEntryToEmptyMap", "(Ljava/lang/Object;Ljava/lang/Object;)V"⟩
abbrev cJ1_compare : ByteArray := prog_66_method_67_code
def yJ1_compare : MethodName := ⟨RJ1, "compare", "(Ljava/lang/Object;Ljava/lang/Object;)I"⟩
abbrev cJ1_addEntry : ByteArray := prog_66_method_29_code
def yJ1_addEntry : MethodName := ⟨RJ1, "addEntry", "(Ljava/lang/Object;Ljava/lang/Object;Ljava/util/TreeMap$Entry;Z)V"⟩
abbrev cJ1_fixAfterInsertion : ByteArray := prog_66_method_83_code
def yJ1_fixAfterInsertion : MethodName := ⟨RJ1, "fixAfterInsertion", "(Ljava/util/TreeMap$Entry;)V"⟩
abbrev cJ1_parentOf : ByteArray := prog_66_method_77_code
def yJ1_parentOf : MethodName := ⟨RJ1, "parentOf", "(Ljava/util/TreeMap$Entry;)Ljava/util/TreeMap$Entry;"⟩
abbrev cJ1_leftOf : ByteArray := prog_66_method_79_code
def yJ1_leftOf : MethodName := ⟨RJ1, "leftOf", "(Ljava/util/TreeMap$Entry;)Ljava/util/TreeMap$Entry;"⟩
abbrev cJ1_rightOf : ByteArray := prog_66_method_80_code
def yJ1_rightOf : MethodName := ⟨RJ1, "rightOf", "(Ljava/util/TreeMap$Entry;)Ljava/util/TreeMap$Entry;"⟩
abbrev cJ1_colorOf : ByteArray := prog_66_method_76_code
def yJ1_colorOf : MethodName := ⟨RJ1, "colorOf", "(Ljava/util/TreeMap$Entry;)Z"⟩
abbrev cJ1_setColor : ByteArray := prog_66_method_78_code
def yJ1_setColor : MethodName := ⟨RJ1, "setColor", "(Ljava/util/TreeMap$Entry;Z)V"⟩
abbrev cJ1_rotateLeft : ByteArray := prog_66_method_81_code
def yJ1_rotateLeft : MethodName := ⟨RJ1, "rotateLeft", "(Ljava/util/TreeMap$Entry;)V"⟩
abbrev cJ1_rotateRight : ByteArray := prog_66_method_82_code
def yJ1_rotateRight : MethodName := ⟨RJ1, "rotateRight", "(Ljava/util/TreeMap$Entry;)V"⟩
abbrev cJ1_get : ByteArray := prog_66_method_8_code
def yJ1_get : MethodName := ⟨RJ1, "get", "(Ljava/lang/Object;)Ljava/lang/Object;"⟩
abbrev cJ1_size : ByteArray := prog_66_method_5_code
def yJ1_size : MethodName := ⟨RJ1, "size", "()I"⟩
abbrev cJ1_values : ByteArray := prog_66_method_52_code
def yJ1_values : MethodName := ⟨RJ1, "values", "()Ljava/util/Collection;"⟩
abbrev cJ1_keyIterator : ByteArray := prog_66_method_65_code
def yJ1_keyIterator : MethodName := ⟨RJ1, "keyIterator", "()Ljava/util/Iterator;"⟩
abbrev cJ1_getFirstEntry : ByteArray := prog_66_method_72_code
def yJ1_getFirstEntry : MethodName := ⟨RJ1, "getFirstEntry", "()Ljava/util/TreeMap$Entry;"⟩
abbrev cJ1_navigableKeySet : ByteArray := prog_66_method_50_code
def yJ1_navigableKeySet : MethodName := ⟨RJ1, "navigableKeySet", "()Ljava/util/NavigableSet;"⟩
abbrev cJ1_successor : ByteArray := prog_66_method_74_code
def yJ1_successor : MethodName := ⟨RJ1, "successor", "(Ljava/util/TreeMap$Entry;)Ljava/util/TreeMap$Entry;"⟩
def RJ10 : String := "java/util/Arrays"
abbrev cJ10_copyOf : ByteArray := prog_46_method_121_code
def yJ10_copyOf : MethodName := ⟨RJ10, "copyOf", "([BI)[B"⟩
abbrev cJ10_copyOfRange : ByteArray := prog_46_method_132_code
def yJ10_copyOfRange : MethodName := ⟨RJ10, "copyOfRange", "([BII)[B"⟩
abbrev cJ10_copyOfRangeByte : ByteArray := prog_46_method_133_code
def yJ10_copyOfRangeByte : MethodName := ⟨RJ10, "copyOfRangeByte", "([BII)[B"⟩
abbrev cJ10_checkLength : ByteArray := prog_46_method_131_code
def yJ10_checkLength : MethodName := ⟨RJ10, "checkLength", "(II)V"⟩
abbrev cJ10_copyOf_2 : ByteArray := prog_46_method_119_code
def yJ10_copyOf_2 : MethodName := ⟨RJ10, "copyOf", "([Ljava/lang/Object;I)[Ljava/lang/Object;"⟩
abbrev cJ10_copyOf_3 : ByteArray := prog_46_method_120_code
def yJ10_copyOf_3 : MethodName := ⟨RJ10, "copyOf", "([Ljava/lang/Object;ILjava/lang/Class;)[Ljava/lang/Object;"⟩
def RJ11 : String := "java/lang/StringLatin1"
abbrev cJ11_canEncode : ByteArray := prog_33_method_3_code
def yJ11_canEncode : MethodName := ⟨RJ11, "canEncode", "(C)Z"⟩
abbrev cJ11_inflate : ByteArray := prog_33_method_50_code
def yJ11_inflate : MethodName := ⟨RJ11, "inflate", "([BI[BII)V"⟩
abbrev cJ11_newString : ByteArray := prog_33_method_47_code
def yJ11_newString : MethodName := ⟨RJ11, "newString", "([BII)Ljava/lang/String;"⟩
abbrev cJ11_compareTo : ByteArray := prog_33_method_14_code
def yJ11_compareTo : MethodName := ⟨RJ11, "compareTo", "([B[B)I"⟩
abbrev cJ11_compareTo_2 : ByteArray := prog_33_method_15_code
def yJ11_compareTo_2 : MethodName := ⟨RJ11, "compareTo", "([B[BII)I"⟩
abbrev cJ11_getChar : ByteArray := prog_33_method_44_code
def yJ11_getChar : MethodName := ⟨RJ11, "getChar", "([BI)C"⟩
abbrev cJ11_compareToUTF16 : ByteArray := prog_33_method_16_code
def yJ11_compareToUTF16 : MethodName := ⟨RJ11, "compareToUTF16", "([B[B)I"⟩
abbrev cJ11_length : ByteArray := prog_33_method_5_code
def yJ11_length : MethodName := ⟨RJ11, "length", "([B)I"⟩
abbrev cJ11_compareToUTF16Values : ByteArray := prog_33_method_18_code
def yJ11_compareToUTF16Values : MethodName := ⟨RJ11, "compareToUTF16Values", "([B[BII)I"⟩
abbrev cJ11_compareToUTF16_2 : ByteArray := prog_33_method_17_code
def yJ11_compareToUTF16_2 : MethodName := ⟨RJ11, "compareToUTF16", "([B[BII)I"⟩
abbrev cJ11_charAt : ByteArray := prog_33_method_2_code
def yJ11_charAt : MethodName := ⟨RJ11, "charAt", "([BI)C"⟩
abbrev cJ11_indexOf : ByteArray := prog_33_method_22_code
def yJ11_indexOf : MethodName := ⟨RJ11, "indexOf", "([BIII)I"⟩
abbrev cJ11_canEncode_2 : ByteArray := prog_33_method_4_code
def yJ11_canEncode_2 : MethodName := ⟨RJ11, "canEncode", "(I)Z"⟩
abbrev cJ11_indexOfChar : ByteArray := prog_33_method_23_code
def yJ11_indexOfChar : MethodName := ⟨RJ11, "indexOfChar", "([BIII)I"⟩
def RJ12 : String := "jdk/internal/util/Preconditions"
abbrev cJ12_checkFromIndexSize : ByteArray := prog_78_method_13_code
def yJ12_checkFromIndexSize : MethodName := ⟨RJ12, "checkFromIndexSize", "(IIILjava/util/function/BiFunction;)I"⟩
abbrev cJ12_checkIndex : ByteArray := prog_78_method_11_code
def yJ12_checkIndex : MethodName := ⟨RJ12, "checkIndex", "(IILjava/util/function/BiFunction;)I"⟩
abbrev cJ12_checkFromToIndex : ByteArray := prog_78_method_12_code
def yJ12_checkFromToIndex : MethodName := ⟨RJ12, "checkFromToIndex", "(IIILjava/util/function/BiFunction;)I"⟩
def RJ13 : String := "java/util/Objects"
abbrev cJ13_requireNonNull : ByteArray := prog_55_method_10_code
def yJ13_requireNonNull : MethodName := ⟨RJ13, "requireNonNull", "(Ljava/lang/Object;)Ljava/lang/Object;"⟩
def RJ14 : String := "jdk/internal/misc/Unsafe"
abbrev cJ14_getLongUnaligned : ByteArray := prog_75_method_334_code
def yJ14_getLongUnaligned : MethodName := ⟨RJ14, "getLongUnaligned", "(Ljava/lang/Object;J)J"⟩
abbrev cJ14_makeLong : ByteArray := prog_75_method_353_code
def yJ14_makeLong : MethodName := ⟨RJ14, "makeLong", "(II)J"⟩
abbrev cJ14_toUnsignedLong : ByteArray := prog_75_method_370_code
def yJ14_toUnsignedLong : MethodName := ⟨RJ14, "toUnsignedLong", "(I)J"⟩
abbrev cJ14_pickPos : ByteArray := prog_75_method_350_code
def yJ14_pickPos : MethodName := ⟨RJ14, "pickPos", "(II)I"⟩
abbrev cJ14_makeLong_2 : ByteArray := prog_75_method_352_code
def yJ14_makeLong_2 : MethodName := ⟨RJ14, "makeLong", "(SSSS)J"⟩
abbrev cJ14_toUnsignedLong_2 : ByteArray := prog_75_method_369_code
def yJ14_toUnsignedLong_2 : MethodName := ⟨RJ14, "toUnsignedLong", "(S)J"⟩
abbrev cJ14_makeLong_3 : ByteArray := prog_75_method_351_code
def yJ14_makeLong_3 : MethodName := ⟨RJ14, "makeLong", "(BBBBBBBB)J"⟩
abbrev cJ14_toUnsignedLong_3 : ByteArray := prog_75_method_368_code
def yJ14_toUnsignedLong_3 : MethodName := ⟨RJ14, "toUnsignedLong", "(B)J"⟩
abbrev cJ14_getIntUnaligned : ByteArray := prog_75_method_336_code
def yJ14_getIntUnaligned : MethodName := ⟨RJ14, "getIntUnaligned", "(Ljava/lang/Object;J)I"⟩
abbrev cJ14_makeInt : ByteArray := prog_75_method_354_code
def yJ14_makeInt : MethodName := ⟨RJ14, "makeInt", "(SS)I"⟩
abbrev cJ14_toUnsignedInt : ByteArray := prog_75_method_367_code
def yJ14_toUnsignedInt : MethodName := ⟨RJ14, "toUnsignedInt", "(S)I"⟩
abbrev cJ14_makeInt_2 : ByteArray := prog_75_method_355_code
def yJ14_makeInt_2 : MethodName := ⟨RJ14, "makeInt", "(BBBB)I"⟩
abbrev cJ14_toUnsignedInt_2 : ByteArray := prog_75_method_366_code
def yJ14_toUnsignedInt_2 : MethodName := ⟨RJ14, "toUnsignedInt", "(B)I"⟩
def RJ15 : String := "java/lang/Long"
abbrev cJ15_numberOfLeadingZeros : ByteArray := prog_28_method_48_code
def yJ15_numberOfLeadingZeros : MethodName := ⟨RJ15, "numberOfLeadingZeros", "(J)I"⟩
abbrev cJ15_numberOfTrailingZeros : ByteArray := prog_28_method_49_code
def yJ15_numberOfTrailingZeros : MethodName := ⟨RJ15, "numberOfTrailingZeros", "(J)I"⟩
def RJ16 : String := "java/util/AbstractCollection"
abbrev cJ16_init : ByteArray := prog_39_method_1_code
def yJ16_init : MethodName := ⟨RJ16, "<init>", "()V"⟩
def RJ17 : String := "java/util/AbstractSet"
abbrev cJ17_init : ByteArray := prog_43_method_1_code
def yJ17_init : MethodName := ⟨RJ17, "<init>", "()V"⟩
def RJ18 : String := "java/util/TreeSet"
def TJ18 : u_T := fun k => match k with
  | _ => ("java/util/TreeSet", "m", "Ljava/util/NavigableMap;", false)
def tyJ18 : Nat → FieldType := fun k => match k with
  | _ => .object "java/util/NavigableMap"
abbrev wsJ180 : List Cond := u_ws RJ18 TJ18 1
theorem nmJ18 : ∀ a, a < 1 → ∀ b, b < 1 → a ≠ b → (TJ18 a).2.1 ≠ (TJ18 b).2.1 := by decide +kernel
theorem tyJ18_ok : ∀ k, k < 1 → parseFieldDescriptor (TJ18 k).2.2.1 = some (tyJ18 k) := by decide +kernel
abbrev cJ18_init : ByteArray := prog_74_method_2_code
def yJ18_init : MethodName := ⟨RJ18, "<init>", "()V"⟩
abbrev cJ18_init_2 : ByteArray := prog_74_method_1_code
def yJ18_init_2 : MethodName := ⟨RJ18, "<init>", "(Ljava/util/NavigableMap;)V"⟩
abbrev cJ18_add : ByteArray := prog_74_method_12_code
def yJ18_add : MethodName := ⟨RJ18, "add", "(Ljava/lang/Object;)Z"⟩
abbrev cJ18_size : ByteArray := prog_74_method_9_code
def yJ18_size : MethodName := ⟨RJ18, "size", "()I"⟩
abbrev cJ18_iterator : ByteArray := prog_74_method_6_code
def yJ18_iterator : MethodName := ⟨RJ18, "iterator", "()Ljava/util/Iterator;"⟩
def RJ19 : String := "java/util/TreeMap$Entry"
def TJ19 : u_T := fun k => match k with
  | 0 => ("java/util/TreeMap$Entry", "key", "Ljava/lang/Object;", false)
  | 1 => ("java/util/TreeMap$Entry", "value", "Ljava/lang/Object;", false)
  | 2 => ("java/util/TreeMap$Entry", "left", "Ljava/util/TreeMap$Entry;", false)
  | 3 => ("java/util/TreeMap$Entry", "right", "Ljava/util/TreeMap$Entry;", false)
  | 4 => ("java/util/TreeMap$Entry", "parent", "Ljava/util/TreeMap$Entry;", false)
  | _ => ("java/util/TreeMap$Entry", "color", "Z", false)
def tyJ19 : Nat → FieldType := fun k => match k with
  | 0 => .object "java/lang/Object"
  | 1 => .object "java/lang/Object"
  | 2 => .object "java/util/TreeMap$Entry"
  | 3 => .object "java/util/TreeMap$Entry"
  | 4 => .object "java/util/TreeMap$Entry"
  | _ => .boolean
abbrev wsJ190 : List Cond := u_ws RJ19 TJ19 6
theorem nmJ19 : ∀ a, a < 6 → ∀ b, b < 6 → a ≠ b → (TJ19 a).2.1 ≠ (TJ19 b).2.1 := by decide +kernel
theorem tyJ19_ok : ∀ k, k < 6 → parseFieldDescriptor (TJ19 k).2.2.1 = some (tyJ19 k) := by decide +kernel
abbrev cJ19_init : ByteArray := prog_67_method_1_code
def yJ19_init : MethodName := ⟨RJ19, "<init>", "(Ljava/lang/Object;Ljava/lang/Object;Ljava/util/TreeMap$Entry;)V"⟩
def RJ2 : String := "java/lang/Math"
abbrev cJ2_max : ByteArray := prog_29_method_65_code
def yJ2_max : MethodName := ⟨RJ2, "max", "(II)I"⟩
abbrev cJ2_min : ByteArray := prog_29_method_69_code
def yJ2_min : MethodName := ⟨RJ2, "min", "(II)I"⟩
def RJ20 : String := "java/util/TreeMap$Values"
def TJ20 : u_T := fun k => match k with
  | _ => ("java/util/TreeMap$Values", "this$0", "Ljava/util/TreeMap;", true)
def tyJ20 : Nat → FieldType := fun k => match k with
  | _ => .object "java/util/TreeMap"
abbrev wsJ200 : List Cond := u_ws RJ20 TJ20 1
theorem nmJ20 : ∀ a, a < 1 → ∀ b, b < 1 → a ≠ b → (TJ20 a).2.1 ≠ (TJ20 b).2.1 := by decide +kernel
theorem tyJ20_ok : ∀ k, k < 1 → parseFieldDescriptor (TJ20 k).2.2.1 = some (tyJ20 k) := by decide +kernel
abbrev cJ20_init : ByteArray := prog_73_method_1_code
def yJ20_init : MethodName := ⟨RJ20, "<init>", "(Ljava/util/TreeMap;)V"⟩
abbrev cJ20_iterator : ByteArray := prog_73_method_2_code
def yJ20_iterator : MethodName := ⟨RJ20, "iterator", "()Ljava/util/Iterator;"⟩
def RJ21 : String := "java/util/PriorityQueue$Itr"
def TJ21 : u_T := fun k => match k with
  | 0 => ("java/util/PriorityQueue$Itr", "cursor", "I", false)
  | 1 => ("java/util/PriorityQueue$Itr", "lastRet", "I", false)
  | 2 => ("java/util/PriorityQueue$Itr", "forgetMeNot", "Ljava/util/ArrayDeque;", false)
  | 3 => ("java/util/PriorityQueue$Itr", "lastRetElt", "Ljava/lang/Object;", false)
  | 4 => ("java/util/PriorityQueue$Itr", "expectedModCount", "I", false)
  | _ => ("java/util/PriorityQueue$Itr", "this$0", "Ljava/util/PriorityQueue;", true)
def tyJ21 : Nat → FieldType := fun k => match k with
  | 0 => .int
  | 1 => .int
  | 2 => .object "java/util/ArrayDeque"
  | 3 => .object "java/lang/Object"
  | 4 => .int
  | _ => .object "java/util/PriorityQueue"
abbrev wsJ210 : List Cond := u_ws RJ21 TJ21 6
theorem nmJ21 : ∀ a, a < 6 → ∀ b, b < 6 → a ≠ b → (TJ21 a).2.1 ≠ (TJ21 b).2.1 := by decide +kernel
theorem tyJ21_ok : ∀ k, k < 6 → parseFieldDescriptor (TJ21 k).2.2.1 = some (tyJ21 k) := by decide +kernel
abbrev cJ21_init : ByteArray := prog_57_method_1_code
def yJ21_init : MethodName := ⟨RJ21, "<init>", "(Ljava/util/PriorityQueue;)V"⟩
abbrev cJ21_hasNext : ByteArray := prog_57_method_2_code
def yJ21_hasNext : MethodName := ⟨RJ21, "hasNext", "()Z"⟩
abbrev cJ21_next : ByteArray := prog_57_method_3_code
def yJ21_next : MethodName := ⟨RJ21, "next", "()Ljava/lang/Object;"⟩
def RJ22 : String := "java/util/TreeMap$PrivateEntryIterator"
abbrev cJ22_init : ByteArray := prog_71_method_1_code
def yJ22_init : MethodName := ⟨RJ22, "<init>", "(Ljava/util/TreeMap;Ljava/util/TreeMap$Entry;)V"⟩
abbrev cJ22_hasNext : ByteArray := prog_71_method_2_code
def yJ22_hasNext : MethodName := ⟨RJ22, "hasNext", "()Z"⟩
abbrev cJ22_nextEntry : ByteArray := prog_71_method_3_code
def yJ22_nextEntry : MethodName := ⟨RJ22, "nextEntry", "()Ljava/util/TreeMap$Entry;"⟩
def RJ23 : String := "java/util/TreeMap$KeyIterator"
def TJ23 : u_T := fun k => match k with
  | 0 => ("java/util/TreeMap$PrivateEntryIterator", "next", "Ljava/util/TreeMap$Entry;", false)
  | 1 => ("java/util/TreeMap$PrivateEntryIterator", "lastReturned", "Ljava/util/TreeMap$Entry;", false)
  | 2 => ("java/util/TreeMap$PrivateEntryIterator", "expectedModCount", "I", false)
  | _ => ("java/util/TreeMap$PrivateEntryIterator", "this$0", "Ljava/util/TreeMap;", true)
def tyJ23 : Nat → FieldType := fun k => match k with
  | 0 => .object "java/util/TreeMap$Entry"
  | 1 => .object "java/util/TreeMap$Entry"
  | 2 => .int
  | _ => .object "java/util/TreeMap"
abbrev wsJ230 : List Cond := u_ws RJ23 TJ23 4
theorem nmJ23 : ∀ a, a < 4 → ∀ b, b < 4 → a ≠ b → (TJ23 a).2.1 ≠ (TJ23 b).2.1 := by decide +kernel
theorem tyJ23_ok : ∀ k, k < 4 → parseFieldDescriptor (TJ23 k).2.2.1 = some (tyJ23 k) := by decide +kernel
abbrev cJ23_init : ByteArray := prog_68_method_1_code
def yJ23_init : MethodName := ⟨RJ23, "<init>", "(Ljava/util/TreeMap;Ljava/util/TreeMap$Entry;)V"⟩
abbrev cJ23_next : ByteArray := prog_68_method_2_code
def yJ23_next : MethodName := ⟨RJ23, "next", "()Ljava/lang/Object;"⟩
def RJ24 : String := "java/util/TreeMap$ValueIterator"
def TJ24 : u_T := fun k => match k with
  | 0 => ("java/util/TreeMap$PrivateEntryIterator", "next", "Ljava/util/TreeMap$Entry;", false)
  | 1 => ("java/util/TreeMap$PrivateEntryIterator", "lastReturned", "Ljava/util/TreeMap$Entry;", false)
  | 2 => ("java/util/TreeMap$PrivateEntryIterator", "expectedModCount", "I", false)
  | _ => ("java/util/TreeMap$PrivateEntryIterator", "this$0", "Ljava/util/TreeMap;", true)
def tyJ24 : Nat → FieldType := fun k => match k with
  | 0 => .object "java/util/TreeMap$Entry"
  | 1 => .object "java/util/TreeMap$Entry"
  | 2 => .int
  | _ => .object "java/util/TreeMap"
abbrev wsJ240 : List Cond := u_ws RJ24 TJ24 4
theorem nmJ24 : ∀ a, a < 4 → ∀ b, b < 4 → a ≠ b → (TJ24 a).2.1 ≠ (TJ24 b).2.1 := by decide +kernel
theorem tyJ24_ok : ∀ k, k < 4 → parseFieldDescriptor (TJ24 k).2.2.1 = some (tyJ24 k) := by decide +kernel
abbrev cJ24_init : ByteArray := prog_72_method_1_code
def yJ24_init : MethodName := ⟨RJ24, "<init>", "(Ljava/util/TreeMap;Ljava/util/TreeMap$Entry;)V"⟩
abbrev cJ24_next : ByteArray := prog_72_method_2_code
def yJ24_next : MethodName := ⟨RJ24, "next", "()Ljava/lang/Object;"⟩
def RJ25 : String := "java/util/TreeMap$KeySet"
def TJ25 : u_T := fun k => match k with
  | _ => ("java/util/TreeMap$KeySet", "m", "Ljava/util/NavigableMap;", true)
def tyJ25 : Nat → FieldType := fun k => match k with
  | _ => .object "java/util/NavigableMap"
abbrev wsJ250 : List Cond := u_ws RJ25 TJ25 1
theorem nmJ25 : ∀ a, a < 1 → ∀ b, b < 1 → a ≠ b → (TJ25 a).2.1 ≠ (TJ25 b).2.1 := by decide +kernel
theorem tyJ25_ok : ∀ k, k < 1 → parseFieldDescriptor (TJ25 k).2.2.1 = some (tyJ25 k) := by decide +kernel
abbrev cJ25_iterator : ByteArray := prog_69_method_2_code
def yJ25_iterator : MethodName := ⟨RJ25, "iterator", "()Ljava/util/Iterator;"⟩
abbrev cJ25_init : ByteArray := prog_69_method_1_code
def yJ25_init : MethodName := ⟨RJ25, "<init>", "(Ljava/util/NavigableMap;)V"⟩
def RJ26 : String := "java/util/ArrayDeque"
abbrev cJ26_isEmpty : ByteArray := prog_44_method_38_code
def yJ26_isEmpty : MethodName := ⟨RJ26, "isEmpty", "()Z"⟩
abbrev cJ26_poll : ByteArray := prog_44_method_31_code
def yJ26_poll : MethodName := ⟨RJ26, "poll", "()Ljava/lang/Object;"⟩
abbrev cJ26_pollFirst : ByteArray := prog_44_method_20_code
def yJ26_pollFirst : MethodName := ⟨RJ26, "pollFirst", "()Ljava/lang/Object;"⟩
abbrev cJ26_elementAt : ByteArray := prog_44_method_10_code
def yJ26_elementAt : MethodName := ⟨RJ26, "elementAt", "([Ljava/lang/Object;I)Ljava/lang/Object;"⟩
abbrev cJ26_inc : ByteArray := prog_44_method_6_code
def yJ26_inc : MethodName := ⟨RJ26, "inc", "(II)I"⟩
def RJ27 : String := "java/lang/Throwable"
def TJ27 : u_T := fun k => match k with
  | 0 => ("java/lang/Throwable", "cause", "Ljava/lang/Throwable;", false)
  | 1 => ("java/lang/Throwable", "stackTrace", "[Ljava/lang/StackTraceElement;", false)
  | 2 => ("java/lang/Throwable", "suppressedExceptions", "Ljava/util/List;", false)
  | 3 => ("java/lang/Throwable", "detailMessage", "Ljava/lang/String;", false)
  | _ => ("java/lang/Throwable", "backtrace", "Ljava/lang/Object;", false)
def tyJ27 : Nat → FieldType := fun k => match k with
  | 0 => .object "java/lang/Throwable"
  | 1 => .array (.object "java/lang/StackTraceElement")
  | 2 => .object "java/util/List"
  | 3 => .object "java/lang/String"
  | _ => .object "java/lang/Object"
abbrev wsJ270 : List Cond := u_ws RJ27 TJ27 5
theorem nmJ27 : ∀ a, a < 5 → ∀ b, b < 5 → a ≠ b → (TJ27 a).2.1 ≠ (TJ27 b).2.1 := by decide +kernel
theorem tyJ27_ok : ∀ k, k < 5 → parseFieldDescriptor (TJ27 k).2.2.1 = some (tyJ27 k) := by decide +kernel
abbrev cJ27_init : ByteArray := prog_36_method_1_code
def yJ27_init : MethodName := ⟨RJ27, "<init>", "()V"⟩
def RJ28 : String := "java/lang/Exception"
abbrev cJ28_init : ByteArray := prog_24_method_1_code
def yJ28_init : MethodName := ⟨RJ28, "<init>", "()V"⟩
def RJ29 : String := "java/util/AbstractQueue"
abbrev cJ29_init : ByteArray := prog_42_method_1_code
def yJ29_init : MethodName := ⟨RJ29, "<init>", "()V"⟩
def RJ3 : String := "java/lang/Number"
abbrev cJ3_init : ByteArray := prog_30_method_1_code
def yJ3_init : MethodName := ⟨RJ3, "<init>", "()V"⟩
def RJ30 : String := "java/util/PriorityQueue"
def TJ30 : u_T := fun k => match k with
  | 0 => ("java/util/PriorityQueue", "queue", "[Ljava/lang/Object;", false)
  | 1 => ("java/util/PriorityQueue", "size", "I", false)
  | 2 => ("java/util/PriorityQueue", "comparator", "Ljava/util/Comparator;", true)
  | _ => ("java/util/PriorityQueue", "modCount", "I", false)
def tyJ30 : Nat → FieldType := fun k => match k with
  | 0 => .array (.object "java/lang/Object")
  | 1 => .int
  | 2 => .object "java/util/Comparator"
  | _ => .int
abbrev wsJ300 : List Cond := u_ws RJ30 TJ30 4
theorem nmJ30 : ∀ a, a < 4 → ∀ b, b < 4 → a ≠ b → (TJ30 a).2.1 ≠ (TJ30 b).2.1 := by decide +kernel
theorem tyJ30_ok : ∀ k, k < 4 → parseFieldDescriptor (TJ30 k).2.2.1 = some (tyJ30 k) := by decide +kernel
abbrev cJ30_iterator : ByteArray := prog_56_method_22_code
def yJ30_iterator : MethodName := ⟨RJ30, "iterator", "()Ljava/util/Iterator;"⟩
abbrev cJ30_init : ByteArray := prog_56_method_1_code
def yJ30_init : MethodName := ⟨RJ30, "<init>", "()V"⟩
abbrev cJ30_init_2 : ByteArray := prog_56_method_4_code
def yJ30_init_2 : MethodName := ⟨RJ30, "<init>", "(ILjava/util/Comparator;)V"⟩
abbrev cJ30_add : ByteArray := prog_56_method_13_code
def yJ30_add : MethodName := ⟨RJ30, "add", "(Ljava/lang/Object;)Z"⟩
abbrev cJ30_offer : ByteArray := prog_56_method_14_code
def yJ30_offer : MethodName := ⟨RJ30, "offer", "(Ljava/lang/Object;)Z"⟩
abbrev cJ30_grow : ByteArray := prog_56_method_12_code
def yJ30_grow : MethodName := ⟨RJ30, "grow", "(I)V"⟩
abbrev cJ30_siftUp : ByteArray := prog_56_method_27_code
def yJ30_siftUp : MethodName := ⟨RJ30, "siftUp", "(ILjava/lang/Object;)V"⟩
abbrev cJ30_siftUpUsingComparator : ByteArray := prog_56_method_29_code
def yJ30_siftUpUsingComparator : MethodName := ⟨RJ30, "siftUpUsingComparator", "(ILjava/lang/Object;[Ljava/lang/Object;Ljava/util/Comparator;)V"⟩
abbrev cJ30_siftUpComparable : ByteArray := prog_56_method_28_code
def yJ30_siftUpComparable : MethodName := ⟨RJ30, "siftUpComparable", "(ILjava/lang/Object;[Ljava/lang/Object;)V"⟩
abbrev cJ30_poll : ByteArray := prog_56_method_25_code
def yJ30_poll : MethodName := ⟨RJ30, "poll", "()Ljava/lang/Object;"⟩
abbrev cJ30_siftDownComparable : ByteArray := prog_56_method_31_code
def yJ30_siftDownComparable : MethodName := ⟨RJ30, "siftDownComparable", "(ILjava/lang/Object;[Ljava/lang/Object;I)V"⟩
abbrev cJ30_siftDownUsingComparator : ByteArray := prog_56_method_32_code
def yJ30_siftDownUsingComparator : MethodName := ⟨RJ30, "siftDownUsingComparator", "(ILjava/lang/Object;[Ljava/lang/Object;ILjava/util/Comparator;)V"⟩
def RJ31 : String := "java/lang/Character"
abbrev cJ31_isValidCodePoint : ByteArray := prog_21_method_11_code
def yJ31_isValidCodePoint : MethodName := ⟨RJ31, "isValidCodePoint", "(I)Z"⟩
abbrev cJ31_highSurrogate : ByteArray := prog_21_method_28_code
def yJ31_highSurrogate : MethodName := ⟨RJ31, "highSurrogate", "(I)C"⟩
abbrev cJ31_lowSurrogate : ByteArray := prog_21_method_29_code
def yJ31_lowSurrogate : MethodName := ⟨RJ31, "lowSurrogate", "(I)C"⟩
def RJ32 : String := "java/lang/Object"
abbrev cJ32_init : ByteArray := object_method_1_code
def yJ32_init : MethodName := ⟨RJ32, "<init>", "()V"⟩
def RJ4 : String := "java/lang/Integer"
def TJ4 : u_T := fun k => match k with
  | _ => ("java/lang/Integer", "value", "I", true)
def tyJ4 : Nat → FieldType := fun k => match k with
  | _ => .int
abbrev wsJ40 : List Cond := u_ws RJ4 TJ4 1
theorem nmJ4 : ∀ a, a < 1 → ∀ b, b < 1 → a ≠ b → (TJ4 a).2.1 ≠ (TJ4 b).2.1 := by decide +kernel
theorem tyJ4_ok : ∀ k, k < 1 → parseFieldDescriptor (TJ4 k).2.2.1 = some (tyJ4 k) := by decide +kernel
abbrev cJ4_bitCount : ByteArray := prog_25_method_49_code
def yJ4_bitCount : MethodName := ⟨RJ4, "bitCount", "(I)I"⟩
abbrev cJ4_compareTo : ByteArray := prog_25_method_63_code
def yJ4_compareTo : MethodName := ⟨RJ4, "compareTo", "(Ljava/lang/Object;)I"⟩
abbrev cJ4_compareTo_2 : ByteArray := prog_25_method_39_code
def yJ4_compareTo_2 : MethodName := ⟨RJ4, "compareTo", "(Ljava/lang/Integer;)I"⟩
abbrev cJ4_compare : ByteArray := prog_25_method_40_code
def yJ4_compare : MethodName := ⟨RJ4, "compare", "(II)I"⟩
abbrev cJ4_numberOfLeadingZeros : ByteArray := prog_25_method_47_code
def yJ4_numberOfLeadingZeros : MethodName := ⟨RJ4, "numberOfLeadingZeros", "(I)I"⟩
abbrev cJ4_numberOfTrailingZeros : ByteArray := prog_25_method_48_code
def yJ4_numberOfTrailingZeros : MethodName := ⟨RJ4, "numberOfTrailingZeros", "(I)I"⟩
abbrev cJ4_valueOf : ByteArray := prog_25_method_22_code
def yJ4_valueOf : MethodName := ⟨RJ4, "valueOf", "(I)Ljava/lang/Integer;"⟩
abbrev cJ4_init : ByteArray := prog_25_method_23_code
def yJ4_init : MethodName := ⟨RJ4, "<init>", "(I)V"⟩
def RJ5 : String := "java/lang/AbstractStringBuilder"
abbrev cJ5_init : ByteArray := prog_18_method_2_code
def yJ5_init : MethodName := ⟨RJ5, "<init>", "(I)V"⟩
abbrev cJ5_append : ByteArray := prog_18_method_31_code
def yJ5_append : MethodName := ⟨RJ5, "append", "(C)Ljava/lang/AbstractStringBuilder;"⟩
abbrev cJ5_ensureCapacityInternal : ByteArray := prog_18_method_9_code
def yJ5_ensureCapacityInternal : MethodName := ⟨RJ5, "ensureCapacityInternal", "(I)V"⟩
abbrev cJ5_newCapacity : ByteArray := prog_18_method_10_code
def yJ5_newCapacity : MethodName := ⟨RJ5, "newCapacity", "(I)I"⟩
abbrev cJ5_isLatin1 : ByteArray := prog_18_method_68_code
def yJ5_isLatin1 : MethodName := ⟨RJ5, "isLatin1", "()Z"⟩
abbrev cJ5_inflate : ByteArray := prog_18_method_11_code
def yJ5_inflate : MethodName := ⟨RJ5, "inflate", "()V"⟩
abbrev cJ5_getValue : ByteArray := prog_18_method_64_code
def yJ5_getValue : MethodName := ⟨RJ5, "getValue", "()[B"⟩
abbrev cJ5_length : ByteArray := prog_18_method_6_code
def yJ5_length : MethodName := ⟨RJ5, "length", "()I"⟩
abbrev cJ5_compareTo : ByteArray := prog_18_method_5_code
def yJ5_compareTo : MethodName := ⟨RJ5, "compareTo", "(Ljava/lang/AbstractStringBuilder;)I"⟩
def RJ6 : String := "java/lang/StringBuilder"
def TJ6 : u_T := fun k => match k with
  | 0 => ("java/lang/AbstractStringBuilder", "value", "[B", false)
  | 1 => ("java/lang/AbstractStringBuilder", "coder", "B", false)
  | 2 => ("java/lang/AbstractStringBuilder", "maybeLatin1", "Z", false)
  | _ => ("java/lang/AbstractStringBuilder", "count", "I", false)
def tyJ6 : Nat → FieldType := fun k => match k with
  | 0 => .array .byte
  | 1 => .byte
  | 2 => .boolean
  | _ => .int
abbrev wsJ60 : List Cond := u_ws RJ6 TJ6 4
theorem nmJ6 : ∀ a, a < 4 → ∀ b, b < 4 → a ≠ b → (TJ6 a).2.1 ≠ (TJ6 b).2.1 := by decide +kernel
theorem tyJ6_ok : ∀ k, k < 4 → parseFieldDescriptor (TJ6 k).2.2.1 = some (tyJ6 k) := by decide +kernel
abbrev cJ6_init : ByteArray := prog_32_method_1_code
def yJ6_init : MethodName := ⟨RJ6, "<init>", "()V"⟩
abbrev cJ6_append : ByteArray := prog_32_method_14_code
def yJ6_append : MethodName := ⟨RJ6, "append", "(C)Ljava/lang/StringBuilder;"⟩
abbrev cJ6_toString : ByteArray := prog_32_method_42_code
def yJ6_toString : MethodName := ⟨RJ6, "toString", "()Ljava/lang/String;"⟩
abbrev cJ6_length : ByteArray := prog_32_method_93_code
def yJ6_length : MethodName := ⟨RJ6, "length", "()I"⟩
abbrev cJ6_compareTo : ByteArray := prog_32_method_97_code
def yJ6_compareTo : MethodName := ⟨RJ6, "compareTo", "(Ljava/lang/Object;)I"⟩
abbrev cJ6_compareTo_2 : ByteArray := prog_32_method_5_code
def yJ6_compareTo_2 : MethodName := ⟨RJ6, "compareTo", "(Ljava/lang/StringBuilder;)I"⟩
def RJ7 : String := "java/lang/String"
def TJ7 : u_T := fun k => match k with
  | 0 => ("java/lang/String", "value", "[B", true)
  | 1 => ("java/lang/String", "coder", "B", true)
  | 2 => ("java/lang/String", "hash", "I", false)
  | _ => ("java/lang/String", "hashIsZero", "Z", false)
def tyJ7 : Nat → FieldType := fun k => match k with
  | 0 => .array .byte
  | 1 => .byte
  | 2 => .int
  | _ => .boolean
abbrev wsJ70 : List Cond := u_ws RJ7 TJ7 4
theorem nmJ7 : ∀ a, a < 4 → ∀ b, b < 4 → a ≠ b → (TJ7 a).2.1 ≠ (TJ7 b).2.1 := by decide +kernel
theorem tyJ7_ok : ∀ k, k < 4 → parseFieldDescriptor (TJ7 k).2.2.1 = some (tyJ7 k) := by decide +kernel
abbrev cJ7_checkBoundsOffCount : ByteArray := prog_31_method_157_code
def yJ7_checkBoundsOffCount : MethodName := ⟨RJ7, "checkBoundsOffCount", "(III)I"⟩
abbrev cJ7_checkIndex : ByteArray := prog_31_method_155_code
def yJ7_checkIndex : MethodName := ⟨RJ7, "checkIndex", "(II)V"⟩
abbrev cJ7_init : ByteArray := prog_31_method_53_code
def yJ7_init : MethodName := ⟨RJ7, "<init>", "(Ljava/lang/StringBuilder;)V"⟩
abbrev cJ7_init_2 : ByteArray := prog_31_method_150_code
def yJ7_init_2 : MethodName := ⟨RJ7, "<init>", "(Ljava/lang/AbstractStringBuilder;Ljava/lang/Void;)V"⟩
abbrev cJ7_length : ByteArray := prog_31_method_54_code
def yJ7_length : MethodName := ⟨RJ7, "length", "()I"⟩
abbrev cJ7_coder : ByteArray := prog_31_method_152_code
def yJ7_coder : MethodName := ⟨RJ7, "coder", "()B"⟩
abbrev cJ7_substring : ByteArray := prog_31_method_92_code
def yJ7_substring : MethodName := ⟨RJ7, "substring", "(II)Ljava/lang/String;"⟩
abbrev cJ7_checkBoundsBeginEnd : ByteArray := prog_31_method_158_code
def yJ7_checkBoundsBeginEnd : MethodName := ⟨RJ7, "checkBoundsBeginEnd", "(III)V"⟩
abbrev cJ7_isLatin1 : ByteArray := prog_31_method_154_code
def yJ7_isLatin1 : MethodName := ⟨RJ7, "isLatin1", "()Z"⟩
abbrev cJ7_init_3 : ByteArray := prog_31_method_151_code
def yJ7_init_3 : MethodName := ⟨RJ7, "<init>", "([BB)V"⟩
abbrev cJ7_compareTo : ByteArray := prog_31_method_162_code
def yJ7_compareTo : MethodName := ⟨RJ7, "compareTo", "(Ljava/lang/Object;)I"⟩
abbrev cJ7_compareTo_2 : ByteArray := prog_31_method_71_code
def yJ7_compareTo_2 : MethodName := ⟨RJ7, "compareTo", "(Ljava/lang/String;)I"⟩
abbrev cJ7_checkOffset : ByteArray := prog_31_method_156_code
def yJ7_checkOffset : MethodName := ⟨RJ7, "checkOffset", "(II)V"⟩
abbrev cJ7_charAt : ByteArray := prog_31_method_56_code
def yJ7_charAt : MethodName := ⟨RJ7, "charAt", "(I)C"⟩
abbrev cJ7_indexOf : ByteArray := prog_31_method_79_code
def yJ7_indexOf : MethodName := ⟨RJ7, "indexOf", "(I)I"⟩
abbrev cJ7_indexOf_2 : ByteArray := prog_31_method_80_code
def yJ7_indexOf_2 : MethodName := ⟨RJ7, "indexOf", "(II)I"⟩
def RJ8 : String := "java/lang/StringUTF16"
abbrev cJ8_newBytesFor : ByteArray := prog_34_method_2_code
def yJ8_newBytesFor : MethodName := ⟨RJ8, "newBytesFor", "(I)[B"⟩
abbrev cJ8_newBytesLength : ByteArray := prog_34_method_3_code
def yJ8_newBytesLength : MethodName := ⟨RJ8, "newBytesLength", "(I)I"⟩
abbrev cJ8_inflate : ByteArray := prog_34_method_86_code
def yJ8_inflate : MethodName := ⟨RJ8, "inflate", "([BI[BII)V"⟩
abbrev cJ8_checkBoundsOffCount : ByteArray := prog_34_method_94_code
def yJ8_checkBoundsOffCount : MethodName := ⟨RJ8, "checkBoundsOffCount", "(II[B)V"⟩
abbrev cJ8_length : ByteArray := prog_34_method_6_code
def yJ8_length : MethodName := ⟨RJ8, "length", "([B)I"⟩
abbrev cJ8_putChar : ByteArray := prog_34_method_4_code
def yJ8_putChar : MethodName := ⟨RJ8, "putChar", "([BII)V"⟩
abbrev cJ8_putCharSB : ByteArray := prog_34_method_71_code
def yJ8_putCharSB : MethodName := ⟨RJ8, "putCharSB", "([BII)V"⟩
abbrev cJ8_checkIndex : ByteArray := prog_34_method_91_code
def yJ8_checkIndex : MethodName := ⟨RJ8, "checkIndex", "(I[B)V"⟩
abbrev cJ8_compress : ByteArray := prog_34_method_17_code
def yJ8_compress : MethodName := ⟨RJ8, "compress", "([BII)[B"⟩
abbrev cJ8_compress_2 : ByteArray := prog_34_method_22_code
def yJ8_compress_2 : MethodName := ⟨RJ8, "compress", "([BI[BII)I"⟩
abbrev cJ8_getChar : ByteArray := prog_34_method_5_code
def yJ8_getChar : MethodName := ⟨RJ8, "getChar", "([BI)C"⟩
abbrev cJ8_coderFromArrayLen : ByteArray := prog_34_method_15_code
def yJ8_coderFromArrayLen : MethodName := ⟨RJ8, "coderFromArrayLen", "([BI)B"⟩
abbrev cJ8_newString : ByteArray := prog_34_method_69_code
def yJ8_newString : MethodName := ⟨RJ8, "newString", "([BII)Ljava/lang/String;"⟩
abbrev cJ8_compareTo : ByteArray := prog_34_method_29_code
def yJ8_compareTo : MethodName := ⟨RJ8, "compareTo", "([B[B)I"⟩
abbrev cJ8_compareValues : ByteArray := prog_34_method_31_code
def yJ8_compareValues : MethodName := ⟨RJ8, "compareValues", "([B[BII)I"⟩
abbrev cJ8_compareToLatin1 : ByteArray := prog_34_method_32_code
def yJ8_compareToLatin1 : MethodName := ⟨RJ8, "compareToLatin1", "([B[B)I"⟩
abbrev cJ8_compareTo_2 : ByteArray := prog_34_method_30_code
def yJ8_compareTo_2 : MethodName := ⟨RJ8, "compareTo", "([B[BII)I"⟩
abbrev cJ8_checkOffset : ByteArray := prog_34_method_92_code
def yJ8_checkOffset : MethodName := ⟨RJ8, "checkOffset", "(I[B)V"⟩
abbrev cJ8_compareToLatin1_2 : ByteArray := prog_34_method_33_code
def yJ8_compareToLatin1_2 : MethodName := ⟨RJ8, "compareToLatin1", "([B[BII)I"⟩
abbrev cJ8_charAt : ByteArray := prog_34_method_83_code
def yJ8_charAt : MethodName := ⟨RJ8, "charAt", "([BI)C"⟩
abbrev cJ8_indexOf : ByteArray := prog_34_method_40_code
def yJ8_indexOf : MethodName := ⟨RJ8, "indexOf", "([BIII)I"⟩
abbrev cJ8_indexOfChar : ByteArray := prog_34_method_47_code
def yJ8_indexOfChar : MethodName := ⟨RJ8, "indexOfChar", "([BIII)I"⟩
abbrev cJ8_checkBoundsBeginEnd : ByteArray := prog_34_method_93_code
def yJ8_checkBoundsBeginEnd : MethodName := ⟨RJ8, "checkBoundsBeginEnd", "(II[B)V"⟩
abbrev cJ8_indexOfCharUnsafe : ByteArray := prog_34_method_48_code
def yJ8_indexOfCharUnsafe : MethodName := ⟨RJ8, "indexOfCharUnsafe", "([BIII)I"⟩
abbrev cJ8_indexOfSupplementary : ByteArray := prog_34_method_49_code
def yJ8_indexOfSupplementary : MethodName := ⟨RJ8, "indexOfSupplementary", "([BIII)I"⟩
def RJ9 : String := "jdk/internal/util/ArraysSupport"
abbrev cJ9_newLength : ByteArray := prog_77_method_27_code
def yJ9_newLength : MethodName := ⟨RJ9, "newLength", "(III)I"⟩
abbrev cJ9_hugeLength : ByteArray := prog_77_method_28_code
def yJ9_hugeLength : MethodName := ⟨RJ9, "hugeLength", "(II)I"⟩
abbrev cJ9_mismatch : ByteArray := prog_77_method_13_code
def yJ9_mismatch : MethodName := ⟨RJ9, "mismatch", "([B[BI)I"⟩
abbrev cJ9_vectorizedMismatch : ByteArray := prog_77_method_3_code
def yJ9_vectorizedMismatch : MethodName := ⟨RJ9, "vectorizedMismatch", "(Ljava/lang/Object;JLjava/lang/Object;JII)I"⟩
abbrev cL_law : ByteArray := code
def RX0 : String := "UnreadSigns"
def TX0 : u_T := fun k => match k with
  | 0 => ("UnreadSigns", "tape", "[B", true)
  | 1 => ("UnreadSigns", "taped", "I", false)
  | 2 => ("UnreadSigns", "told", "LUnreadSigns$Told;", false)
  | 3 => ("UnreadSigns", "name", "[[I", true)
  | 4 => ("UnreadSigns", "names", "I", false)
  | 5 => ("UnreadSigns", "unlike", "[[I", true)
  | 6 => ("UnreadSigns", "tree", "[LUnreadSigns$Two;", true)
  | 7 => ("UnreadSigns", "joins", "I", false)
  | 8 => ("UnreadSigns", "signOf", "[I", true)
  | 9 => ("UnreadSigns", "lineOf", "[I", true)
  | 10 => ("UnreadSigns", "fileOf", "[I", true)
  | 11 => ("UnreadSigns", "readAs", "[[Ljava/lang/String;", true)
  | 12 => ("UnreadSigns", "judged", "[I", true)
  | 13 => ("UnreadSigns", "pieces", "Ljava/util/TreeMap;", false)
  | 14 => ("UnreadSigns", "lexicon", "Ljava/util/TreeMap;", false)
  | 15 => ("UnreadSigns", "word", "[LUnreadSigns$Word;", false)
  | 16 => ("UnreadSigns", "wordsAll", "I", false)
  | 17 => ("UnreadSigns", "byLine", "[I", true)
  | 18 => ("UnreadSigns", "byFile", "[I", true)
  | 19 => ("UnreadSigns", "consonant", "[I", true)
  | 20 => ("UnreadSigns", "vowel", "[I", true)
  | 21 => ("UnreadSigns", "disputed", "I", false)
  | 22 => ("UnreadSigns", "act", "[LUnreadSigns$Act;", true)
  | 23 => ("UnreadSigns", "undone", "I", false)
  | 24 => ("UnreadSigns", "syllable", "[I", true)
  | 25 => ("UnreadSigns", "laid", "[I", true)
  | 26 => ("UnreadSigns", "wordOf", "[I", true)
  | 27 => ("UnreadSigns", "firstOf", "[I", true)
  | 28 => ("UnreadSigns", "wayMany", "I", false)
  | 29 => ("UnreadSigns", "x", "I", false)
  | _ => ("UnreadSigns", "drawX", "J", false)
def tyX0 : Nat → FieldType := fun k => match k with
  | 0 => .array .byte
  | 1 => .int
  | 2 => .object "UnreadSigns$Told"
  | 3 => .array (.array .int)
  | 4 => .int
  | 5 => .array (.array .int)
  | 6 => .array (.object "UnreadSigns$Two")
  | 7 => .int
  | 8 => .array .int
  | 9 => .array .int
  | 10 => .array .int
  | 11 => .array (.array (.object "java/lang/String"))
  | 12 => .array .int
  | 13 => .object "java/util/TreeMap"
  | 14 => .object "java/util/TreeMap"
  | 15 => .array (.object "UnreadSigns$Word")
  | 16 => .int
  | 17 => .array .int
  | 18 => .array .int
  | 19 => .array .int
  | 20 => .array .int
  | 21 => .int
  | 22 => .array (.object "UnreadSigns$Act")
  | 23 => .int
  | 24 => .array .int
  | 25 => .array .int
  | 26 => .array .int
  | 27 => .array .int
  | 28 => .int
  | 29 => .int
  | _ => .long
abbrev wsX00 : List Cond := u_ws RX0 TX0 31
theorem nmX0 : ∀ a, a < 31 → ∀ b, b < 31 → a ≠ b → (TX0 a).2.1 ≠ (TX0 b).2.1 := by decide +kernel
theorem tyX0_ok : ∀ k, k < 31 → parseFieldDescriptor (TX0 k).2.2.1 = some (tyX0 k) := by decide +kernel
abbrev cX0_init : ByteArray := prog_1_method_1_code
def yX0_init : MethodName := ⟨RX0, "<init>", "()V"⟩
abbrev cX0_follows : ByteArray := prog_1_method_41_code
def yX0_follows : MethodName := ⟨RX0, "follows", "(I)V"⟩
abbrev cX0_laysSigns : ByteArray := prog_1_method_20_code
def yX0_laysSigns : MethodName := ⟨RX0, "laysSigns", "()V"⟩
abbrev cX0_parts : ByteArray := prog_1_method_16_code
def yX0_parts : MethodName := ⟨RX0, "parts", "([I)V"⟩
abbrev cX0_has : ByteArray := prog_1_method_3_code
def yX0_has : MethodName := ⟨RX0, "has", "(II)Z"⟩
abbrev cX0_joins : ByteArray := prog_1_method_15_code
def yX0_joins : MethodName := ⟨RX0, "joins", "([III)Z"⟩
abbrev cX0_root : ByteArray := prog_1_method_14_code
def yX0_root : MethodName := ⟨RX0, "root", "([II)I"⟩
abbrev cX0_judges : ByteArray := prog_1_method_21_code
def yX0_judges : MethodName := ⟨RX0, "judges", "()V"⟩
abbrev cX0_laysPieces : ByteArray := prog_1_method_28_code
def yX0_laysPieces : MethodName := ⟨RX0, "laysPieces", "()V"⟩
abbrev cX0_isToLeft : ByteArray := prog_1_method_22_code
def yX0_isToLeft : MethodName := ⟨RX0, "isToLeft", "(I)Z"⟩
abbrev cX0_reads : ByteArray := prog_1_method_23_code
def yX0_reads : MethodName := ⟨RX0, "reads", "([IZ)Ljava/lang/String;"⟩
abbrev cX0_takesPieces : ByteArray := prog_1_method_24_code
def yX0_takesPieces : MethodName := ⟨RX0, "takesPieces", "(Ljava/lang/String;)V"⟩
abbrev cX0_laysWords : ByteArray := prog_1_method_29_code
def yX0_laysWords : MethodName := ⟨RX0, "laysWords", "()V"⟩
abbrev cX0_cuts : ByteArray := prog_1_method_27_code
def yX0_cuts : MethodName := ⟨RX0, "cuts", "(Ljava/lang/String;)V"⟩
abbrev cX0_isSeam : ByteArray := prog_1_method_26_code
def yX0_isSeam : MethodName := ⟨RX0, "isSeam", "(Ljava/lang/String;)Z"⟩
abbrev cX0_nextOf : ByteArray := prog_1_method_25_code
def yX0_nextOf : MethodName := ⟨RX0, "nextOf", "(Ljava/lang/String;)I"⟩
abbrev cX0_laysGrid : ByteArray := prog_1_method_34_code
def yX0_laysGrid : MethodName := ⟨RX0, "laysGrid", "()V"⟩
abbrev cX0_cluesOf : ByteArray := prog_1_method_32_code
def yX0_cluesOf : MethodName := ⟨RX0, "cluesOf", "(LUnreadSigns$Word;LUnreadSigns$Word;)V"⟩
abbrev cX0_onlyAt : ByteArray := prog_1_method_31_code
def yX0_onlyAt : MethodName := ⟨RX0, "onlyAt", "(LUnreadSigns$Word;LUnreadSigns$Word;)I"⟩
abbrev cX0_links : ByteArray := prog_1_method_30_code
def yX0_links : MethodName := ⟨RX0, "links", "([III)V"⟩
abbrev cX0_classes : ByteArray := prog_1_method_33_code
def yX0_classes : MethodName := ⟨RX0, "classes", "([I[I)V"⟩
abbrev cX0_laysKnown : ByteArray := prog_1_method_40_code
def yX0_laysKnown : MethodName := ⟨RX0, "laysKnown", "()V"⟩
abbrev cX0_isSign : ByteArray := prog_1_method_19_code
def yX0_isSign : MethodName := ⟨RX0, "isSign", "(I)Z"⟩
abbrev cX0_isForm : ByteArray := prog_1_method_18_code
def yX0_isForm : MethodName := ⟨RX0, "isForm", "(I)Z"⟩
abbrev cX0_in : ByteArray := prog_1_method_2_code
def yX0_in : MethodName := ⟨RX0, "in", "(JJJ)Z"⟩
abbrev cX0_knows : ByteArray := prog_1_method_37_code
def yX0_knows : MethodName := ⟨RX0, "knows", "([III[I)Z"⟩
abbrev cX0_signsBy : ByteArray := prog_1_method_39_code
def yX0_signsBy : MethodName := ⟨RX0, "signsBy", "([II)I"⟩
abbrev cX0_isKnown : ByteArray := prog_1_method_38_code
def yX0_isKnown : MethodName := ⟨RX0, "isKnown", "(I)Z"⟩
abbrev cX0_feed : ByteArray := prog_1_method_5_code
def yX0_feed : MethodName := ⟨RX0, "feed", "(IIIII)I"⟩
abbrev cX0_lays : ByteArray := prog_1_method_4_code
def yX0_lays : MethodName := ⟨RX0, "lays", "(I)V"⟩
abbrev cX0_end : ByteArray := prog_1_method_6_code
def yX0_end : MethodName := ⟨RX0, "end", "(I)I"⟩
abbrev cX0_forms : ByteArray := prog_1_method_8_code
def yX0_forms : MethodName := ⟨RX0, "forms", "()I"⟩
abbrev cX0_laysTree : ByteArray := prog_1_method_17_code
def yX0_laysTree : MethodName := ⟨RX0, "laysTree", "()V"⟩
abbrev cX0_unlikeOf : ByteArray := prog_1_method_13_code
def yX0_unlikeOf : MethodName := ⟨RX0, "unlikeOf", "(II)I"⟩
abbrev cX0_lambda_unlikeOf_0 : ByteArray := prog_1_method_107_code
def yX0_lambda_unlikeOf_0 : MethodName := ⟨RX0, "lambda$unlikeOf$0", "(III)I"⟩
abbrev cX0_shifted : ByteArray := prog_1_method_11_code
def yX0_shifted : MethodName := ⟨RX0, "shifted", "(III)I"⟩
abbrev cX0_leastBy : ByteArray := prog_1_method_12_code
def yX0_leastBy : MethodName := ⟨RX0, "leastBy", "(IILUnreadSigns$Shift;I)I"⟩
abbrev cX0_stone : ByteArray := prog_1_method_9_code
def yX0_stone : MethodName := ⟨RX0, "stone", "()I"⟩
abbrev cX0_name : ByteArray := prog_1_method_10_code
def yX0_name : MethodName := ⟨RX0, "name", "()I"⟩
abbrev cX0_isLike : ByteArray := prog_1_method_7_code
def yX0_isLike : MethodName := ⟨RX0, "isLike", "([I[I)Z"⟩
abbrev cX0_unlike : ByteArray := prog_1_method_42_code
def yX0_unlike : MethodName := ⟨RX0, "unlike", "(II)I"⟩
abbrev cX0_sign : ByteArray := prog_1_method_43_code
def yX0_sign : MethodName := ⟨RX0, "sign", "(I)I"⟩
abbrev cX0_size : ByteArray := prog_1_method_44_code
def yX0_size : MethodName := ⟨RX0, "size", "(I)I"⟩
abbrev cX0_tree : ByteArray := prog_1_method_45_code
def yX0_tree : MethodName := ⟨RX0, "tree", "(II)I"⟩
abbrev cX0_judged : ByteArray := prog_1_method_46_code
def yX0_judged : MethodName := ⟨RX0, "judged", "(I)I"⟩
abbrev cX0_read : ByteArray := prog_1_method_47_code
def yX0_read : MethodName := ⟨RX0, "read", "(III)I"⟩
abbrev cX0_comes : ByteArray := prog_1_method_49_code
def yX0_comes : MethodName := ⟨RX0, "comes", "()I"⟩
abbrev cX0_pieceTold : ByteArray := prog_1_method_48_code
def yX0_pieceTold : MethodName := ⟨RX0, "pieceTold", "()Ljava/lang/String;"⟩
abbrev cX0_next : ByteArray := prog_1_method_50_code
def yX0_next : MethodName := ⟨RX0, "next", "()I"⟩
abbrev cX0_words : ByteArray := prog_1_method_51_code
def yX0_words : MethodName := ⟨RX0, "words", "()I"⟩
abbrev cX0_word : ByteArray := prog_1_method_53_code
def yX0_word : MethodName := ⟨RX0, "word", "(II)I"⟩
abbrev cX0_isWord : ByteArray := prog_1_method_52_code
def yX0_isWord : MethodName := ⟨RX0, "isWord", "(I)Z"⟩
abbrev cX0_rank : ByteArray := prog_1_method_54_code
def yX0_rank : MethodName := ⟨RX0, "rank", "(I)I"⟩
abbrev cX0_stands : ByteArray := prog_1_method_58_code
def yX0_stands : MethodName := ⟨RX0, "stands", "(II)I"⟩
abbrev cX0_comesAs : ByteArray := prog_1_method_57_code
def yX0_comesAs : MethodName := ⟨RX0, "comesAs", "(Ljava/lang/StringBuilder;)I"⟩
abbrev cX0_atEnds : ByteArray := prog_1_method_55_code
def yX0_atEnds : MethodName := ⟨RX0, "atEnds", "(IZ)I"⟩
abbrev cX0_inWords : ByteArray := prog_1_method_56_code
def yX0_inWords : MethodName := ⟨RX0, "inWords", "(I)I"⟩
abbrev cX0_ahead : ByteArray := prog_1_method_59_code
def yX0_ahead : MethodName := ⟨RX0, "ahead", "(II)I"⟩
abbrev cX0_stem : ByteArray := prog_1_method_61_code
def yX0_stem : MethodName := ⟨RX0, "stem", "(II)I"⟩
abbrev cX0_stemsNow : ByteArray := prog_1_method_60_code
def yX0_stemsNow : MethodName := ⟨RX0, "stemsNow", "()Ljava/util/TreeMap;"⟩
abbrev cX0_clues : ByteArray := prog_1_method_63_code
def yX0_clues : MethodName := ⟨RX0, "clues", "(Z)I"⟩
abbrev cX0_bitsOf : ByteArray := prog_1_method_62_code
def yX0_bitsOf : MethodName := ⟨RX0, "bitsOf", "([I)I"⟩
abbrev cX0_place : ByteArray := prog_1_method_64_code
def yX0_place : MethodName := ⟨RX0, "place", "(IZ)I"⟩
abbrev cX0_clash : ByteArray := prog_1_method_65_code
def yX0_clash : MethodName := ⟨RX0, "clash", "(I)I"⟩
abbrev cX0_doClash : ByteArray := prog_1_method_35_code
def yX0_doClash : MethodName := ⟨RX0, "doClash", "(II)Z"⟩
abbrev cX0_steps : ByteArray := prog_1_method_36_code
def yX0_steps : MethodName := ⟨RX0, "steps", "([III)I"⟩
abbrev cX0_clashes : ByteArray := prog_1_method_66_code
def yX0_clashes : MethodName := ⟨RX0, "clashes", "()I"⟩
abbrev cX0_known : ByteArray := prog_1_method_67_code
def yX0_known : MethodName := ⟨RX0, "known", "(II)I"⟩
abbrev cX0_loose : ByteArray := prog_1_method_69_code
def yX0_loose : MethodName := ⟨RX0, "loose", "(I)I"⟩
abbrev cX0_lambda_loose_1 : ByteArray := prog_1_method_106_code
def yX0_lambda_loose_1 : MethodName := ⟨RX0, "lambda$loose$1", "(I)V"⟩
abbrev cX0_keeps : ByteArray := prog_1_method_68_code
def yX0_keeps : MethodName := ⟨RX0, "keeps", "(LUnreadSigns$Back;I)V"⟩
abbrev cX0_alike : ByteArray := prog_1_method_73_code
def yX0_alike : MethodName := ⟨RX0, "alike", "(IIZ)Z"⟩
abbrev cX0_tellsTwo : ByteArray := prog_1_method_72_code
def yX0_tellsTwo : MethodName := ⟨RX0, "tellsTwo", "([I[IIIZ)Z"⟩
abbrev cX0_areTwo : ByteArray := prog_1_method_70_code
def yX0_areTwo : MethodName := ⟨RX0, "areTwo", "(II)Z"⟩
abbrev cX0_tells : ByteArray := prog_1_method_71_code
def yX0_tells : MethodName := ⟨RX0, "tells", "([IIIZ)V"⟩
abbrev cX0_lambda_tellsTwo_2 : ByteArray := prog_1_method_105_code
def yX0_lambda_tellsTwo_2 : MethodName := ⟨RX0, "lambda$tellsTwo$2", "([IIIZ[IZ)V"⟩
abbrev cX0_apart : ByteArray := prog_1_method_74_code
def yX0_apart : MethodName := ⟨RX0, "apart", "(IIZ)Z"⟩
abbrev cX0_way : ByteArray := prog_1_method_75_code
def yX0_way : MethodName := ⟨RX0, "way", "(I)I"⟩
abbrev cX0_lambda_way_3 : ByteArray := prog_1_method_104_code
def yX0_lambda_way_3 : MethodName := ⟨RX0, "lambda$way$3", "(I)V"⟩
abbrev cX0_rise : ByteArray := prog_1_method_76_code
def yX0_rise : MethodName := ⟨RX0, "rise", "(I)I"⟩
abbrev cX0_lambda_rise_4 : ByteArray := prog_1_method_103_code
def yX0_lambda_rise_4 : MethodName := ⟨RX0, "lambda$rise$4", "(I)V"⟩
abbrev cX0_clue : ByteArray := prog_1_method_77_code
def yX0_clue : MethodName := ⟨RX0, "clue", "(IIZ)I"⟩
abbrev cX0_lambda_clue_5 : ByteArray := prog_1_method_102_code
def yX0_lambda_clue_5 : MethodName := ⟨RX0, "lambda$clue$5", "()V"⟩
abbrev cX0_guess : ByteArray := prog_1_method_79_code
def yX0_guess : MethodName := ⟨RX0, "guess", "(III)I"⟩
abbrev cX0_guesses : ByteArray := prog_1_method_78_code
def yX0_guesses : MethodName := ⟨RX0, "guesses", "(II)V"⟩
abbrev cX0_lambda_guess_6 : ByteArray := prog_1_method_101_code
def yX0_lambda_guess_6 : MethodName := ⟨RX0, "lambda$guess$6", "(II)V"⟩
abbrev cX0_undo : ByteArray := prog_1_method_80_code
def yX0_undo : MethodName := ⟨RX0, "undo", "()I"⟩
abbrev cX0_fits : ByteArray := prog_1_method_84_code
def yX0_fits : MethodName := ⟨RX0, "fits", "(II)I"⟩
abbrev cX0_doFit : ByteArray := prog_1_method_82_code
def yX0_doFit : MethodName := ⟨RX0, "doFit", "(LUnreadSigns$Word;[I)Z"⟩
abbrev cX0_may : ByteArray := prog_1_method_81_code
def yX0_may : MethodName := ⟨RX0, "may", "(II)Z"⟩
abbrev cX0_hits : ByteArray := prog_1_method_86_code
def yX0_hits : MethodName := ⟨RX0, "hits", "()I"⟩
abbrev cX0_hitsNow : ByteArray := prog_1_method_85_code
def yX0_hitsNow : MethodName := ⟨RX0, "hitsNow", "()I"⟩
abbrev cX0_isAllKnown : ByteArray := prog_1_method_83_code
def yX0_isAllKnown : MethodName := ⟨RX0, "isAllKnown", "(LUnreadSigns$Word;)Z"⟩
abbrev cX0_ways : ByteArray := prog_1_method_92_code
def yX0_ways : MethodName := ⟨RX0, "ways", "(I)I"⟩
abbrev cX0_waysFrom : ByteArray := prog_1_method_91_code
def yX0_waysFrom : MethodName := ⟨RX0, "waysFrom", "(I)V"⟩
abbrev cX0_isTaken : ByteArray := prog_1_method_90_code
def yX0_isTaken : MethodName := ⟨RX0, "isTaken", "(II)Z"⟩
abbrev cX0_laysWord : ByteArray := prog_1_method_88_code
def yX0_laysWord : MethodName := ⟨RX0, "laysWord", "(LUnreadSigns$Word;[I)I"⟩
abbrev cX0_can : ByteArray := prog_1_method_87_code
def yX0_can : MethodName := ⟨RX0, "can", "(II)Z"⟩
abbrev cX0_takesWord : ByteArray := prog_1_method_89_code
def yX0_takesWord : MethodName := ⟨RX0, "takesWord", "(LUnreadSigns$Word;I)V"⟩
abbrev cX0_draws : ByteArray := prog_1_method_93_code
def yX0_draws : MethodName := ⟨RX0, "draws", "(I)I"⟩
abbrev cX0_test : ByteArray := prog_1_method_96_code
def yX0_test : MethodName := ⟨RX0, "test", "(I)I"⟩
abbrev cX0_draw : ByteArray := prog_1_method_94_code
def yX0_draw : MethodName := ⟨RX0, "draw", "(I)I"⟩
abbrev cX0_changes : ByteArray := prog_1_method_95_code
def yX0_changes : MethodName := ⟨RX0, "changes", "([III)V"⟩
abbrev cX0_count : ByteArray := prog_1_method_100_code
def yX0_count : MethodName := ⟨RX0, "count", "(I)I"⟩
abbrev cX0_classesOf : ByteArray := prog_1_method_98_code
def yX0_classesOf : MethodName := ⟨RX0, "classesOf", "([I)I"⟩
abbrev cX0_rowsAll : ByteArray := prog_1_method_97_code
def yX0_rowsAll : MethodName := ⟨RX0, "rowsAll", "(Z)I"⟩
abbrev cX0_guessed : ByteArray := prog_1_method_99_code
def yX0_guessed : MethodName := ⟨RX0, "guessed", "()I"⟩
def RX1 : String := "UnreadSigns$Told"
def TX1 : u_T := fun k => match k with
  | 0 => ("UnreadSigns$Told", "forms", "I", false)
  | 1 => ("UnreadSigns$Told", "stones", "I", false)
  | 2 => ("UnreadSigns$Told", "clues", "I", false)
  | 3 => ("UnreadSigns$Told", "loose", "I", false)
  | 4 => ("UnreadSigns$Told", "way", "I", false)
  | 5 => ("UnreadSigns$Told", "rise", "I", false)
  | 6 => ("UnreadSigns$Told", "form", "[I", true)
  | 7 => ("UnreadSigns$Told", "stone", "[LUnreadSigns$Stone;", true)
  | 8 => ("UnreadSigns$Told", "alike", "[I", true)
  | 9 => ("UnreadSigns$Told", "apart", "[I", true)
  | 10 => ("UnreadSigns$Told", "clue", "[LUnreadSigns$Clue;", true)
  | _ => ("UnreadSigns$Told", "guess", "[I", true)
def tyX1 : Nat → FieldType := fun k => match k with
  | 0 => .int
  | 1 => .int
  | 2 => .int
  | 3 => .int
  | 4 => .int
  | 5 => .int
  | 6 => .array .int
  | 7 => .array (.object "UnreadSigns$Stone")
  | 8 => .array .int
  | 9 => .array .int
  | 10 => .array (.object "UnreadSigns$Clue")
  | _ => .array .int
abbrev wsX10 : List Cond := u_ws RX1 TX1 12
theorem nmX1 : ∀ a, a < 12 → ∀ b, b < 12 → a ≠ b → (TX1 a).2.1 ≠ (TX1 b).2.1 := by decide +kernel
theorem tyX1_ok : ∀ k, k < 12 → parseFieldDescriptor (TX1 k).2.2.1 = some (tyX1 k) := by decide +kernel
abbrev cX1_init : ByteArray := prog_11_method_1_code
def yX1_init : MethodName := ⟨RX1, "<init>", "()V"⟩
def RX10 : String := "UnreadSigns$ByCount"
abbrev cX10_compare : ByteArray := prog_4_method_3_code
def yX10_compare : MethodName := ⟨RX10, "compare", "(Ljava/lang/Object;Ljava/lang/Object;)I"⟩
abbrev cX10_compare_2 : ByteArray := prog_4_method_2_code
def yX10_compare_2 : MethodName := ⟨RX10, "compare", "(LUnreadSigns$Word;LUnreadSigns$Word;)I"⟩
abbrev cX10_init : ByteArray := prog_4_method_1_code
def yX10_init : MethodName := ⟨RX10, "<init>", "()V"⟩
def RX11 : String := "UnreadSigns$Stem"
def TX11 : u_T := fun k => match k with
  | 0 => ("UnreadSigns$Stem", "of", "Ljava/lang/String;", true)
  | _ => ("UnreadSigns$Stem", "endings", "I", false)
def tyX11 : Nat → FieldType := fun k => match k with
  | 0 => .object "java/lang/String"
  | _ => .int
abbrev wsX110 : List Cond := u_ws RX11 TX11 2
theorem nmX11 : ∀ a, a < 2 → ∀ b, b < 2 → a ≠ b → (TX11 a).2.1 ≠ (TX11 b).2.1 := by decide +kernel
theorem tyX11_ok : ∀ k, k < 2 → parseFieldDescriptor (TX11 k).2.2.1 = some (tyX11 k) := by decide +kernel
abbrev cX11_init : ByteArray := prog_9_method_1_code
def yX11_init : MethodName := ⟨RX11, "<init>", "(Ljava/lang/String;)V"⟩
def RX12 : String := "UnreadSigns$Clue"
def TX12 : u_T := fun k => match k with
  | 0 => ("UnreadSigns$Clue", "one", "I", true)
  | 1 => ("UnreadSigns$Clue", "other", "I", true)
  | _ => ("UnreadSigns$Clue", "isFile", "Z", true)
def tyX12 : Nat → FieldType := fun k => match k with
  | 0 => .int
  | 1 => .int
  | _ => .boolean
abbrev wsX120 : List Cond := u_ws RX12 TX12 3
theorem nmX12 : ∀ a, a < 3 → ∀ b, b < 3 → a ≠ b → (TX12 a).2.1 ≠ (TX12 b).2.1 := by decide +kernel
theorem tyX12_ok : ∀ k, k < 3 → parseFieldDescriptor (TX12 k).2.2.1 = some (tyX12 k) := by decide +kernel
abbrev cX12_isOf : ByteArray := prog_5_method_2_code
def yX12_isOf : MethodName := ⟨RX12, "isOf", "(IIZ)Z"⟩
abbrev cX12_init : ByteArray := prog_5_method_1_code
def yX12_init : MethodName := ⟨RX12, "<init>", "(IIZ)V"⟩
def RX2 : String := "UnreadSigns$Piece"
def TX2 : u_T := fun k => match k with
  | 0 => ("UnreadSigns$Piece", "comes", "I", false)
  | 1 => ("UnreadSigns$Piece", "ends", "Z", false)
  | _ => ("UnreadSigns$Piece", "behind", "Ljava/util/TreeSet;", true)
def tyX2 : Nat → FieldType := fun k => match k with
  | 0 => .int
  | 1 => .boolean
  | _ => .object "java/util/TreeSet"
abbrev wsX20 : List Cond := u_ws RX2 TX2 3
theorem nmX2 : ∀ a, a < 3 → ∀ b, b < 3 → a ≠ b → (TX2 a).2.1 ≠ (TX2 b).2.1 := by decide +kernel
theorem tyX2_ok : ∀ k, k < 3 → parseFieldDescriptor (TX2 k).2.2.1 = some (tyX2 k) := by decide +kernel
abbrev cX2_init : ByteArray := prog_6_method_1_code
def yX2_init : MethodName := ⟨RX2, "<init>", "()V"⟩
abbrev cX2_next : ByteArray := prog_6_method_2_code
def yX2_next : MethodName := ⟨RX2, "next", "()I"⟩
def RX3 : String := "UnreadSigns$Word"
def TX3 : u_T := fun k => match k with
  | 0 => ("UnreadSigns$Word", "of", "Ljava/lang/String;", true)
  | 1 => ("UnreadSigns$Word", "many", "I", false)
  | _ => ("UnreadSigns$Word", "number", "I", false)
def tyX3 : Nat → FieldType := fun k => match k with
  | 0 => .object "java/lang/String"
  | 1 => .int
  | _ => .int
abbrev wsX30 : List Cond := u_ws RX3 TX3 3
theorem nmX3 : ∀ a, a < 3 → ∀ b, b < 3 → a ≠ b → (TX3 a).2.1 ≠ (TX3 b).2.1 := by decide +kernel
theorem tyX3_ok : ∀ k, k < 3 → parseFieldDescriptor (TX3 k).2.2.1 = some (tyX3 k) := by decide +kernel
abbrev cX3_init : ByteArray := prog_13_method_1_code
def yX3_init : MethodName := ⟨RX3, "<init>", "(Ljava/lang/String;)V"⟩
abbrev cX3_sign : ByteArray := prog_13_method_2_code
def yX3_sign : MethodName := ⟨RX3, "sign", "(I)I"⟩
def RX4 : String := "UnreadSignsModel"
def TX4 : u_T := fun k => match k with
  | 0 => ("UnreadSignsModel", "tape", "[B", true)
  | 1 => ("UnreadSignsModel", "taped", "I", false)
  | 2 => ("UnreadSignsModel", "p", "I", false)
  | 3 => ("UnreadSignsModel", "fault", "I", false)
  | 4 => ("UnreadSignsModel", "forms", "I", false)
  | 5 => ("UnreadSignsModel", "newForms", "I", false)
  | 6 => ("UnreadSignsModel", "form", "[I", true)
  | 7 => ("UnreadSignsModel", "newForm", "[I", true)
  | 8 => ("UnreadSignsModel", "stones", "I", false)
  | 9 => ("UnreadSignsModel", "rowMany", "[I", true)
  | 10 => ("UnreadSignsModel", "rowLong", "[I", true)
  | 11 => ("UnreadSignsModel", "stone", "[I", true)
  | 12 => ("UnreadSignsModel", "names", "I", false)
  | 13 => ("UnreadSignsModel", "nameLong", "[I", true)
  | 14 => ("UnreadSignsModel", "name", "[I", true)
  | 15 => ("UnreadSignsModel", "told", "[I", true)
  | 16 => ("UnreadSignsModel", "past", "[I", true)
  | 17 => ("UnreadSignsModel", "pastMany", "I", false)
  | 18 => ("UnreadSignsModel", "signOf", "[I", true)
  | 19 => ("UnreadSignsModel", "signMany", "I", false)
  | 20 => ("UnreadSignsModel", "joined", "[I", true)
  | 21 => ("UnreadSignsModel", "begin", "[I", true)
  | 22 => ("UnreadSignsModel", "read", "[I", true)
  | 23 => ("UnreadSignsModel", "rows", "I", false)
  | 24 => ("UnreadSignsModel", "piece", "[I", true)
  | 25 => ("UnreadSignsModel", "words", "I", false)
  | 26 => ("UnreadSignsModel", "wordMany", "I", false)
  | 27 => ("UnreadSignsModel", "wordLong", "[I", true)
  | 28 => ("UnreadSignsModel", "word", "[I", true)
  | 29 => ("UnreadSignsModel", "times", "[I", true)
  | 30 => ("UnreadSignsModel", "firsts", "[I", true)
  | 31 => ("UnreadSignsModel", "lasts", "[I", true)
  | 32 => ("UnreadSignsModel", "stems", "I", false)
  | 33 => ("UnreadSignsModel", "stemOf", "[I", true)
  | 34 => ("UnreadSignsModel", "isClue", "[Z", true)
  | 35 => ("UnreadSignsModel", "group", "[I", true)
  | 36 => ("UnreadSignsModel", "far", "[I", true)
  | 37 => ("UnreadSignsModel", "known", "[I", true)
  | 38 => ("UnreadSignsModel", "given", "[I", true)
  | 39 => ("UnreadSignsModel", "first", "[I", true)
  | 40 => ("UnreadSignsModel", "wayMany", "I", false)
  | 41 => ("UnreadSignsModel", "x", "I", false)
  | 42 => ("UnreadSignsModel", "whole", "[I", true)
  | 43 => ("UnreadSignsModel", "value", "[I", true)
  | 44 => ("UnreadSignsModel", "mixed", "[I", true)
  | _ => ("UnreadSignsModel", "isLaid", "Z", false)
def tyX4 : Nat → FieldType := fun k => match k with
  | 0 => .array .byte
  | 1 => .int
  | 2 => .int
  | 3 => .int
  | 4 => .int
  | 5 => .int
  | 6 => .array .int
  | 7 => .array .int
  | 8 => .int
  | 9 => .array .int
  | 10 => .array .int
  | 11 => .array .int
  | 12 => .int
  | 13 => .array .int
  | 14 => .array .int
  | 15 => .array .int
  | 16 => .array .int
  | 17 => .int
  | 18 => .array .int
  | 19 => .int
  | 20 => .array .int
  | 21 => .array .int
  | 22 => .array .int
  | 23 => .int
  | 24 => .array .int
  | 25 => .int
  | 26 => .int
  | 27 => .array .int
  | 28 => .array .int
  | 29 => .array .int
  | 30 => .array .int
  | 31 => .array .int
  | 32 => .int
  | 33 => .array .int
  | 34 => .array .boolean
  | 35 => .array .int
  | 36 => .array .int
  | 37 => .array .int
  | 38 => .array .int
  | 39 => .array .int
  | 40 => .int
  | 41 => .int
  | 42 => .array .int
  | 43 => .array .int
  | 44 => .array .int
  | _ => .boolean
abbrev wsX40 : List Cond := u_ws RX4 TX4 46
theorem nmX4 : ∀ a, a < 46 → ∀ b, b < 46 → a ≠ b → (TX4 a).2.1 ≠ (TX4 b).2.1 := by decide +kernel
theorem tyX4_ok : ∀ k, k < 46 → parseFieldDescriptor (TX4 k).2.2.1 = some (tyX4 k) := by decide +kernel
abbrev cX4_init : ByteArray := prog_16_method_1_code
def yX4_init : MethodName := ⟨RX4, "<init>", "()V"⟩
abbrev cX4_clearsTold : ByteArray := prog_16_method_25_code
def yX4_clearsTold : MethodName := ⟨RX4, "clearsTold", "()V"⟩
abbrev cX4_feed : ByteArray := prog_16_method_4_code
def yX4_feed : MethodName := ⟨RX4, "feed", "(IIIII)I"⟩
abbrev cX4_puts : ByteArray := prog_16_method_5_code
def yX4_puts : MethodName := ⟨RX4, "puts", "(I)V"⟩
abbrev cX4_end : ByteArray := prog_16_method_6_code
def yX4_end : MethodName := ⟨RX4, "end", "(I)I"⟩
abbrev cX4_forms : ByteArray := prog_16_method_16_code
def yX4_forms : MethodName := ⟨RX4, "forms", "()I"⟩
abbrev cX4_starts : ByteArray := prog_16_method_12_code
def yX4_starts : MethodName := ⟨RX4, "starts", "()V"⟩
abbrev cX4_blanks : ByteArray := prog_16_method_11_code
def yX4_blanks : MethodName := ⟨RX4, "blanks", "()V"⟩
abbrev cX4_sign : ByteArray := prog_16_method_7_code
def yX4_sign : MethodName := ⟨RX4, "sign", "()I"⟩
abbrev cX4_isRight : ByteArray := prog_16_method_9_code
def yX4_isRight : MethodName := ⟨RX4, "isRight", "()Z"⟩
abbrev cX4_readsForm : ByteArray := prog_16_method_15_code
def yX4_readsForm : MethodName := ⟨RX4, "readsForm", "()V"⟩
abbrev cX4_numberTaken : ByteArray := prog_16_method_13_code
def yX4_numberTaken : MethodName := ⟨RX4, "numberTaken", "()I"⟩
abbrev cX4_isDigit : ByteArray := prog_16_method_10_code
def yX4_isDigit : MethodName := ⟨RX4, "isDigit", "()Z"⟩
abbrev cX4_in : ByteArray := prog_16_method_2_code
def yX4_in : MethodName := ⟨RX4, "in", "(III)Z"⟩
abbrev cX4_fails : ByteArray := prog_16_method_8_code
def yX4_fails : MethodName := ⟨RX4, "fails", "(II)V"⟩
abbrev cX4_isTold : ByteArray := prog_16_method_14_code
def yX4_isTold : MethodName := ⟨RX4, "isTold", "()Z"⟩
abbrev cX4_stone : ByteArray := prog_16_method_20_code
def yX4_stone : MethodName := ⟨RX4, "stone", "()I"⟩
abbrev cX4_readsRow : ByteArray := prog_16_method_19_code
def yX4_readsRow : MethodName := ⟨RX4, "readsRow", "()V"⟩
abbrev cX4_isLetter : ByteArray := prog_16_method_17_code
def yX4_isLetter : MethodName := ⟨RX4, "isLetter", "()Z"⟩
abbrev cX4_placeTaken : ByteArray := prog_16_method_18_code
def yX4_placeTaken : MethodName := ⟨RX4, "placeTaken", "(I)V"⟩
abbrev cX4_truth : ByteArray := prog_16_method_3_code
def yX4_truth : MethodName := ⟨RX4, "truth", "(Z)I"⟩
abbrev cX4_name : ByteArray := prog_16_method_24_code
def yX4_name : MethodName := ⟨RX4, "name", "()I"⟩
abbrev cX4_readsSyllable : ByteArray := prog_16_method_22_code
def yX4_readsSyllable : MethodName := ⟨RX4, "readsSyllable", "()V"⟩
abbrev cX4_oneOf : ByteArray := prog_16_method_21_code
def yX4_oneOf : MethodName := ⟨RX4, "oneOf", "(Ljava/lang/String;)I"⟩
abbrev cX4_isNameTold : ByteArray := prog_16_method_23_code
def yX4_isNameTold : MethodName := ⟨RX4, "isNameTold", "()Z"⟩
abbrev cX4_undo : ByteArray := prog_16_method_27_code
def yX4_undo : MethodName := ⟨RX4, "undo", "()I"⟩
abbrev cX4_loose : ByteArray := prog_16_method_29_code
def yX4_loose : MethodName := ⟨RX4, "loose", "(I)I"⟩
abbrev cX4_changes : ByteArray := prog_16_method_28_code
def yX4_changes : MethodName := ⟨RX4, "changes", "(IIII)I"⟩
abbrev cX4_remembers : ByteArray := prog_16_method_26_code
def yX4_remembers : MethodName := ⟨RX4, "remembers", "()V"⟩
abbrev cX4_way : ByteArray := prog_16_method_30_code
def yX4_way : MethodName := ⟨RX4, "way", "(I)I"⟩
abbrev cX4_rise : ByteArray := prog_16_method_31_code
def yX4_rise : MethodName := ⟨RX4, "rise", "(I)I"⟩
abbrev cX4_alike : ByteArray := prog_16_method_35_code
def yX4_alike : MethodName := ⟨RX4, "alike", "(IIZ)Z"⟩
abbrev cX4_tellsTwo : ByteArray := prog_16_method_34_code
def yX4_tellsTwo : MethodName := ⟨RX4, "tellsTwo", "(IIIZ)Z"⟩
abbrev cX4_isForm : ByteArray := prog_16_method_32_code
def yX4_isForm : MethodName := ⟨RX4, "isForm", "(I)Z"⟩
abbrev cX4_twoAt : ByteArray := prog_16_method_33_code
def yX4_twoAt : MethodName := ⟨RX4, "twoAt", "(II)I"⟩
abbrev cX4_apart : ByteArray := prog_16_method_36_code
def yX4_apart : MethodName := ⟨RX4, "apart", "(IIZ)Z"⟩
abbrev cX4_clue : ByteArray := prog_16_method_38_code
def yX4_clue : MethodName := ⟨RX4, "clue", "(IIZ)I"⟩
abbrev cX4_lays : ByteArray := prog_16_method_114_code
def yX4_lays : MethodName := ⟨RX4, "lays", "()V"⟩
abbrev cX4_laysSigns : ByteArray := prog_16_method_45_code
def yX4_laysSigns : MethodName := ⟨RX4, "laysSigns", "()V"⟩
abbrev cX4_areLinked : ByteArray := prog_16_method_44_code
def yX4_areLinked : MethodName := ⟨RX4, "areLinked", "(II)Z"⟩
abbrev cX4_unlikeOf : ByteArray := prog_16_method_42_code
def yX4_unlikeOf : MethodName := ⟨RX4, "unlikeOf", "(II)I"⟩
abbrev cX4_unlikeBy : ByteArray := prog_16_method_41_code
def yX4_unlikeBy : MethodName := ⟨RX4, "unlikeBy", "(IIII)I"⟩
abbrev cX4_dotOf : ByteArray := prog_16_method_40_code
def yX4_dotOf : MethodName := ⟨RX4, "dotOf", "(III)I"⟩
abbrev cX4_laysRows : ByteArray := prog_16_method_55_code
def yX4_laysRows : MethodName := ⟨RX4, "laysRows", "()V"⟩
abbrev cX4_judgedWay : ByteArray := prog_16_method_53_code
def yX4_judgedWay : MethodName := ⟨RX4, "judgedWay", "()I"⟩
abbrev cX4_ragged : ByteArray := prog_16_method_50_code
def yX4_ragged : MethodName := ⟨RX4, "ragged", "(I)I"⟩
abbrev cX4_ends : ByteArray := prog_16_method_52_code
def yX4_ends : MethodName := ⟨RX4, "ends", "(I)I"⟩
abbrev cX4_endOf : ByteArray := prog_16_method_51_code
def yX4_endOf : MethodName := ⟨RX4, "endOf", "(II)I"⟩
abbrev cX4_laysRow : ByteArray := prog_16_method_56_code
def yX4_laysRow : MethodName := ⟨RX4, "laysRow", "(IZ)V"⟩
abbrev cX4_laysWords : ByteArray := prog_16_method_68_code
def yX4_laysWords : MethodName := ⟨RX4, "laysWords", "()V"⟩
abbrev cX4_length : ByteArray := prog_16_method_64_code
def yX4_length : MethodName := ⟨RX4, "length", "(II)I"⟩
abbrev cX4_nextOf : ByteArray := prog_16_method_60_code
def yX4_nextOf : MethodName := ⟨RX4, "nextOf", "(I)I"⟩
abbrev cX4_stands : ByteArray := prog_16_method_58_code
def yX4_stands : MethodName := ⟨RX4, "stands", "(III)Z"⟩
abbrev cX4_comesWord : ByteArray := prog_16_method_67_code
def yX4_comesWord : MethodName := ⟨RX4, "comesWord", "(I)V"⟩
abbrev cX4_against : ByteArray := prog_16_method_65_code
def yX4_against : MethodName := ⟨RX4, "against", "(II)I"⟩
abbrev cX4_copiesWord : ByteArray := prog_16_method_66_code
def yX4_copiesWord : MethodName := ⟨RX4, "copiesWord", "(II)V"⟩
abbrev cX4_laysGrid : ByteArray := prog_16_method_85_code
def yX4_laysGrid : MethodName := ⟨RX4, "laysGrid", "()V"⟩
abbrev cX4_cluesOf : ByteArray := prog_16_method_83_code
def yX4_cluesOf : MethodName := ⟨RX4, "cluesOf", "(II)V"⟩
abbrev cX4_unlikePlaces : ByteArray := prog_16_method_82_code
def yX4_unlikePlaces : MethodName := ⟨RX4, "unlikePlaces", "(II)I"⟩
abbrev cX4_tellsClue : ByteArray := prog_16_method_81_code
def yX4_tellsClue : MethodName := ⟨RX4, "tellsClue", "(III)V"⟩
abbrev cX4_clueAt : ByteArray := prog_16_method_80_code
def yX4_clueAt : MethodName := ⟨RX4, "clueAt", "(III)I"⟩
abbrev cX4_laysGroups : ByteArray := prog_16_method_84_code
def yX4_laysGroups : MethodName := ⟨RX4, "laysGroups", "(I)V"⟩
abbrev cX4_laysKnown : ByteArray := prog_16_method_94_code
def yX4_laysKnown : MethodName := ⟨RX4, "laysKnown", "()V"⟩
abbrev cX4_partOf : ByteArray := prog_16_method_93_code
def yX4_partOf : MethodName := ⟨RX4, "partOf", "(II)I"⟩
abbrev cX4_isClueTold : ByteArray := prog_16_method_37_code
def yX4_isClueTold : MethodName := ⟨RX4, "isClueTold", "(IIZ)Z"⟩
abbrev cX4_guess : ByteArray := prog_16_method_39_code
def yX4_guess : MethodName := ⟨RX4, "guess", "(III)I"⟩
abbrev cX4_disputedMany : ByteArray := prog_16_method_97_code
def yX4_disputedMany : MethodName := ⟨RX4, "disputedMany", "()I"⟩
abbrev cX4_isSign : ByteArray := prog_16_method_86_code
def yX4_isSign : MethodName := ⟨RX4, "isSign", "(I)Z"⟩
abbrev cX4_isDisputed : ByteArray := prog_16_method_96_code
def yX4_isDisputed : MethodName := ⟨RX4, "isDisputed", "(I)Z"⟩
abbrev cX4_isWhole : ByteArray := prog_16_method_95_code
def yX4_isWhole : MethodName := ⟨RX4, "isWhole", "(I)Z"⟩
abbrev cX4_unlike : ByteArray := prog_16_method_43_code
def yX4_unlike : MethodName := ⟨RX4, "unlike", "(II)I"⟩
abbrev cX4_sign_2 : ByteArray := prog_16_method_46_code
def yX4_sign_2 : MethodName := ⟨RX4, "sign", "(I)I"⟩
abbrev cX4_size : ByteArray := prog_16_method_47_code
def yX4_size : MethodName := ⟨RX4, "size", "(I)I"⟩
abbrev cX4_tree : ByteArray := prog_16_method_48_code
def yX4_tree : MethodName := ⟨RX4, "tree", "(II)I"⟩
abbrev cX4_joins : ByteArray := prog_16_method_49_code
def yX4_joins : MethodName := ⟨RX4, "joins", "(II)V"⟩
abbrev cX4_judged : ByteArray := prog_16_method_54_code
def yX4_judged : MethodName := ⟨RX4, "judged", "(I)I"⟩
abbrev cX4_read : ByteArray := prog_16_method_57_code
def yX4_read : MethodName := ⟨RX4, "read", "(III)I"⟩
abbrev cX4_comes : ByteArray := prog_16_method_62_code
def yX4_comes : MethodName := ⟨RX4, "comes", "()I"⟩
abbrev cX4_pieceTold : ByteArray := prog_16_method_61_code
def yX4_pieceTold : MethodName := ⟨RX4, "pieceTold", "()I"⟩
abbrev cX4_comesOf : ByteArray := prog_16_method_59_code
def yX4_comesOf : MethodName := ⟨RX4, "comesOf", "(I)I"⟩
abbrev cX4_next : ByteArray := prog_16_method_63_code
def yX4_next : MethodName := ⟨RX4, "next", "()I"⟩
abbrev cX4_words : ByteArray := prog_16_method_69_code
def yX4_words : MethodName := ⟨RX4, "words", "()I"⟩
abbrev cX4_word : ByteArray := prog_16_method_70_code
def yX4_word : MethodName := ⟨RX4, "word", "(II)I"⟩
abbrev cX4_rank : ByteArray := prog_16_method_71_code
def yX4_rank : MethodName := ⟨RX4, "rank", "(I)I"⟩
abbrev cX4_stands_2 : ByteArray := prog_16_method_73_code
def yX4_stands_2 : MethodName := ⟨RX4, "stands", "(II)I"⟩
abbrev cX4_standsIn : ByteArray := prog_16_method_72_code
def yX4_standsIn : MethodName := ⟨RX4, "standsIn", "(I)I"⟩
abbrev cX4_ahead : ByteArray := prog_16_method_74_code
def yX4_ahead : MethodName := ⟨RX4, "ahead", "(II)I"⟩
abbrev cX4_stem : ByteArray := prog_16_method_79_code
def yX4_stem : MethodName := ⟨RX4, "stem", "(II)I"⟩
abbrev cX4_laysStems : ByteArray := prog_16_method_78_code
def yX4_laysStems : MethodName := ⟨RX4, "laysStems", "()V"⟩
abbrev cX4_laysPiece : ByteArray := prog_16_method_77_code
def yX4_laysPiece : MethodName := ⟨RX4, "laysPiece", "(II)V"⟩
abbrev cX4_endingsOf : ByteArray := prog_16_method_75_code
def yX4_endingsOf : MethodName := ⟨RX4, "endingsOf", "(I)I"⟩
abbrev cX4_isAhead : ByteArray := prog_16_method_76_code
def yX4_isAhead : MethodName := ⟨RX4, "isAhead", "(II)Z"⟩
abbrev cX4_clues : ByteArray := prog_16_method_87_code
def yX4_clues : MethodName := ⟨RX4, "clues", "(Z)I"⟩
abbrev cX4_place : ByteArray := prog_16_method_88_code
def yX4_place : MethodName := ⟨RX4, "place", "(IZ)I"⟩
abbrev cX4_clash : ByteArray := prog_16_method_91_code
def yX4_clash : MethodName := ⟨RX4, "clash", "(I)I"⟩
abbrev cX4_doClash : ByteArray := prog_16_method_89_code
def yX4_doClash : MethodName := ⟨RX4, "doClash", "(II)Z"⟩
abbrev cX4_fewest : ByteArray := prog_16_method_90_code
def yX4_fewest : MethodName := ⟨RX4, "fewest", "(III)I"⟩
abbrev cX4_clashes : ByteArray := prog_16_method_92_code
def yX4_clashes : MethodName := ⟨RX4, "clashes", "()I"⟩
abbrev cX4_known : ByteArray := prog_16_method_98_code
def yX4_known : MethodName := ⟨RX4, "known", "(II)I"⟩
abbrev cX4_fits : ByteArray := prog_16_method_101_code
def yX4_fits : MethodName := ⟨RX4, "fits", "(II)I"⟩
abbrev cX4_fitsName : ByteArray := prog_16_method_100_code
def yX4_fitsName : MethodName := ⟨RX4, "fitsName", "(II)Z"⟩
abbrev cX4_wordSign : ByteArray := prog_16_method_99_code
def yX4_wordSign : MethodName := ⟨RX4, "wordSign", "(II)I"⟩
abbrev cX4_hits : ByteArray := prog_16_method_103_code
def yX4_hits : MethodName := ⟨RX4, "hits", "()I"⟩
abbrev cX4_hitsNow : ByteArray := prog_16_method_102_code
def yX4_hitsNow : MethodName := ⟨RX4, "hitsNow", "()I"⟩
abbrev cX4_ways : ByteArray := prog_16_method_108_code
def yX4_ways : MethodName := ⟨RX4, "ways", "(I)I"⟩
abbrev cX4_laysWays : ByteArray := prog_16_method_107_code
def yX4_laysWays : MethodName := ⟨RX4, "laysWays", "()V"⟩
abbrev cX4_canBe : ByteArray := prog_16_method_105_code
def yX4_canBe : MethodName := ⟨RX4, "canBe", "(I)Z"⟩
abbrev cX4_agree : ByteArray := prog_16_method_104_code
def yX4_agree : MethodName := ⟨RX4, "agree", "(II)Z"⟩
abbrev cX4_takesWay : ByteArray := prog_16_method_106_code
def yX4_takesWay : MethodName := ⟨RX4, "takesWay", "()V"⟩
abbrev cX4_draws : ByteArray := prog_16_method_109_code
def yX4_draws : MethodName := ⟨RX4, "draws", "(I)I"⟩
abbrev cX4_test : ByteArray := prog_16_method_113_code
def yX4_test : MethodName := ⟨RX4, "test", "(I)I"⟩
abbrev cX4_laysWhole : ByteArray := prog_16_method_111_code
def yX4_laysWhole : MethodName := ⟨RX4, "laysWhole", "()I"⟩
abbrev cX4_mixes : ByteArray := prog_16_method_112_code
def yX4_mixes : MethodName := ⟨RX4, "mixes", "(I)V"⟩
abbrev cX4_drawn : ByteArray := prog_16_method_110_code
def yX4_drawn : MethodName := ⟨RX4, "drawn", "(I)I"⟩
abbrev cX4_count : ByteArray := prog_16_method_117_code
def yX4_count : MethodName := ⟨RX4, "count", "(I)I"⟩
abbrev cX4_groups : ByteArray := prog_16_method_115_code
def yX4_groups : MethodName := ⟨RX4, "groups", "(I)I"⟩
abbrev cX4_guesses : ByteArray := prog_16_method_116_code
def yX4_guesses : MethodName := ⟨RX4, "guesses", "()I"⟩
def RX5 : String := "UnreadSigns$Reader"
def TX5 : u_T := fun k => match k with
  | 0 => ("UnreadSigns$Reader", "at", "I", false)
  | _ => ("UnreadSigns$Reader", "this$0", "LUnreadSigns;", true)
def tyX5 : Nat → FieldType := fun k => match k with
  | 0 => .int
  | _ => .object "UnreadSigns"
abbrev wsX50 : List Cond := u_ws RX5 TX5 2
theorem nmX5 : ∀ a, a < 2 → ∀ b, b < 2 → a ≠ b → (TX5 a).2.1 ≠ (TX5 b).2.1 := by decide +kernel
theorem tyX5_ok : ∀ k, k < 2 → parseFieldDescriptor (TX5 k).2.2.1 = some (tyX5 k) := by decide +kernel
abbrev cX5_init : ByteArray := prog_7_method_1_code
def yX5_init : MethodName := ⟨RX5, "<init>", "(LUnreadSigns;)V"⟩
abbrev cX5_forms : ByteArray := prog_7_method_7_code
def yX5_forms : MethodName := ⟨RX5, "forms", "()LUnreadSigns$Told;"⟩
abbrev cX5_sees : ByteArray := prog_7_method_4_code
def yX5_sees : MethodName := ⟨RX5, "sees", "()I"⟩
abbrev cX5_here : ByteArray := prog_7_method_3_code
def yX5_here : MethodName := ⟨RX5, "here", "()I"⟩
abbrev cX5_formHere : ByteArray := prog_7_method_6_code
def yX5_formHere : MethodName := ⟨RX5, "formHere", "(LUnreadSigns$Told;)V"⟩
abbrev cX5_demands : ByteArray := prog_7_method_2_code
def yX5_demands : MethodName := ⟨RX5, "demands", "(ZII)V"⟩
abbrev cX5_numberHere : ByteArray := prog_7_method_5_code
def yX5_numberHere : MethodName := ⟨RX5, "numberHere", "()I"⟩
abbrev cX5_stone : ByteArray := prog_7_method_9_code
def yX5_stone : MethodName := ⟨RX5, "stone", "()LUnreadSigns$Stone;"⟩
abbrev cX5_rowHere : ByteArray := prog_7_method_8_code
def yX5_rowHere : MethodName := ⟨RX5, "rowHere", "(I)[I"⟩
abbrev cX5_goesOn : ByteArray := prog_7_method_10_code
def yX5_goesOn : MethodName := ⟨RX5, "goesOn", "()Z"⟩
abbrev cX5_name : ByteArray := prog_7_method_12_code
def yX5_name : MethodName := ⟨RX5, "name", "()[I"⟩
abbrev cX5_oneOf : ByteArray := prog_7_method_11_code
def yX5_oneOf : MethodName := ⟨RX5, "oneOf", "(Ljava/lang/String;)I"⟩
def RX6 : String := "UnreadSigns$Wrong"
def TX6 : u_T := fun k => match k with
  | 0 => ("java/lang/Throwable", "cause", "Ljava/lang/Throwable;", false)
  | 1 => ("java/lang/Throwable", "stackTrace", "[Ljava/lang/StackTraceElement;", false)
  | 2 => ("java/lang/Throwable", "suppressedExceptions", "Ljava/util/List;", false)
  | 3 => ("java/lang/Throwable", "detailMessage", "Ljava/lang/String;", false)
  | 4 => ("java/lang/Throwable", "backtrace", "Ljava/lang/Object;", false)
  | 5 => ("java/lang/Throwable", "depth", "I", false)
  | _ => ("UnreadSigns$Wrong", "fault", "I", true)
def tyX6 : Nat → FieldType := fun k => match k with
  | 0 => .object "java/lang/Throwable"
  | 1 => .array (.object "java/lang/StackTraceElement")
  | 2 => .object "java/util/List"
  | 3 => .object "java/lang/String"
  | 4 => .object "java/lang/Object"
  | 5 => .int
  | _ => .int
abbrev wsX60 : List Cond := u_ws RX6 TX6 7
theorem nmX6 : ∀ a, a < 7 → ∀ b, b < 7 → a ≠ b → (TX6 a).2.1 ≠ (TX6 b).2.1 := by decide +kernel
theorem tyX6_ok : ∀ k, k < 7 → parseFieldDescriptor (TX6 k).2.2.1 = some (tyX6 k) := by decide +kernel
abbrev cX6_init : ByteArray := prog_14_method_1_code
def yX6_init : MethodName := ⟨RX6, "<init>", "(II)V"⟩
def RX7 : String := "UnreadSigns$Two"
def TX7 : u_T := fun k => match k with
  | 0 => ("UnreadSigns$Two", "one", "I", true)
  | 1 => ("UnreadSigns$Two", "other", "I", true)
  | _ => ("UnreadSigns$Two", "unlike", "I", true)
def tyX7 : Nat → FieldType := fun k => match k with
  | 0 => .int
  | 1 => .int
  | _ => .int
abbrev wsX70 : List Cond := u_ws RX7 TX7 3
theorem nmX7 : ∀ a, a < 3 → ∀ b, b < 3 → a ≠ b → (TX7 a).2.1 ≠ (TX7 b).2.1 := by decide +kernel
theorem tyX7_ok : ∀ k, k < 3 → parseFieldDescriptor (TX7 k).2.2.1 = some (tyX7 k) := by decide +kernel
abbrev cX7_compareTo : ByteArray := prog_12_method_3_code
def yX7_compareTo : MethodName := ⟨RX7, "compareTo", "(Ljava/lang/Object;)I"⟩
abbrev cX7_compareTo_2 : ByteArray := prog_12_method_2_code
def yX7_compareTo_2 : MethodName := ⟨RX7, "compareTo", "(LUnreadSigns$Two;)I"⟩
abbrev cX7_init : ByteArray := prog_12_method_1_code
def yX7_init : MethodName := ⟨RX7, "<init>", "(III)V"⟩
def RX8 : String := "UnreadSigns$Stone"
def TX8 : u_T := fun k => match k with
  | 0 => ("UnreadSigns$Stone", "row", "[[I", true)
  | _ => ("UnreadSigns$Stone", "rows", "I", false)
def tyX8 : Nat → FieldType := fun k => match k with
  | 0 => .array (.array .int)
  | _ => .int
abbrev wsX80 : List Cond := u_ws RX8 TX8 2
theorem nmX8 : ∀ a, a < 2 → ∀ b, b < 2 → a ≠ b → (TX8 a).2.1 ≠ (TX8 b).2.1 := by decide +kernel
theorem tyX8_ok : ∀ k, k < 2 → parseFieldDescriptor (TX8 k).2.2.1 = some (tyX8 k) := by decide +kernel
abbrev cX8_end : ByteArray := prog_10_method_3_code
def yX8_end : MethodName := ⟨RX8, "end", "(IZ)I"⟩
abbrev cX8_empty : ByteArray := prog_10_method_2_code
def yX8_empty : MethodName := ⟨RX8, "empty", "(IZ)I"⟩
abbrev cX8_init : ByteArray := prog_10_method_1_code
def yX8_init : MethodName := ⟨RX8, "<init>", "()V"⟩
def RX9 : String := "UnreadSigns$Act"
def TX9 : u_T := fun k => match k with
  | 0 => ("UnreadSigns$Act", "back", "LUnreadSigns$Back;", true)
  | _ => ("UnreadSigns$Act", "from", "I", true)
def tyX9 : Nat → FieldType := fun k => match k with
  | 0 => .object "UnreadSigns$Back"
  | _ => .int
abbrev wsX90 : List Cond := u_ws RX9 TX9 2
theorem nmX9 : ∀ a, a < 2 → ∀ b, b < 2 → a ≠ b → (TX9 a).2.1 ≠ (TX9 b).2.1 := by decide +kernel
theorem tyX9_ok : ∀ k, k < 2 → parseFieldDescriptor (TX9 k).2.2.1 = some (tyX9 k) := by decide +kernel
abbrev cX9_init : ByteArray := prog_2_method_1_code
def yX9_init : MethodName := ⟨RX9, "<init>", "(LUnreadSigns$Back;I)V"⟩
theorem q145 : (Jvm.Cond.initialized "java/util/AbstractMap") ∈ lw_all := lw_g (lw_at lw_m1 3 rfl) rfl
theorem q273 : (Jvm.Cond.instanceMethod ({ cls := "java/util/AbstractMap", name := "<init>", desc := "()V" } : Jvm.MethodName)) ∈ lw_all := lw_g (lw_at lw_m1 131 rfl) rfl
theorem q274 : (Jvm.Cond.code ({ cls := "java/util/AbstractMap", name := "<init>", desc := "()V" } : Jvm.MethodName) prog_41_method_1_code (1 : Nat) (Option.none : Option Jvm.ClassFile.FieldType)) ∈ lw_all := lw_g (lw_at lw_m1 132 rfl) rfl
theorem q275 : (Jvm.Cond.methodLink "java/util/AbstractMap" (1 : Nat) ({ cls := "java/lang/Object", name := "<init>", desc := "()V" } : Jvm.MethodName)) ∈ lw_all := lw_g (lw_at lw_m1 133 rfl) rfl
theorem q299 : (Jvm.Cond.soleField "java/util/AbstractMap" "keySet") ∈ lw_all := lw_g (lw_at lw_m1 157 rfl) rfl
theorem q301 : (Jvm.Cond.soleField "java/util/AbstractMap" "values") ∈ lw_all := lw_g (lw_at lw_m1 159 rfl) rfl
theorem q146 : (Jvm.Cond.initialized "java/util/TreeMap") ∈ lw_all := lw_g (lw_at lw_m1 4 rfl) rfl
theorem q268 : (Jvm.Cond.instantiable "java/util/TreeMap" (9 : Nat)) ∈ lw_all := lw_g (lw_at lw_m1 126 rfl) rfl
theorem q270 : (Jvm.Cond.instanceMethod ({ cls := "java/util/TreeMap", name := "<init>", desc := "()V" } : Jvm.MethodName)) ∈ lw_all := lw_g (lw_at lw_m1 128 rfl) rfl
theorem q271 : (Jvm.Cond.code ({ cls := "java/util/TreeMap", name := "<init>", desc := "()V" } : Jvm.MethodName) prog_66_method_1_code (1 : Nat) (Option.none : Option Jvm.ClassFile.FieldType)) ∈ lw_all := lw_g (lw_at lw_m1 129 rfl) rfl
theorem q272 : (Jvm.Cond.methodLink "java/util/TreeMap" (1 : Nat) ({ cls := "java/util/AbstractMap", name := "<init>", desc := "()V" } : Jvm.MethodName)) ∈ lw_all := lw_g (lw_at lw_m1 130 rfl) rfl
theorem q276 : (Jvm.Cond.fieldLink "java/util/TreeMap" (16 : Nat) "java/util/TreeMap" "comparator" "Ljava/util/Comparator;") ∈ lw_all := lw_g (lw_at lw_m1 134 rfl) rfl
theorem q277 : (Jvm.Cond.fieldLink "java/util/TreeMap" (101 : Nat) "java/util/TreeMap" "root" "Ljava/util/TreeMap$Entry;") ∈ lw_all := lw_g (lw_at lw_m1 135 rfl) rfl
theorem q278 : (Jvm.Cond.fieldLink "java/util/TreeMap" (7 : Nat) "java/util/TreeMap" "size" "I") ∈ lw_all := lw_g (lw_at lw_m1 136 rfl) rfl
theorem q279 : (Jvm.Cond.fieldLink "java/util/TreeMap" (13 : Nat) "java/util/TreeMap" "modCount" "I") ∈ lw_all := lw_g (lw_at lw_m1 137 rfl) rfl
theorem q281 : (Jvm.Cond.fieldLink "java/util/TreeMap" (191 : Nat) "java/util/TreeMap" "navigableKeySet" "Ljava/util/TreeMap$KeySet;") ∈ lw_all := lw_g (lw_at lw_m1 139 rfl) rfl
theorem q282 : (Jvm.Cond.fieldLink "java/util/TreeMap" (233 : Nat) "java/util/TreeMap" "values" "Ljava/util/Collection;") ∈ lw_all := lw_g (lw_at lw_m1 140 rfl) rfl
theorem q283 : (Jvm.Cond.sameField "java/util/TreeMap" "java/util/AbstractMap" "values" "Ljava/util/Collection;") ∈ lw_all := lw_g (lw_at lw_m1 141 rfl) rfl
theorem q284 : (Jvm.Cond.laysFinal "java/util/TreeMap" "java/util/TreeMap" "comparator" "Ljava/util/Comparator;") ∈ lw_all := lw_g (lw_at lw_m1 142 rfl) rfl
theorem q285 : (Jvm.Cond.soleField "java/util/TreeMap" "comparator") ∈ lw_all := lw_g (lw_at lw_m1 143 rfl) rfl
theorem q286 : (Jvm.Cond.lays "java/util/TreeMap" "java/util/TreeMap" "root" "Ljava/util/TreeMap$Entry;") ∈ lw_all := lw_g (lw_at lw_m1 144 rfl) rfl
theorem q287 : (Jvm.Cond.soleField "java/util/TreeMap" "root") ∈ lw_all := lw_g (lw_at lw_m1 145 rfl) rfl
theorem q288 : (Jvm.Cond.lays "java/util/TreeMap" "java/util/TreeMap" "size" "I") ∈ lw_all := lw_g (lw_at lw_m1 146 rfl) rfl
theorem q289 : (Jvm.Cond.soleField "java/util/TreeMap" "size") ∈ lw_all := lw_g (lw_at lw_m1 147 rfl) rfl
theorem q290 : (Jvm.Cond.lays "java/util/TreeMap" "java/util/TreeMap" "modCount" "I") ∈ lw_all := lw_g (lw_at lw_m1 148 rfl) rfl
theorem q291 : (Jvm.Cond.soleField "java/util/TreeMap" "modCount") ∈ lw_all := lw_g (lw_at lw_m1 149 rfl) rfl
theorem q292 : (Jvm.Cond.lays "java/util/TreeMap" "java/util/TreeMap" "entrySet" "Ljava/util/TreeMap$EntrySet;") ∈ lw_all := lw_g (lw_at lw_m1 150 rfl) rfl
theorem q293 : (Jvm.Cond.soleField "java/util/TreeMap" "entrySet") ∈ lw_all := lw_g (lw_at lw_m1 151 rfl) rfl
theorem q294 : (Jvm.Cond.lays "java/util/TreeMap" "java/util/TreeMap" "navigableKeySet" "Ljava/util/TreeMap$KeySet;") ∈ lw_all := lw_g (lw_at lw_m1 152 rfl) rfl
theorem q295 : (Jvm.Cond.soleField "java/util/TreeMap" "navigableKeySet") ∈ lw_all := lw_g (lw_at lw_m1 153 rfl) rfl
theorem q296 : (Jvm.Cond.lays "java/util/TreeMap" "java/util/TreeMap" "descendingMap" "Ljava/util/NavigableMap;") ∈ lw_all := lw_g (lw_at lw_m1 154 rfl) rfl
theorem q297 : (Jvm.Cond.soleField "java/util/TreeMap" "descendingMap") ∈ lw_all := lw_g (lw_at lw_m1 155 rfl) rfl
theorem q298 : (Jvm.Cond.lays "java/util/TreeMap" "java/util/AbstractMap" "keySet" "Ljava/util/Set;") ∈ lw_all := lw_g (lw_at lw_m1 156 rfl) rfl
theorem q300 : (Jvm.Cond.lays "java/util/TreeMap" "java/util/AbstractMap" "values" "Ljava/util/Collection;") ∈ lw_all := lw_g (lw_at lw_m1 158 rfl) rfl
theorem q302 : (Jvm.Cond.superclass "java/util/TreeMap" "java/util/AbstractMap") ∈ lw_all := lw_g (lw_at lw_m1 160 rfl) rfl
theorem q593 : (Jvm.Cond.instanceMethod ({ cls := "java/util/TreeMap", name := "containsKey", desc := "(Ljava/lang/Object;)Z" } : Jvm.MethodName)) ∈ lw_all := lw_g (lw_at lw_m2 211 rfl) rfl
theorem q594 : (Jvm.Cond.selects "java/util/TreeMap" ({ cls := "java/util/TreeMap", name := "containsKey", desc := "(Ljava/lang/Object;)Z" } : Jvm.MethodName) ({ cls := "java/util/TreeMap", name := "containsKey", desc := "(Ljava/lang/Object;)Z" } : Jvm.MethodName)) ∈ lw_all := lw_g (lw_at lw_m2 212 rfl) rfl
theorem q595 : (Jvm.Cond.code ({ cls := "java/util/TreeMap", name := "containsKey", desc := "(Ljava/lang/Object;)Z" } : Jvm.MethodName) prog_66_method_6_code (2 : Nat) (Option.some Jvm.ClassFile.FieldType.boolean)) ∈ lw_all := lw_g (lw_at lw_m2 213 rfl) rfl
theorem q596 : (Jvm.Cond.methodLink "java/util/TreeMap" (50 : Nat) ({ cls := "java/util/TreeMap", name := "getEntry", desc := "(Ljava/lang/Object;)Ljava/util/TreeMap$Entry;" } : Jvm.MethodName)) ∈ lw_all := lw_g (lw_at lw_m2 214 rfl) rfl
theorem q597 : (Jvm.Cond.instanceMethod ({ cls := "java/util/TreeMap", name := "getEntry", desc := "(Ljava/lang/Object;)Ljava/util/TreeMap$Entry;" } : Jvm.MethodName)) ∈ lw_all := lw_g (lw_at lw_m2 215 rfl) rfl
theorem q598 : (Jvm.Cond.selects "java/util/TreeMap" ({ cls := "java/util/TreeMap", name := "getEntry", desc := "(Ljava/lang/Object;)Ljava/util/TreeMap$Entry;" } : Jvm.MethodName) ({ cls := "java/util/TreeMap", name := "getEntry", desc := "(Ljava/lang/Object;)Ljava/util/TreeMap$Entry;" } : Jvm.MethodName)) ∈ lw_all := lw_g (lw_at lw_m2 216 rfl) rfl
theorem q599 : (Jvm.Cond.code ({ cls := "java/util/TreeMap", name := "getEntry", desc := "(Ljava/lang/Object;)Ljava/util/TreeMap$Entry;" } : Jvm.MethodName) prog_66_method_15_code (5 : Nat) (Option.some (Jvm.ClassFile.FieldType.object "java/util/TreeMap$Entry"))) ∈ lw_all := lw_g (lw_at lw_m2 217 rfl) rfl
theorem q600 : (Jvm.Cond.methodLink "java/util/TreeMap" (92 : Nat) ({ cls := "java/util/TreeMap", name := "getEntryUsingComparator", desc := "(Ljava/lang/Object;)Ljava/util/TreeMap$Entry;" } : Jvm.MethodName)) ∈ lw_all := lw_g (lw_at lw_m2 218 rfl) rfl
theorem q601 : (Jvm.Cond.instanceMethod ({ cls := "java/util/TreeMap", name := "getEntryUsingComparator", desc := "(Ljava/lang/Object;)Ljava/util/TreeMap$Entry;" } : Jvm.MethodName)) ∈ lw_all := lw_g (lw_at lw_m2 219 rfl) rfl
theorem q602 : (Jvm.Cond.selects "java/util/TreeMap" ({ cls := "java/util/TreeMap", name := "getEntryUsingComparator", desc := "(Ljava/lang/Object;)Ljava/util/TreeMap$Entry;" } : Jvm.MethodName) ({ cls := "java/util/TreeMap", name := "getEntryUsingComparator", desc := "(Ljava/lang/Object;)Ljava/util/TreeMap$Entry;" } : Jvm.MethodName)) ∈ lw_all := lw_g (lw_at lw_m2 220 rfl) rfl
theorem q603 : (Jvm.Cond.code ({ cls := "java/util/TreeMap", name := "getEntryUsingComparator", desc := "(Ljava/lang/Object;)Ljava/util/TreeMap$Entry;" } : Jvm.MethodName) prog_66_method_16_code (6 : Nat) (Option.some (Jvm.ClassFile.FieldType.object "java/util/TreeMap$Entry"))) ∈ lw_all := lw_g (lw_at lw_m2 221 rfl) rfl
theorem q604 : (Jvm.Cond.interfaceEntry "java/util/TreeMap" (117 : Nat)) ∈ lw_tbl := lw_at lw_m2 222 rfl
theorem q605 : (Jvm.Cond.methodLink "java/util/TreeMap" (117 : Nat) ({ cls := "java/util/Comparator", name := "compare", desc := "(Ljava/lang/Object;Ljava/lang/Object;)I" } : Jvm.MethodName)) ∈ lw_all := lw_g (lw_at lw_m2 223 rfl) rfl
theorem q619 : (Jvm.Cond.methodLink "java/util/TreeMap" (95 : Nat) ({ cls := "java/util/Objects", name := "requireNonNull", desc := "(Ljava/lang/Object;)Ljava/lang/Object;" } : Jvm.MethodName)) ∈ lw_all := lw_g (lw_at lw_m2 237 rfl) rfl
theorem q622 : (Jvm.Cond.classLink "java/util/TreeMap" (99 : Nat) "java/lang/Comparable") ∈ lw_all := lw_g (lw_at lw_m3 0 rfl) rfl
theorem q623 : (Jvm.Cond.interfaceEntry "java/util/TreeMap" (107 : Nat)) ∈ lw_tbl := lw_at lw_m3 1 rfl
theorem q624 : (Jvm.Cond.methodLink "java/util/TreeMap" (107 : Nat) ({ cls := "java/lang/Comparable", name := "compareTo", desc := "(Ljava/lang/Object;)I" } : Jvm.MethodName)) ∈ lw_all := lw_g (lw_at lw_m3 2 rfl) rfl
theorem q871 : (Jvm.Cond.instanceMethod ({ cls := "java/util/TreeMap", name := "put", desc := "(Ljava/lang/Object;Ljava/lang/Object;)Ljava/lang/Object;" } : Jvm.MethodName)) ∈ lw_all := lw_g (lw_at lw_m4 9 rfl) rfl
theorem q872 : (Jvm.Cond.selects "java/util/TreeMap" ({ cls := "java/util/TreeMap", name := "put", desc := "(Ljava/lang/Object;Ljava/lang/Object;)Ljava/lang/Object;" } : Jvm.MethodName) ({ cls := "java/util/TreeMap", name := "put", desc := "(Ljava/lang/Object;Ljava/lang/Object;)Ljava/lang/Object;" } : Jvm.MethodName)) ∈ lw_all := lw_g (lw_at lw_m4 10 rfl) rfl
theorem q873 : (Jvm.Cond.code ({ cls := "java/util/TreeMap", name := "put", desc := "(Ljava/lang/Object;Ljava/lang/Object;)Ljava/lang/Object;" } : Jvm.MethodName) prog_66_method_21_code (3 : Nat) (Option.some (Jvm.ClassFile.FieldType.object "java/lang/Object"))) ∈ lw_all := lw_g (lw_at lw_m4 11 rfl) rfl
theorem q874 : (Jvm.Cond.methodLink "java/util/TreeMap" (127 : Nat) ({ cls := "java/util/TreeMap", name := "put", desc := "(Ljava/lang/Object;Ljava/lang/Object;Z)Ljava/lang/Object;" } : Jvm.MethodName)) ∈ lw_all := lw_g (lw_at lw_m4 12 rfl) rfl
theorem q875 : (Jvm.Cond.privateMethod ({ cls := "java/util/TreeMap", name := "put", desc := "(Ljava/lang/Object;Ljava/lang/Object;Z)Ljava/lang/Object;" } : Jvm.MethodName)) ∈ lw_tbl := lw_at lw_m4 13 rfl
theorem q876 : (Jvm.Cond.instanceMethod ({ cls := "java/util/TreeMap", name := "put", desc := "(Ljava/lang/Object;Ljava/lang/Object;Z)Ljava/lang/Object;" } : Jvm.MethodName)) ∈ lw_all := lw_g (lw_at lw_m4 14 rfl) rfl
theorem q877 : (Jvm.Cond.code ({ cls := "java/util/TreeMap", name := "put", desc := "(Ljava/lang/Object;Ljava/lang/Object;Z)Ljava/lang/Object;" } : Jvm.MethodName) prog_66_method_31_code (10 : Nat) (Option.some (Jvm.ClassFile.FieldType.object "java/lang/Object"))) ∈ lw_all := lw_g (lw_at lw_m4 15 rfl) rfl
theorem q878 : (Jvm.Cond.methodLink "java/util/TreeMap" (135 : Nat) ({ cls := "java/util/TreeMap", name := "addEntryToEmptyMap", desc := "(Ljava/lang/Object;Ljava/lang/Object;)V" } : Jvm.MethodName)) ∈ lw_all := lw_g (lw_at lw_m4 16 rfl) rfl
theorem q879 : (Jvm.Cond.privateMethod ({ cls := "java/util/TreeMap", name := "addEntryToEmptyMap", desc := "(Ljava/lang/Object;Ljava/lang/Object;)V" } : Jvm.MethodName)) ∈ lw_tbl := lw_at lw_m4 17 rfl
theorem q880 : (Jvm.Cond.instanceMethod ({ cls := "java/util/TreeMap", name := "addEntryToEmptyMap", desc := "(Ljava/lang/Object;Ljava/lang/Object;)V" } : Jvm.MethodName)) ∈ lw_all := lw_g (lw_at lw_m4 18 rfl) rfl
theorem q881 : (Jvm.Cond.code ({ cls := "java/util/TreeMap", name := "addEntryToEmptyMap", desc := "(Ljava/lang/Object;Ljava/lang/Object;)V" } : Jvm.MethodName) prog_66_method_30_code (3 : Nat) (Option.none : Option Jvm.ClassFile.FieldType)) ∈ lw_all := lw_g (lw_at lw_m4 19 rfl) rfl
theorem q882 : (Jvm.Cond.methodLink "java/util/TreeMap" (123 : Nat) ({ cls := "java/util/TreeMap", name := "compare", desc := "(Ljava/lang/Object;Ljava/lang/Object;)I" } : Jvm.MethodName)) ∈ lw_all := lw_g (lw_at lw_m4 20 rfl) rfl
theorem q883 : (Jvm.Cond.instanceMethod ({ cls := "java/util/TreeMap", name := "compare", desc := "(Ljava/lang/Object;Ljava/lang/Object;)I" } : Jvm.MethodName)) ∈ lw_all := lw_g (lw_at lw_m4 21 rfl) rfl
theorem q884 : (Jvm.Cond.selects "java/util/TreeMap" ({ cls := "java/util/TreeMap", name := "compare", desc := "(Ljava/lang/Object;Ljava/lang/Object;)I" } : Jvm.MethodName) ({ cls := "java/util/TreeMap", name := "compare", desc := "(Ljava/lang/Object;Ljava/lang/Object;)I" } : Jvm.MethodName)) ∈ lw_all := lw_g (lw_at lw_m4 22 rfl) rfl
theorem q885 : (Jvm.Cond.code ({ cls := "java/util/TreeMap", name := "compare", desc := "(Ljava/lang/Object;Ljava/lang/Object;)I" } : Jvm.MethodName) prog_66_method_67_code (3 : Nat) (Option.some Jvm.ClassFile.FieldType.int)) ∈ lw_all := lw_g (lw_at lw_m4 23 rfl) rfl
theorem q886 : (Jvm.Cond.classLink "java/util/TreeMap" (59 : Nat) "java/util/TreeMap$Entry") ∈ lw_all := lw_g (lw_at lw_m4 24 rfl) rfl
theorem q888 : (Jvm.Cond.methodLink "java/util/TreeMap" (167 : Nat) ({ cls := "java/util/TreeMap$Entry", name := "<init>", desc := "(Ljava/lang/Object;Ljava/lang/Object;Ljava/util/TreeMap$Entry;)V" } : Jvm.MethodName)) ∈ lw_all := lw_g (lw_at lw_m4 26 rfl) rfl
theorem q894 : (Jvm.Cond.fieldLink "java/util/TreeMap" (105 : Nat) "java/util/TreeMap$Entry" "key" "Ljava/lang/Object;") ∈ lw_all := lw_g (lw_at lw_m4 32 rfl) rfl
theorem q897 : (Jvm.Cond.fieldLink "java/util/TreeMap" (58 : Nat) "java/util/TreeMap$Entry" "value" "Ljava/lang/Object;") ∈ lw_all := lw_g (lw_at lw_m4 35 rfl) rfl
theorem q898 : (Jvm.Cond.fieldLink "java/util/TreeMap" (111 : Nat) "java/util/TreeMap$Entry" "left" "Ljava/util/TreeMap$Entry;") ∈ lw_all := lw_g (lw_at lw_m4 36 rfl) rfl
theorem q899 : (Jvm.Cond.fieldLink "java/util/TreeMap" (114 : Nat) "java/util/TreeMap$Entry" "right" "Ljava/util/TreeMap$Entry;") ∈ lw_all := lw_g (lw_at lw_m4 37 rfl) rfl
theorem q901 : (Jvm.Cond.fieldLink "java/util/TreeMap" (124 : Nat) "java/util/TreeMap$Entry" "parent" "Ljava/util/TreeMap$Entry;") ∈ lw_all := lw_g (lw_at lw_m4 39 rfl) rfl
theorem q903 : (Jvm.Cond.fieldLink "java/util/TreeMap" (290 : Nat) "java/util/TreeMap$Entry" "color" "Z") ∈ lw_all := lw_g (lw_at lw_m4 41 rfl) rfl
theorem q917 : (Jvm.Cond.methodLink "java/util/TreeMap" (139 : Nat) ({ cls := "java/util/TreeMap", name := "addEntry", desc := "(Ljava/lang/Object;Ljava/lang/Object;Ljava/util/TreeMap$Entry;Z)V" } : Jvm.MethodName)) ∈ lw_all := lw_g (lw_at lw_m4 55 rfl) rfl
theorem q918 : (Jvm.Cond.privateMethod ({ cls := "java/util/TreeMap", name := "addEntry", desc := "(Ljava/lang/Object;Ljava/lang/Object;Ljava/util/TreeMap$Entry;Z)V" } : Jvm.MethodName)) ∈ lw_tbl := lw_at lw_m4 56 rfl
theorem q919 : (Jvm.Cond.instanceMethod ({ cls := "java/util/TreeMap", name := "addEntry", desc := "(Ljava/lang/Object;Ljava/lang/Object;Ljava/util/TreeMap$Entry;Z)V" } : Jvm.MethodName)) ∈ lw_all := lw_g (lw_at lw_m4 57 rfl) rfl
theorem q920 : (Jvm.Cond.code ({ cls := "java/util/TreeMap", name := "addEntry", desc := "(Ljava/lang/Object;Ljava/lang/Object;Ljava/util/TreeMap$Entry;Z)V" } : Jvm.MethodName) prog_66_method_29_code (6 : Nat) (Option.none : Option Jvm.ClassFile.FieldType)) ∈ lw_all := lw_g (lw_at lw_m4 58 rfl) rfl
theorem q921 : (Jvm.Cond.methodLink "java/util/TreeMap" (170 : Nat) ({ cls := "java/util/TreeMap", name := "fixAfterInsertion", desc := "(Ljava/util/TreeMap$Entry;)V" } : Jvm.MethodName)) ∈ lw_all := lw_g (lw_at lw_m4 59 rfl) rfl
theorem q922 : (Jvm.Cond.privateMethod ({ cls := "java/util/TreeMap", name := "fixAfterInsertion", desc := "(Ljava/util/TreeMap$Entry;)V" } : Jvm.MethodName)) ∈ lw_tbl := lw_at lw_m4 60 rfl
theorem q923 : (Jvm.Cond.instanceMethod ({ cls := "java/util/TreeMap", name := "fixAfterInsertion", desc := "(Ljava/util/TreeMap$Entry;)V" } : Jvm.MethodName)) ∈ lw_all := lw_g (lw_at lw_m4 61 rfl) rfl
theorem q924 : (Jvm.Cond.code ({ cls := "java/util/TreeMap", name := "fixAfterInsertion", desc := "(Ljava/util/TreeMap$Entry;)V" } : Jvm.MethodName) prog_66_method_83_code (3 : Nat) (Option.none : Option Jvm.ClassFile.FieldType)) ∈ lw_all := lw_g (lw_at lw_m4 62 rfl) rfl
theorem q925 : (Jvm.Cond.methodLink "java/util/TreeMap" (294 : Nat) ({ cls := "java/util/TreeMap", name := "parentOf", desc := "(Ljava/util/TreeMap$Entry;)Ljava/util/TreeMap$Entry;" } : Jvm.MethodName)) ∈ lw_all := lw_g (lw_at lw_m4 63 rfl) rfl
theorem q926 : (Jvm.Cond.static ({ cls := "java/util/TreeMap", name := "parentOf", desc := "(Ljava/util/TreeMap$Entry;)Ljava/util/TreeMap$Entry;" } : Jvm.MethodName)) ∈ lw_all := lw_g (lw_at lw_m4 64 rfl) rfl
theorem q927 : (Jvm.Cond.code ({ cls := "java/util/TreeMap", name := "parentOf", desc := "(Ljava/util/TreeMap$Entry;)Ljava/util/TreeMap$Entry;" } : Jvm.MethodName) prog_66_method_77_code (1 : Nat) (Option.some (Jvm.ClassFile.FieldType.object "java/util/TreeMap$Entry"))) ∈ lw_all := lw_g (lw_at lw_m4 65 rfl) rfl
theorem q928 : (Jvm.Cond.methodLink "java/util/TreeMap" (297 : Nat) ({ cls := "java/util/TreeMap", name := "leftOf", desc := "(Ljava/util/TreeMap$Entry;)Ljava/util/TreeMap$Entry;" } : Jvm.MethodName)) ∈ lw_all := lw_g (lw_at lw_m4 66 rfl) rfl
theorem q929 : (Jvm.Cond.static ({ cls := "java/util/TreeMap", name := "leftOf", desc := "(Ljava/util/TreeMap$Entry;)Ljava/util/TreeMap$Entry;" } : Jvm.MethodName)) ∈ lw_all := lw_g (lw_at lw_m4 67 rfl) rfl
theorem q930 : (Jvm.Cond.code ({ cls := "java/util/TreeMap", name := "leftOf", desc := "(Ljava/util/TreeMap$Entry;)Ljava/util/TreeMap$Entry;" } : Jvm.MethodName) prog_66_method_79_code (1 : Nat) (Option.some (Jvm.ClassFile.FieldType.object "java/util/TreeMap$Entry"))) ∈ lw_all := lw_g (lw_at lw_m4 68 rfl) rfl
theorem q931 : (Jvm.Cond.methodLink "java/util/TreeMap" (300 : Nat) ({ cls := "java/util/TreeMap", name := "rightOf", desc := "(Ljava/util/TreeMap$Entry;)Ljava/util/TreeMap$Entry;" } : Jvm.MethodName)) ∈ lw_all := lw_g (lw_at lw_m4 69 rfl) rfl
theorem q932 : (Jvm.Cond.static ({ cls := "java/util/TreeMap", name := "rightOf", desc := "(Ljava/util/TreeMap$Entry;)Ljava/util/TreeMap$Entry;" } : Jvm.MethodName)) ∈ lw_all := lw_g (lw_at lw_m4 70 rfl) rfl
theorem q933 : (Jvm.Cond.code ({ cls := "java/util/TreeMap", name := "rightOf", desc := "(Ljava/util/TreeMap$Entry;)Ljava/util/TreeMap$Entry;" } : Jvm.MethodName) prog_66_method_80_code (1 : Nat) (Option.some (Jvm.ClassFile.FieldType.object "java/util/TreeMap$Entry"))) ∈ lw_all := lw_g (lw_at lw_m4 71 rfl) rfl
theorem q934 : (Jvm.Cond.methodLink "java/util/TreeMap" (303 : Nat) ({ cls := "java/util/TreeMap", name := "colorOf", desc := "(Ljava/util/TreeMap$Entry;)Z" } : Jvm.MethodName)) ∈ lw_all := lw_g (lw_at lw_m4 72 rfl) rfl
theorem q935 : (Jvm.Cond.static ({ cls := "java/util/TreeMap", name := "colorOf", desc := "(Ljava/util/TreeMap$Entry;)Z" } : Jvm.MethodName)) ∈ lw_all := lw_g (lw_at lw_m4 73 rfl) rfl
theorem q936 : (Jvm.Cond.code ({ cls := "java/util/TreeMap", name := "colorOf", desc := "(Ljava/util/TreeMap$Entry;)Z" } : Jvm.MethodName) prog_66_method_76_code (1 : Nat) (Option.some Jvm.ClassFile.FieldType.boolean)) ∈ lw_all := lw_g (lw_at lw_m4 74 rfl) rfl
theorem q937 : (Jvm.Cond.methodLink "java/util/TreeMap" (307 : Nat) ({ cls := "java/util/TreeMap", name := "setColor", desc := "(Ljava/util/TreeMap$Entry;Z)V" } : Jvm.MethodName)) ∈ lw_all := lw_g (lw_at lw_m4 75 rfl) rfl
theorem q938 : (Jvm.Cond.static ({ cls := "java/util/TreeMap", name := "setColor", desc := "(Ljava/util/TreeMap$Entry;Z)V" } : Jvm.MethodName)) ∈ lw_all := lw_g (lw_at lw_m4 76 rfl) rfl
theorem q939 : (Jvm.Cond.code ({ cls := "java/util/TreeMap", name := "setColor", desc := "(Ljava/util/TreeMap$Entry;Z)V" } : Jvm.MethodName) prog_66_method_78_code (2 : Nat) (Option.none : Option Jvm.ClassFile.FieldType)) ∈ lw_all := lw_g (lw_at lw_m4 77 rfl) rfl
theorem q940 : (Jvm.Cond.methodLink "java/util/TreeMap" (311 : Nat) ({ cls := "java/util/TreeMap", name := "rotateLeft", desc := "(Ljava/util/TreeMap$Entry;)V" } : Jvm.MethodName)) ∈ lw_all := lw_g (lw_at lw_m4 78 rfl) rfl
theorem q941 : (Jvm.Cond.privateMethod ({ cls := "java/util/TreeMap", name := "rotateLeft", desc := "(Ljava/util/TreeMap$Entry;)V" } : Jvm.MethodName)) ∈ lw_tbl := lw_at lw_m4 79 rfl
theorem q942 : (Jvm.Cond.instanceMethod ({ cls := "java/util/TreeMap", name := "rotateLeft", desc := "(Ljava/util/TreeMap$Entry;)V" } : Jvm.MethodName)) ∈ lw_all := lw_g (lw_at lw_m4 80 rfl) rfl
theorem q943 : (Jvm.Cond.code ({ cls := "java/util/TreeMap", name := "rotateLeft", desc := "(Ljava/util/TreeMap$Entry;)V" } : Jvm.MethodName) prog_66_method_81_code (3 : Nat) (Option.none : Option Jvm.ClassFile.FieldType)) ∈ lw_all := lw_g (lw_at lw_m4 81 rfl) rfl
theorem q944 : (Jvm.Cond.methodLink "java/util/TreeMap" (314 : Nat) ({ cls := "java/util/TreeMap", name := "rotateRight", desc := "(Ljava/util/TreeMap$Entry;)V" } : Jvm.MethodName)) ∈ lw_all := lw_g (lw_at lw_m4 82 rfl) rfl
theorem q945 : (Jvm.Cond.privateMethod ({ cls := "java/util/TreeMap", name := "rotateRight", desc := "(Ljava/util/TreeMap$Entry;)V" } : Jvm.MethodName)) ∈ lw_tbl := lw_at lw_m4 83 rfl
theorem q946 : (Jvm.Cond.instanceMethod ({ cls := "java/util/TreeMap", name := "rotateRight", desc := "(Ljava/util/TreeMap$Entry;)V" } : Jvm.MethodName)) ∈ lw_all := lw_g (lw_at lw_m4 84 rfl) rfl
theorem q947 : (Jvm.Cond.code ({ cls := "java/util/TreeMap", name := "rotateRight", desc := "(Ljava/util/TreeMap$Entry;)V" } : Jvm.MethodName) prog_66_method_82_code (3 : Nat) (Option.none : Option Jvm.ClassFile.FieldType)) ∈ lw_all := lw_g (lw_at lw_m4 85 rfl) rfl
theorem q949 : (Jvm.Cond.instanceMethod ({ cls := "java/util/TreeMap", name := "get", desc := "(Ljava/lang/Object;)Ljava/lang/Object;" } : Jvm.MethodName)) ∈ lw_all := lw_g (lw_at lw_m4 87 rfl) rfl
theorem q950 : (Jvm.Cond.selects "java/util/TreeMap" ({ cls := "java/util/TreeMap", name := "get", desc := "(Ljava/lang/Object;)Ljava/lang/Object;" } : Jvm.MethodName) ({ cls := "java/util/TreeMap", name := "get", desc := "(Ljava/lang/Object;)Ljava/lang/Object;" } : Jvm.MethodName)) ∈ lw_all := lw_g (lw_at lw_m4 88 rfl) rfl
theorem q951 : (Jvm.Cond.code ({ cls := "java/util/TreeMap", name := "get", desc := "(Ljava/lang/Object;)Ljava/lang/Object;" } : Jvm.MethodName) prog_66_method_8_code (3 : Nat) (Option.some (Jvm.ClassFile.FieldType.object "java/lang/Object"))) ∈ lw_all := lw_g (lw_at lw_m4 89 rfl) rfl
theorem q990 : (Jvm.Cond.castable "java/util/TreeMap" "java/util/NavigableMap") ∈ lw_tbl := lw_at lw_m4 128 rfl
theorem q991 : (Jvm.Cond.selects "java/util/TreeMap" ({ cls := "java/util/Map", name := "put", desc := "(Ljava/lang/Object;Ljava/lang/Object;)Ljava/lang/Object;" } : Jvm.MethodName) ({ cls := "java/util/TreeMap", name := "put", desc := "(Ljava/lang/Object;Ljava/lang/Object;)Ljava/lang/Object;" } : Jvm.MethodName)) ∈ lw_all := lw_g (lw_at lw_m4 129 rfl) rfl
theorem q992 : (Jvm.Cond.unhidden "java/util/TreeMap" "put" "(Ljava/lang/Object;Ljava/lang/Object;)Ljava/lang/Object;") ∈ lw_tbl := lw_at lw_m4 130 rfl
theorem q993 : (Jvm.Cond.publicMethod ({ cls := "java/util/TreeMap", name := "put", desc := "(Ljava/lang/Object;Ljava/lang/Object;)Ljava/lang/Object;" } : Jvm.MethodName)) ∈ lw_tbl := lw_at lw_m4 131 rfl
theorem q1020 : (Jvm.Cond.selects "java/util/TreeMap" ({ cls := "java/util/Map", name := "size", desc := "()I" } : Jvm.MethodName) ({ cls := "java/util/TreeMap", name := "size", desc := "()I" } : Jvm.MethodName)) ∈ lw_all := lw_g (lw_at lw_m4 158 rfl) rfl
theorem q1021 : (Jvm.Cond.unhidden "java/util/TreeMap" "size" "()I") ∈ lw_tbl := lw_at lw_m4 159 rfl
theorem q1022 : (Jvm.Cond.instanceMethod ({ cls := "java/util/TreeMap", name := "size", desc := "()I" } : Jvm.MethodName)) ∈ lw_all := lw_g (lw_at lw_m4 160 rfl) rfl
theorem q1023 : (Jvm.Cond.publicMethod ({ cls := "java/util/TreeMap", name := "size", desc := "()I" } : Jvm.MethodName)) ∈ lw_tbl := lw_at lw_m4 161 rfl
theorem q1024 : (Jvm.Cond.code ({ cls := "java/util/TreeMap", name := "size", desc := "()I" } : Jvm.MethodName) prog_66_method_5_code (1 : Nat) (Option.some Jvm.ClassFile.FieldType.int)) ∈ lw_all := lw_g (lw_at lw_m4 162 rfl) rfl
theorem q1045 : (Jvm.Cond.instanceMethod ({ cls := "java/util/TreeMap", name := "values", desc := "()Ljava/util/Collection;" } : Jvm.MethodName)) ∈ lw_all := lw_g (lw_at lw_m4 183 rfl) rfl
theorem q1046 : (Jvm.Cond.selects "java/util/TreeMap" ({ cls := "java/util/TreeMap", name := "values", desc := "()Ljava/util/Collection;" } : Jvm.MethodName) ({ cls := "java/util/TreeMap", name := "values", desc := "()Ljava/util/Collection;" } : Jvm.MethodName)) ∈ lw_all := lw_g (lw_at lw_m4 184 rfl) rfl
theorem q1047 : (Jvm.Cond.code ({ cls := "java/util/TreeMap", name := "values", desc := "()Ljava/util/Collection;" } : Jvm.MethodName) prog_66_method_52_code (2 : Nat) (Option.some (Jvm.ClassFile.FieldType.object "java/util/Collection"))) ∈ lw_all := lw_g (lw_at lw_m4 185 rfl) rfl
theorem q1048 : (Jvm.Cond.classLink "java/util/TreeMap" (237 : Nat) "java/util/TreeMap$Values") ∈ lw_all := lw_g (lw_at lw_m4 186 rfl) rfl
theorem q1050 : (Jvm.Cond.methodLink "java/util/TreeMap" (239 : Nat) ({ cls := "java/util/TreeMap$Values", name := "<init>", desc := "(Ljava/util/TreeMap;)V" } : Jvm.MethodName)) ∈ lw_all := lw_g (lw_at lw_m4 188 rfl) rfl
theorem q1101 : (Jvm.Cond.instanceMethod ({ cls := "java/util/TreeMap", name := "keyIterator", desc := "()Ljava/util/Iterator;" } : Jvm.MethodName)) ∈ lw_all := lw_g (lw_at lw_m4 239 rfl) rfl
theorem q1102 : (Jvm.Cond.selects "java/util/TreeMap" ({ cls := "java/util/TreeMap", name := "keyIterator", desc := "()Ljava/util/Iterator;" } : Jvm.MethodName) ({ cls := "java/util/TreeMap", name := "keyIterator", desc := "()Ljava/util/Iterator;" } : Jvm.MethodName)) ∈ lw_all := lw_g (lw_at lw_m5 0 rfl) rfl
theorem q1103 : (Jvm.Cond.code ({ cls := "java/util/TreeMap", name := "keyIterator", desc := "()Ljava/util/Iterator;" } : Jvm.MethodName) prog_66_method_65_code (1 : Nat) (Option.some (Jvm.ClassFile.FieldType.object "java/util/Iterator"))) ∈ lw_all := lw_g (lw_at lw_m5 1 rfl) rfl
theorem q1104 : (Jvm.Cond.classLink "java/util/TreeMap" (269 : Nat) "java/util/TreeMap$KeyIterator") ∈ lw_all := lw_g (lw_at lw_m5 2 rfl) rfl
theorem q1106 : (Jvm.Cond.methodLink "java/util/TreeMap" (54 : Nat) ({ cls := "java/util/TreeMap", name := "getFirstEntry", desc := "()Ljava/util/TreeMap$Entry;" } : Jvm.MethodName)) ∈ lw_all := lw_g (lw_at lw_m5 4 rfl) rfl
theorem q1107 : (Jvm.Cond.instanceMethod ({ cls := "java/util/TreeMap", name := "getFirstEntry", desc := "()Ljava/util/TreeMap$Entry;" } : Jvm.MethodName)) ∈ lw_all := lw_g (lw_at lw_m5 5 rfl) rfl
theorem q1108 : (Jvm.Cond.selects "java/util/TreeMap" ({ cls := "java/util/TreeMap", name := "getFirstEntry", desc := "()Ljava/util/TreeMap$Entry;" } : Jvm.MethodName) ({ cls := "java/util/TreeMap", name := "getFirstEntry", desc := "()Ljava/util/TreeMap$Entry;" } : Jvm.MethodName)) ∈ lw_all := lw_g (lw_at lw_m5 6 rfl) rfl
theorem q1109 : (Jvm.Cond.code ({ cls := "java/util/TreeMap", name := "getFirstEntry", desc := "()Ljava/util/TreeMap$Entry;" } : Jvm.MethodName) prog_66_method_72_code (2 : Nat) (Option.some (Jvm.ClassFile.FieldType.object "java/util/TreeMap$Entry"))) ∈ lw_all := lw_g (lw_at lw_m5 7 rfl) rfl
theorem q1110 : (Jvm.Cond.methodLink "java/util/TreeMap" (271 : Nat) ({ cls := "java/util/TreeMap$KeyIterator", name := "<init>", desc := "(Ljava/util/TreeMap;Ljava/util/TreeMap$Entry;)V" } : Jvm.MethodName)) ∈ lw_all := lw_g (lw_at lw_m5 8 rfl) rfl
theorem q1162 : (Jvm.Cond.selects "java/util/TreeMap" ({ cls := "java/util/NavigableMap", name := "navigableKeySet", desc := "()Ljava/util/NavigableSet;" } : Jvm.MethodName) ({ cls := "java/util/TreeMap", name := "navigableKeySet", desc := "()Ljava/util/NavigableSet;" } : Jvm.MethodName)) ∈ lw_all := lw_g (lw_at lw_m5 60 rfl) rfl
theorem q1163 : (Jvm.Cond.unhidden "java/util/TreeMap" "navigableKeySet" "()Ljava/util/NavigableSet;") ∈ lw_tbl := lw_at lw_m5 61 rfl
theorem q1164 : (Jvm.Cond.instanceMethod ({ cls := "java/util/TreeMap", name := "navigableKeySet", desc := "()Ljava/util/NavigableSet;" } : Jvm.MethodName)) ∈ lw_all := lw_g (lw_at lw_m5 62 rfl) rfl
theorem q1165 : (Jvm.Cond.publicMethod ({ cls := "java/util/TreeMap", name := "navigableKeySet", desc := "()Ljava/util/NavigableSet;" } : Jvm.MethodName)) ∈ lw_tbl := lw_at lw_m5 63 rfl
theorem q1166 : (Jvm.Cond.code ({ cls := "java/util/TreeMap", name := "navigableKeySet", desc := "()Ljava/util/NavigableSet;" } : Jvm.MethodName) prog_66_method_50_code (2 : Nat) (Option.some (Jvm.ClassFile.FieldType.object "java/util/NavigableSet"))) ∈ lw_all := lw_g (lw_at lw_m5 64 rfl) rfl
theorem q1167 : (Jvm.Cond.classLink "java/util/TreeMap" (222 : Nat) "java/util/TreeMap$KeySet") ∈ lw_all := lw_g (lw_at lw_m5 65 rfl) rfl
theorem q1169 : (Jvm.Cond.methodLink "java/util/TreeMap" (224 : Nat) ({ cls := "java/util/TreeMap$KeySet", name := "<init>", desc := "(Ljava/util/NavigableMap;)V" } : Jvm.MethodName)) ∈ lw_all := lw_g (lw_at lw_m5 67 rfl) rfl
theorem q1243 : (Jvm.Cond.static ({ cls := "java/util/TreeMap", name := "successor", desc := "(Ljava/util/TreeMap$Entry;)Ljava/util/TreeMap$Entry;" } : Jvm.MethodName)) ∈ lw_all := lw_g (lw_at lw_m5 141 rfl) rfl
theorem q1244 : (Jvm.Cond.code ({ cls := "java/util/TreeMap", name := "successor", desc := "(Ljava/util/TreeMap$Entry;)Ljava/util/TreeMap$Entry;" } : Jvm.MethodName) prog_66_method_74_code (3 : Nat) (Option.some (Jvm.ClassFile.FieldType.object "java/util/TreeMap$Entry"))) ∈ lw_all := lw_g (lw_at lw_m5 142 rfl) rfl
theorem q1626 : (Jvm.Cond.selects "java/util/TreeMap" ({ cls := "java/lang/Object", name := "getClass", desc := "()Ljava/lang/Class;" } : Jvm.MethodName) ({ cls := "java/lang/Object", name := "getClass", desc := "()Ljava/lang/Class;" } : Jvm.MethodName)) ∈ lw_all := lw_g (lw_at lw_m7 44 rfl) rfl
theorem q2727 : (Jvm.Cond.selects "java/util/TreeMap" ({ cls := "java/util/TreeMap", name := "size", desc := "()I" } : Jvm.MethodName) ({ cls := "java/util/TreeMap", name := "size", desc := "()I" } : Jvm.MethodName)) ∈ lw_all := lw_g (lw_at lw_m11 185 rfl) rfl
theorem q2737 : (Jvm.Cond.castable "java/util/TreeMap" "java/lang/Object") ∈ lw_tbl := lw_at lw_m11 195 rfl
theorem q155 : (Jvm.Cond.initialized "java/util/Arrays") ∈ lw_all := lw_g (lw_at lw_m1 13 rfl) rfl
theorem q420 : (Jvm.Cond.static ({ cls := "java/util/Arrays", name := "copyOf", desc := "([BI)[B" } : Jvm.MethodName)) ∈ lw_all := lw_g (lw_at lw_m2 38 rfl) rfl
theorem q421 : (Jvm.Cond.code ({ cls := "java/util/Arrays", name := "copyOf", desc := "([BI)[B" } : Jvm.MethodName) prog_46_method_121_code (3 : Nat) (Option.some (Jvm.ClassFile.FieldType.array Jvm.ClassFile.FieldType.byte))) ∈ lw_all := lw_g (lw_at lw_m2 39 rfl) rfl
theorem q422 : (Jvm.Cond.methodLink "java/util/Arrays" (310 : Nat) ({ cls := "[B", name := "clone", desc := "()Ljava/lang/Object;" } : Jvm.MethodName)) ∈ lw_all := lw_g (lw_at lw_m2 40 rfl) rfl
theorem q428 : (Jvm.Cond.classLink "java/util/Arrays" (311 : Nat) "[B") ∈ lw_all := lw_g (lw_at lw_m2 46 rfl) rfl
theorem q429 : (Jvm.Cond.methodLink "java/util/Arrays" (304 : Nat) ({ cls := "java/lang/Math", name := "min", desc := "(II)I" } : Jvm.MethodName)) ∈ lw_all := lw_g (lw_at lw_m2 47 rfl) rfl
theorem q430 : (Jvm.Cond.methodLink "java/util/Arrays" (150 : Nat) ({ cls := "java/lang/System", name := "arraycopy", desc := "(Ljava/lang/Object;ILjava/lang/Object;II)V" } : Jvm.MethodName)) ∈ lw_all := lw_g (lw_at lw_m2 48 rfl) rfl
theorem q514 : (Jvm.Cond.static ({ cls := "java/util/Arrays", name := "copyOfRange", desc := "([BII)[B" } : Jvm.MethodName)) ∈ lw_all := lw_g (lw_at lw_m2 132 rfl) rfl
theorem q515 : (Jvm.Cond.code ({ cls := "java/util/Arrays", name := "copyOfRange", desc := "([BII)[B" } : Jvm.MethodName) prog_46_method_132_code (3 : Nat) (Option.some (Jvm.ClassFile.FieldType.array Jvm.ClassFile.FieldType.byte))) ∈ lw_all := lw_g (lw_at lw_m2 133 rfl) rfl
theorem q516 : (Jvm.Cond.methodLink "java/util/Arrays" (339 : Nat) ({ cls := "java/util/Arrays", name := "copyOfRangeByte", desc := "([BII)[B" } : Jvm.MethodName)) ∈ lw_all := lw_g (lw_at lw_m2 134 rfl) rfl
theorem q517 : (Jvm.Cond.static ({ cls := "java/util/Arrays", name := "copyOfRangeByte", desc := "([BII)[B" } : Jvm.MethodName)) ∈ lw_all := lw_g (lw_at lw_m2 135 rfl) rfl
theorem q518 : (Jvm.Cond.code ({ cls := "java/util/Arrays", name := "copyOfRangeByte", desc := "([BII)[B" } : Jvm.MethodName) prog_46_method_133_code (5 : Nat) (Option.some (Jvm.ClassFile.FieldType.array Jvm.ClassFile.FieldType.byte))) ∈ lw_all := lw_g (lw_at lw_m2 136 rfl) rfl
theorem q519 : (Jvm.Cond.methodLink "java/util/Arrays" (343 : Nat) ({ cls := "java/util/Arrays", name := "checkLength", desc := "(II)V" } : Jvm.MethodName)) ∈ lw_all := lw_g (lw_at lw_m2 137 rfl) rfl
theorem q520 : (Jvm.Cond.static ({ cls := "java/util/Arrays", name := "checkLength", desc := "(II)V" } : Jvm.MethodName)) ∈ lw_all := lw_g (lw_at lw_m2 138 rfl) rfl
theorem q521 : (Jvm.Cond.code ({ cls := "java/util/Arrays", name := "checkLength", desc := "(II)V" } : Jvm.MethodName) prog_46_method_131_code (2 : Nat) (Option.none : Option Jvm.ClassFile.FieldType)) ∈ lw_all := lw_g (lw_at lw_m2 139 rfl) rfl
theorem q1603 : (Jvm.Cond.static ({ cls := "java/util/Arrays", name := "copyOf", desc := "([Ljava/lang/Object;I)[Ljava/lang/Object;" } : Jvm.MethodName)) ∈ lw_all := lw_g (lw_at lw_m7 21 rfl) rfl
theorem q1604 : (Jvm.Cond.code ({ cls := "java/util/Arrays", name := "copyOf", desc := "([Ljava/lang/Object;I)[Ljava/lang/Object;" } : Jvm.MethodName) prog_46_method_119_code (2 : Nat) (Option.some (Jvm.ClassFile.FieldType.array (Jvm.ClassFile.FieldType.object "java/lang/Object")))) ∈ lw_all := lw_g (lw_at lw_m7 22 rfl) rfl
theorem q1605 : (Jvm.Cond.methodLink "java/util/Arrays" (86 : Nat) ({ cls := "java/lang/Object", name := "getClass", desc := "()Ljava/lang/Class;" } : Jvm.MethodName)) ∈ lw_all := lw_g (lw_at lw_m7 23 rfl) rfl
theorem q1635 : (Jvm.Cond.methodLink "java/util/Arrays" (300 : Nat) ({ cls := "java/util/Arrays", name := "copyOf", desc := "([Ljava/lang/Object;ILjava/lang/Class;)[Ljava/lang/Object;" } : Jvm.MethodName)) ∈ lw_all := lw_g (lw_at lw_m7 53 rfl) rfl
theorem q1636 : (Jvm.Cond.static ({ cls := "java/util/Arrays", name := "copyOf", desc := "([Ljava/lang/Object;ILjava/lang/Class;)[Ljava/lang/Object;" } : Jvm.MethodName)) ∈ lw_all := lw_g (lw_at lw_m7 54 rfl) rfl
theorem q1637 : (Jvm.Cond.code ({ cls := "java/util/Arrays", name := "copyOf", desc := "([Ljava/lang/Object;ILjava/lang/Class;)[Ljava/lang/Object;" } : Jvm.MethodName) prog_46_method_120_code (4 : Nat) (Option.some (Jvm.ClassFile.FieldType.array (Jvm.ClassFile.FieldType.object "java/lang/Object")))) ∈ lw_all := lw_g (lw_at lw_m7 55 rfl) rfl
theorem q1638 : (Jvm.Cond.classLink "java/util/Arrays" (110 : Nat) "[Ljava/lang/Object;") ∈ lw_all := lw_g (lw_at lw_m7 56 rfl) rfl
theorem q1639 : (Jvm.Cond.classLink "java/util/Arrays" (2 : Nat) "java/lang/Object") ∈ lw_all := lw_g (lw_at lw_m7 57 rfl) rfl
theorem q157 : (Jvm.Cond.initialized "java/lang/StringLatin1") ∈ lw_all := lw_g (lw_at lw_m1 15 rfl) rfl
theorem q439 : (Jvm.Cond.static ({ cls := "java/lang/StringLatin1", name := "canEncode", desc := "(C)Z" } : Jvm.MethodName)) ∈ lw_all := lw_g (lw_at lw_m2 57 rfl) rfl
theorem q440 : (Jvm.Cond.code ({ cls := "java/lang/StringLatin1", name := "canEncode", desc := "(C)Z" } : Jvm.MethodName) prog_33_method_3_code (1 : Nat) (Option.some Jvm.ClassFile.FieldType.boolean)) ∈ lw_all := lw_g (lw_at lw_m2 58 rfl) rfl
theorem q446 : (Jvm.Cond.static ({ cls := "java/lang/StringLatin1", name := "inflate", desc := "([BI[BII)V" } : Jvm.MethodName)) ∈ lw_all := lw_g (lw_at lw_m2 64 rfl) rfl
theorem q447 : (Jvm.Cond.code ({ cls := "java/lang/StringLatin1", name := "inflate", desc := "([BI[BII)V" } : Jvm.MethodName) prog_33_method_50_code (5 : Nat) (Option.none : Option Jvm.ClassFile.FieldType)) ∈ lw_all := lw_g (lw_at lw_m2 65 rfl) rfl
theorem q448 : (Jvm.Cond.methodLink "java/lang/StringLatin1" (240 : Nat) ({ cls := "java/lang/StringUTF16", name := "inflate", desc := "([BI[BII)V" } : Jvm.MethodName)) ∈ lw_all := lw_g (lw_at lw_m2 66 rfl) rfl
theorem q575 : (Jvm.Cond.static ({ cls := "java/lang/StringLatin1", name := "newString", desc := "([BII)Ljava/lang/String;" } : Jvm.MethodName)) ∈ lw_all := lw_g (lw_at lw_m2 193 rfl) rfl
theorem q576 : (Jvm.Cond.code ({ cls := "java/lang/StringLatin1", name := "newString", desc := "([BII)Ljava/lang/String;" } : Jvm.MethodName) prog_33_method_47_code (3 : Nat) (Option.some (Jvm.ClassFile.FieldType.object "java/lang/String"))) ∈ lw_all := lw_g (lw_at lw_m2 194 rfl) rfl
theorem q577 : (Jvm.Cond.stringRef "java/lang/StringLatin1" (151 : Nat) "") ∈ lw_tbl := lw_at lw_m2 195 rfl
theorem q578 : (Jvm.Cond.classLink "java/lang/StringLatin1" (1 : Nat) "java/lang/String") ∈ lw_all := lw_g (lw_at lw_m2 196 rfl) rfl
theorem q579 : (Jvm.Cond.methodLink "java/lang/StringLatin1" (232 : Nat) ({ cls := "java/util/Arrays", name := "copyOfRange", desc := "([BII)[B" } : Jvm.MethodName)) ∈ lw_all := lw_g (lw_at lw_m2 197 rfl) rfl
theorem q580 : (Jvm.Cond.methodLink "java/lang/StringLatin1" (112 : Nat) ({ cls := "java/lang/String", name := "<init>", desc := "([BB)V" } : Jvm.MethodName)) ∈ lw_all := lw_g (lw_at lw_m2 198 rfl) rfl
theorem q664 : (Jvm.Cond.static ({ cls := "java/lang/StringLatin1", name := "compareTo", desc := "([B[B)I" } : Jvm.MethodName)) ∈ lw_all := lw_g (lw_at lw_m3 42 rfl) rfl
theorem q665 : (Jvm.Cond.code ({ cls := "java/lang/StringLatin1", name := "compareTo", desc := "([B[B)I" } : Jvm.MethodName) prog_33_method_14_code (4 : Nat) (Option.some Jvm.ClassFile.FieldType.int)) ∈ lw_all := lw_g (lw_at lw_m3 43 rfl) rfl
theorem q666 : (Jvm.Cond.methodLink "java/lang/StringLatin1" (34 : Nat) ({ cls := "java/lang/StringLatin1", name := "compareTo", desc := "([B[BII)I" } : Jvm.MethodName)) ∈ lw_all := lw_g (lw_at lw_m3 44 rfl) rfl
theorem q667 : (Jvm.Cond.static ({ cls := "java/lang/StringLatin1", name := "compareTo", desc := "([B[BII)I" } : Jvm.MethodName)) ∈ lw_all := lw_g (lw_at lw_m3 45 rfl) rfl
theorem q668 : (Jvm.Cond.code ({ cls := "java/lang/StringLatin1", name := "compareTo", desc := "([B[BII)I" } : Jvm.MethodName) prog_33_method_15_code (6 : Nat) (Option.some Jvm.ClassFile.FieldType.int)) ∈ lw_all := lw_g (lw_at lw_m3 46 rfl) rfl
theorem q669 : (Jvm.Cond.methodLink "java/lang/StringLatin1" (38 : Nat) ({ cls := "java/lang/Math", name := "min", desc := "(II)I" } : Jvm.MethodName)) ∈ lw_all := lw_g (lw_at lw_m3 47 rfl) rfl
theorem q670 : (Jvm.Cond.methodLink "java/lang/StringLatin1" (44 : Nat) ({ cls := "jdk/internal/util/ArraysSupport", name := "mismatch", desc := "([B[BI)I" } : Jvm.MethodName)) ∈ lw_all := lw_g (lw_at lw_m3 48 rfl) rfl
theorem q774 : (Jvm.Cond.methodLink "java/lang/StringLatin1" (50 : Nat) ({ cls := "java/lang/StringLatin1", name := "getChar", desc := "([BI)C" } : Jvm.MethodName)) ∈ lw_all := lw_g (lw_at lw_m3 152 rfl) rfl
theorem q775 : (Jvm.Cond.static ({ cls := "java/lang/StringLatin1", name := "getChar", desc := "([BI)C" } : Jvm.MethodName)) ∈ lw_all := lw_g (lw_at lw_m3 153 rfl) rfl
theorem q776 : (Jvm.Cond.code ({ cls := "java/lang/StringLatin1", name := "getChar", desc := "([BI)C" } : Jvm.MethodName) prog_33_method_44_code (2 : Nat) (Option.some Jvm.ClassFile.FieldType.char)) ∈ lw_all := lw_g (lw_at lw_m3 154 rfl) rfl
theorem q785 : (Jvm.Cond.static ({ cls := "java/lang/StringLatin1", name := "compareToUTF16", desc := "([B[B)I" } : Jvm.MethodName)) ∈ lw_all := lw_g (lw_at lw_m3 163 rfl) rfl
theorem q786 : (Jvm.Cond.code ({ cls := "java/lang/StringLatin1", name := "compareToUTF16", desc := "([B[B)I" } : Jvm.MethodName) prog_33_method_16_code (4 : Nat) (Option.some Jvm.ClassFile.FieldType.int)) ∈ lw_all := lw_g (lw_at lw_m3 164 rfl) rfl
theorem q787 : (Jvm.Cond.methodLink "java/lang/StringLatin1" (54 : Nat) ({ cls := "java/lang/StringLatin1", name := "length", desc := "([B)I" } : Jvm.MethodName)) ∈ lw_all := lw_g (lw_at lw_m3 165 rfl) rfl
theorem q788 : (Jvm.Cond.static ({ cls := "java/lang/StringLatin1", name := "length", desc := "([B)I" } : Jvm.MethodName)) ∈ lw_all := lw_g (lw_at lw_m3 166 rfl) rfl
theorem q789 : (Jvm.Cond.code ({ cls := "java/lang/StringLatin1", name := "length", desc := "([B)I" } : Jvm.MethodName) prog_33_method_5_code (1 : Nat) (Option.some Jvm.ClassFile.FieldType.int)) ∈ lw_all := lw_g (lw_at lw_m3 167 rfl) rfl
theorem q790 : (Jvm.Cond.methodLink "java/lang/StringLatin1" (58 : Nat) ({ cls := "java/lang/StringUTF16", name := "length", desc := "([B)I" } : Jvm.MethodName)) ∈ lw_all := lw_g (lw_at lw_m3 168 rfl) rfl
theorem q791 : (Jvm.Cond.methodLink "java/lang/StringLatin1" (59 : Nat) ({ cls := "java/lang/StringLatin1", name := "compareToUTF16Values", desc := "([B[BII)I" } : Jvm.MethodName)) ∈ lw_all := lw_g (lw_at lw_m3 169 rfl) rfl
theorem q792 : (Jvm.Cond.static ({ cls := "java/lang/StringLatin1", name := "compareToUTF16Values", desc := "([B[BII)I" } : Jvm.MethodName)) ∈ lw_all := lw_g (lw_at lw_m3 170 rfl) rfl
theorem q793 : (Jvm.Cond.code ({ cls := "java/lang/StringLatin1", name := "compareToUTF16Values", desc := "([B[BII)I" } : Jvm.MethodName) prog_33_method_18_code (8 : Nat) (Option.some Jvm.ClassFile.FieldType.int)) ∈ lw_all := lw_g (lw_at lw_m3 171 rfl) rfl
theorem q794 : (Jvm.Cond.methodLink "java/lang/StringLatin1" (65 : Nat) ({ cls := "java/lang/StringUTF16", name := "getChar", desc := "([BI)C" } : Jvm.MethodName)) ∈ lw_all := lw_g (lw_at lw_m3 172 rfl) rfl
theorem q824 : (Jvm.Cond.static ({ cls := "java/lang/StringLatin1", name := "compareToUTF16", desc := "([B[BII)I" } : Jvm.MethodName)) ∈ lw_all := lw_g (lw_at lw_m3 202 rfl) rfl
theorem q825 : (Jvm.Cond.code ({ cls := "java/lang/StringLatin1", name := "compareToUTF16", desc := "([B[BII)I" } : Jvm.MethodName) prog_33_method_17_code (4 : Nat) (Option.some Jvm.ClassFile.FieldType.int)) ∈ lw_all := lw_g (lw_at lw_m3 203 rfl) rfl
theorem q826 : (Jvm.Cond.methodLink "java/lang/StringLatin1" (62 : Nat) ({ cls := "java/lang/String", name := "checkOffset", desc := "(II)V" } : Jvm.MethodName)) ∈ lw_all := lw_g (lw_at lw_m3 204 rfl) rfl
theorem q957 : (Jvm.Cond.static ({ cls := "java/lang/StringLatin1", name := "charAt", desc := "([BI)C" } : Jvm.MethodName)) ∈ lw_all := lw_g (lw_at lw_m4 95 rfl) rfl
theorem q958 : (Jvm.Cond.code ({ cls := "java/lang/StringLatin1", name := "charAt", desc := "([BI)C" } : Jvm.MethodName) prog_33_method_2_code (2 : Nat) (Option.some Jvm.ClassFile.FieldType.char)) ∈ lw_all := lw_g (lw_at lw_m4 96 rfl) rfl
theorem q959 : (Jvm.Cond.methodLink "java/lang/StringLatin1" (9 : Nat) ({ cls := "java/lang/String", name := "checkIndex", desc := "(II)V" } : Jvm.MethodName)) ∈ lw_all := lw_g (lw_at lw_m4 97 rfl) rfl
theorem q1723 : (Jvm.Cond.static ({ cls := "java/lang/StringLatin1", name := "indexOf", desc := "([BIII)I" } : Jvm.MethodName)) ∈ lw_all := lw_g (lw_at lw_m7 141 rfl) rfl
theorem q1724 : (Jvm.Cond.code ({ cls := "java/lang/StringLatin1", name := "indexOf", desc := "([BIII)I" } : Jvm.MethodName) prog_33_method_22_code (4 : Nat) (Option.some Jvm.ClassFile.FieldType.int)) ∈ lw_all := lw_g (lw_at lw_m7 142 rfl) rfl
theorem q1725 : (Jvm.Cond.methodLink "java/lang/StringLatin1" (88 : Nat) ({ cls := "java/lang/StringLatin1", name := "canEncode", desc := "(I)Z" } : Jvm.MethodName)) ∈ lw_all := lw_g (lw_at lw_m7 143 rfl) rfl
theorem q1726 : (Jvm.Cond.static ({ cls := "java/lang/StringLatin1", name := "canEncode", desc := "(I)Z" } : Jvm.MethodName)) ∈ lw_all := lw_g (lw_at lw_m7 144 rfl) rfl
theorem q1727 : (Jvm.Cond.code ({ cls := "java/lang/StringLatin1", name := "canEncode", desc := "(I)Z" } : Jvm.MethodName) prog_33_method_4_code (1 : Nat) (Option.some Jvm.ClassFile.FieldType.boolean)) ∈ lw_all := lw_g (lw_at lw_m7 145 rfl) rfl
theorem q1728 : (Jvm.Cond.methodLink "java/lang/StringLatin1" (92 : Nat) ({ cls := "java/lang/Math", name := "max", desc := "(II)I" } : Jvm.MethodName)) ∈ lw_all := lw_g (lw_at lw_m7 146 rfl) rfl
theorem q1729 : (Jvm.Cond.methodLink "java/lang/StringLatin1" (95 : Nat) ({ cls := "java/lang/StringLatin1", name := "indexOfChar", desc := "([BIII)I" } : Jvm.MethodName)) ∈ lw_all := lw_g (lw_at lw_m7 147 rfl) rfl
theorem q1730 : (Jvm.Cond.static ({ cls := "java/lang/StringLatin1", name := "indexOfChar", desc := "([BIII)I" } : Jvm.MethodName)) ∈ lw_all := lw_g (lw_at lw_m7 148 rfl) rfl
theorem q1731 : (Jvm.Cond.code ({ cls := "java/lang/StringLatin1", name := "indexOfChar", desc := "([BIII)I" } : Jvm.MethodName) prog_33_method_23_code (6 : Nat) (Option.some Jvm.ClassFile.FieldType.int)) ∈ lw_all := lw_g (lw_at lw_m7 149 rfl) rfl
theorem q158 : (Jvm.Cond.initialized "jdk/internal/util/Preconditions") ∈ lw_all := lw_g (lw_at lw_m1 16 rfl) rfl
theorem q461 : (Jvm.Cond.laysStatic "jdk/internal/util/Preconditions" "SIOOBE_FORMATTER" "Ljava/util/function/BiFunction;") ∈ lw_tbl := lw_at lw_m2 79 rfl
theorem q463 : (Jvm.Cond.static ({ cls := "jdk/internal/util/Preconditions", name := "checkFromIndexSize", desc := "(IIILjava/util/function/BiFunction;)I" } : Jvm.MethodName)) ∈ lw_all := lw_g (lw_at lw_m2 81 rfl) rfl
theorem q464 : (Jvm.Cond.code ({ cls := "jdk/internal/util/Preconditions", name := "checkFromIndexSize", desc := "(IIILjava/util/function/BiFunction;)I" } : Jvm.MethodName) prog_78_method_13_code (4 : Nat) (Option.some Jvm.ClassFile.FieldType.int)) ∈ lw_all := lw_g (lw_at lw_m2 82 rfl) rfl
theorem q484 : (Jvm.Cond.static ({ cls := "jdk/internal/util/Preconditions", name := "checkIndex", desc := "(IILjava/util/function/BiFunction;)I" } : Jvm.MethodName)) ∈ lw_all := lw_g (lw_at lw_m2 102 rfl) rfl
theorem q485 : (Jvm.Cond.code ({ cls := "jdk/internal/util/Preconditions", name := "checkIndex", desc := "(IILjava/util/function/BiFunction;)I" } : Jvm.MethodName) prog_78_method_11_code (3 : Nat) (Option.some Jvm.ClassFile.FieldType.int)) ∈ lw_all := lw_g (lw_at lw_m2 103 rfl) rfl
theorem q568 : (Jvm.Cond.static ({ cls := "jdk/internal/util/Preconditions", name := "checkFromToIndex", desc := "(IIILjava/util/function/BiFunction;)I" } : Jvm.MethodName)) ∈ lw_all := lw_g (lw_at lw_m2 186 rfl) rfl
theorem q569 : (Jvm.Cond.code ({ cls := "jdk/internal/util/Preconditions", name := "checkFromToIndex", desc := "(IIILjava/util/function/BiFunction;)I" } : Jvm.MethodName) prog_78_method_12_code (4 : Nat) (Option.some Jvm.ClassFile.FieldType.int)) ∈ lw_all := lw_g (lw_at lw_m2 187 rfl) rfl
theorem q159 : (Jvm.Cond.initialized "java/util/Objects") ∈ lw_all := lw_g (lw_at lw_m1 17 rfl) rfl
theorem q620 : (Jvm.Cond.static ({ cls := "java/util/Objects", name := "requireNonNull", desc := "(Ljava/lang/Object;)Ljava/lang/Object;" } : Jvm.MethodName)) ∈ lw_all := lw_g (lw_at lw_m2 238 rfl) rfl
theorem q621 : (Jvm.Cond.code ({ cls := "java/util/Objects", name := "requireNonNull", desc := "(Ljava/lang/Object;)Ljava/lang/Object;" } : Jvm.MethodName) prog_55_method_10_code (1 : Nat) (Option.some (Jvm.ClassFile.FieldType.object "java/lang/Object"))) ∈ lw_all := lw_g (lw_at lw_m2 239 rfl) rfl
theorem q160 : (Jvm.Cond.initialized "jdk/internal/misc/Unsafe") ∈ lw_all := lw_g (lw_at lw_m1 18 rfl) rfl
theorem q674 : (Jvm.Cond.laysStatic "jdk/internal/misc/Unsafe" "ARRAY_BYTE_BASE_OFFSET" "I") ∈ lw_tbl := lw_at lw_m3 52 rfl
theorem q685 : (Jvm.Cond.instanceMethod ({ cls := "jdk/internal/misc/Unsafe", name := "getLongUnaligned", desc := "(Ljava/lang/Object;J)J" } : Jvm.MethodName)) ∈ lw_all := lw_g (lw_at lw_m3 63 rfl) rfl
theorem q686 : (Jvm.Cond.selects "jdk/internal/misc/Unsafe" ({ cls := "jdk/internal/misc/Unsafe", name := "getLongUnaligned", desc := "(Ljava/lang/Object;J)J" } : Jvm.MethodName) ({ cls := "jdk/internal/misc/Unsafe", name := "getLongUnaligned", desc := "(Ljava/lang/Object;J)J" } : Jvm.MethodName)) ∈ lw_all := lw_g (lw_at lw_m3 64 rfl) rfl
theorem q687 : (Jvm.Cond.code ({ cls := "jdk/internal/misc/Unsafe", name := "getLongUnaligned", desc := "(Ljava/lang/Object;J)J" } : Jvm.MethodName) prog_75_method_334_code (4 : Nat) (Option.some Jvm.ClassFile.FieldType.long)) ∈ lw_all := lw_g (lw_at lw_m3 65 rfl) rfl
theorem q688 : (Jvm.Cond.constantLong "jdk/internal/misc/Unsafe" (696 : Nat) (7 : Int64)) ∈ lw_all := lw_g (lw_at lw_m3 66 rfl) rfl
theorem q689 : (Jvm.Cond.methodLink "jdk/internal/misc/Unsafe" (27 : Nat) ({ cls := "jdk/internal/misc/Unsafe", name := "getLong", desc := "(Ljava/lang/Object;J)J" } : Jvm.MethodName)) ∈ lw_all := lw_g (lw_at lw_m3 67 rfl) rfl
theorem q690 : (Jvm.Cond.instanceMethod ({ cls := "jdk/internal/misc/Unsafe", name := "getLong", desc := "(Ljava/lang/Object;J)J" } : Jvm.MethodName)) ∈ lw_all := lw_g (lw_at lw_m3 68 rfl) rfl
theorem q691 : (Jvm.Cond.selects "jdk/internal/misc/Unsafe" ({ cls := "jdk/internal/misc/Unsafe", name := "getLong", desc := "(Ljava/lang/Object;J)J" } : Jvm.MethodName) ({ cls := "jdk/internal/misc/Unsafe", name := "getLong", desc := "(Ljava/lang/Object;J)J" } : Jvm.MethodName)) ∈ lw_all := lw_g (lw_at lw_m3 69 rfl) rfl
theorem q692 : (Jvm.Cond.native ({ cls := "jdk/internal/misc/Unsafe", name := "getLong", desc := "(Ljava/lang/Object;J)J" } : Jvm.MethodName)) ∈ lw_all := lw_g (lw_at lw_m3 70 rfl) rfl
theorem q693 : (Jvm.Cond.constantLong "jdk/internal/misc/Unsafe" (349 : Nat) (3 : Int64)) ∈ lw_all := lw_g (lw_at lw_m3 71 rfl) rfl
theorem q694 : (Jvm.Cond.methodLink "jdk/internal/misc/Unsafe" (17 : Nat) ({ cls := "jdk/internal/misc/Unsafe", name := "getInt", desc := "(Ljava/lang/Object;J)I" } : Jvm.MethodName)) ∈ lw_all := lw_g (lw_at lw_m3 72 rfl) rfl
theorem q695 : (Jvm.Cond.instanceMethod ({ cls := "jdk/internal/misc/Unsafe", name := "getInt", desc := "(Ljava/lang/Object;J)I" } : Jvm.MethodName)) ∈ lw_all := lw_g (lw_at lw_m3 73 rfl) rfl
theorem q696 : (Jvm.Cond.selects "jdk/internal/misc/Unsafe" ({ cls := "jdk/internal/misc/Unsafe", name := "getInt", desc := "(Ljava/lang/Object;J)I" } : Jvm.MethodName) ({ cls := "jdk/internal/misc/Unsafe", name := "getInt", desc := "(Ljava/lang/Object;J)I" } : Jvm.MethodName)) ∈ lw_all := lw_g (lw_at lw_m3 74 rfl) rfl
theorem q697 : (Jvm.Cond.native ({ cls := "jdk/internal/misc/Unsafe", name := "getInt", desc := "(Ljava/lang/Object;J)I" } : Jvm.MethodName)) ∈ lw_all := lw_g (lw_at lw_m3 75 rfl) rfl
theorem q698 : (Jvm.Cond.constantLong "jdk/internal/misc/Unsafe" (205 : Nat) (4 : Int64)) ∈ lw_all := lw_g (lw_at lw_m3 76 rfl) rfl
theorem q699 : (Jvm.Cond.methodLink "jdk/internal/misc/Unsafe" (698 : Nat) ({ cls := "jdk/internal/misc/Unsafe", name := "makeLong", desc := "(II)J" } : Jvm.MethodName)) ∈ lw_all := lw_g (lw_at lw_m3 77 rfl) rfl
theorem q700 : (Jvm.Cond.static ({ cls := "jdk/internal/misc/Unsafe", name := "makeLong", desc := "(II)J" } : Jvm.MethodName)) ∈ lw_all := lw_g (lw_at lw_m3 78 rfl) rfl
theorem q701 : (Jvm.Cond.code ({ cls := "jdk/internal/misc/Unsafe", name := "makeLong", desc := "(II)J" } : Jvm.MethodName) prog_75_method_353_code (2 : Nat) (Option.some Jvm.ClassFile.FieldType.long)) ∈ lw_all := lw_g (lw_at lw_m3 79 rfl) rfl
theorem q702 : (Jvm.Cond.methodLink "jdk/internal/misc/Unsafe" (791 : Nat) ({ cls := "jdk/internal/misc/Unsafe", name := "toUnsignedLong", desc := "(I)J" } : Jvm.MethodName)) ∈ lw_all := lw_g (lw_at lw_m3 80 rfl) rfl
theorem q703 : (Jvm.Cond.static ({ cls := "jdk/internal/misc/Unsafe", name := "toUnsignedLong", desc := "(I)J" } : Jvm.MethodName)) ∈ lw_all := lw_g (lw_at lw_m3 81 rfl) rfl
theorem q704 : (Jvm.Cond.code ({ cls := "jdk/internal/misc/Unsafe", name := "toUnsignedLong", desc := "(I)J" } : Jvm.MethodName) prog_75_method_370_code (1 : Nat) (Option.some Jvm.ClassFile.FieldType.long)) ∈ lw_all := lw_g (lw_at lw_m3 82 rfl) rfl
theorem q705 : (Jvm.Cond.constantLong "jdk/internal/misc/Unsafe" (812 : Nat) (4294967295 : Int64)) ∈ lw_all := lw_g (lw_at lw_m3 83 rfl) rfl
theorem q706 : (Jvm.Cond.methodLink "jdk/internal/misc/Unsafe" (784 : Nat) ({ cls := "jdk/internal/misc/Unsafe", name := "pickPos", desc := "(II)I" } : Jvm.MethodName)) ∈ lw_all := lw_g (lw_at lw_m3 84 rfl) rfl
theorem q707 : (Jvm.Cond.static ({ cls := "jdk/internal/misc/Unsafe", name := "pickPos", desc := "(II)I" } : Jvm.MethodName)) ∈ lw_all := lw_g (lw_at lw_m3 85 rfl) rfl
theorem q708 : (Jvm.Cond.code ({ cls := "jdk/internal/misc/Unsafe", name := "pickPos", desc := "(II)I" } : Jvm.MethodName) prog_75_method_350_code (2 : Nat) (Option.some Jvm.ClassFile.FieldType.int)) ∈ lw_all := lw_g (lw_at lw_m3 86 rfl) rfl
theorem q709 : (Jvm.Cond.fieldLink "jdk/internal/misc/Unsafe" (351 : Nat) "jdk/internal/misc/UnsafeConstants" "BIG_ENDIAN" "Z") ∈ lw_all := lw_g (lw_at lw_m3 87 rfl) rfl
theorem q711 : (Jvm.Cond.methodLink "jdk/internal/misc/Unsafe" (47 : Nat) ({ cls := "jdk/internal/misc/Unsafe", name := "getShort", desc := "(Ljava/lang/Object;J)S" } : Jvm.MethodName)) ∈ lw_all := lw_g (lw_at lw_m3 89 rfl) rfl
theorem q712 : (Jvm.Cond.instanceMethod ({ cls := "jdk/internal/misc/Unsafe", name := "getShort", desc := "(Ljava/lang/Object;J)S" } : Jvm.MethodName)) ∈ lw_all := lw_g (lw_at lw_m3 90 rfl) rfl
theorem q713 : (Jvm.Cond.selects "jdk/internal/misc/Unsafe" ({ cls := "jdk/internal/misc/Unsafe", name := "getShort", desc := "(Ljava/lang/Object;J)S" } : Jvm.MethodName) ({ cls := "jdk/internal/misc/Unsafe", name := "getShort", desc := "(Ljava/lang/Object;J)S" } : Jvm.MethodName)) ∈ lw_all := lw_g (lw_at lw_m3 91 rfl) rfl
theorem q714 : (Jvm.Cond.native ({ cls := "jdk/internal/misc/Unsafe", name := "getShort", desc := "(Ljava/lang/Object;J)S" } : Jvm.MethodName)) ∈ lw_all := lw_g (lw_at lw_m3 92 rfl) rfl
theorem q715 : (Jvm.Cond.constantLong "jdk/internal/misc/Unsafe" (203 : Nat) (2 : Int64)) ∈ lw_all := lw_g (lw_at lw_m3 93 rfl) rfl
theorem q716 : (Jvm.Cond.constantLong "jdk/internal/misc/Unsafe" (702 : Nat) (6 : Int64)) ∈ lw_all := lw_g (lw_at lw_m3 94 rfl) rfl
theorem q717 : (Jvm.Cond.methodLink "jdk/internal/misc/Unsafe" (704 : Nat) ({ cls := "jdk/internal/misc/Unsafe", name := "makeLong", desc := "(SSSS)J" } : Jvm.MethodName)) ∈ lw_all := lw_g (lw_at lw_m3 95 rfl) rfl
theorem q718 : (Jvm.Cond.static ({ cls := "jdk/internal/misc/Unsafe", name := "makeLong", desc := "(SSSS)J" } : Jvm.MethodName)) ∈ lw_all := lw_g (lw_at lw_m3 96 rfl) rfl
theorem q719 : (Jvm.Cond.code ({ cls := "jdk/internal/misc/Unsafe", name := "makeLong", desc := "(SSSS)J" } : Jvm.MethodName) prog_75_method_352_code (4 : Nat) (Option.some Jvm.ClassFile.FieldType.long)) ∈ lw_all := lw_g (lw_at lw_m3 97 rfl) rfl
theorem q720 : (Jvm.Cond.methodLink "jdk/internal/misc/Unsafe" (788 : Nat) ({ cls := "jdk/internal/misc/Unsafe", name := "toUnsignedLong", desc := "(S)J" } : Jvm.MethodName)) ∈ lw_all := lw_g (lw_at lw_m3 98 rfl) rfl
theorem q721 : (Jvm.Cond.static ({ cls := "jdk/internal/misc/Unsafe", name := "toUnsignedLong", desc := "(S)J" } : Jvm.MethodName)) ∈ lw_all := lw_g (lw_at lw_m3 99 rfl) rfl
theorem q722 : (Jvm.Cond.code ({ cls := "jdk/internal/misc/Unsafe", name := "toUnsignedLong", desc := "(S)J" } : Jvm.MethodName) prog_75_method_369_code (1 : Nat) (Option.some Jvm.ClassFile.FieldType.long)) ∈ lw_all := lw_g (lw_at lw_m3 100 rfl) rfl
theorem q723 : (Jvm.Cond.constantLong "jdk/internal/misc/Unsafe" (810 : Nat) (65535 : Int64)) ∈ lw_all := lw_g (lw_at lw_m3 101 rfl) rfl
theorem q724 : (Jvm.Cond.methodLink "jdk/internal/misc/Unsafe" (39 : Nat) ({ cls := "jdk/internal/misc/Unsafe", name := "getByte", desc := "(Ljava/lang/Object;J)B" } : Jvm.MethodName)) ∈ lw_all := lw_g (lw_at lw_m3 102 rfl) rfl
theorem q725 : (Jvm.Cond.instanceMethod ({ cls := "jdk/internal/misc/Unsafe", name := "getByte", desc := "(Ljava/lang/Object;J)B" } : Jvm.MethodName)) ∈ lw_all := lw_g (lw_at lw_m3 103 rfl) rfl
theorem q726 : (Jvm.Cond.selects "jdk/internal/misc/Unsafe" ({ cls := "jdk/internal/misc/Unsafe", name := "getByte", desc := "(Ljava/lang/Object;J)B" } : Jvm.MethodName) ({ cls := "jdk/internal/misc/Unsafe", name := "getByte", desc := "(Ljava/lang/Object;J)B" } : Jvm.MethodName)) ∈ lw_all := lw_g (lw_at lw_m3 104 rfl) rfl
theorem q727 : (Jvm.Cond.native ({ cls := "jdk/internal/misc/Unsafe", name := "getByte", desc := "(Ljava/lang/Object;J)B" } : Jvm.MethodName)) ∈ lw_all := lw_g (lw_at lw_m3 105 rfl) rfl
theorem q728 : (Jvm.Cond.constantLong "jdk/internal/misc/Unsafe" (707 : Nat) (5 : Int64)) ∈ lw_all := lw_g (lw_at lw_m3 106 rfl) rfl
theorem q729 : (Jvm.Cond.methodLink "jdk/internal/misc/Unsafe" (709 : Nat) ({ cls := "jdk/internal/misc/Unsafe", name := "makeLong", desc := "(BBBBBBBB)J" } : Jvm.MethodName)) ∈ lw_all := lw_g (lw_at lw_m3 107 rfl) rfl
theorem q730 : (Jvm.Cond.static ({ cls := "jdk/internal/misc/Unsafe", name := "makeLong", desc := "(BBBBBBBB)J" } : Jvm.MethodName)) ∈ lw_all := lw_g (lw_at lw_m3 108 rfl) rfl
theorem q731 : (Jvm.Cond.code ({ cls := "jdk/internal/misc/Unsafe", name := "makeLong", desc := "(BBBBBBBB)J" } : Jvm.MethodName) prog_75_method_351_code (8 : Nat) (Option.some Jvm.ClassFile.FieldType.long)) ∈ lw_all := lw_g (lw_at lw_m3 109 rfl) rfl
theorem q732 : (Jvm.Cond.methodLink "jdk/internal/misc/Unsafe" (781 : Nat) ({ cls := "jdk/internal/misc/Unsafe", name := "toUnsignedLong", desc := "(B)J" } : Jvm.MethodName)) ∈ lw_all := lw_g (lw_at lw_m3 110 rfl) rfl
theorem q733 : (Jvm.Cond.static ({ cls := "jdk/internal/misc/Unsafe", name := "toUnsignedLong", desc := "(B)J" } : Jvm.MethodName)) ∈ lw_all := lw_g (lw_at lw_m3 111 rfl) rfl
theorem q734 : (Jvm.Cond.code ({ cls := "jdk/internal/misc/Unsafe", name := "toUnsignedLong", desc := "(B)J" } : Jvm.MethodName) prog_75_method_368_code (1 : Nat) (Option.some Jvm.ClassFile.FieldType.long)) ∈ lw_all := lw_g (lw_at lw_m3 112 rfl) rfl
theorem q735 : (Jvm.Cond.constantLong "jdk/internal/misc/Unsafe" (808 : Nat) (255 : Int64)) ∈ lw_all := lw_g (lw_at lw_m3 113 rfl) rfl
theorem q756 : (Jvm.Cond.instanceMethod ({ cls := "jdk/internal/misc/Unsafe", name := "getIntUnaligned", desc := "(Ljava/lang/Object;J)I" } : Jvm.MethodName)) ∈ lw_all := lw_g (lw_at lw_m3 134 rfl) rfl
theorem q757 : (Jvm.Cond.selects "jdk/internal/misc/Unsafe" ({ cls := "jdk/internal/misc/Unsafe", name := "getIntUnaligned", desc := "(Ljava/lang/Object;J)I" } : Jvm.MethodName) ({ cls := "jdk/internal/misc/Unsafe", name := "getIntUnaligned", desc := "(Ljava/lang/Object;J)I" } : Jvm.MethodName)) ∈ lw_all := lw_g (lw_at lw_m3 135 rfl) rfl
theorem q758 : (Jvm.Cond.code ({ cls := "jdk/internal/misc/Unsafe", name := "getIntUnaligned", desc := "(Ljava/lang/Object;J)I" } : Jvm.MethodName) prog_75_method_336_code (4 : Nat) (Option.some Jvm.ClassFile.FieldType.int)) ∈ lw_all := lw_g (lw_at lw_m3 136 rfl) rfl
theorem q759 : (Jvm.Cond.methodLink "jdk/internal/misc/Unsafe" (719 : Nat) ({ cls := "jdk/internal/misc/Unsafe", name := "makeInt", desc := "(SS)I" } : Jvm.MethodName)) ∈ lw_all := lw_g (lw_at lw_m3 137 rfl) rfl
theorem q760 : (Jvm.Cond.static ({ cls := "jdk/internal/misc/Unsafe", name := "makeInt", desc := "(SS)I" } : Jvm.MethodName)) ∈ lw_all := lw_g (lw_at lw_m3 138 rfl) rfl
theorem q761 : (Jvm.Cond.code ({ cls := "jdk/internal/misc/Unsafe", name := "makeInt", desc := "(SS)I" } : Jvm.MethodName) prog_75_method_354_code (2 : Nat) (Option.some Jvm.ClassFile.FieldType.int)) ∈ lw_all := lw_g (lw_at lw_m3 139 rfl) rfl
theorem q762 : (Jvm.Cond.methodLink "jdk/internal/misc/Unsafe" (792 : Nat) ({ cls := "jdk/internal/misc/Unsafe", name := "toUnsignedInt", desc := "(S)I" } : Jvm.MethodName)) ∈ lw_all := lw_g (lw_at lw_m3 140 rfl) rfl
theorem q763 : (Jvm.Cond.static ({ cls := "jdk/internal/misc/Unsafe", name := "toUnsignedInt", desc := "(S)I" } : Jvm.MethodName)) ∈ lw_all := lw_g (lw_at lw_m3 141 rfl) rfl
theorem q764 : (Jvm.Cond.code ({ cls := "jdk/internal/misc/Unsafe", name := "toUnsignedInt", desc := "(S)I" } : Jvm.MethodName) prog_75_method_367_code (1 : Nat) (Option.some Jvm.ClassFile.FieldType.int)) ∈ lw_all := lw_g (lw_at lw_m3 142 rfl) rfl
theorem q765 : (Jvm.Cond.constant "jdk/internal/misc/Unsafe" (374 : Nat) (65535 : Int32)) ∈ lw_all := lw_g (lw_at lw_m3 143 rfl) rfl
theorem q766 : (Jvm.Cond.methodLink "jdk/internal/misc/Unsafe" (723 : Nat) ({ cls := "jdk/internal/misc/Unsafe", name := "makeInt", desc := "(BBBB)I" } : Jvm.MethodName)) ∈ lw_all := lw_g (lw_at lw_m3 144 rfl) rfl
theorem q767 : (Jvm.Cond.static ({ cls := "jdk/internal/misc/Unsafe", name := "makeInt", desc := "(BBBB)I" } : Jvm.MethodName)) ∈ lw_all := lw_g (lw_at lw_m3 145 rfl) rfl
theorem q768 : (Jvm.Cond.code ({ cls := "jdk/internal/misc/Unsafe", name := "makeInt", desc := "(BBBB)I" } : Jvm.MethodName) prog_75_method_355_code (4 : Nat) (Option.some Jvm.ClassFile.FieldType.int)) ∈ lw_all := lw_g (lw_at lw_m3 146 rfl) rfl
theorem q769 : (Jvm.Cond.methodLink "jdk/internal/misc/Unsafe" (796 : Nat) ({ cls := "jdk/internal/misc/Unsafe", name := "toUnsignedInt", desc := "(B)I" } : Jvm.MethodName)) ∈ lw_all := lw_g (lw_at lw_m3 147 rfl) rfl
theorem q770 : (Jvm.Cond.static ({ cls := "jdk/internal/misc/Unsafe", name := "toUnsignedInt", desc := "(B)I" } : Jvm.MethodName)) ∈ lw_all := lw_g (lw_at lw_m3 148 rfl) rfl
theorem q771 : (Jvm.Cond.code ({ cls := "jdk/internal/misc/Unsafe", name := "toUnsignedInt", desc := "(B)I" } : Jvm.MethodName) prog_75_method_366_code (1 : Nat) (Option.some Jvm.ClassFile.FieldType.int)) ∈ lw_all := lw_g (lw_at lw_m3 149 rfl) rfl
theorem q1633 : (Jvm.Cond.selects "jdk/internal/misc/Unsafe" ({ cls := "java/lang/Object", name := "getClass", desc := "()Ljava/lang/Class;" } : Jvm.MethodName) ({ cls := "java/lang/Object", name := "getClass", desc := "()Ljava/lang/Class;" } : Jvm.MethodName)) ∈ lw_all := lw_g (lw_at lw_m7 51 rfl) rfl
theorem q2739 : (Jvm.Cond.castable "jdk/internal/misc/Unsafe" "java/lang/Object") ∈ lw_tbl := lw_at lw_m11 197 rfl
theorem q162 : (Jvm.Cond.initialized "java/lang/Long") ∈ lw_all := lw_g (lw_at lw_m1 20 rfl) rfl
theorem q739 : (Jvm.Cond.static ({ cls := "java/lang/Long", name := "numberOfLeadingZeros", desc := "(J)I" } : Jvm.MethodName)) ∈ lw_all := lw_g (lw_at lw_m3 117 rfl) rfl
theorem q740 : (Jvm.Cond.code ({ cls := "java/lang/Long", name := "numberOfLeadingZeros", desc := "(J)I" } : Jvm.MethodName) prog_28_method_48_code (3 : Nat) (Option.some Jvm.ClassFile.FieldType.int)) ∈ lw_all := lw_g (lw_at lw_m3 118 rfl) rfl
theorem q741 : (Jvm.Cond.methodLink "java/lang/Long" (308 : Nat) ({ cls := "java/lang/Integer", name := "numberOfLeadingZeros", desc := "(I)I" } : Jvm.MethodName)) ∈ lw_all := lw_g (lw_at lw_m3 119 rfl) rfl
theorem q748 : (Jvm.Cond.static ({ cls := "java/lang/Long", name := "numberOfTrailingZeros", desc := "(J)I" } : Jvm.MethodName)) ∈ lw_all := lw_g (lw_at lw_m3 126 rfl) rfl
theorem q749 : (Jvm.Cond.code ({ cls := "java/lang/Long", name := "numberOfTrailingZeros", desc := "(J)I" } : Jvm.MethodName) prog_28_method_49_code (3 : Nat) (Option.some Jvm.ClassFile.FieldType.int)) ∈ lw_all := lw_g (lw_at lw_m3 127 rfl) rfl
theorem q750 : (Jvm.Cond.methodLink "java/lang/Long" (311 : Nat) ({ cls := "java/lang/Integer", name := "numberOfTrailingZeros", desc := "(I)I" } : Jvm.MethodName)) ∈ lw_all := lw_g (lw_at lw_m3 128 rfl) rfl
theorem q164 : (Jvm.Cond.initialized "java/util/AbstractCollection") ∈ lw_all := lw_g (lw_at lw_m1 22 rfl) rfl
theorem q851 : (Jvm.Cond.instanceMethod ({ cls := "java/util/AbstractCollection", name := "<init>", desc := "()V" } : Jvm.MethodName)) ∈ lw_all := lw_g (lw_at lw_m3 229 rfl) rfl
theorem q852 : (Jvm.Cond.code ({ cls := "java/util/AbstractCollection", name := "<init>", desc := "()V" } : Jvm.MethodName) prog_39_method_1_code (1 : Nat) (Option.none : Option Jvm.ClassFile.FieldType)) ∈ lw_all := lw_g (lw_at lw_m3 230 rfl) rfl
theorem q853 : (Jvm.Cond.methodLink "java/util/AbstractCollection" (1 : Nat) ({ cls := "java/lang/Object", name := "<init>", desc := "()V" } : Jvm.MethodName)) ∈ lw_all := lw_g (lw_at lw_m3 231 rfl) rfl
theorem q165 : (Jvm.Cond.initialized "java/util/AbstractSet") ∈ lw_all := lw_g (lw_at lw_m1 23 rfl) rfl
theorem q848 : (Jvm.Cond.instanceMethod ({ cls := "java/util/AbstractSet", name := "<init>", desc := "()V" } : Jvm.MethodName)) ∈ lw_all := lw_g (lw_at lw_m3 226 rfl) rfl
theorem q849 : (Jvm.Cond.code ({ cls := "java/util/AbstractSet", name := "<init>", desc := "()V" } : Jvm.MethodName) prog_43_method_1_code (1 : Nat) (Option.none : Option Jvm.ClassFile.FieldType)) ∈ lw_all := lw_g (lw_at lw_m3 227 rfl) rfl
theorem q850 : (Jvm.Cond.methodLink "java/util/AbstractSet" (1 : Nat) ({ cls := "java/util/AbstractCollection", name := "<init>", desc := "()V" } : Jvm.MethodName)) ∈ lw_all := lw_g (lw_at lw_m3 228 rfl) rfl
theorem q166 : (Jvm.Cond.initialized "java/util/TreeSet") ∈ lw_all := lw_g (lw_at lw_m1 24 rfl) rfl
theorem q838 : (Jvm.Cond.instantiable "java/util/TreeSet" (1 : Nat)) ∈ lw_all := lw_g (lw_at lw_m3 216 rfl) rfl
theorem q840 : (Jvm.Cond.instanceMethod ({ cls := "java/util/TreeSet", name := "<init>", desc := "()V" } : Jvm.MethodName)) ∈ lw_all := lw_g (lw_at lw_m3 218 rfl) rfl
theorem q841 : (Jvm.Cond.code ({ cls := "java/util/TreeSet", name := "<init>", desc := "()V" } : Jvm.MethodName) prog_74_method_2_code (1 : Nat) (Option.none : Option Jvm.ClassFile.FieldType)) ∈ lw_all := lw_g (lw_at lw_m3 219 rfl) rfl
theorem q842 : (Jvm.Cond.classLink "java/util/TreeSet" (13 : Nat) "java/util/TreeMap") ∈ lw_all := lw_g (lw_at lw_m3 220 rfl) rfl
theorem q843 : (Jvm.Cond.methodLink "java/util/TreeSet" (15 : Nat) ({ cls := "java/util/TreeMap", name := "<init>", desc := "()V" } : Jvm.MethodName)) ∈ lw_all := lw_g (lw_at lw_m3 221 rfl) rfl
theorem q844 : (Jvm.Cond.methodLink "java/util/TreeSet" (16 : Nat) ({ cls := "java/util/TreeSet", name := "<init>", desc := "(Ljava/util/NavigableMap;)V" } : Jvm.MethodName)) ∈ lw_all := lw_g (lw_at lw_m3 222 rfl) rfl
theorem q845 : (Jvm.Cond.instanceMethod ({ cls := "java/util/TreeSet", name := "<init>", desc := "(Ljava/util/NavigableMap;)V" } : Jvm.MethodName)) ∈ lw_all := lw_g (lw_at lw_m3 223 rfl) rfl
theorem q846 : (Jvm.Cond.code ({ cls := "java/util/TreeSet", name := "<init>", desc := "(Ljava/util/NavigableMap;)V" } : Jvm.MethodName) prog_74_method_1_code (2 : Nat) (Option.none : Option Jvm.ClassFile.FieldType)) ∈ lw_all := lw_g (lw_at lw_m3 224 rfl) rfl
theorem q847 : (Jvm.Cond.methodLink "java/util/TreeSet" (1 : Nat) ({ cls := "java/util/AbstractSet", name := "<init>", desc := "()V" } : Jvm.MethodName)) ∈ lw_all := lw_g (lw_at lw_m3 225 rfl) rfl
theorem q854 : (Jvm.Cond.fieldLink "java/util/TreeSet" (7 : Nat) "java/util/TreeSet" "m" "Ljava/util/NavigableMap;") ∈ lw_all := lw_g (lw_at lw_m3 232 rfl) rfl
theorem q855 : (Jvm.Cond.lays "java/util/TreeSet" "java/util/TreeSet" "m" "Ljava/util/NavigableMap;") ∈ lw_all := lw_g (lw_at lw_m3 233 rfl) rfl
theorem q856 : (Jvm.Cond.soleField "java/util/TreeSet" "m") ∈ lw_all := lw_g (lw_at lw_m3 234 rfl) rfl
theorem q857 : (Jvm.Cond.superclass "java/util/TreeSet" "java/util/AbstractSet") ∈ lw_all := lw_g (lw_at lw_m3 235 rfl) rfl
theorem q983 : (Jvm.Cond.instanceMethod ({ cls := "java/util/TreeSet", name := "add", desc := "(Ljava/lang/Object;)Z" } : Jvm.MethodName)) ∈ lw_all := lw_g (lw_at lw_m4 121 rfl) rfl
theorem q984 : (Jvm.Cond.selects "java/util/TreeSet" ({ cls := "java/util/TreeSet", name := "add", desc := "(Ljava/lang/Object;)Z" } : Jvm.MethodName) ({ cls := "java/util/TreeSet", name := "add", desc := "(Ljava/lang/Object;)Z" } : Jvm.MethodName)) ∈ lw_all := lw_g (lw_at lw_m4 122 rfl) rfl
theorem q985 : (Jvm.Cond.code ({ cls := "java/util/TreeSet", name := "add", desc := "(Ljava/lang/Object;)Z" } : Jvm.MethodName) prog_74_method_12_code (2 : Nat) (Option.some Jvm.ClassFile.FieldType.boolean)) ∈ lw_all := lw_g (lw_at lw_m4 123 rfl) rfl
theorem q986 : (Jvm.Cond.fieldLink "java/util/TreeSet" (65 : Nat) "java/util/TreeSet" "PRESENT" "Ljava/lang/Object;") ∈ lw_all := lw_g (lw_at lw_m4 124 rfl) rfl
theorem q987 : (Jvm.Cond.laysStatic "java/util/TreeSet" "PRESENT" "Ljava/lang/Object;") ∈ lw_tbl := lw_at lw_m4 125 rfl
theorem q988 : (Jvm.Cond.interfaceEntry "java/util/TreeSet" (69 : Nat)) ∈ lw_tbl := lw_at lw_m4 126 rfl
theorem q1015 : (Jvm.Cond.instanceMethod ({ cls := "java/util/TreeSet", name := "size", desc := "()I" } : Jvm.MethodName)) ∈ lw_all := lw_g (lw_at lw_m4 153 rfl) rfl
theorem q1016 : (Jvm.Cond.selects "java/util/TreeSet" ({ cls := "java/util/TreeSet", name := "size", desc := "()I" } : Jvm.MethodName) ({ cls := "java/util/TreeSet", name := "size", desc := "()I" } : Jvm.MethodName)) ∈ lw_all := lw_g (lw_at lw_m4 154 rfl) rfl
theorem q1017 : (Jvm.Cond.code ({ cls := "java/util/TreeSet", name := "size", desc := "()I" } : Jvm.MethodName) prog_74_method_9_code (1 : Nat) (Option.some Jvm.ClassFile.FieldType.int)) ∈ lw_all := lw_g (lw_at lw_m4 155 rfl) rfl
theorem q1018 : (Jvm.Cond.interfaceEntry "java/util/TreeSet" (53 : Nat)) ∈ lw_tbl := lw_at lw_m4 156 rfl
theorem q1152 : (Jvm.Cond.castable "java/util/TreeSet" "java/util/Collection") ∈ lw_tbl := lw_at lw_m5 50 rfl
theorem q1153 : (Jvm.Cond.selects "java/util/TreeSet" ({ cls := "java/util/Collection", name := "iterator", desc := "()Ljava/util/Iterator;" } : Jvm.MethodName) ({ cls := "java/util/TreeSet", name := "iterator", desc := "()Ljava/util/Iterator;" } : Jvm.MethodName)) ∈ lw_all := lw_g (lw_at lw_m5 51 rfl) rfl
theorem q1154 : (Jvm.Cond.unhidden "java/util/TreeSet" "iterator" "()Ljava/util/Iterator;") ∈ lw_tbl := lw_at lw_m5 52 rfl
theorem q1155 : (Jvm.Cond.instanceMethod ({ cls := "java/util/TreeSet", name := "iterator", desc := "()Ljava/util/Iterator;" } : Jvm.MethodName)) ∈ lw_all := lw_g (lw_at lw_m5 53 rfl) rfl
theorem q1156 : (Jvm.Cond.publicMethod ({ cls := "java/util/TreeSet", name := "iterator", desc := "()Ljava/util/Iterator;" } : Jvm.MethodName)) ∈ lw_tbl := lw_at lw_m5 54 rfl
theorem q1157 : (Jvm.Cond.code ({ cls := "java/util/TreeSet", name := "iterator", desc := "()Ljava/util/Iterator;" } : Jvm.MethodName) prog_74_method_6_code (1 : Nat) (Option.some (Jvm.ClassFile.FieldType.object "java/util/Iterator"))) ∈ lw_all := lw_g (lw_at lw_m5 55 rfl) rfl
theorem q1158 : (Jvm.Cond.interfaceEntry "java/util/TreeSet" (34 : Nat)) ∈ lw_tbl := lw_at lw_m5 56 rfl
theorem q1159 : (Jvm.Cond.methodLink "java/util/TreeSet" (34 : Nat) ({ cls := "java/util/NavigableMap", name := "navigableKeySet", desc := "()Ljava/util/NavigableSet;" } : Jvm.MethodName)) ∈ lw_all := lw_g (lw_at lw_m5 57 rfl) rfl
theorem q1177 : (Jvm.Cond.interfaceEntry "java/util/TreeSet" (40 : Nat)) ∈ lw_tbl := lw_at lw_m5 75 rfl
theorem q1178 : (Jvm.Cond.methodLink "java/util/TreeSet" (40 : Nat) ({ cls := "java/util/NavigableSet", name := "iterator", desc := "()Ljava/util/Iterator;" } : Jvm.MethodName)) ∈ lw_all := lw_g (lw_at lw_m5 76 rfl) rfl
theorem q1183 : (Jvm.Cond.castable "java/util/TreeSet" "java/util/NavigableSet") ∈ lw_tbl := lw_at lw_m5 81 rfl
theorem q1184 : (Jvm.Cond.selects "java/util/TreeSet" ({ cls := "java/util/NavigableSet", name := "iterator", desc := "()Ljava/util/Iterator;" } : Jvm.MethodName) ({ cls := "java/util/TreeSet", name := "iterator", desc := "()Ljava/util/Iterator;" } : Jvm.MethodName)) ∈ lw_all := lw_g (lw_at lw_m5 82 rfl) rfl
theorem q1632 : (Jvm.Cond.selects "java/util/TreeSet" ({ cls := "java/lang/Object", name := "getClass", desc := "()Ljava/lang/Class;" } : Jvm.MethodName) ({ cls := "java/lang/Object", name := "getClass", desc := "()Ljava/lang/Class;" } : Jvm.MethodName)) ∈ lw_all := lw_g (lw_at lw_m7 50 rfl) rfl
theorem q2741 : (Jvm.Cond.castable "java/util/TreeSet" "java/lang/Object") ∈ lw_tbl := lw_at lw_m11 199 rfl
theorem q167 : (Jvm.Cond.initialized "java/util/TreeMap$Entry") ∈ lw_all := lw_g (lw_at lw_m1 25 rfl) rfl
theorem q887 : (Jvm.Cond.instantiable "java/util/TreeMap$Entry" (6 : Nat)) ∈ lw_all := lw_g (lw_at lw_m4 25 rfl) rfl
theorem q889 : (Jvm.Cond.instanceMethod ({ cls := "java/util/TreeMap$Entry", name := "<init>", desc := "(Ljava/lang/Object;Ljava/lang/Object;Ljava/util/TreeMap$Entry;)V" } : Jvm.MethodName)) ∈ lw_all := lw_g (lw_at lw_m4 27 rfl) rfl
theorem q890 : (Jvm.Cond.code ({ cls := "java/util/TreeMap$Entry", name := "<init>", desc := "(Ljava/lang/Object;Ljava/lang/Object;Ljava/util/TreeMap$Entry;)V" } : Jvm.MethodName) prog_67_method_1_code (4 : Nat) (Option.none : Option Jvm.ClassFile.FieldType)) ∈ lw_all := lw_g (lw_at lw_m4 28 rfl) rfl
theorem q891 : (Jvm.Cond.methodLink "java/util/TreeMap$Entry" (3 : Nat) ({ cls := "java/lang/Object", name := "<init>", desc := "()V" } : Jvm.MethodName)) ∈ lw_all := lw_g (lw_at lw_m4 29 rfl) rfl
theorem q892 : (Jvm.Cond.fieldLink "java/util/TreeMap$Entry" (15 : Nat) "java/util/TreeMap$Entry" "key" "Ljava/lang/Object;") ∈ lw_all := lw_g (lw_at lw_m4 30 rfl) rfl
theorem q895 : (Jvm.Cond.fieldLink "java/util/TreeMap$Entry" (19 : Nat) "java/util/TreeMap$Entry" "value" "Ljava/lang/Object;") ∈ lw_all := lw_g (lw_at lw_m4 33 rfl) rfl
theorem q900 : (Jvm.Cond.fieldLink "java/util/TreeMap$Entry" (22 : Nat) "java/util/TreeMap$Entry" "parent" "Ljava/util/TreeMap$Entry;") ∈ lw_all := lw_g (lw_at lw_m4 38 rfl) rfl
theorem q902 : (Jvm.Cond.fieldLink "java/util/TreeMap$Entry" (9 : Nat) "java/util/TreeMap$Entry" "color" "Z") ∈ lw_all := lw_g (lw_at lw_m4 40 rfl) rfl
theorem q904 : (Jvm.Cond.lays "java/util/TreeMap$Entry" "java/util/TreeMap$Entry" "key" "Ljava/lang/Object;") ∈ lw_all := lw_g (lw_at lw_m4 42 rfl) rfl
theorem q905 : (Jvm.Cond.soleField "java/util/TreeMap$Entry" "key") ∈ lw_all := lw_g (lw_at lw_m4 43 rfl) rfl
theorem q906 : (Jvm.Cond.lays "java/util/TreeMap$Entry" "java/util/TreeMap$Entry" "value" "Ljava/lang/Object;") ∈ lw_all := lw_g (lw_at lw_m4 44 rfl) rfl
theorem q907 : (Jvm.Cond.soleField "java/util/TreeMap$Entry" "value") ∈ lw_all := lw_g (lw_at lw_m4 45 rfl) rfl
theorem q908 : (Jvm.Cond.lays "java/util/TreeMap$Entry" "java/util/TreeMap$Entry" "left" "Ljava/util/TreeMap$Entry;") ∈ lw_all := lw_g (lw_at lw_m4 46 rfl) rfl
theorem q909 : (Jvm.Cond.soleField "java/util/TreeMap$Entry" "left") ∈ lw_all := lw_g (lw_at lw_m4 47 rfl) rfl
theorem q910 : (Jvm.Cond.lays "java/util/TreeMap$Entry" "java/util/TreeMap$Entry" "right" "Ljava/util/TreeMap$Entry;") ∈ lw_all := lw_g (lw_at lw_m4 48 rfl) rfl
theorem q911 : (Jvm.Cond.soleField "java/util/TreeMap$Entry" "right") ∈ lw_all := lw_g (lw_at lw_m4 49 rfl) rfl
theorem q912 : (Jvm.Cond.lays "java/util/TreeMap$Entry" "java/util/TreeMap$Entry" "parent" "Ljava/util/TreeMap$Entry;") ∈ lw_all := lw_g (lw_at lw_m4 50 rfl) rfl
theorem q913 : (Jvm.Cond.soleField "java/util/TreeMap$Entry" "parent") ∈ lw_all := lw_g (lw_at lw_m4 51 rfl) rfl
theorem q914 : (Jvm.Cond.lays "java/util/TreeMap$Entry" "java/util/TreeMap$Entry" "color" "Z") ∈ lw_all := lw_g (lw_at lw_m4 52 rfl) rfl
theorem q915 : (Jvm.Cond.soleField "java/util/TreeMap$Entry" "color") ∈ lw_all := lw_g (lw_at lw_m4 53 rfl) rfl
theorem q916 : (Jvm.Cond.superclass "java/util/TreeMap$Entry" "java/lang/Object") ∈ lw_all := lw_g (lw_at lw_m4 54 rfl) rfl
theorem q1627 : (Jvm.Cond.selects "java/util/TreeMap$Entry" ({ cls := "java/lang/Object", name := "getClass", desc := "()Ljava/lang/Class;" } : Jvm.MethodName) ({ cls := "java/lang/Object", name := "getClass", desc := "()Ljava/lang/Class;" } : Jvm.MethodName)) ∈ lw_all := lw_g (lw_at lw_m7 45 rfl) rfl
theorem q2742 : (Jvm.Cond.castable "java/util/TreeMap$Entry" "java/lang/Object") ∈ lw_tbl := lw_at lw_m11 200 rfl
theorem q147 : (Jvm.Cond.initialized "java/lang/Math") ∈ lw_all := lw_g (lw_at lw_m1 5 rfl) rfl
theorem q328 : (Jvm.Cond.static ({ cls := "java/lang/Math", name := "max", desc := "(II)I" } : Jvm.MethodName)) ∈ lw_all := lw_g (lw_at lw_m1 186 rfl) rfl
theorem q329 : (Jvm.Cond.code ({ cls := "java/lang/Math", name := "max", desc := "(II)I" } : Jvm.MethodName) prog_29_method_65_code (2 : Nat) (Option.some Jvm.ClassFile.FieldType.int)) ∈ lw_all := lw_g (lw_at lw_m1 187 rfl) rfl
theorem q331 : (Jvm.Cond.static ({ cls := "java/lang/Math", name := "min", desc := "(II)I" } : Jvm.MethodName)) ∈ lw_all := lw_g (lw_at lw_m1 189 rfl) rfl
theorem q332 : (Jvm.Cond.code ({ cls := "java/lang/Math", name := "min", desc := "(II)I" } : Jvm.MethodName) prog_29_method_69_code (2 : Nat) (Option.some Jvm.ClassFile.FieldType.int)) ∈ lw_all := lw_g (lw_at lw_m1 190 rfl) rfl
theorem q170 : (Jvm.Cond.initialized "java/util/TreeMap$Values") ∈ lw_all := lw_g (lw_at lw_m1 28 rfl) rfl
theorem q1049 : (Jvm.Cond.instantiable "java/util/TreeMap$Values" (1 : Nat)) ∈ lw_all := lw_g (lw_at lw_m4 187 rfl) rfl
theorem q1051 : (Jvm.Cond.instanceMethod ({ cls := "java/util/TreeMap$Values", name := "<init>", desc := "(Ljava/util/TreeMap;)V" } : Jvm.MethodName)) ∈ lw_all := lw_g (lw_at lw_m4 189 rfl) rfl
theorem q1052 : (Jvm.Cond.code ({ cls := "java/util/TreeMap$Values", name := "<init>", desc := "(Ljava/util/TreeMap;)V" } : Jvm.MethodName) prog_73_method_1_code (2 : Nat) (Option.none : Option Jvm.ClassFile.FieldType)) ∈ lw_all := lw_g (lw_at lw_m4 190 rfl) rfl
theorem q1053 : (Jvm.Cond.methodLink "java/util/TreeMap$Values" (7 : Nat) ({ cls := "java/util/AbstractCollection", name := "<init>", desc := "()V" } : Jvm.MethodName)) ∈ lw_all := lw_g (lw_at lw_m4 191 rfl) rfl
theorem q1054 : (Jvm.Cond.fieldLink "java/util/TreeMap$Values" (1 : Nat) "java/util/TreeMap$Values" "this$0" "Ljava/util/TreeMap;") ∈ lw_all := lw_g (lw_at lw_m4 192 rfl) rfl
theorem q1055 : (Jvm.Cond.laysFinal "java/util/TreeMap$Values" "java/util/TreeMap$Values" "this$0" "Ljava/util/TreeMap;") ∈ lw_all := lw_g (lw_at lw_m4 193 rfl) rfl
theorem q1056 : (Jvm.Cond.soleField "java/util/TreeMap$Values" "this$0") ∈ lw_all := lw_g (lw_at lw_m4 194 rfl) rfl
theorem q1057 : (Jvm.Cond.superclass "java/util/TreeMap$Values" "java/util/AbstractCollection") ∈ lw_all := lw_g (lw_at lw_m4 195 rfl) rfl
theorem q1134 : (Jvm.Cond.castable "java/util/TreeMap$Values" "java/util/Collection") ∈ lw_tbl := lw_at lw_m5 32 rfl
theorem q1135 : (Jvm.Cond.selects "java/util/TreeMap$Values" ({ cls := "java/util/Collection", name := "iterator", desc := "()Ljava/util/Iterator;" } : Jvm.MethodName) ({ cls := "java/util/TreeMap$Values", name := "iterator", desc := "()Ljava/util/Iterator;" } : Jvm.MethodName)) ∈ lw_all := lw_g (lw_at lw_m5 33 rfl) rfl
theorem q1136 : (Jvm.Cond.unhidden "java/util/TreeMap$Values" "iterator" "()Ljava/util/Iterator;") ∈ lw_tbl := lw_at lw_m5 34 rfl
theorem q1137 : (Jvm.Cond.instanceMethod ({ cls := "java/util/TreeMap$Values", name := "iterator", desc := "()Ljava/util/Iterator;" } : Jvm.MethodName)) ∈ lw_all := lw_g (lw_at lw_m5 35 rfl) rfl
theorem q1138 : (Jvm.Cond.publicMethod ({ cls := "java/util/TreeMap$Values", name := "iterator", desc := "()Ljava/util/Iterator;" } : Jvm.MethodName)) ∈ lw_tbl := lw_at lw_m5 36 rfl
theorem q1139 : (Jvm.Cond.code ({ cls := "java/util/TreeMap$Values", name := "iterator", desc := "()Ljava/util/Iterator;" } : Jvm.MethodName) prog_73_method_2_code (1 : Nat) (Option.some (Jvm.ClassFile.FieldType.object "java/util/Iterator"))) ∈ lw_all := lw_g (lw_at lw_m5 37 rfl) rfl
theorem q1140 : (Jvm.Cond.classLink "java/util/TreeMap$Values" (13 : Nat) "java/util/TreeMap$ValueIterator") ∈ lw_all := lw_g (lw_at lw_m5 38 rfl) rfl
theorem q1142 : (Jvm.Cond.methodLink "java/util/TreeMap$Values" (15 : Nat) ({ cls := "java/util/TreeMap", name := "getFirstEntry", desc := "()Ljava/util/TreeMap$Entry;" } : Jvm.MethodName)) ∈ lw_all := lw_g (lw_at lw_m5 40 rfl) rfl
theorem q1143 : (Jvm.Cond.methodLink "java/util/TreeMap$Values" (21 : Nat) ({ cls := "java/util/TreeMap$ValueIterator", name := "<init>", desc := "(Ljava/util/TreeMap;Ljava/util/TreeMap$Entry;)V" } : Jvm.MethodName)) ∈ lw_all := lw_g (lw_at lw_m5 41 rfl) rfl
theorem q1631 : (Jvm.Cond.selects "java/util/TreeMap$Values" ({ cls := "java/lang/Object", name := "getClass", desc := "()Ljava/lang/Class;" } : Jvm.MethodName) ({ cls := "java/lang/Object", name := "getClass", desc := "()Ljava/lang/Class;" } : Jvm.MethodName)) ∈ lw_all := lw_g (lw_at lw_m7 49 rfl) rfl
theorem q2744 : (Jvm.Cond.castable "java/util/TreeMap$Values" "java/lang/Object") ∈ lw_tbl := lw_at lw_m11 202 rfl
theorem q171 : (Jvm.Cond.initialized "java/util/PriorityQueue$Itr") ∈ lw_all := lw_g (lw_at lw_m1 29 rfl) rfl
theorem q1069 : (Jvm.Cond.instantiable "java/util/PriorityQueue$Itr" (6 : Nat)) ∈ lw_all := lw_g (lw_at lw_m4 207 rfl) rfl
theorem q1071 : (Jvm.Cond.instanceMethod ({ cls := "java/util/PriorityQueue$Itr", name := "<init>", desc := "(Ljava/util/PriorityQueue;)V" } : Jvm.MethodName)) ∈ lw_all := lw_g (lw_at lw_m4 209 rfl) rfl
theorem q1072 : (Jvm.Cond.code ({ cls := "java/util/PriorityQueue$Itr", name := "<init>", desc := "(Ljava/util/PriorityQueue;)V" } : Jvm.MethodName) prog_57_method_1_code (2 : Nat) (Option.none : Option Jvm.ClassFile.FieldType)) ∈ lw_all := lw_g (lw_at lw_m4 210 rfl) rfl
theorem q1073 : (Jvm.Cond.methodLink "java/util/PriorityQueue$Itr" (7 : Nat) ({ cls := "java/lang/Object", name := "<init>", desc := "()V" } : Jvm.MethodName)) ∈ lw_all := lw_g (lw_at lw_m4 211 rfl) rfl
theorem q1074 : (Jvm.Cond.fieldLink "java/util/PriorityQueue$Itr" (25 : Nat) "java/util/PriorityQueue$Itr" "cursor" "I") ∈ lw_all := lw_g (lw_at lw_m4 212 rfl) rfl
theorem q1075 : (Jvm.Cond.fieldLink "java/util/PriorityQueue$Itr" (13 : Nat) "java/util/PriorityQueue$Itr" "lastRet" "I") ∈ lw_all := lw_g (lw_at lw_m4 213 rfl) rfl
theorem q1076 : (Jvm.Cond.fieldLink "java/util/PriorityQueue$Itr" (31 : Nat) "java/util/PriorityQueue$Itr" "forgetMeNot" "Ljava/util/ArrayDeque;") ∈ lw_all := lw_g (lw_at lw_m4 214 rfl) rfl
theorem q1077 : (Jvm.Cond.fieldLink "java/util/PriorityQueue$Itr" (52 : Nat) "java/util/PriorityQueue$Itr" "lastRetElt" "Ljava/lang/Object;") ∈ lw_all := lw_g (lw_at lw_m4 215 rfl) rfl
theorem q1078 : (Jvm.Cond.fieldLink "java/util/PriorityQueue$Itr" (22 : Nat) "java/util/PriorityQueue$Itr" "expectedModCount" "I") ∈ lw_all := lw_g (lw_at lw_m4 216 rfl) rfl
theorem q1079 : (Jvm.Cond.fieldLink "java/util/PriorityQueue$Itr" (1 : Nat) "java/util/PriorityQueue$Itr" "this$0" "Ljava/util/PriorityQueue;") ∈ lw_all := lw_g (lw_at lw_m4 217 rfl) rfl
theorem q1080 : (Jvm.Cond.lays "java/util/PriorityQueue$Itr" "java/util/PriorityQueue$Itr" "cursor" "I") ∈ lw_all := lw_g (lw_at lw_m4 218 rfl) rfl
theorem q1081 : (Jvm.Cond.soleField "java/util/PriorityQueue$Itr" "cursor") ∈ lw_all := lw_g (lw_at lw_m4 219 rfl) rfl
theorem q1082 : (Jvm.Cond.lays "java/util/PriorityQueue$Itr" "java/util/PriorityQueue$Itr" "lastRet" "I") ∈ lw_all := lw_g (lw_at lw_m4 220 rfl) rfl
theorem q1083 : (Jvm.Cond.soleField "java/util/PriorityQueue$Itr" "lastRet") ∈ lw_all := lw_g (lw_at lw_m4 221 rfl) rfl
theorem q1084 : (Jvm.Cond.lays "java/util/PriorityQueue$Itr" "java/util/PriorityQueue$Itr" "forgetMeNot" "Ljava/util/ArrayDeque;") ∈ lw_all := lw_g (lw_at lw_m4 222 rfl) rfl
theorem q1085 : (Jvm.Cond.soleField "java/util/PriorityQueue$Itr" "forgetMeNot") ∈ lw_all := lw_g (lw_at lw_m4 223 rfl) rfl
theorem q1086 : (Jvm.Cond.lays "java/util/PriorityQueue$Itr" "java/util/PriorityQueue$Itr" "lastRetElt" "Ljava/lang/Object;") ∈ lw_all := lw_g (lw_at lw_m4 224 rfl) rfl
theorem q1087 : (Jvm.Cond.soleField "java/util/PriorityQueue$Itr" "lastRetElt") ∈ lw_all := lw_g (lw_at lw_m4 225 rfl) rfl
theorem q1088 : (Jvm.Cond.lays "java/util/PriorityQueue$Itr" "java/util/PriorityQueue$Itr" "expectedModCount" "I") ∈ lw_all := lw_g (lw_at lw_m4 226 rfl) rfl
theorem q1089 : (Jvm.Cond.soleField "java/util/PriorityQueue$Itr" "expectedModCount") ∈ lw_all := lw_g (lw_at lw_m4 227 rfl) rfl
theorem q1090 : (Jvm.Cond.laysFinal "java/util/PriorityQueue$Itr" "java/util/PriorityQueue$Itr" "this$0" "Ljava/util/PriorityQueue;") ∈ lw_all := lw_g (lw_at lw_m4 228 rfl) rfl
theorem q1091 : (Jvm.Cond.soleField "java/util/PriorityQueue$Itr" "this$0") ∈ lw_all := lw_g (lw_at lw_m4 229 rfl) rfl
theorem q1092 : (Jvm.Cond.superclass "java/util/PriorityQueue$Itr" "java/lang/Object") ∈ lw_all := lw_g (lw_at lw_m4 230 rfl) rfl
theorem q1189 : (Jvm.Cond.castable "java/util/PriorityQueue$Itr" "java/util/Iterator") ∈ lw_tbl := lw_at lw_m5 87 rfl
theorem q1190 : (Jvm.Cond.selects "java/util/PriorityQueue$Itr" ({ cls := "java/util/Iterator", name := "hasNext", desc := "()Z" } : Jvm.MethodName) ({ cls := "java/util/PriorityQueue$Itr", name := "hasNext", desc := "()Z" } : Jvm.MethodName)) ∈ lw_all := lw_g (lw_at lw_m5 88 rfl) rfl
theorem q1191 : (Jvm.Cond.unhidden "java/util/PriorityQueue$Itr" "hasNext" "()Z") ∈ lw_tbl := lw_at lw_m5 89 rfl
theorem q1192 : (Jvm.Cond.instanceMethod ({ cls := "java/util/PriorityQueue$Itr", name := "hasNext", desc := "()Z" } : Jvm.MethodName)) ∈ lw_all := lw_g (lw_at lw_m5 90 rfl) rfl
theorem q1193 : (Jvm.Cond.publicMethod ({ cls := "java/util/PriorityQueue$Itr", name := "hasNext", desc := "()Z" } : Jvm.MethodName)) ∈ lw_tbl := lw_at lw_m5 91 rfl
theorem q1194 : (Jvm.Cond.code ({ cls := "java/util/PriorityQueue$Itr", name := "hasNext", desc := "()Z" } : Jvm.MethodName) prog_57_method_2_code (1 : Nat) (Option.some Jvm.ClassFile.FieldType.boolean)) ∈ lw_all := lw_g (lw_at lw_m5 92 rfl) rfl
theorem q1195 : (Jvm.Cond.methodLink "java/util/PriorityQueue$Itr" (35 : Nat) ({ cls := "java/util/ArrayDeque", name := "isEmpty", desc := "()Z" } : Jvm.MethodName)) ∈ lw_all := lw_g (lw_at lw_m5 93 rfl) rfl
theorem q1212 : (Jvm.Cond.selects "java/util/PriorityQueue$Itr" ({ cls := "java/util/Iterator", name := "next", desc := "()Ljava/lang/Object;" } : Jvm.MethodName) ({ cls := "java/util/PriorityQueue$Itr", name := "next", desc := "()Ljava/lang/Object;" } : Jvm.MethodName)) ∈ lw_all := lw_g (lw_at lw_m5 110 rfl) rfl
theorem q1213 : (Jvm.Cond.unhidden "java/util/PriorityQueue$Itr" "next" "()Ljava/lang/Object;") ∈ lw_tbl := lw_at lw_m5 111 rfl
theorem q1214 : (Jvm.Cond.instanceMethod ({ cls := "java/util/PriorityQueue$Itr", name := "next", desc := "()Ljava/lang/Object;" } : Jvm.MethodName)) ∈ lw_all := lw_g (lw_at lw_m5 112 rfl) rfl
theorem q1215 : (Jvm.Cond.publicMethod ({ cls := "java/util/PriorityQueue$Itr", name := "next", desc := "()Ljava/lang/Object;" } : Jvm.MethodName)) ∈ lw_tbl := lw_at lw_m5 113 rfl
theorem q1216 : (Jvm.Cond.code ({ cls := "java/util/PriorityQueue$Itr", name := "next", desc := "()Ljava/lang/Object;" } : Jvm.MethodName) prog_57_method_3_code (1 : Nat) (Option.some (Jvm.ClassFile.FieldType.object "java/lang/Object"))) ∈ lw_all := lw_g (lw_at lw_m5 114 rfl) rfl
theorem q1217 : (Jvm.Cond.methodLink "java/util/PriorityQueue$Itr" (48 : Nat) ({ cls := "java/util/ArrayDeque", name := "poll", desc := "()Ljava/lang/Object;" } : Jvm.MethodName)) ∈ lw_all := lw_g (lw_at lw_m5 115 rfl) rfl
theorem q1540 : (Jvm.Cond.fieldLink "java/util/PriorityQueue$Itr" (44 : Nat) "java/util/PriorityQueue" "queue" "[Ljava/lang/Object;") ∈ lw_all := lw_g (lw_at lw_m6 198 rfl) rfl
theorem q1542 : (Jvm.Cond.fieldLink "java/util/PriorityQueue$Itr" (28 : Nat) "java/util/PriorityQueue" "size" "I") ∈ lw_all := lw_g (lw_at lw_m6 200 rfl) rfl
theorem q1545 : (Jvm.Cond.fieldLink "java/util/PriorityQueue$Itr" (17 : Nat) "java/util/PriorityQueue" "modCount" "I") ∈ lw_all := lw_g (lw_at lw_m6 203 rfl) rfl
theorem q1625 : (Jvm.Cond.selects "java/util/PriorityQueue$Itr" ({ cls := "java/lang/Object", name := "getClass", desc := "()Ljava/lang/Class;" } : Jvm.MethodName) ({ cls := "java/lang/Object", name := "getClass", desc := "()Ljava/lang/Class;" } : Jvm.MethodName)) ∈ lw_all := lw_g (lw_at lw_m7 43 rfl) rfl
theorem q2752 : (Jvm.Cond.castable "java/util/PriorityQueue$Itr" "java/lang/Object") ∈ lw_tbl := lw_at lw_m11 210 rfl
theorem q172 : (Jvm.Cond.initialized "java/util/TreeMap$PrivateEntryIterator") ∈ lw_all := lw_g (lw_at lw_m1 30 rfl) rfl
theorem q280 : (Jvm.Cond.fieldLinkNest "java/util/TreeMap$PrivateEntryIterator" (13 : Nat) "java/util/TreeMap" "modCount" "I" "java/util/TreeMap") ∈ lw_tbl := lw_at lw_m1 138 rfl
theorem q1114 : (Jvm.Cond.instanceMethod ({ cls := "java/util/TreeMap$PrivateEntryIterator", name := "<init>", desc := "(Ljava/util/TreeMap;Ljava/util/TreeMap$Entry;)V" } : Jvm.MethodName)) ∈ lw_all := lw_g (lw_at lw_m5 12 rfl) rfl
theorem q1115 : (Jvm.Cond.code ({ cls := "java/util/TreeMap$PrivateEntryIterator", name := "<init>", desc := "(Ljava/util/TreeMap;Ljava/util/TreeMap$Entry;)V" } : Jvm.MethodName) prog_71_method_1_code (3 : Nat) (Option.none : Option Jvm.ClassFile.FieldType)) ∈ lw_all := lw_g (lw_at lw_m5 13 rfl) rfl
theorem q1116 : (Jvm.Cond.methodLink "java/util/TreeMap$PrivateEntryIterator" (7 : Nat) ({ cls := "java/lang/Object", name := "<init>", desc := "()V" } : Jvm.MethodName)) ∈ lw_all := lw_g (lw_at lw_m5 14 rfl) rfl
theorem q1117 : (Jvm.Cond.fieldLink "java/util/TreeMap$PrivateEntryIterator" (26 : Nat) "java/util/TreeMap$PrivateEntryIterator" "next" "Ljava/util/TreeMap$Entry;") ∈ lw_all := lw_g (lw_at lw_m5 15 rfl) rfl
theorem q1118 : (Jvm.Cond.fieldLink "java/util/TreeMap$PrivateEntryIterator" (22 : Nat) "java/util/TreeMap$PrivateEntryIterator" "lastReturned" "Ljava/util/TreeMap$Entry;") ∈ lw_all := lw_g (lw_at lw_m5 16 rfl) rfl
theorem q1119 : (Jvm.Cond.fieldLink "java/util/TreeMap$PrivateEntryIterator" (19 : Nat) "java/util/TreeMap$PrivateEntryIterator" "expectedModCount" "I") ∈ lw_all := lw_g (lw_at lw_m5 17 rfl) rfl
theorem q1120 : (Jvm.Cond.fieldLink "java/util/TreeMap$PrivateEntryIterator" (1 : Nat) "java/util/TreeMap$PrivateEntryIterator" "this$0" "Ljava/util/TreeMap;") ∈ lw_all := lw_g (lw_at lw_m5 18 rfl) rfl
theorem q1122 : (Jvm.Cond.soleField "java/util/TreeMap$PrivateEntryIterator" "next") ∈ lw_all := lw_g (lw_at lw_m5 20 rfl) rfl
theorem q1124 : (Jvm.Cond.soleField "java/util/TreeMap$PrivateEntryIterator" "lastReturned") ∈ lw_all := lw_g (lw_at lw_m5 22 rfl) rfl
theorem q1126 : (Jvm.Cond.soleField "java/util/TreeMap$PrivateEntryIterator" "expectedModCount") ∈ lw_all := lw_g (lw_at lw_m5 24 rfl) rfl
theorem q1128 : (Jvm.Cond.soleField "java/util/TreeMap$PrivateEntryIterator" "this$0") ∈ lw_all := lw_g (lw_at lw_m5 26 rfl) rfl
theorem q1202 : (Jvm.Cond.instanceMethod ({ cls := "java/util/TreeMap$PrivateEntryIterator", name := "hasNext", desc := "()Z" } : Jvm.MethodName)) ∈ lw_all := lw_g (lw_at lw_m5 100 rfl) rfl
theorem q1203 : (Jvm.Cond.publicMethod ({ cls := "java/util/TreeMap$PrivateEntryIterator", name := "hasNext", desc := "()Z" } : Jvm.MethodName)) ∈ lw_tbl := lw_at lw_m5 101 rfl
theorem q1204 : (Jvm.Cond.code ({ cls := "java/util/TreeMap$PrivateEntryIterator", name := "hasNext", desc := "()Z" } : Jvm.MethodName) prog_71_method_2_code (1 : Nat) (Option.some Jvm.ClassFile.FieldType.boolean)) ∈ lw_all := lw_g (lw_at lw_m5 102 rfl) rfl
theorem q1238 : (Jvm.Cond.declares ({ cls := "java/util/TreeMap$PrivateEntryIterator", name := "nextEntry", desc := "()Ljava/util/TreeMap$Entry;" } : Jvm.MethodName)) ∈ lw_tbl := lw_at lw_m5 136 rfl
theorem q1240 : (Jvm.Cond.instanceMethod ({ cls := "java/util/TreeMap$PrivateEntryIterator", name := "nextEntry", desc := "()Ljava/util/TreeMap$Entry;" } : Jvm.MethodName)) ∈ lw_all := lw_g (lw_at lw_m5 138 rfl) rfl
theorem q1241 : (Jvm.Cond.code ({ cls := "java/util/TreeMap$PrivateEntryIterator", name := "nextEntry", desc := "()Ljava/util/TreeMap$Entry;" } : Jvm.MethodName) prog_71_method_3_code (2 : Nat) (Option.some (Jvm.ClassFile.FieldType.object "java/util/TreeMap$Entry"))) ∈ lw_all := lw_g (lw_at lw_m5 139 rfl) rfl
theorem q1242 : (Jvm.Cond.methodLink "java/util/TreeMap$PrivateEntryIterator" (35 : Nat) ({ cls := "java/util/TreeMap", name := "successor", desc := "(Ljava/util/TreeMap$Entry;)Ljava/util/TreeMap$Entry;" } : Jvm.MethodName)) ∈ lw_all := lw_g (lw_at lw_m5 140 rfl) rfl
theorem q173 : (Jvm.Cond.initialized "java/util/TreeMap$KeyIterator") ∈ lw_all := lw_g (lw_at lw_m1 31 rfl) rfl
theorem q893 : (Jvm.Cond.fieldLink "java/util/TreeMap$KeyIterator" (13 : Nat) "java/util/TreeMap$Entry" "key" "Ljava/lang/Object;") ∈ lw_all := lw_g (lw_at lw_m4 31 rfl) rfl
theorem q1105 : (Jvm.Cond.instantiable "java/util/TreeMap$KeyIterator" (4 : Nat)) ∈ lw_all := lw_g (lw_at lw_m5 3 rfl) rfl
theorem q1111 : (Jvm.Cond.instanceMethod ({ cls := "java/util/TreeMap$KeyIterator", name := "<init>", desc := "(Ljava/util/TreeMap;Ljava/util/TreeMap$Entry;)V" } : Jvm.MethodName)) ∈ lw_all := lw_g (lw_at lw_m5 9 rfl) rfl
theorem q1112 : (Jvm.Cond.code ({ cls := "java/util/TreeMap$KeyIterator", name := "<init>", desc := "(Ljava/util/TreeMap;Ljava/util/TreeMap$Entry;)V" } : Jvm.MethodName) prog_68_method_1_code (3 : Nat) (Option.none : Option Jvm.ClassFile.FieldType)) ∈ lw_all := lw_g (lw_at lw_m5 10 rfl) rfl
theorem q1113 : (Jvm.Cond.methodLink "java/util/TreeMap$KeyIterator" (1 : Nat) ({ cls := "java/util/TreeMap$PrivateEntryIterator", name := "<init>", desc := "(Ljava/util/TreeMap;Ljava/util/TreeMap$Entry;)V" } : Jvm.MethodName)) ∈ lw_all := lw_g (lw_at lw_m5 11 rfl) rfl
theorem q1121 : (Jvm.Cond.lays "java/util/TreeMap$KeyIterator" "java/util/TreeMap$PrivateEntryIterator" "next" "Ljava/util/TreeMap$Entry;") ∈ lw_all := lw_g (lw_at lw_m5 19 rfl) rfl
theorem q1123 : (Jvm.Cond.lays "java/util/TreeMap$KeyIterator" "java/util/TreeMap$PrivateEntryIterator" "lastReturned" "Ljava/util/TreeMap$Entry;") ∈ lw_all := lw_g (lw_at lw_m5 21 rfl) rfl
theorem q1125 : (Jvm.Cond.lays "java/util/TreeMap$KeyIterator" "java/util/TreeMap$PrivateEntryIterator" "expectedModCount" "I") ∈ lw_all := lw_g (lw_at lw_m5 23 rfl) rfl
theorem q1127 : (Jvm.Cond.laysFinal "java/util/TreeMap$KeyIterator" "java/util/TreeMap$PrivateEntryIterator" "this$0" "Ljava/util/TreeMap;") ∈ lw_all := lw_g (lw_at lw_m5 25 rfl) rfl
theorem q1129 : (Jvm.Cond.superclass "java/util/TreeMap$KeyIterator" "java/util/TreeMap$PrivateEntryIterator") ∈ lw_all := lw_g (lw_at lw_m5 27 rfl) rfl
theorem q1199 : (Jvm.Cond.castable "java/util/TreeMap$KeyIterator" "java/util/Iterator") ∈ lw_tbl := lw_at lw_m5 97 rfl
theorem q1200 : (Jvm.Cond.selects "java/util/TreeMap$KeyIterator" ({ cls := "java/util/Iterator", name := "hasNext", desc := "()Z" } : Jvm.MethodName) ({ cls := "java/util/TreeMap$PrivateEntryIterator", name := "hasNext", desc := "()Z" } : Jvm.MethodName)) ∈ lw_all := lw_g (lw_at lw_m5 98 rfl) rfl
theorem q1201 : (Jvm.Cond.unhidden "java/util/TreeMap$KeyIterator" "hasNext" "()Z") ∈ lw_tbl := lw_at lw_m5 99 rfl
theorem q1231 : (Jvm.Cond.selects "java/util/TreeMap$KeyIterator" ({ cls := "java/util/Iterator", name := "next", desc := "()Ljava/lang/Object;" } : Jvm.MethodName) ({ cls := "java/util/TreeMap$KeyIterator", name := "next", desc := "()Ljava/lang/Object;" } : Jvm.MethodName)) ∈ lw_all := lw_g (lw_at lw_m5 129 rfl) rfl
theorem q1232 : (Jvm.Cond.unhidden "java/util/TreeMap$KeyIterator" "next" "()Ljava/lang/Object;") ∈ lw_tbl := lw_at lw_m5 130 rfl
theorem q1233 : (Jvm.Cond.instanceMethod ({ cls := "java/util/TreeMap$KeyIterator", name := "next", desc := "()Ljava/lang/Object;" } : Jvm.MethodName)) ∈ lw_all := lw_g (lw_at lw_m5 131 rfl) rfl
theorem q1234 : (Jvm.Cond.publicMethod ({ cls := "java/util/TreeMap$KeyIterator", name := "next", desc := "()Ljava/lang/Object;" } : Jvm.MethodName)) ∈ lw_tbl := lw_at lw_m5 132 rfl
theorem q1235 : (Jvm.Cond.code ({ cls := "java/util/TreeMap$KeyIterator", name := "next", desc := "()Ljava/lang/Object;" } : Jvm.MethodName) prog_68_method_2_code (1 : Nat) (Option.some (Jvm.ClassFile.FieldType.object "java/lang/Object"))) ∈ lw_all := lw_g (lw_at lw_m5 133 rfl) rfl
theorem q1236 : (Jvm.Cond.methodLink "java/util/TreeMap$KeyIterator" (7 : Nat) ({ cls := "java/util/TreeMap$KeyIterator", name := "nextEntry", desc := "()Ljava/util/TreeMap$Entry;" } : Jvm.MethodName)) ∈ lw_all := lw_g (lw_at lw_m5 134 rfl) rfl
theorem q1237 : (Jvm.Cond.sameMethod "java/util/TreeMap$KeyIterator" "java/util/TreeMap$PrivateEntryIterator" "nextEntry" "()Ljava/util/TreeMap$Entry;") ∈ lw_all := lw_g (lw_at lw_m5 135 rfl) rfl
theorem q1239 : (Jvm.Cond.selects "java/util/TreeMap$KeyIterator" ({ cls := "java/util/TreeMap$KeyIterator", name := "nextEntry", desc := "()Ljava/util/TreeMap$Entry;" } : Jvm.MethodName) ({ cls := "java/util/TreeMap$PrivateEntryIterator", name := "nextEntry", desc := "()Ljava/util/TreeMap$Entry;" } : Jvm.MethodName)) ∈ lw_all := lw_g (lw_at lw_m5 137 rfl) rfl
theorem q1628 : (Jvm.Cond.selects "java/util/TreeMap$KeyIterator" ({ cls := "java/lang/Object", name := "getClass", desc := "()Ljava/lang/Class;" } : Jvm.MethodName) ({ cls := "java/lang/Object", name := "getClass", desc := "()Ljava/lang/Class;" } : Jvm.MethodName)) ∈ lw_all := lw_g (lw_at lw_m7 46 rfl) rfl
theorem q2747 : (Jvm.Cond.castable "java/util/TreeMap$KeyIterator" "java/lang/Object") ∈ lw_tbl := lw_at lw_m11 205 rfl
theorem q174 : (Jvm.Cond.initialized "java/util/TreeMap$ValueIterator") ∈ lw_all := lw_g (lw_at lw_m1 32 rfl) rfl
theorem q896 : (Jvm.Cond.fieldLink "java/util/TreeMap$ValueIterator" (13 : Nat) "java/util/TreeMap$Entry" "value" "Ljava/lang/Object;") ∈ lw_all := lw_g (lw_at lw_m4 34 rfl) rfl
theorem q1141 : (Jvm.Cond.instantiable "java/util/TreeMap$ValueIterator" (4 : Nat)) ∈ lw_all := lw_g (lw_at lw_m5 39 rfl) rfl
theorem q1144 : (Jvm.Cond.instanceMethod ({ cls := "java/util/TreeMap$ValueIterator", name := "<init>", desc := "(Ljava/util/TreeMap;Ljava/util/TreeMap$Entry;)V" } : Jvm.MethodName)) ∈ lw_all := lw_g (lw_at lw_m5 42 rfl) rfl
theorem q1145 : (Jvm.Cond.code ({ cls := "java/util/TreeMap$ValueIterator", name := "<init>", desc := "(Ljava/util/TreeMap;Ljava/util/TreeMap$Entry;)V" } : Jvm.MethodName) prog_72_method_1_code (3 : Nat) (Option.none : Option Jvm.ClassFile.FieldType)) ∈ lw_all := lw_g (lw_at lw_m5 43 rfl) rfl
theorem q1146 : (Jvm.Cond.methodLink "java/util/TreeMap$ValueIterator" (1 : Nat) ({ cls := "java/util/TreeMap$PrivateEntryIterator", name := "<init>", desc := "(Ljava/util/TreeMap;Ljava/util/TreeMap$Entry;)V" } : Jvm.MethodName)) ∈ lw_all := lw_g (lw_at lw_m5 44 rfl) rfl
theorem q1147 : (Jvm.Cond.lays "java/util/TreeMap$ValueIterator" "java/util/TreeMap$PrivateEntryIterator" "next" "Ljava/util/TreeMap$Entry;") ∈ lw_all := lw_g (lw_at lw_m5 45 rfl) rfl
theorem q1148 : (Jvm.Cond.lays "java/util/TreeMap$ValueIterator" "java/util/TreeMap$PrivateEntryIterator" "lastReturned" "Ljava/util/TreeMap$Entry;") ∈ lw_all := lw_g (lw_at lw_m5 46 rfl) rfl
theorem q1149 : (Jvm.Cond.lays "java/util/TreeMap$ValueIterator" "java/util/TreeMap$PrivateEntryIterator" "expectedModCount" "I") ∈ lw_all := lw_g (lw_at lw_m5 47 rfl) rfl
theorem q1150 : (Jvm.Cond.laysFinal "java/util/TreeMap$ValueIterator" "java/util/TreeMap$PrivateEntryIterator" "this$0" "Ljava/util/TreeMap;") ∈ lw_all := lw_g (lw_at lw_m5 48 rfl) rfl
theorem q1151 : (Jvm.Cond.superclass "java/util/TreeMap$ValueIterator" "java/util/TreeMap$PrivateEntryIterator") ∈ lw_all := lw_g (lw_at lw_m5 49 rfl) rfl
theorem q1205 : (Jvm.Cond.castable "java/util/TreeMap$ValueIterator" "java/util/Iterator") ∈ lw_tbl := lw_at lw_m5 103 rfl
theorem q1206 : (Jvm.Cond.selects "java/util/TreeMap$ValueIterator" ({ cls := "java/util/Iterator", name := "hasNext", desc := "()Z" } : Jvm.MethodName) ({ cls := "java/util/TreeMap$PrivateEntryIterator", name := "hasNext", desc := "()Z" } : Jvm.MethodName)) ∈ lw_all := lw_g (lw_at lw_m5 104 rfl) rfl
theorem q1207 : (Jvm.Cond.unhidden "java/util/TreeMap$ValueIterator" "hasNext" "()Z") ∈ lw_tbl := lw_at lw_m5 105 rfl
theorem q1245 : (Jvm.Cond.selects "java/util/TreeMap$ValueIterator" ({ cls := "java/util/Iterator", name := "next", desc := "()Ljava/lang/Object;" } : Jvm.MethodName) ({ cls := "java/util/TreeMap$ValueIterator", name := "next", desc := "()Ljava/lang/Object;" } : Jvm.MethodName)) ∈ lw_all := lw_g (lw_at lw_m5 143 rfl) rfl
theorem q1246 : (Jvm.Cond.unhidden "java/util/TreeMap$ValueIterator" "next" "()Ljava/lang/Object;") ∈ lw_tbl := lw_at lw_m5 144 rfl
theorem q1247 : (Jvm.Cond.instanceMethod ({ cls := "java/util/TreeMap$ValueIterator", name := "next", desc := "()Ljava/lang/Object;" } : Jvm.MethodName)) ∈ lw_all := lw_g (lw_at lw_m5 145 rfl) rfl
theorem q1248 : (Jvm.Cond.publicMethod ({ cls := "java/util/TreeMap$ValueIterator", name := "next", desc := "()Ljava/lang/Object;" } : Jvm.MethodName)) ∈ lw_tbl := lw_at lw_m5 146 rfl
theorem q1249 : (Jvm.Cond.code ({ cls := "java/util/TreeMap$ValueIterator", name := "next", desc := "()Ljava/lang/Object;" } : Jvm.MethodName) prog_72_method_2_code (1 : Nat) (Option.some (Jvm.ClassFile.FieldType.object "java/lang/Object"))) ∈ lw_all := lw_g (lw_at lw_m5 147 rfl) rfl
theorem q1250 : (Jvm.Cond.methodLink "java/util/TreeMap$ValueIterator" (7 : Nat) ({ cls := "java/util/TreeMap$ValueIterator", name := "nextEntry", desc := "()Ljava/util/TreeMap$Entry;" } : Jvm.MethodName)) ∈ lw_all := lw_g (lw_at lw_m5 148 rfl) rfl
theorem q1251 : (Jvm.Cond.sameMethod "java/util/TreeMap$ValueIterator" "java/util/TreeMap$PrivateEntryIterator" "nextEntry" "()Ljava/util/TreeMap$Entry;") ∈ lw_all := lw_g (lw_at lw_m5 149 rfl) rfl
theorem q1252 : (Jvm.Cond.selects "java/util/TreeMap$ValueIterator" ({ cls := "java/util/TreeMap$ValueIterator", name := "nextEntry", desc := "()Ljava/util/TreeMap$Entry;" } : Jvm.MethodName) ({ cls := "java/util/TreeMap$PrivateEntryIterator", name := "nextEntry", desc := "()Ljava/util/TreeMap$Entry;" } : Jvm.MethodName)) ∈ lw_all := lw_g (lw_at lw_m5 150 rfl) rfl
theorem q1630 : (Jvm.Cond.selects "java/util/TreeMap$ValueIterator" ({ cls := "java/lang/Object", name := "getClass", desc := "()Ljava/lang/Class;" } : Jvm.MethodName) ({ cls := "java/lang/Object", name := "getClass", desc := "()Ljava/lang/Class;" } : Jvm.MethodName)) ∈ lw_all := lw_g (lw_at lw_m7 48 rfl) rfl
theorem q2745 : (Jvm.Cond.castable "java/util/TreeMap$ValueIterator" "java/lang/Object") ∈ lw_tbl := lw_at lw_m11 203 rfl
theorem q175 : (Jvm.Cond.initialized "java/util/TreeMap$KeySet") ∈ lw_all := lw_g (lw_at lw_m1 33 rfl) rfl
theorem q1093 : (Jvm.Cond.castable "java/util/TreeMap$KeySet" "java/util/Collection") ∈ lw_tbl := lw_at lw_m4 231 rfl
theorem q1094 : (Jvm.Cond.selects "java/util/TreeMap$KeySet" ({ cls := "java/util/Collection", name := "iterator", desc := "()Ljava/util/Iterator;" } : Jvm.MethodName) ({ cls := "java/util/TreeMap$KeySet", name := "iterator", desc := "()Ljava/util/Iterator;" } : Jvm.MethodName)) ∈ lw_all := lw_g (lw_at lw_m4 232 rfl) rfl
theorem q1095 : (Jvm.Cond.unhidden "java/util/TreeMap$KeySet" "iterator" "()Ljava/util/Iterator;") ∈ lw_tbl := lw_at lw_m4 233 rfl
theorem q1096 : (Jvm.Cond.instanceMethod ({ cls := "java/util/TreeMap$KeySet", name := "iterator", desc := "()Ljava/util/Iterator;" } : Jvm.MethodName)) ∈ lw_all := lw_g (lw_at lw_m4 234 rfl) rfl
theorem q1097 : (Jvm.Cond.publicMethod ({ cls := "java/util/TreeMap$KeySet", name := "iterator", desc := "()Ljava/util/Iterator;" } : Jvm.MethodName)) ∈ lw_tbl := lw_at lw_m4 235 rfl
theorem q1098 : (Jvm.Cond.code ({ cls := "java/util/TreeMap$KeySet", name := "iterator", desc := "()Ljava/util/Iterator;" } : Jvm.MethodName) prog_69_method_2_code (1 : Nat) (Option.some (Jvm.ClassFile.FieldType.object "java/util/Iterator"))) ∈ lw_all := lw_g (lw_at lw_m4 236 rfl) rfl
theorem q1099 : (Jvm.Cond.classLink "java/util/TreeMap$KeySet" (13 : Nat) "java/util/TreeMap") ∈ lw_all := lw_g (lw_at lw_m4 237 rfl) rfl
theorem q1100 : (Jvm.Cond.methodLink "java/util/TreeMap$KeySet" (15 : Nat) ({ cls := "java/util/TreeMap", name := "keyIterator", desc := "()Ljava/util/Iterator;" } : Jvm.MethodName)) ∈ lw_all := lw_g (lw_at lw_m4 238 rfl) rfl
theorem q1130 : (Jvm.Cond.classLink "java/util/TreeMap$KeySet" (19 : Nat) "java/util/TreeMap$NavigableSubMap") ∈ lw_all := lw_g (lw_at lw_m5 28 rfl) rfl
theorem q1131 : (Jvm.Cond.methodLink "java/util/TreeMap$KeySet" (21 : Nat) ({ cls := "java/util/TreeMap$NavigableSubMap", name := "keyIterator", desc := "()Ljava/util/Iterator;" } : Jvm.MethodName)) ∈ lw_all := lw_g (lw_at lw_m5 29 rfl) rfl
theorem q1168 : (Jvm.Cond.instantiable "java/util/TreeMap$KeySet" (1 : Nat)) ∈ lw_all := lw_g (lw_at lw_m5 66 rfl) rfl
theorem q1170 : (Jvm.Cond.instanceMethod ({ cls := "java/util/TreeMap$KeySet", name := "<init>", desc := "(Ljava/util/NavigableMap;)V" } : Jvm.MethodName)) ∈ lw_all := lw_g (lw_at lw_m5 68 rfl) rfl
theorem q1171 : (Jvm.Cond.code ({ cls := "java/util/TreeMap$KeySet", name := "<init>", desc := "(Ljava/util/NavigableMap;)V" } : Jvm.MethodName) prog_69_method_1_code (2 : Nat) (Option.none : Option Jvm.ClassFile.FieldType)) ∈ lw_all := lw_g (lw_at lw_m5 69 rfl) rfl
theorem q1172 : (Jvm.Cond.methodLink "java/util/TreeMap$KeySet" (1 : Nat) ({ cls := "java/util/AbstractSet", name := "<init>", desc := "()V" } : Jvm.MethodName)) ∈ lw_all := lw_g (lw_at lw_m5 70 rfl) rfl
theorem q1173 : (Jvm.Cond.fieldLink "java/util/TreeMap$KeySet" (7 : Nat) "java/util/TreeMap$KeySet" "m" "Ljava/util/NavigableMap;") ∈ lw_all := lw_g (lw_at lw_m5 71 rfl) rfl
theorem q1174 : (Jvm.Cond.laysFinal "java/util/TreeMap$KeySet" "java/util/TreeMap$KeySet" "m" "Ljava/util/NavigableMap;") ∈ lw_all := lw_g (lw_at lw_m5 72 rfl) rfl
theorem q1175 : (Jvm.Cond.soleField "java/util/TreeMap$KeySet" "m") ∈ lw_all := lw_g (lw_at lw_m5 73 rfl) rfl
theorem q1176 : (Jvm.Cond.superclass "java/util/TreeMap$KeySet" "java/util/AbstractSet") ∈ lw_all := lw_g (lw_at lw_m5 74 rfl) rfl
theorem q1181 : (Jvm.Cond.castable "java/util/TreeMap$KeySet" "java/util/NavigableSet") ∈ lw_tbl := lw_at lw_m5 79 rfl
theorem q1182 : (Jvm.Cond.selects "java/util/TreeMap$KeySet" ({ cls := "java/util/NavigableSet", name := "iterator", desc := "()Ljava/util/Iterator;" } : Jvm.MethodName) ({ cls := "java/util/TreeMap$KeySet", name := "iterator", desc := "()Ljava/util/Iterator;" } : Jvm.MethodName)) ∈ lw_all := lw_g (lw_at lw_m5 80 rfl) rfl
theorem q1629 : (Jvm.Cond.selects "java/util/TreeMap$KeySet" ({ cls := "java/lang/Object", name := "getClass", desc := "()Ljava/lang/Class;" } : Jvm.MethodName) ({ cls := "java/lang/Object", name := "getClass", desc := "()Ljava/lang/Class;" } : Jvm.MethodName)) ∈ lw_all := lw_g (lw_at lw_m7 47 rfl) rfl
theorem q2746 : (Jvm.Cond.castable "java/util/TreeMap$KeySet" "java/lang/Object") ∈ lw_tbl := lw_at lw_m11 204 rfl
theorem q176 : (Jvm.Cond.initialized "java/util/ArrayDeque") ∈ lw_all := lw_g (lw_at lw_m1 34 rfl) rfl
theorem q1196 : (Jvm.Cond.instanceMethod ({ cls := "java/util/ArrayDeque", name := "isEmpty", desc := "()Z" } : Jvm.MethodName)) ∈ lw_all := lw_g (lw_at lw_m5 94 rfl) rfl
theorem q1197 : (Jvm.Cond.selects "java/util/ArrayDeque" ({ cls := "java/util/ArrayDeque", name := "isEmpty", desc := "()Z" } : Jvm.MethodName) ({ cls := "java/util/ArrayDeque", name := "isEmpty", desc := "()Z" } : Jvm.MethodName)) ∈ lw_all := lw_g (lw_at lw_m5 95 rfl) rfl
theorem q1198 : (Jvm.Cond.code ({ cls := "java/util/ArrayDeque", name := "isEmpty", desc := "()Z" } : Jvm.MethodName) prog_44_method_38_code (1 : Nat) (Option.some Jvm.ClassFile.FieldType.boolean)) ∈ lw_all := lw_g (lw_at lw_m5 96 rfl) rfl
theorem q1218 : (Jvm.Cond.instanceMethod ({ cls := "java/util/ArrayDeque", name := "poll", desc := "()Ljava/lang/Object;" } : Jvm.MethodName)) ∈ lw_all := lw_g (lw_at lw_m5 116 rfl) rfl
theorem q1219 : (Jvm.Cond.selects "java/util/ArrayDeque" ({ cls := "java/util/ArrayDeque", name := "poll", desc := "()Ljava/lang/Object;" } : Jvm.MethodName) ({ cls := "java/util/ArrayDeque", name := "poll", desc := "()Ljava/lang/Object;" } : Jvm.MethodName)) ∈ lw_all := lw_g (lw_at lw_m5 117 rfl) rfl
theorem q1220 : (Jvm.Cond.code ({ cls := "java/util/ArrayDeque", name := "poll", desc := "()Ljava/lang/Object;" } : Jvm.MethodName) prog_44_method_31_code (1 : Nat) (Option.some (Jvm.ClassFile.FieldType.object "java/lang/Object"))) ∈ lw_all := lw_g (lw_at lw_m5 118 rfl) rfl
theorem q1221 : (Jvm.Cond.methodLink "java/util/ArrayDeque" (93 : Nat) ({ cls := "java/util/ArrayDeque", name := "pollFirst", desc := "()Ljava/lang/Object;" } : Jvm.MethodName)) ∈ lw_all := lw_g (lw_at lw_m5 119 rfl) rfl
theorem q1222 : (Jvm.Cond.instanceMethod ({ cls := "java/util/ArrayDeque", name := "pollFirst", desc := "()Ljava/lang/Object;" } : Jvm.MethodName)) ∈ lw_all := lw_g (lw_at lw_m5 120 rfl) rfl
theorem q1223 : (Jvm.Cond.selects "java/util/ArrayDeque" ({ cls := "java/util/ArrayDeque", name := "pollFirst", desc := "()Ljava/lang/Object;" } : Jvm.MethodName) ({ cls := "java/util/ArrayDeque", name := "pollFirst", desc := "()Ljava/lang/Object;" } : Jvm.MethodName)) ∈ lw_all := lw_g (lw_at lw_m5 121 rfl) rfl
theorem q1224 : (Jvm.Cond.code ({ cls := "java/util/ArrayDeque", name := "pollFirst", desc := "()Ljava/lang/Object;" } : Jvm.MethodName) prog_44_method_20_code (4 : Nat) (Option.some (Jvm.ClassFile.FieldType.object "java/lang/Object"))) ∈ lw_all := lw_g (lw_at lw_m5 122 rfl) rfl
theorem q1225 : (Jvm.Cond.methodLink "java/util/ArrayDeque" (103 : Nat) ({ cls := "java/util/ArrayDeque", name := "elementAt", desc := "([Ljava/lang/Object;I)Ljava/lang/Object;" } : Jvm.MethodName)) ∈ lw_all := lw_g (lw_at lw_m5 123 rfl) rfl
theorem q1226 : (Jvm.Cond.static ({ cls := "java/util/ArrayDeque", name := "elementAt", desc := "([Ljava/lang/Object;I)Ljava/lang/Object;" } : Jvm.MethodName)) ∈ lw_all := lw_g (lw_at lw_m5 124 rfl) rfl
theorem q1227 : (Jvm.Cond.code ({ cls := "java/util/ArrayDeque", name := "elementAt", desc := "([Ljava/lang/Object;I)Ljava/lang/Object;" } : Jvm.MethodName) prog_44_method_10_code (2 : Nat) (Option.some (Jvm.ClassFile.FieldType.object "java/lang/Object"))) ∈ lw_all := lw_g (lw_at lw_m5 125 rfl) rfl
theorem q1228 : (Jvm.Cond.methodLink "java/util/ArrayDeque" (74 : Nat) ({ cls := "java/util/ArrayDeque", name := "inc", desc := "(II)I" } : Jvm.MethodName)) ∈ lw_all := lw_g (lw_at lw_m5 126 rfl) rfl
theorem q1229 : (Jvm.Cond.static ({ cls := "java/util/ArrayDeque", name := "inc", desc := "(II)I" } : Jvm.MethodName)) ∈ lw_all := lw_g (lw_at lw_m5 127 rfl) rfl
theorem q1230 : (Jvm.Cond.code ({ cls := "java/util/ArrayDeque", name := "inc", desc := "(II)I" } : Jvm.MethodName) prog_44_method_6_code (2 : Nat) (Option.some Jvm.ClassFile.FieldType.int)) ∈ lw_all := lw_g (lw_at lw_m5 128 rfl) rfl
theorem q2771 : (Jvm.Cond.fieldLink "java/util/ArrayDeque" (24 : Nat) "java/util/ArrayDeque" "head" "I") ∈ lw_all := lw_g (lw_at lw_m11 229 rfl) rfl
theorem q2772 : (Jvm.Cond.fieldLink "java/util/ArrayDeque" (20 : Nat) "java/util/ArrayDeque" "tail" "I") ∈ lw_all := lw_g (lw_at lw_m11 230 rfl) rfl
theorem q2773 : (Jvm.Cond.fieldLink "java/util/ArrayDeque" (3 : Nat) "java/util/ArrayDeque" "elements" "[Ljava/lang/Object;") ∈ lw_all := lw_g (lw_at lw_m11 231 rfl) rfl
theorem q179 : (Jvm.Cond.initialized "java/lang/Throwable") ∈ lw_all := lw_g (lw_at lw_m1 37 rfl) rfl
theorem q1462 : (Jvm.Cond.declares ({ cls := "java/lang/Throwable", name := "<init>", desc := "()V" } : Jvm.MethodName)) ∈ lw_tbl := lw_at lw_m6 120 rfl
theorem q1463 : (Jvm.Cond.declares ({ cls := "java/lang/Throwable", name := "<init>", desc := "(Ljava/lang/String;)V" } : Jvm.MethodName)) ∈ lw_tbl := lw_at lw_m6 121 rfl
theorem q1467 : (Jvm.Cond.lays "java/lang/Throwable" "java/lang/Throwable" "cause" "Ljava/lang/Throwable;") ∈ lw_all := lw_g (lw_at lw_m6 125 rfl) rfl
theorem q1469 : (Jvm.Cond.lays "java/lang/Throwable" "java/lang/Throwable" "stackTrace" "[Ljava/lang/StackTraceElement;") ∈ lw_all := lw_g (lw_at lw_m6 127 rfl) rfl
theorem q1471 : (Jvm.Cond.lays "java/lang/Throwable" "java/lang/Throwable" "suppressedExceptions" "Ljava/util/List;") ∈ lw_all := lw_g (lw_at lw_m6 129 rfl) rfl
theorem q1473 : (Jvm.Cond.lays "java/lang/Throwable" "java/lang/Throwable" "detailMessage" "Ljava/lang/String;") ∈ lw_all := lw_g (lw_at lw_m6 131 rfl) rfl
theorem q1475 : (Jvm.Cond.lays "java/lang/Throwable" "java/lang/Throwable" "backtrace" "Ljava/lang/Object;") ∈ lw_all := lw_g (lw_at lw_m6 133 rfl) rfl
theorem q1476 : (Jvm.Cond.fieldLink "java/lang/Throwable" (198 : Nat) "java/lang/Throwable" "backtrace" "Ljava/lang/Object;") ∈ lw_all := lw_g (lw_at lw_m6 134 rfl) rfl
theorem q1477 : (Jvm.Cond.superclass "java/lang/Throwable" "java/lang/Object") ∈ lw_all := lw_g (lw_at lw_m6 135 rfl) rfl
theorem q1478 : (Jvm.Cond.instanceMethod ({ cls := "java/lang/Throwable", name := "<init>", desc := "()V" } : Jvm.MethodName)) ∈ lw_all := lw_g (lw_at lw_m6 136 rfl) rfl
theorem q1479 : (Jvm.Cond.code ({ cls := "java/lang/Throwable", name := "<init>", desc := "()V" } : Jvm.MethodName) prog_36_method_1_code (1 : Nat) (Option.none : Option Jvm.ClassFile.FieldType)) ∈ lw_all := lw_g (lw_at lw_m6 137 rfl) rfl
theorem q1480 : (Jvm.Cond.methodLink "java/lang/Throwable" (1 : Nat) ({ cls := "java/lang/Object", name := "<init>", desc := "()V" } : Jvm.MethodName)) ∈ lw_all := lw_g (lw_at lw_m6 138 rfl) rfl
theorem q1481 : (Jvm.Cond.fieldLink "java/lang/Throwable" (13 : Nat) "java/lang/Throwable" "UNASSIGNED_STACK" "[Ljava/lang/StackTraceElement;") ∈ lw_all := lw_g (lw_at lw_m6 139 rfl) rfl
theorem q1482 : (Jvm.Cond.laysStatic "java/lang/Throwable" "UNASSIGNED_STACK" "[Ljava/lang/StackTraceElement;") ∈ lw_tbl := lw_at lw_m6 140 rfl
theorem q1483 : (Jvm.Cond.fieldLink "java/lang/Throwable" (20 : Nat) "java/lang/Throwable" "SUPPRESSED_SENTINEL" "Ljava/util/List;") ∈ lw_all := lw_g (lw_at lw_m6 141 rfl) rfl
theorem q1484 : (Jvm.Cond.laysStatic "java/lang/Throwable" "SUPPRESSED_SENTINEL" "Ljava/util/List;") ∈ lw_tbl := lw_at lw_m6 142 rfl
theorem q1485 : (Jvm.Cond.methodLink "java/lang/Throwable" (27 : Nat) ({ cls := "java/lang/Throwable", name := "fillInStackTrace", desc := "()Ljava/lang/Throwable;" } : Jvm.MethodName)) ∈ lw_all := lw_g (lw_at lw_m6 143 rfl) rfl
theorem q1486 : (Jvm.Cond.instanceMethod ({ cls := "java/lang/Throwable", name := "fillInStackTrace", desc := "()Ljava/lang/Throwable;" } : Jvm.MethodName)) ∈ lw_all := lw_g (lw_at lw_m6 144 rfl) rfl
theorem q1487 : (Jvm.Cond.sameMethod "java/lang/Throwable" "java/lang/Throwable" "fillInStackTrace" "()Ljava/lang/Throwable;") ∈ lw_all := lw_g (lw_at lw_m6 145 rfl) rfl
theorem q1488 : (Jvm.Cond.codeSync ({ cls := "java/lang/Throwable", name := "fillInStackTrace", desc := "()Ljava/lang/Throwable;" } : Jvm.MethodName) prog_36_method_18_code (1 : Nat) (Option.some (Jvm.ClassFile.FieldType.object "java/lang/Throwable"))) ∈ lw_all := lw_g (lw_at lw_m6 146 rfl) rfl
theorem q1489 : (Jvm.Cond.methodLink "java/lang/Throwable" (202 : Nat) ({ cls := "java/lang/Throwable", name := "fillInStackTrace", desc := "(I)Ljava/lang/Throwable;" } : Jvm.MethodName)) ∈ lw_all := lw_g (lw_at lw_m6 147 rfl) rfl
theorem q1490 : (Jvm.Cond.privateMethod ({ cls := "java/lang/Throwable", name := "fillInStackTrace", desc := "(I)Ljava/lang/Throwable;" } : Jvm.MethodName)) ∈ lw_tbl := lw_at lw_m6 148 rfl
theorem q1491 : (Jvm.Cond.instanceMethod ({ cls := "java/lang/Throwable", name := "fillInStackTrace", desc := "(I)Ljava/lang/Throwable;" } : Jvm.MethodName)) ∈ lw_all := lw_g (lw_at lw_m6 149 rfl) rfl
theorem q1492 : (Jvm.Cond.instantiable "java/lang/Throwable" (6 : Nat)) ∈ lw_all := lw_g (lw_at lw_m6 150 rfl) rfl
theorem q1493 : (Jvm.Cond.native ({ cls := "java/lang/Throwable", name := "fillInStackTrace", desc := "(I)Ljava/lang/Throwable;" } : Jvm.MethodName)) ∈ lw_all := lw_g (lw_at lw_m6 151 rfl) rfl
theorem q1503 : (Jvm.Cond.fieldLink "java/lang/Throwable" (198 : Nat) "java/lang/Throwable" "backtrace" "Ljava/lang/Object;") ∈ lw_all := lw_g (lw_at lw_m6 161 rfl) rfl
theorem q1504 : (Jvm.Cond.fieldLink "java/lang/Throwable" (7 : Nat) "java/lang/Throwable" "cause" "Ljava/lang/Throwable;") ∈ lw_all := lw_g (lw_at lw_m6 162 rfl) rfl
theorem q1505 : (Jvm.Cond.fieldLink "java/lang/Throwable" (17 : Nat) "java/lang/Throwable" "stackTrace" "[Ljava/lang/StackTraceElement;") ∈ lw_all := lw_g (lw_at lw_m6 163 rfl) rfl
theorem q1506 : (Jvm.Cond.fieldLink "java/lang/Throwable" (24 : Nat) "java/lang/Throwable" "suppressedExceptions" "Ljava/util/List;") ∈ lw_all := lw_g (lw_at lw_m6 164 rfl) rfl
theorem q1509 : (Jvm.Cond.soleField "java/lang/Throwable" "backtrace") ∈ lw_all := lw_g (lw_at lw_m6 167 rfl) rfl
theorem q1510 : (Jvm.Cond.soleField "java/lang/Throwable" "detailMessage") ∈ lw_all := lw_g (lw_at lw_m6 168 rfl) rfl
theorem q1511 : (Jvm.Cond.soleField "java/lang/Throwable" "cause") ∈ lw_all := lw_g (lw_at lw_m6 169 rfl) rfl
theorem q1512 : (Jvm.Cond.soleField "java/lang/Throwable" "stackTrace") ∈ lw_all := lw_g (lw_at lw_m6 170 rfl) rfl
theorem q1514 : (Jvm.Cond.soleField "java/lang/Throwable" "depth") ∈ lw_all := lw_g (lw_at lw_m6 172 rfl) rfl
theorem q1515 : (Jvm.Cond.soleField "java/lang/Throwable" "suppressedExceptions") ∈ lw_all := lw_g (lw_at lw_m6 173 rfl) rfl
theorem q2728 : (Jvm.Cond.sameMethod "java/lang/Throwable" "java/lang/Throwable" "fillInStackTrace" "(I)Ljava/lang/Throwable;") ∈ lw_all := lw_g (lw_at lw_m11 186 rfl) rfl
theorem q2755 : (Jvm.Cond.castable "java/lang/Throwable" "java/lang/Object") ∈ lw_tbl := lw_at lw_m11 213 rfl
theorem q180 : (Jvm.Cond.initialized "java/lang/Exception") ∈ lw_all := lw_g (lw_at lw_m1 38 rfl) rfl
theorem q1460 : (Jvm.Cond.declares ({ cls := "java/lang/Exception", name := "<init>", desc := "()V" } : Jvm.MethodName)) ∈ lw_tbl := lw_at lw_m6 118 rfl
theorem q1461 : (Jvm.Cond.declares ({ cls := "java/lang/Exception", name := "<init>", desc := "(Ljava/lang/String;)V" } : Jvm.MethodName)) ∈ lw_tbl := lw_at lw_m6 119 rfl
theorem q1498 : (Jvm.Cond.instanceMethod ({ cls := "java/lang/Exception", name := "<init>", desc := "()V" } : Jvm.MethodName)) ∈ lw_all := lw_g (lw_at lw_m6 156 rfl) rfl
theorem q1499 : (Jvm.Cond.code ({ cls := "java/lang/Exception", name := "<init>", desc := "()V" } : Jvm.MethodName) prog_24_method_1_code (1 : Nat) (Option.none : Option Jvm.ClassFile.FieldType)) ∈ lw_all := lw_g (lw_at lw_m6 157 rfl) rfl
theorem q1500 : (Jvm.Cond.methodLink "java/lang/Exception" (1 : Nat) ({ cls := "java/lang/Throwable", name := "<init>", desc := "()V" } : Jvm.MethodName)) ∈ lw_all := lw_g (lw_at lw_m6 158 rfl) rfl
theorem q182 : (Jvm.Cond.initialized "java/util/AbstractQueue") ∈ lw_all := lw_g (lw_at lw_m1 40 rfl) rfl
theorem q1535 : (Jvm.Cond.instanceMethod ({ cls := "java/util/AbstractQueue", name := "<init>", desc := "()V" } : Jvm.MethodName)) ∈ lw_all := lw_g (lw_at lw_m6 193 rfl) rfl
theorem q1536 : (Jvm.Cond.code ({ cls := "java/util/AbstractQueue", name := "<init>", desc := "()V" } : Jvm.MethodName) prog_42_method_1_code (1 : Nat) (Option.none : Option Jvm.ClassFile.FieldType)) ∈ lw_all := lw_g (lw_at lw_m6 194 rfl) rfl
theorem q1537 : (Jvm.Cond.methodLink "java/util/AbstractQueue" (1 : Nat) ({ cls := "java/util/AbstractCollection", name := "<init>", desc := "()V" } : Jvm.MethodName)) ∈ lw_all := lw_g (lw_at lw_m6 195 rfl) rfl
theorem q148 : (Jvm.Cond.initialized "java/lang/Number") ∈ lw_all := lw_g (lw_at lw_m1 6 rfl) rfl
theorem q975 : (Jvm.Cond.instanceMethod ({ cls := "java/lang/Number", name := "<init>", desc := "()V" } : Jvm.MethodName)) ∈ lw_all := lw_g (lw_at lw_m4 113 rfl) rfl
theorem q976 : (Jvm.Cond.code ({ cls := "java/lang/Number", name := "<init>", desc := "()V" } : Jvm.MethodName) prog_30_method_1_code (1 : Nat) (Option.none : Option Jvm.ClassFile.FieldType)) ∈ lw_all := lw_g (lw_at lw_m4 114 rfl) rfl
theorem q977 : (Jvm.Cond.methodLink "java/lang/Number" (1 : Nat) ({ cls := "java/lang/Object", name := "<init>", desc := "()V" } : Jvm.MethodName)) ∈ lw_all := lw_g (lw_at lw_m4 115 rfl) rfl
theorem q183 : (Jvm.Cond.initialized "java/util/PriorityQueue") ∈ lw_all := lw_g (lw_at lw_m1 41 rfl) rfl
theorem q1062 : (Jvm.Cond.castable "java/util/PriorityQueue" "java/util/Collection") ∈ lw_tbl := lw_at lw_m4 200 rfl
theorem q1063 : (Jvm.Cond.selects "java/util/PriorityQueue" ({ cls := "java/util/Collection", name := "iterator", desc := "()Ljava/util/Iterator;" } : Jvm.MethodName) ({ cls := "java/util/PriorityQueue", name := "iterator", desc := "()Ljava/util/Iterator;" } : Jvm.MethodName)) ∈ lw_all := lw_g (lw_at lw_m4 201 rfl) rfl
theorem q1064 : (Jvm.Cond.unhidden "java/util/PriorityQueue" "iterator" "()Ljava/util/Iterator;") ∈ lw_tbl := lw_at lw_m4 202 rfl
theorem q1065 : (Jvm.Cond.instanceMethod ({ cls := "java/util/PriorityQueue", name := "iterator", desc := "()Ljava/util/Iterator;" } : Jvm.MethodName)) ∈ lw_all := lw_g (lw_at lw_m4 203 rfl) rfl
theorem q1066 : (Jvm.Cond.publicMethod ({ cls := "java/util/PriorityQueue", name := "iterator", desc := "()Ljava/util/Iterator;" } : Jvm.MethodName)) ∈ lw_tbl := lw_at lw_m4 204 rfl
theorem q1067 : (Jvm.Cond.code ({ cls := "java/util/PriorityQueue", name := "iterator", desc := "()Ljava/util/Iterator;" } : Jvm.MethodName) prog_56_method_22_code (1 : Nat) (Option.some (Jvm.ClassFile.FieldType.object "java/util/Iterator"))) ∈ lw_all := lw_g (lw_at lw_m4 205 rfl) rfl
theorem q1068 : (Jvm.Cond.classLink "java/util/PriorityQueue" (121 : Nat) "java/util/PriorityQueue$Itr") ∈ lw_all := lw_g (lw_at lw_m4 206 rfl) rfl
theorem q1070 : (Jvm.Cond.methodLink "java/util/PriorityQueue" (123 : Nat) ({ cls := "java/util/PriorityQueue$Itr", name := "<init>", desc := "(Ljava/util/PriorityQueue;)V" } : Jvm.MethodName)) ∈ lw_all := lw_g (lw_at lw_m4 208 rfl) rfl
theorem q1527 : (Jvm.Cond.instantiable "java/util/PriorityQueue" (4 : Nat)) ∈ lw_all := lw_g (lw_at lw_m6 185 rfl) rfl
theorem q1529 : (Jvm.Cond.instanceMethod ({ cls := "java/util/PriorityQueue", name := "<init>", desc := "()V" } : Jvm.MethodName)) ∈ lw_all := lw_g (lw_at lw_m6 187 rfl) rfl
theorem q1530 : (Jvm.Cond.code ({ cls := "java/util/PriorityQueue", name := "<init>", desc := "()V" } : Jvm.MethodName) prog_56_method_1_code (1 : Nat) (Option.none : Option Jvm.ClassFile.FieldType)) ∈ lw_all := lw_g (lw_at lw_m6 188 rfl) rfl
theorem q1531 : (Jvm.Cond.methodLink "java/util/PriorityQueue" (3 : Nat) ({ cls := "java/util/PriorityQueue", name := "<init>", desc := "(ILjava/util/Comparator;)V" } : Jvm.MethodName)) ∈ lw_all := lw_g (lw_at lw_m6 189 rfl) rfl
theorem q1532 : (Jvm.Cond.instanceMethod ({ cls := "java/util/PriorityQueue", name := "<init>", desc := "(ILjava/util/Comparator;)V" } : Jvm.MethodName)) ∈ lw_all := lw_g (lw_at lw_m6 190 rfl) rfl
theorem q1533 : (Jvm.Cond.code ({ cls := "java/util/PriorityQueue", name := "<init>", desc := "(ILjava/util/Comparator;)V" } : Jvm.MethodName) prog_56_method_4_code (3 : Nat) (Option.none : Option Jvm.ClassFile.FieldType)) ∈ lw_all := lw_g (lw_at lw_m6 191 rfl) rfl
theorem q1534 : (Jvm.Cond.methodLink "java/util/PriorityQueue" (7 : Nat) ({ cls := "java/util/AbstractQueue", name := "<init>", desc := "()V" } : Jvm.MethodName)) ∈ lw_all := lw_g (lw_at lw_m6 192 rfl) rfl
theorem q1538 : (Jvm.Cond.classLink "java/util/PriorityQueue" (15 : Nat) "java/lang/Object") ∈ lw_all := lw_g (lw_at lw_m6 196 rfl) rfl
theorem q1541 : (Jvm.Cond.fieldLink "java/util/PriorityQueue" (17 : Nat) "java/util/PriorityQueue" "queue" "[Ljava/lang/Object;") ∈ lw_all := lw_g (lw_at lw_m6 199 rfl) rfl
theorem q1543 : (Jvm.Cond.fieldLink "java/util/PriorityQueue" (58 : Nat) "java/util/PriorityQueue" "size" "I") ∈ lw_all := lw_g (lw_at lw_m6 201 rfl) rfl
theorem q1544 : (Jvm.Cond.fieldLink "java/util/PriorityQueue" (21 : Nat) "java/util/PriorityQueue" "comparator" "Ljava/util/Comparator;") ∈ lw_all := lw_g (lw_at lw_m6 202 rfl) rfl
theorem q1546 : (Jvm.Cond.fieldLink "java/util/PriorityQueue" (93 : Nat) "java/util/PriorityQueue" "modCount" "I") ∈ lw_all := lw_g (lw_at lw_m6 204 rfl) rfl
theorem q1547 : (Jvm.Cond.lays "java/util/PriorityQueue" "java/util/PriorityQueue" "queue" "[Ljava/lang/Object;") ∈ lw_all := lw_g (lw_at lw_m6 205 rfl) rfl
theorem q1548 : (Jvm.Cond.soleField "java/util/PriorityQueue" "queue") ∈ lw_all := lw_g (lw_at lw_m6 206 rfl) rfl
theorem q1549 : (Jvm.Cond.lays "java/util/PriorityQueue" "java/util/PriorityQueue" "size" "I") ∈ lw_all := lw_g (lw_at lw_m6 207 rfl) rfl
theorem q1550 : (Jvm.Cond.soleField "java/util/PriorityQueue" "size") ∈ lw_all := lw_g (lw_at lw_m6 208 rfl) rfl
theorem q1551 : (Jvm.Cond.laysFinal "java/util/PriorityQueue" "java/util/PriorityQueue" "comparator" "Ljava/util/Comparator;") ∈ lw_all := lw_g (lw_at lw_m6 209 rfl) rfl
theorem q1552 : (Jvm.Cond.soleField "java/util/PriorityQueue" "comparator") ∈ lw_all := lw_g (lw_at lw_m6 210 rfl) rfl
theorem q1553 : (Jvm.Cond.lays "java/util/PriorityQueue" "java/util/PriorityQueue" "modCount" "I") ∈ lw_all := lw_g (lw_at lw_m6 211 rfl) rfl
theorem q1554 : (Jvm.Cond.soleField "java/util/PriorityQueue" "modCount") ∈ lw_all := lw_g (lw_at lw_m6 212 rfl) rfl
theorem q1555 : (Jvm.Cond.superclass "java/util/PriorityQueue" "java/util/AbstractQueue") ∈ lw_all := lw_g (lw_at lw_m6 213 rfl) rfl
theorem q1590 : (Jvm.Cond.instanceMethod ({ cls := "java/util/PriorityQueue", name := "add", desc := "(Ljava/lang/Object;)Z" } : Jvm.MethodName)) ∈ lw_all := lw_g (lw_at lw_m7 8 rfl) rfl
theorem q1591 : (Jvm.Cond.selects "java/util/PriorityQueue" ({ cls := "java/util/PriorityQueue", name := "add", desc := "(Ljava/lang/Object;)Z" } : Jvm.MethodName) ({ cls := "java/util/PriorityQueue", name := "add", desc := "(Ljava/lang/Object;)Z" } : Jvm.MethodName)) ∈ lw_all := lw_g (lw_at lw_m7 9 rfl) rfl
theorem q1592 : (Jvm.Cond.code ({ cls := "java/util/PriorityQueue", name := "add", desc := "(Ljava/lang/Object;)Z" } : Jvm.MethodName) prog_56_method_13_code (2 : Nat) (Option.some Jvm.ClassFile.FieldType.boolean)) ∈ lw_all := lw_g (lw_at lw_m7 10 rfl) rfl
theorem q1593 : (Jvm.Cond.methodLink "java/util/PriorityQueue" (89 : Nat) ({ cls := "java/util/PriorityQueue", name := "offer", desc := "(Ljava/lang/Object;)Z" } : Jvm.MethodName)) ∈ lw_all := lw_g (lw_at lw_m7 11 rfl) rfl
theorem q1594 : (Jvm.Cond.instanceMethod ({ cls := "java/util/PriorityQueue", name := "offer", desc := "(Ljava/lang/Object;)Z" } : Jvm.MethodName)) ∈ lw_all := lw_g (lw_at lw_m7 12 rfl) rfl
theorem q1595 : (Jvm.Cond.selects "java/util/PriorityQueue" ({ cls := "java/util/PriorityQueue", name := "offer", desc := "(Ljava/lang/Object;)Z" } : Jvm.MethodName) ({ cls := "java/util/PriorityQueue", name := "offer", desc := "(Ljava/lang/Object;)Z" } : Jvm.MethodName)) ∈ lw_all := lw_g (lw_at lw_m7 13 rfl) rfl
theorem q1596 : (Jvm.Cond.code ({ cls := "java/util/PriorityQueue", name := "offer", desc := "(Ljava/lang/Object;)Z" } : Jvm.MethodName) prog_56_method_14_code (3 : Nat) (Option.some Jvm.ClassFile.FieldType.boolean)) ∈ lw_all := lw_g (lw_at lw_m7 14 rfl) rfl
theorem q1597 : (Jvm.Cond.methodLink "java/util/PriorityQueue" (96 : Nat) ({ cls := "java/util/PriorityQueue", name := "grow", desc := "(I)V" } : Jvm.MethodName)) ∈ lw_all := lw_g (lw_at lw_m7 15 rfl) rfl
theorem q1598 : (Jvm.Cond.privateMethod ({ cls := "java/util/PriorityQueue", name := "grow", desc := "(I)V" } : Jvm.MethodName)) ∈ lw_tbl := lw_at lw_m7 16 rfl
theorem q1599 : (Jvm.Cond.instanceMethod ({ cls := "java/util/PriorityQueue", name := "grow", desc := "(I)V" } : Jvm.MethodName)) ∈ lw_all := lw_g (lw_at lw_m7 17 rfl) rfl
theorem q1600 : (Jvm.Cond.code ({ cls := "java/util/PriorityQueue", name := "grow", desc := "(I)V" } : Jvm.MethodName) prog_56_method_12_code (4 : Nat) (Option.none : Option Jvm.ClassFile.FieldType)) ∈ lw_all := lw_g (lw_at lw_m7 18 rfl) rfl
theorem q1601 : (Jvm.Cond.methodLink "java/util/PriorityQueue" (80 : Nat) ({ cls := "jdk/internal/util/ArraysSupport", name := "newLength", desc := "(III)I" } : Jvm.MethodName)) ∈ lw_all := lw_g (lw_at lw_m7 19 rfl) rfl
theorem q1602 : (Jvm.Cond.methodLink "java/util/PriorityQueue" (86 : Nat) ({ cls := "java/util/Arrays", name := "copyOf", desc := "([Ljava/lang/Object;I)[Ljava/lang/Object;" } : Jvm.MethodName)) ∈ lw_all := lw_g (lw_at lw_m7 20 rfl) rfl
theorem q1624 : (Jvm.Cond.selects "java/util/PriorityQueue" ({ cls := "java/lang/Object", name := "getClass", desc := "()Ljava/lang/Class;" } : Jvm.MethodName) ({ cls := "java/lang/Object", name := "getClass", desc := "()Ljava/lang/Class;" } : Jvm.MethodName)) ∈ lw_all := lw_g (lw_at lw_m7 42 rfl) rfl
theorem q1640 : (Jvm.Cond.methodLink "java/util/PriorityQueue" (100 : Nat) ({ cls := "java/util/PriorityQueue", name := "siftUp", desc := "(ILjava/lang/Object;)V" } : Jvm.MethodName)) ∈ lw_all := lw_g (lw_at lw_m7 58 rfl) rfl
theorem q1641 : (Jvm.Cond.privateMethod ({ cls := "java/util/PriorityQueue", name := "siftUp", desc := "(ILjava/lang/Object;)V" } : Jvm.MethodName)) ∈ lw_tbl := lw_at lw_m7 59 rfl
theorem q1642 : (Jvm.Cond.instanceMethod ({ cls := "java/util/PriorityQueue", name := "siftUp", desc := "(ILjava/lang/Object;)V" } : Jvm.MethodName)) ∈ lw_all := lw_g (lw_at lw_m7 60 rfl) rfl
theorem q1643 : (Jvm.Cond.code ({ cls := "java/util/PriorityQueue", name := "siftUp", desc := "(ILjava/lang/Object;)V" } : Jvm.MethodName) prog_56_method_27_code (3 : Nat) (Option.none : Option Jvm.ClassFile.FieldType)) ∈ lw_all := lw_g (lw_at lw_m7 61 rfl) rfl
theorem q1644 : (Jvm.Cond.methodLink "java/util/PriorityQueue" (136 : Nat) ({ cls := "java/util/PriorityQueue", name := "siftUpUsingComparator", desc := "(ILjava/lang/Object;[Ljava/lang/Object;Ljava/util/Comparator;)V" } : Jvm.MethodName)) ∈ lw_all := lw_g (lw_at lw_m7 62 rfl) rfl
theorem q1645 : (Jvm.Cond.static ({ cls := "java/util/PriorityQueue", name := "siftUpUsingComparator", desc := "(ILjava/lang/Object;[Ljava/lang/Object;Ljava/util/Comparator;)V" } : Jvm.MethodName)) ∈ lw_all := lw_g (lw_at lw_m7 63 rfl) rfl
theorem q1646 : (Jvm.Cond.code ({ cls := "java/util/PriorityQueue", name := "siftUpUsingComparator", desc := "(ILjava/lang/Object;[Ljava/lang/Object;Ljava/util/Comparator;)V" } : Jvm.MethodName) prog_56_method_29_code (6 : Nat) (Option.none : Option Jvm.ClassFile.FieldType)) ∈ lw_all := lw_g (lw_at lw_m7 64 rfl) rfl
theorem q1647 : (Jvm.Cond.interfaceEntry "java/util/PriorityQueue" (149 : Nat)) ∈ lw_tbl := lw_at lw_m7 65 rfl
theorem q1648 : (Jvm.Cond.methodLink "java/util/PriorityQueue" (149 : Nat) ({ cls := "java/util/Comparator", name := "compare", desc := "(Ljava/lang/Object;Ljava/lang/Object;)I" } : Jvm.MethodName)) ∈ lw_all := lw_g (lw_at lw_m7 66 rfl) rfl
theorem q1649 : (Jvm.Cond.methodLink "java/util/PriorityQueue" (140 : Nat) ({ cls := "java/util/PriorityQueue", name := "siftUpComparable", desc := "(ILjava/lang/Object;[Ljava/lang/Object;)V" } : Jvm.MethodName)) ∈ lw_all := lw_g (lw_at lw_m7 67 rfl) rfl
theorem q1650 : (Jvm.Cond.static ({ cls := "java/util/PriorityQueue", name := "siftUpComparable", desc := "(ILjava/lang/Object;[Ljava/lang/Object;)V" } : Jvm.MethodName)) ∈ lw_all := lw_g (lw_at lw_m7 68 rfl) rfl
theorem q1651 : (Jvm.Cond.code ({ cls := "java/util/PriorityQueue", name := "siftUpComparable", desc := "(ILjava/lang/Object;[Ljava/lang/Object;)V" } : Jvm.MethodName) prog_56_method_28_code (6 : Nat) (Option.none : Option Jvm.ClassFile.FieldType)) ∈ lw_all := lw_g (lw_at lw_m7 69 rfl) rfl
theorem q1652 : (Jvm.Cond.classLink "java/util/PriorityQueue" (144 : Nat) "java/lang/Comparable") ∈ lw_all := lw_g (lw_at lw_m7 70 rfl) rfl
theorem q1653 : (Jvm.Cond.interfaceEntry "java/util/PriorityQueue" (146 : Nat)) ∈ lw_tbl := lw_at lw_m7 71 rfl
theorem q1654 : (Jvm.Cond.methodLink "java/util/PriorityQueue" (146 : Nat) ({ cls := "java/lang/Comparable", name := "compareTo", desc := "(Ljava/lang/Object;)I" } : Jvm.MethodName)) ∈ lw_all := lw_g (lw_at lw_m7 72 rfl) rfl
theorem q1656 : (Jvm.Cond.instanceMethod ({ cls := "java/util/PriorityQueue", name := "poll", desc := "()Ljava/lang/Object;" } : Jvm.MethodName)) ∈ lw_all := lw_g (lw_at lw_m7 74 rfl) rfl
theorem q1657 : (Jvm.Cond.selects "java/util/PriorityQueue" ({ cls := "java/util/PriorityQueue", name := "poll", desc := "()Ljava/lang/Object;" } : Jvm.MethodName) ({ cls := "java/util/PriorityQueue", name := "poll", desc := "()Ljava/lang/Object;" } : Jvm.MethodName)) ∈ lw_all := lw_g (lw_at lw_m7 75 rfl) rfl
theorem q1658 : (Jvm.Cond.code ({ cls := "java/util/PriorityQueue", name := "poll", desc := "()Ljava/lang/Object;" } : Jvm.MethodName) prog_56_method_25_code (6 : Nat) (Option.some (Jvm.ClassFile.FieldType.object "java/lang/Object"))) ∈ lw_all := lw_g (lw_at lw_m7 76 rfl) rfl
theorem q1659 : (Jvm.Cond.methodLink "java/util/PriorityQueue" (125 : Nat) ({ cls := "java/util/PriorityQueue", name := "siftDownComparable", desc := "(ILjava/lang/Object;[Ljava/lang/Object;I)V" } : Jvm.MethodName)) ∈ lw_all := lw_g (lw_at lw_m7 77 rfl) rfl
theorem q1660 : (Jvm.Cond.static ({ cls := "java/util/PriorityQueue", name := "siftDownComparable", desc := "(ILjava/lang/Object;[Ljava/lang/Object;I)V" } : Jvm.MethodName)) ∈ lw_all := lw_g (lw_at lw_m7 78 rfl) rfl
theorem q1661 : (Jvm.Cond.code ({ cls := "java/util/PriorityQueue", name := "siftDownComparable", desc := "(ILjava/lang/Object;[Ljava/lang/Object;I)V" } : Jvm.MethodName) prog_56_method_31_code (9 : Nat) (Option.none : Option Jvm.ClassFile.FieldType)) ∈ lw_all := lw_g (lw_at lw_m7 79 rfl) rfl
theorem q1662 : (Jvm.Cond.methodLink "java/util/PriorityQueue" (129 : Nat) ({ cls := "java/util/PriorityQueue", name := "siftDownUsingComparator", desc := "(ILjava/lang/Object;[Ljava/lang/Object;ILjava/util/Comparator;)V" } : Jvm.MethodName)) ∈ lw_all := lw_g (lw_at lw_m7 80 rfl) rfl
theorem q1663 : (Jvm.Cond.static ({ cls := "java/util/PriorityQueue", name := "siftDownUsingComparator", desc := "(ILjava/lang/Object;[Ljava/lang/Object;ILjava/util/Comparator;)V" } : Jvm.MethodName)) ∈ lw_all := lw_g (lw_at lw_m7 81 rfl) rfl
theorem q1664 : (Jvm.Cond.code ({ cls := "java/util/PriorityQueue", name := "siftDownUsingComparator", desc := "(ILjava/lang/Object;[Ljava/lang/Object;ILjava/util/Comparator;)V" } : Jvm.MethodName) prog_56_method_32_code (9 : Nat) (Option.none : Option Jvm.ClassFile.FieldType)) ∈ lw_all := lw_g (lw_at lw_m7 82 rfl) rfl
theorem q2751 : (Jvm.Cond.castable "java/util/PriorityQueue" "java/lang/Object") ∈ lw_tbl := lw_at lw_m11 209 rfl
theorem q186 : (Jvm.Cond.initialized "java/lang/Character") ∈ lw_all := lw_g (lw_at lw_m1 44 rfl) rfl
theorem q1751 : (Jvm.Cond.static ({ cls := "java/lang/Character", name := "isValidCodePoint", desc := "(I)Z" } : Jvm.MethodName)) ∈ lw_all := lw_g (lw_at lw_m7 169 rfl) rfl
theorem q1752 : (Jvm.Cond.code ({ cls := "java/lang/Character", name := "isValidCodePoint", desc := "(I)Z" } : Jvm.MethodName) prog_21_method_11_code (2 : Nat) (Option.some Jvm.ClassFile.FieldType.boolean)) ∈ lw_all := lw_g (lw_at lw_m7 170 rfl) rfl
theorem q1754 : (Jvm.Cond.static ({ cls := "java/lang/Character", name := "highSurrogate", desc := "(I)C" } : Jvm.MethodName)) ∈ lw_all := lw_g (lw_at lw_m7 172 rfl) rfl
theorem q1755 : (Jvm.Cond.code ({ cls := "java/lang/Character", name := "highSurrogate", desc := "(I)C" } : Jvm.MethodName) prog_21_method_28_code (1 : Nat) (Option.some Jvm.ClassFile.FieldType.char)) ∈ lw_all := lw_g (lw_at lw_m7 173 rfl) rfl
theorem q1756 : (Jvm.Cond.constant "java/lang/Character" (110 : Nat) (55232 : Int32)) ∈ lw_all := lw_g (lw_at lw_m7 174 rfl) rfl
theorem q1758 : (Jvm.Cond.static ({ cls := "java/lang/Character", name := "lowSurrogate", desc := "(I)C" } : Jvm.MethodName)) ∈ lw_all := lw_g (lw_at lw_m7 176 rfl) rfl
theorem q1759 : (Jvm.Cond.code ({ cls := "java/lang/Character", name := "lowSurrogate", desc := "(I)C" } : Jvm.MethodName) prog_21_method_29_code (1 : Nat) (Option.some Jvm.ClassFile.FieldType.char)) ∈ lw_all := lw_g (lw_at lw_m7 177 rfl) rfl
theorem q1760 : (Jvm.Cond.constant "java/lang/Character" (76 : Nat) (56320 : Int32)) ∈ lw_all := lw_g (lw_at lw_m7 178 rfl) rfl
theorem q197 : (Jvm.Cond.instanceMethod ({ cls := "java/lang/Object", name := "<init>", desc := "()V" } : Jvm.MethodName)) ∈ lw_all := lw_g (lw_at lw_m1 55 rfl) rfl
theorem q198 : (Jvm.Cond.code ({ cls := "java/lang/Object", name := "<init>", desc := "()V" } : Jvm.MethodName) object_method_1_code (1 : Nat) (Option.none : Option Jvm.ClassFile.FieldType)) ∈ lw_all := lw_g (lw_at lw_m1 56 rfl) rfl
theorem q424 : (Jvm.Cond.native ({ cls := "java/lang/Object", name := "clone", desc := "()Ljava/lang/Object;" } : Jvm.MethodName)) ∈ lw_all := lw_g (lw_at lw_m2 42 rfl) rfl
theorem q425 : (Jvm.Cond.instanceMethod ({ cls := "java/lang/Object", name := "clone", desc := "()Ljava/lang/Object;" } : Jvm.MethodName)) ∈ lw_all := lw_g (lw_at lw_m2 43 rfl) rfl
theorem q1606 : (Jvm.Cond.instanceMethod ({ cls := "java/lang/Object", name := "getClass", desc := "()Ljava/lang/Class;" } : Jvm.MethodName)) ∈ lw_all := lw_g (lw_at lw_m7 24 rfl) rfl
theorem q1607 : (Jvm.Cond.sameMethod "java/lang/Object" "java/lang/Object" "getClass" "()Ljava/lang/Class;") ∈ lw_all := lw_g (lw_at lw_m7 25 rfl) rfl
theorem q1634 : (Jvm.Cond.native ({ cls := "java/lang/Object", name := "getClass", desc := "()Ljava/lang/Class;" } : Jvm.MethodName)) ∈ lw_all := lw_g (lw_at lw_m7 52 rfl) rfl
theorem q2758 : (Jvm.Cond.declares ({ cls := "java/lang/Object", name := "getClass", desc := "()Ljava/lang/Class;" } : Jvm.MethodName)) ∈ lw_tbl := lw_at lw_m11 216 rfl
theorem q2774 : (Jvm.Cond.instantiable "java/lang/Object" (0 : Nat)) ∈ lw_all := lw_g (lw_at lw_m11 232 rfl) rfl
theorem q149 : (Jvm.Cond.initialized "java/lang/Integer") ∈ lw_all := lw_g (lw_at lw_m1 7 rfl) rfl
theorem q347 : (Jvm.Cond.static ({ cls := "java/lang/Integer", name := "bitCount", desc := "(I)I" } : Jvm.MethodName)) ∈ lw_all := lw_g (lw_at lw_m1 205 rfl) rfl
theorem q348 : (Jvm.Cond.code ({ cls := "java/lang/Integer", name := "bitCount", desc := "(I)I" } : Jvm.MethodName) prog_25_method_49_code (1 : Nat) (Option.some Jvm.ClassFile.FieldType.int)) ∈ lw_all := lw_g (lw_at lw_m1 206 rfl) rfl
theorem q349 : (Jvm.Cond.constant "java/lang/Integer" (265 : Nat) (1431655765 : Int32)) ∈ lw_all := lw_g (lw_at lw_m1 207 rfl) rfl
theorem q350 : (Jvm.Cond.constant "java/lang/Integer" (266 : Nat) (858993459 : Int32)) ∈ lw_all := lw_g (lw_at lw_m1 208 rfl) rfl
theorem q351 : (Jvm.Cond.constant "java/lang/Integer" (267 : Nat) (252645135 : Int32)) ∈ lw_all := lw_g (lw_at lw_m1 209 rfl) rfl
theorem q638 : (Jvm.Cond.castable "java/lang/Integer" "java/lang/Comparable") ∈ lw_tbl := lw_at lw_m3 16 rfl
theorem q639 : (Jvm.Cond.selects "java/lang/Integer" ({ cls := "java/lang/Comparable", name := "compareTo", desc := "(Ljava/lang/Object;)I" } : Jvm.MethodName) ({ cls := "java/lang/Integer", name := "compareTo", desc := "(Ljava/lang/Object;)I" } : Jvm.MethodName)) ∈ lw_all := lw_g (lw_at lw_m3 17 rfl) rfl
theorem q640 : (Jvm.Cond.unhidden "java/lang/Integer" "compareTo" "(Ljava/lang/Object;)I") ∈ lw_tbl := lw_at lw_m3 18 rfl
theorem q641 : (Jvm.Cond.instanceMethod ({ cls := "java/lang/Integer", name := "compareTo", desc := "(Ljava/lang/Object;)I" } : Jvm.MethodName)) ∈ lw_all := lw_g (lw_at lw_m3 19 rfl) rfl
theorem q642 : (Jvm.Cond.publicMethod ({ cls := "java/lang/Integer", name := "compareTo", desc := "(Ljava/lang/Object;)I" } : Jvm.MethodName)) ∈ lw_tbl := lw_at lw_m3 20 rfl
theorem q643 : (Jvm.Cond.code ({ cls := "java/lang/Integer", name := "compareTo", desc := "(Ljava/lang/Object;)I" } : Jvm.MethodName) prog_25_method_63_code (2 : Nat) (Option.some Jvm.ClassFile.FieldType.int)) ∈ lw_all := lw_g (lw_at lw_m3 21 rfl) rfl
theorem q644 : (Jvm.Cond.classLink "java/lang/Integer" (1 : Nat) "java/lang/Integer") ∈ lw_all := lw_g (lw_at lw_m3 22 rfl) rfl
theorem q645 : (Jvm.Cond.methodLink "java/lang/Integer" (284 : Nat) ({ cls := "java/lang/Integer", name := "compareTo", desc := "(Ljava/lang/Integer;)I" } : Jvm.MethodName)) ∈ lw_all := lw_g (lw_at lw_m3 23 rfl) rfl
theorem q646 : (Jvm.Cond.instanceMethod ({ cls := "java/lang/Integer", name := "compareTo", desc := "(Ljava/lang/Integer;)I" } : Jvm.MethodName)) ∈ lw_all := lw_g (lw_at lw_m3 24 rfl) rfl
theorem q647 : (Jvm.Cond.selects "java/lang/Integer" ({ cls := "java/lang/Integer", name := "compareTo", desc := "(Ljava/lang/Integer;)I" } : Jvm.MethodName) ({ cls := "java/lang/Integer", name := "compareTo", desc := "(Ljava/lang/Integer;)I" } : Jvm.MethodName)) ∈ lw_all := lw_g (lw_at lw_m3 25 rfl) rfl
theorem q648 : (Jvm.Cond.code ({ cls := "java/lang/Integer", name := "compareTo", desc := "(Ljava/lang/Integer;)I" } : Jvm.MethodName) prog_25_method_39_code (2 : Nat) (Option.some Jvm.ClassFile.FieldType.int)) ∈ lw_all := lw_g (lw_at lw_m3 26 rfl) rfl
theorem q649 : (Jvm.Cond.methodLink "java/lang/Integer" (259 : Nat) ({ cls := "java/lang/Integer", name := "compare", desc := "(II)I" } : Jvm.MethodName)) ∈ lw_all := lw_g (lw_at lw_m3 27 rfl) rfl
theorem q650 : (Jvm.Cond.static ({ cls := "java/lang/Integer", name := "compare", desc := "(II)I" } : Jvm.MethodName)) ∈ lw_all := lw_g (lw_at lw_m3 28 rfl) rfl
theorem q651 : (Jvm.Cond.code ({ cls := "java/lang/Integer", name := "compare", desc := "(II)I" } : Jvm.MethodName) prog_25_method_40_code (2 : Nat) (Option.some Jvm.ClassFile.FieldType.int)) ∈ lw_all := lw_g (lw_at lw_m3 29 rfl) rfl
theorem q742 : (Jvm.Cond.static ({ cls := "java/lang/Integer", name := "numberOfLeadingZeros", desc := "(I)I" } : Jvm.MethodName)) ∈ lw_all := lw_g (lw_at lw_m3 120 rfl) rfl
theorem q743 : (Jvm.Cond.code ({ cls := "java/lang/Integer", name := "numberOfLeadingZeros", desc := "(I)I" } : Jvm.MethodName) prog_25_method_47_code (2 : Nat) (Option.some Jvm.ClassFile.FieldType.int)) ∈ lw_all := lw_g (lw_at lw_m3 121 rfl) rfl
theorem q744 : (Jvm.Cond.constant "java/lang/Integer" (264 : Nat) (65536 : Int32)) ∈ lw_all := lw_g (lw_at lw_m3 122 rfl) rfl
theorem q751 : (Jvm.Cond.static ({ cls := "java/lang/Integer", name := "numberOfTrailingZeros", desc := "(I)I" } : Jvm.MethodName)) ∈ lw_all := lw_g (lw_at lw_m3 129 rfl) rfl
theorem q752 : (Jvm.Cond.code ({ cls := "java/lang/Integer", name := "numberOfTrailingZeros", desc := "(I)I" } : Jvm.MethodName) prog_25_method_48_code (2 : Nat) (Option.some Jvm.ClassFile.FieldType.int)) ∈ lw_all := lw_g (lw_at lw_m3 130 rfl) rfl
theorem q964 : (Jvm.Cond.static ({ cls := "java/lang/Integer", name := "valueOf", desc := "(I)Ljava/lang/Integer;" } : Jvm.MethodName)) ∈ lw_all := lw_g (lw_at lw_m4 102 rfl) rfl
theorem q965 : (Jvm.Cond.code ({ cls := "java/lang/Integer", name := "valueOf", desc := "(I)Ljava/lang/Integer;" } : Jvm.MethodName) prog_25_method_22_code (1 : Nat) (Option.some (Jvm.ClassFile.FieldType.object "java/lang/Integer"))) ∈ lw_all := lw_g (lw_at lw_m4 103 rfl) rfl
theorem q966 : (Jvm.Cond.fieldLink "java/lang/Integer" (191 : Nat) "java/lang/Integer$IntegerCache" "high" "I") ∈ lw_all := lw_g (lw_at lw_m4 104 rfl) rfl
theorem q968 : (Jvm.Cond.fieldLink "java/lang/Integer" (195 : Nat) "java/lang/Integer$IntegerCache" "cache" "[Ljava/lang/Integer;") ∈ lw_all := lw_g (lw_at lw_m4 106 rfl) rfl
theorem q970 : (Jvm.Cond.instantiable "java/lang/Integer" (1 : Nat)) ∈ lw_all := lw_g (lw_at lw_m4 108 rfl) rfl
theorem q971 : (Jvm.Cond.methodLink "java/lang/Integer" (199 : Nat) ({ cls := "java/lang/Integer", name := "<init>", desc := "(I)V" } : Jvm.MethodName)) ∈ lw_all := lw_g (lw_at lw_m4 109 rfl) rfl
theorem q972 : (Jvm.Cond.instanceMethod ({ cls := "java/lang/Integer", name := "<init>", desc := "(I)V" } : Jvm.MethodName)) ∈ lw_all := lw_g (lw_at lw_m4 110 rfl) rfl
theorem q973 : (Jvm.Cond.code ({ cls := "java/lang/Integer", name := "<init>", desc := "(I)V" } : Jvm.MethodName) prog_25_method_23_code (2 : Nat) (Option.none : Option Jvm.ClassFile.FieldType)) ∈ lw_all := lw_g (lw_at lw_m4 111 rfl) rfl
theorem q974 : (Jvm.Cond.methodLink "java/lang/Integer" (202 : Nat) ({ cls := "java/lang/Number", name := "<init>", desc := "()V" } : Jvm.MethodName)) ∈ lw_all := lw_g (lw_at lw_m4 112 rfl) rfl
theorem q978 : (Jvm.Cond.fieldLink "java/lang/Integer" (205 : Nat) "java/lang/Integer" "value" "I") ∈ lw_all := lw_g (lw_at lw_m4 116 rfl) rfl
theorem q979 : (Jvm.Cond.laysFinal "java/lang/Integer" "java/lang/Integer" "value" "I") ∈ lw_all := lw_g (lw_at lw_m4 117 rfl) rfl
theorem q980 : (Jvm.Cond.soleField "java/lang/Integer" "value") ∈ lw_all := lw_g (lw_at lw_m4 118 rfl) rfl
theorem q981 : (Jvm.Cond.superclass "java/lang/Integer" "java/lang/Number") ∈ lw_all := lw_g (lw_at lw_m4 119 rfl) rfl
theorem q1621 : (Jvm.Cond.selects "java/lang/Integer" ({ cls := "java/lang/Object", name := "getClass", desc := "()Ljava/lang/Class;" } : Jvm.MethodName) ({ cls := "java/lang/Object", name := "getClass", desc := "()Ljava/lang/Class;" } : Jvm.MethodName)) ∈ lw_all := lw_g (lw_at lw_m7 39 rfl) rfl
theorem q2743 : (Jvm.Cond.castable "java/lang/Integer" "java/lang/Object") ∈ lw_tbl := lw_at lw_m11 201 rfl
theorem q150 : (Jvm.Cond.initialized "java/lang/AbstractStringBuilder") ∈ lw_all := lw_g (lw_at lw_m1 8 rfl) rfl
theorem q370 : (Jvm.Cond.instanceMethod ({ cls := "java/lang/AbstractStringBuilder", name := "<init>", desc := "(I)V" } : Jvm.MethodName)) ∈ lw_all := lw_g (lw_at lw_m1 228 rfl) rfl
theorem q371 : (Jvm.Cond.code ({ cls := "java/lang/AbstractStringBuilder", name := "<init>", desc := "(I)V" } : Jvm.MethodName) prog_18_method_2_code (2 : Nat) (Option.none : Option Jvm.ClassFile.FieldType)) ∈ lw_all := lw_g (lw_at lw_m1 229 rfl) rfl
theorem q372 : (Jvm.Cond.methodLink "java/lang/AbstractStringBuilder" (3 : Nat) ({ cls := "java/lang/Object", name := "<init>", desc := "()V" } : Jvm.MethodName)) ∈ lw_all := lw_g (lw_at lw_m1 230 rfl) rfl
theorem q373 : (Jvm.Cond.fieldLink "java/lang/AbstractStringBuilder" (18 : Nat) "java/lang/String" "COMPACT_STRINGS" "Z") ∈ lw_all := lw_g (lw_at lw_m1 231 rfl) rfl
theorem q375 : (Jvm.Cond.methodLink "java/lang/AbstractStringBuilder" (26 : Nat) ({ cls := "java/lang/StringUTF16", name := "newBytesFor", desc := "(I)[B" } : Jvm.MethodName)) ∈ lw_all := lw_g (lw_at lw_m1 233 rfl) rfl
theorem q382 : (Jvm.Cond.fieldLink "java/lang/AbstractStringBuilder" (15 : Nat) "java/lang/AbstractStringBuilder" "value" "[B") ∈ lw_all := lw_g (lw_at lw_m2 0 rfl) rfl
theorem q383 : (Jvm.Cond.fieldLink "java/lang/AbstractStringBuilder" (22 : Nat) "java/lang/AbstractStringBuilder" "coder" "B") ∈ lw_all := lw_g (lw_at lw_m2 1 rfl) rfl
theorem q385 : (Jvm.Cond.fieldLink "java/lang/AbstractStringBuilder" (79 : Nat) "java/lang/AbstractStringBuilder" "count" "I") ∈ lw_all := lw_g (lw_at lw_m2 3 rfl) rfl
theorem q387 : (Jvm.Cond.soleField "java/lang/AbstractStringBuilder" "value") ∈ lw_all := lw_g (lw_at lw_m2 5 rfl) rfl
theorem q389 : (Jvm.Cond.soleField "java/lang/AbstractStringBuilder" "coder") ∈ lw_all := lw_g (lw_at lw_m2 7 rfl) rfl
theorem q391 : (Jvm.Cond.soleField "java/lang/AbstractStringBuilder" "maybeLatin1") ∈ lw_all := lw_g (lw_at lw_m2 9 rfl) rfl
theorem q393 : (Jvm.Cond.soleField "java/lang/AbstractStringBuilder" "count") ∈ lw_all := lw_g (lw_at lw_m2 11 rfl) rfl
theorem q400 : (Jvm.Cond.instanceMethod ({ cls := "java/lang/AbstractStringBuilder", name := "append", desc := "(C)Ljava/lang/AbstractStringBuilder;" } : Jvm.MethodName)) ∈ lw_all := lw_g (lw_at lw_m2 18 rfl) rfl
theorem q401 : (Jvm.Cond.code ({ cls := "java/lang/AbstractStringBuilder", name := "append", desc := "(C)Ljava/lang/AbstractStringBuilder;" } : Jvm.MethodName) prog_18_method_31_code (2 : Nat) (Option.some (Jvm.ClassFile.FieldType.object "java/lang/AbstractStringBuilder"))) ∈ lw_all := lw_g (lw_at lw_m2 19 rfl) rfl
theorem q402 : (Jvm.Cond.methodLink "java/lang/AbstractStringBuilder" (100 : Nat) ({ cls := "java/lang/AbstractStringBuilder", name := "ensureCapacityInternal", desc := "(I)V" } : Jvm.MethodName)) ∈ lw_all := lw_g (lw_at lw_m2 20 rfl) rfl
theorem q403 : (Jvm.Cond.privateMethod ({ cls := "java/lang/AbstractStringBuilder", name := "ensureCapacityInternal", desc := "(I)V" } : Jvm.MethodName)) ∈ lw_tbl := lw_at lw_m2 21 rfl
theorem q404 : (Jvm.Cond.instanceMethod ({ cls := "java/lang/AbstractStringBuilder", name := "ensureCapacityInternal", desc := "(I)V" } : Jvm.MethodName)) ∈ lw_all := lw_g (lw_at lw_m2 22 rfl) rfl
theorem q405 : (Jvm.Cond.code ({ cls := "java/lang/AbstractStringBuilder", name := "ensureCapacityInternal", desc := "(I)V" } : Jvm.MethodName) prog_18_method_9_code (3 : Nat) (Option.none : Option Jvm.ClassFile.FieldType)) ∈ lw_all := lw_g (lw_at lw_m2 23 rfl) rfl
theorem q406 : (Jvm.Cond.methodLink "java/lang/AbstractStringBuilder" (104 : Nat) ({ cls := "java/lang/AbstractStringBuilder", name := "newCapacity", desc := "(I)I" } : Jvm.MethodName)) ∈ lw_all := lw_g (lw_at lw_m2 24 rfl) rfl
theorem q407 : (Jvm.Cond.privateMethod ({ cls := "java/lang/AbstractStringBuilder", name := "newCapacity", desc := "(I)I" } : Jvm.MethodName)) ∈ lw_tbl := lw_at lw_m2 25 rfl
theorem q408 : (Jvm.Cond.instanceMethod ({ cls := "java/lang/AbstractStringBuilder", name := "newCapacity", desc := "(I)I" } : Jvm.MethodName)) ∈ lw_all := lw_g (lw_at lw_m2 26 rfl) rfl
theorem q409 : (Jvm.Cond.code ({ cls := "java/lang/AbstractStringBuilder", name := "newCapacity", desc := "(I)I" } : Jvm.MethodName) prog_18_method_10_code (6 : Nat) (Option.some Jvm.ClassFile.FieldType.int)) ∈ lw_all := lw_g (lw_at lw_m2 27 rfl) rfl
theorem q410 : (Jvm.Cond.methodLink "java/lang/AbstractStringBuilder" (114 : Nat) ({ cls := "jdk/internal/util/ArraysSupport", name := "newLength", desc := "(III)I" } : Jvm.MethodName)) ∈ lw_all := lw_g (lw_at lw_m2 28 rfl) rfl
theorem q418 : (Jvm.Cond.constant "java/lang/AbstractStringBuilder" (39 : Nat) (2147483647 : Int32)) ∈ lw_all := lw_g (lw_at lw_m2 36 rfl) rfl
theorem q419 : (Jvm.Cond.methodLink "java/lang/AbstractStringBuilder" (108 : Nat) ({ cls := "java/util/Arrays", name := "copyOf", desc := "([BI)[B" } : Jvm.MethodName)) ∈ lw_all := lw_g (lw_at lw_m2 37 rfl) rfl
theorem q433 : (Jvm.Cond.methodLink "java/lang/AbstractStringBuilder" (83 : Nat) ({ cls := "java/lang/AbstractStringBuilder", name := "isLatin1", desc := "()Z" } : Jvm.MethodName)) ∈ lw_all := lw_g (lw_at lw_m2 51 rfl) rfl
theorem q434 : (Jvm.Cond.instanceMethod ({ cls := "java/lang/AbstractStringBuilder", name := "isLatin1", desc := "()Z" } : Jvm.MethodName)) ∈ lw_all := lw_g (lw_at lw_m2 52 rfl) rfl
theorem q435 : (Jvm.Cond.sameMethod "java/lang/AbstractStringBuilder" "java/lang/AbstractStringBuilder" "isLatin1" "()Z") ∈ lw_all := lw_g (lw_at lw_m2 53 rfl) rfl
theorem q437 : (Jvm.Cond.code ({ cls := "java/lang/AbstractStringBuilder", name := "isLatin1", desc := "()Z" } : Jvm.MethodName) prog_18_method_68_code (1 : Nat) (Option.some Jvm.ClassFile.FieldType.boolean)) ∈ lw_all := lw_g (lw_at lw_m2 55 rfl) rfl
theorem q438 : (Jvm.Cond.methodLink "java/lang/AbstractStringBuilder" (191 : Nat) ({ cls := "java/lang/StringLatin1", name := "canEncode", desc := "(C)Z" } : Jvm.MethodName)) ∈ lw_all := lw_g (lw_at lw_m2 56 rfl) rfl
theorem q441 : (Jvm.Cond.methodLink "java/lang/AbstractStringBuilder" (195 : Nat) ({ cls := "java/lang/AbstractStringBuilder", name := "inflate", desc := "()V" } : Jvm.MethodName)) ∈ lw_all := lw_g (lw_at lw_m2 59 rfl) rfl
theorem q442 : (Jvm.Cond.privateMethod ({ cls := "java/lang/AbstractStringBuilder", name := "inflate", desc := "()V" } : Jvm.MethodName)) ∈ lw_tbl := lw_at lw_m2 60 rfl
theorem q443 : (Jvm.Cond.instanceMethod ({ cls := "java/lang/AbstractStringBuilder", name := "inflate", desc := "()V" } : Jvm.MethodName)) ∈ lw_all := lw_g (lw_at lw_m2 61 rfl) rfl
theorem q444 : (Jvm.Cond.code ({ cls := "java/lang/AbstractStringBuilder", name := "inflate", desc := "()V" } : Jvm.MethodName) prog_18_method_11_code (2 : Nat) (Option.none : Option Jvm.ClassFile.FieldType)) ∈ lw_all := lw_g (lw_at lw_m2 62 rfl) rfl
theorem q445 : (Jvm.Cond.methodLink "java/lang/AbstractStringBuilder" (125 : Nat) ({ cls := "java/lang/StringLatin1", name := "inflate", desc := "([BI[BII)V" } : Jvm.MethodName)) ∈ lw_all := lw_g (lw_at lw_m2 63 rfl) rfl
theorem q474 : (Jvm.Cond.methodLink "java/lang/AbstractStringBuilder" (197 : Nat) ({ cls := "java/lang/StringUTF16", name := "putCharSB", desc := "([BII)V" } : Jvm.MethodName)) ∈ lw_all := lw_g (lw_at lw_m2 92 rfl) rfl
theorem q500 : (Jvm.Cond.instanceMethod ({ cls := "java/lang/AbstractStringBuilder", name := "getValue", desc := "()[B" } : Jvm.MethodName)) ∈ lw_all := lw_g (lw_at lw_m2 118 rfl) rfl
theorem q501 : (Jvm.Cond.sameMethod "java/lang/AbstractStringBuilder" "java/lang/AbstractStringBuilder" "getValue" "()[B") ∈ lw_all := lw_g (lw_at lw_m2 119 rfl) rfl
theorem q503 : (Jvm.Cond.code ({ cls := "java/lang/AbstractStringBuilder", name := "getValue", desc := "()[B" } : Jvm.MethodName) prog_18_method_64_code (1 : Nat) (Option.some (Jvm.ClassFile.FieldType.array Jvm.ClassFile.FieldType.byte))) ∈ lw_all := lw_g (lw_at lw_m2 121 rfl) rfl
theorem q505 : (Jvm.Cond.instanceMethod ({ cls := "java/lang/AbstractStringBuilder", name := "length", desc := "()I" } : Jvm.MethodName)) ∈ lw_all := lw_g (lw_at lw_m2 123 rfl) rfl
theorem q506 : (Jvm.Cond.sameMethod "java/lang/AbstractStringBuilder" "java/lang/AbstractStringBuilder" "length" "()I") ∈ lw_all := lw_g (lw_at lw_m2 124 rfl) rfl
theorem q511 : (Jvm.Cond.code ({ cls := "java/lang/AbstractStringBuilder", name := "length", desc := "()I" } : Jvm.MethodName) prog_18_method_6_code (1 : Nat) (Option.some Jvm.ClassFile.FieldType.int)) ∈ lw_all := lw_g (lw_at lw_m2 129 rfl) rfl
theorem q811 : (Jvm.Cond.instanceMethod ({ cls := "java/lang/AbstractStringBuilder", name := "compareTo", desc := "(Ljava/lang/AbstractStringBuilder;)I" } : Jvm.MethodName)) ∈ lw_all := lw_g (lw_at lw_m3 189 rfl) rfl
theorem q812 : (Jvm.Cond.code ({ cls := "java/lang/AbstractStringBuilder", name := "compareTo", desc := "(Ljava/lang/AbstractStringBuilder;)I" } : Jvm.MethodName) prog_18_method_5_code (6 : Nat) (Option.some Jvm.ClassFile.FieldType.int)) ∈ lw_all := lw_g (lw_at lw_m3 190 rfl) rfl
theorem q813 : (Jvm.Cond.methodLink "java/lang/AbstractStringBuilder" (87 : Nat) ({ cls := "java/lang/StringLatin1", name := "compareTo", desc := "([B[BII)I" } : Jvm.MethodName)) ∈ lw_all := lw_g (lw_at lw_m3 191 rfl) rfl
theorem q814 : (Jvm.Cond.methodLink "java/lang/AbstractStringBuilder" (93 : Nat) ({ cls := "java/lang/StringUTF16", name := "compareTo", desc := "([B[BII)I" } : Jvm.MethodName)) ∈ lw_all := lw_g (lw_at lw_m3 192 rfl) rfl
theorem q823 : (Jvm.Cond.methodLink "java/lang/AbstractStringBuilder" (94 : Nat) ({ cls := "java/lang/StringLatin1", name := "compareToUTF16", desc := "([B[BII)I" } : Jvm.MethodName)) ∈ lw_all := lw_g (lw_at lw_m3 201 rfl) rfl
theorem q827 : (Jvm.Cond.methodLink "java/lang/AbstractStringBuilder" (97 : Nat) ({ cls := "java/lang/StringUTF16", name := "compareToLatin1", desc := "([B[BII)I" } : Jvm.MethodName)) ∈ lw_all := lw_g (lw_at lw_m3 205 rfl) rfl
theorem q2722 : (Jvm.Cond.sameMethod "java/lang/AbstractStringBuilder" "java/lang/AbstractStringBuilder" "append" "(C)Ljava/lang/AbstractStringBuilder;") ∈ lw_all := lw_g (lw_at lw_m11 180 rfl) rfl
theorem q2723 : (Jvm.Cond.sameMethod "java/lang/AbstractStringBuilder" "java/lang/AbstractStringBuilder" "ensureCapacityInternal" "(I)V") ∈ lw_all := lw_g (lw_at lw_m11 181 rfl) rfl
theorem q2724 : (Jvm.Cond.sameMethod "java/lang/AbstractStringBuilder" "java/lang/AbstractStringBuilder" "newCapacity" "(I)I") ∈ lw_all := lw_g (lw_at lw_m11 182 rfl) rfl
theorem q2725 : (Jvm.Cond.sameMethod "java/lang/AbstractStringBuilder" "java/lang/AbstractStringBuilder" "inflate" "()V") ∈ lw_all := lw_g (lw_at lw_m11 183 rfl) rfl
theorem q2726 : (Jvm.Cond.sameMethod "java/lang/AbstractStringBuilder" "java/lang/AbstractStringBuilder" "compareTo" "(Ljava/lang/AbstractStringBuilder;)I") ∈ lw_all := lw_g (lw_at lw_m11 184 rfl) rfl
theorem q151 : (Jvm.Cond.initialized "java/lang/StringBuilder") ∈ lw_all := lw_g (lw_at lw_m1 9 rfl) rfl
theorem q365 : (Jvm.Cond.instantiable "java/lang/StringBuilder" (4 : Nat)) ∈ lw_all := lw_g (lw_at lw_m1 223 rfl) rfl
theorem q367 : (Jvm.Cond.instanceMethod ({ cls := "java/lang/StringBuilder", name := "<init>", desc := "()V" } : Jvm.MethodName)) ∈ lw_all := lw_g (lw_at lw_m1 225 rfl) rfl
theorem q368 : (Jvm.Cond.code ({ cls := "java/lang/StringBuilder", name := "<init>", desc := "()V" } : Jvm.MethodName) prog_32_method_1_code (1 : Nat) (Option.none : Option Jvm.ClassFile.FieldType)) ∈ lw_all := lw_g (lw_at lw_m1 226 rfl) rfl
theorem q369 : (Jvm.Cond.methodLink "java/lang/StringBuilder" (1 : Nat) ({ cls := "java/lang/AbstractStringBuilder", name := "<init>", desc := "(I)V" } : Jvm.MethodName)) ∈ lw_all := lw_g (lw_at lw_m1 227 rfl) rfl
theorem q386 : (Jvm.Cond.lays "java/lang/StringBuilder" "java/lang/AbstractStringBuilder" "value" "[B") ∈ lw_all := lw_g (lw_at lw_m2 4 rfl) rfl
theorem q388 : (Jvm.Cond.lays "java/lang/StringBuilder" "java/lang/AbstractStringBuilder" "coder" "B") ∈ lw_all := lw_g (lw_at lw_m2 6 rfl) rfl
theorem q390 : (Jvm.Cond.lays "java/lang/StringBuilder" "java/lang/AbstractStringBuilder" "maybeLatin1" "Z") ∈ lw_all := lw_g (lw_at lw_m2 8 rfl) rfl
theorem q392 : (Jvm.Cond.lays "java/lang/StringBuilder" "java/lang/AbstractStringBuilder" "count" "I") ∈ lw_all := lw_g (lw_at lw_m2 10 rfl) rfl
theorem q394 : (Jvm.Cond.superclass "java/lang/StringBuilder" "java/lang/AbstractStringBuilder") ∈ lw_all := lw_g (lw_at lw_m2 12 rfl) rfl
theorem q396 : (Jvm.Cond.instanceMethod ({ cls := "java/lang/StringBuilder", name := "append", desc := "(C)Ljava/lang/StringBuilder;" } : Jvm.MethodName)) ∈ lw_all := lw_g (lw_at lw_m2 14 rfl) rfl
theorem q397 : (Jvm.Cond.selects "java/lang/StringBuilder" ({ cls := "java/lang/StringBuilder", name := "append", desc := "(C)Ljava/lang/StringBuilder;" } : Jvm.MethodName) ({ cls := "java/lang/StringBuilder", name := "append", desc := "(C)Ljava/lang/StringBuilder;" } : Jvm.MethodName)) ∈ lw_all := lw_g (lw_at lw_m2 15 rfl) rfl
theorem q398 : (Jvm.Cond.code ({ cls := "java/lang/StringBuilder", name := "append", desc := "(C)Ljava/lang/StringBuilder;" } : Jvm.MethodName) prog_32_method_14_code (2 : Nat) (Option.some (Jvm.ClassFile.FieldType.object "java/lang/StringBuilder"))) ∈ lw_all := lw_g (lw_at lw_m2 16 rfl) rfl
theorem q399 : (Jvm.Cond.methodLink "java/lang/StringBuilder" (50 : Nat) ({ cls := "java/lang/AbstractStringBuilder", name := "append", desc := "(C)Ljava/lang/AbstractStringBuilder;" } : Jvm.MethodName)) ∈ lw_all := lw_g (lw_at lw_m2 17 rfl) rfl
theorem q436 : (Jvm.Cond.selects "java/lang/StringBuilder" ({ cls := "java/lang/AbstractStringBuilder", name := "isLatin1", desc := "()Z" } : Jvm.MethodName) ({ cls := "java/lang/AbstractStringBuilder", name := "isLatin1", desc := "()Z" } : Jvm.MethodName)) ∈ lw_all := lw_g (lw_at lw_m2 54 rfl) rfl
theorem q487 : (Jvm.Cond.instanceMethod ({ cls := "java/lang/StringBuilder", name := "toString", desc := "()Ljava/lang/String;" } : Jvm.MethodName)) ∈ lw_all := lw_g (lw_at lw_m2 105 rfl) rfl
theorem q488 : (Jvm.Cond.selects "java/lang/StringBuilder" ({ cls := "java/lang/StringBuilder", name := "toString", desc := "()Ljava/lang/String;" } : Jvm.MethodName) ({ cls := "java/lang/StringBuilder", name := "toString", desc := "()Ljava/lang/String;" } : Jvm.MethodName)) ∈ lw_all := lw_g (lw_at lw_m2 106 rfl) rfl
theorem q489 : (Jvm.Cond.code ({ cls := "java/lang/StringBuilder", name := "toString", desc := "()Ljava/lang/String;" } : Jvm.MethodName) prog_32_method_42_code (1 : Nat) (Option.some (Jvm.ClassFile.FieldType.object "java/lang/String"))) ∈ lw_all := lw_g (lw_at lw_m2 107 rfl) rfl
theorem q490 : (Jvm.Cond.classLink "java/lang/StringBuilder" (18 : Nat) "java/lang/String") ∈ lw_all := lw_g (lw_at lw_m2 108 rfl) rfl
theorem q492 : (Jvm.Cond.methodLink "java/lang/StringBuilder" (137 : Nat) ({ cls := "java/lang/String", name := "<init>", desc := "(Ljava/lang/StringBuilder;)V" } : Jvm.MethodName)) ∈ lw_all := lw_g (lw_at lw_m2 110 rfl) rfl
theorem q502 : (Jvm.Cond.selects "java/lang/StringBuilder" ({ cls := "java/lang/AbstractStringBuilder", name := "getValue", desc := "()[B" } : Jvm.MethodName) ({ cls := "java/lang/AbstractStringBuilder", name := "getValue", desc := "()[B" } : Jvm.MethodName)) ∈ lw_all := lw_g (lw_at lw_m2 120 rfl) rfl
theorem q507 : (Jvm.Cond.selects "java/lang/StringBuilder" ({ cls := "java/lang/AbstractStringBuilder", name := "length", desc := "()I" } : Jvm.MethodName) ({ cls := "java/lang/StringBuilder", name := "length", desc := "()I" } : Jvm.MethodName)) ∈ lw_all := lw_g (lw_at lw_m2 125 rfl) rfl
theorem q508 : (Jvm.Cond.instanceMethod ({ cls := "java/lang/StringBuilder", name := "length", desc := "()I" } : Jvm.MethodName)) ∈ lw_all := lw_g (lw_at lw_m2 126 rfl) rfl
theorem q509 : (Jvm.Cond.code ({ cls := "java/lang/StringBuilder", name := "length", desc := "()I" } : Jvm.MethodName) prog_32_method_93_code (1 : Nat) (Option.some Jvm.ClassFile.FieldType.int)) ∈ lw_all := lw_g (lw_at lw_m2 127 rfl) rfl
theorem q510 : (Jvm.Cond.methodLink "java/lang/StringBuilder" (343 : Nat) ({ cls := "java/lang/AbstractStringBuilder", name := "length", desc := "()I" } : Jvm.MethodName)) ∈ lw_all := lw_g (lw_at lw_m2 128 rfl) rfl
theorem q799 : (Jvm.Cond.castable "java/lang/StringBuilder" "java/lang/Comparable") ∈ lw_tbl := lw_at lw_m3 177 rfl
theorem q800 : (Jvm.Cond.selects "java/lang/StringBuilder" ({ cls := "java/lang/Comparable", name := "compareTo", desc := "(Ljava/lang/Object;)I" } : Jvm.MethodName) ({ cls := "java/lang/StringBuilder", name := "compareTo", desc := "(Ljava/lang/Object;)I" } : Jvm.MethodName)) ∈ lw_all := lw_g (lw_at lw_m3 178 rfl) rfl
theorem q801 : (Jvm.Cond.unhidden "java/lang/StringBuilder" "compareTo" "(Ljava/lang/Object;)I") ∈ lw_tbl := lw_at lw_m3 179 rfl
theorem q802 : (Jvm.Cond.instanceMethod ({ cls := "java/lang/StringBuilder", name := "compareTo", desc := "(Ljava/lang/Object;)I" } : Jvm.MethodName)) ∈ lw_all := lw_g (lw_at lw_m3 180 rfl) rfl
theorem q803 : (Jvm.Cond.publicMethod ({ cls := "java/lang/StringBuilder", name := "compareTo", desc := "(Ljava/lang/Object;)I" } : Jvm.MethodName)) ∈ lw_tbl := lw_at lw_m3 181 rfl
theorem q804 : (Jvm.Cond.code ({ cls := "java/lang/StringBuilder", name := "compareTo", desc := "(Ljava/lang/Object;)I" } : Jvm.MethodName) prog_32_method_97_code (2 : Nat) (Option.some Jvm.ClassFile.FieldType.int)) ∈ lw_all := lw_g (lw_at lw_m3 182 rfl) rfl
theorem q805 : (Jvm.Cond.classLink "java/lang/StringBuilder" (24 : Nat) "java/lang/StringBuilder") ∈ lw_all := lw_g (lw_at lw_m3 183 rfl) rfl
theorem q806 : (Jvm.Cond.methodLink "java/lang/StringBuilder" (346 : Nat) ({ cls := "java/lang/StringBuilder", name := "compareTo", desc := "(Ljava/lang/StringBuilder;)I" } : Jvm.MethodName)) ∈ lw_all := lw_g (lw_at lw_m3 184 rfl) rfl
theorem q807 : (Jvm.Cond.instanceMethod ({ cls := "java/lang/StringBuilder", name := "compareTo", desc := "(Ljava/lang/StringBuilder;)I" } : Jvm.MethodName)) ∈ lw_all := lw_g (lw_at lw_m3 185 rfl) rfl
theorem q808 : (Jvm.Cond.selects "java/lang/StringBuilder" ({ cls := "java/lang/StringBuilder", name := "compareTo", desc := "(Ljava/lang/StringBuilder;)I" } : Jvm.MethodName) ({ cls := "java/lang/StringBuilder", name := "compareTo", desc := "(Ljava/lang/StringBuilder;)I" } : Jvm.MethodName)) ∈ lw_all := lw_g (lw_at lw_m3 186 rfl) rfl
theorem q809 : (Jvm.Cond.code ({ cls := "java/lang/StringBuilder", name := "compareTo", desc := "(Ljava/lang/StringBuilder;)I" } : Jvm.MethodName) prog_32_method_5_code (2 : Nat) (Option.some Jvm.ClassFile.FieldType.int)) ∈ lw_all := lw_g (lw_at lw_m3 187 rfl) rfl
theorem q810 : (Jvm.Cond.methodLink "java/lang/StringBuilder" (13 : Nat) ({ cls := "java/lang/AbstractStringBuilder", name := "compareTo", desc := "(Ljava/lang/AbstractStringBuilder;)I" } : Jvm.MethodName)) ∈ lw_all := lw_g (lw_at lw_m3 188 rfl) rfl
theorem q1623 : (Jvm.Cond.selects "java/lang/StringBuilder" ({ cls := "java/lang/Object", name := "getClass", desc := "()Ljava/lang/Class;" } : Jvm.MethodName) ({ cls := "java/lang/Object", name := "getClass", desc := "()Ljava/lang/Class;" } : Jvm.MethodName)) ∈ lw_all := lw_g (lw_at lw_m7 41 rfl) rfl
theorem q2738 : (Jvm.Cond.castable "java/lang/StringBuilder" "java/lang/Object") ∈ lw_tbl := lw_at lw_m11 196 rfl
theorem q152 : (Jvm.Cond.initialized "java/lang/String") ∈ lw_all := lw_g (lw_at lw_m1 10 rfl) rfl
theorem q374 : (Jvm.Cond.laysStatic "java/lang/String" "COMPACT_STRINGS" "Z") ∈ lw_tbl := lw_at lw_m1 232 rfl
theorem q384 : (Jvm.Cond.fieldLink "java/lang/String" (1048 : Nat) "java/lang/AbstractStringBuilder" "maybeLatin1" "Z") ∈ lw_all := lw_g (lw_at lw_m2 2 rfl) rfl
theorem q458 : (Jvm.Cond.static ({ cls := "java/lang/String", name := "checkBoundsOffCount", desc := "(III)I" } : Jvm.MethodName)) ∈ lw_all := lw_g (lw_at lw_m2 76 rfl) rfl
theorem q459 : (Jvm.Cond.code ({ cls := "java/lang/String", name := "checkBoundsOffCount", desc := "(III)I" } : Jvm.MethodName) prog_31_method_157_code (3 : Nat) (Option.some Jvm.ClassFile.FieldType.int)) ∈ lw_all := lw_g (lw_at lw_m2 77 rfl) rfl
theorem q460 : (Jvm.Cond.fieldLink "java/lang/String" (1053 : Nat) "jdk/internal/util/Preconditions" "SIOOBE_FORMATTER" "Ljava/util/function/BiFunction;") ∈ lw_all := lw_g (lw_at lw_m2 78 rfl) rfl
theorem q462 : (Jvm.Cond.methodLink "java/lang/String" (1065 : Nat) ({ cls := "jdk/internal/util/Preconditions", name := "checkFromIndexSize", desc := "(IIILjava/util/function/BiFunction;)I" } : Jvm.MethodName)) ∈ lw_all := lw_g (lw_at lw_m2 80 rfl) rfl
theorem q481 : (Jvm.Cond.static ({ cls := "java/lang/String", name := "checkIndex", desc := "(II)V" } : Jvm.MethodName)) ∈ lw_all := lw_g (lw_at lw_m2 99 rfl) rfl
theorem q482 : (Jvm.Cond.code ({ cls := "java/lang/String", name := "checkIndex", desc := "(II)V" } : Jvm.MethodName) prog_31_method_155_code (2 : Nat) (Option.none : Option Jvm.ClassFile.FieldType)) ∈ lw_all := lw_g (lw_at lw_m2 100 rfl) rfl
theorem q483 : (Jvm.Cond.methodLink "java/lang/String" (1059 : Nat) ({ cls := "jdk/internal/util/Preconditions", name := "checkIndex", desc := "(IILjava/util/function/BiFunction;)I" } : Jvm.MethodName)) ∈ lw_all := lw_g (lw_at lw_m2 101 rfl) rfl
theorem q491 : (Jvm.Cond.instantiable "java/lang/String" (4 : Nat)) ∈ lw_all := lw_g (lw_at lw_m2 109 rfl) rfl
theorem q493 : (Jvm.Cond.instanceMethod ({ cls := "java/lang/String", name := "<init>", desc := "(Ljava/lang/StringBuilder;)V" } : Jvm.MethodName)) ∈ lw_all := lw_g (lw_at lw_m2 111 rfl) rfl
theorem q494 : (Jvm.Cond.code ({ cls := "java/lang/String", name := "<init>", desc := "(Ljava/lang/StringBuilder;)V" } : Jvm.MethodName) prog_31_method_53_code (2 : Nat) (Option.none : Option Jvm.ClassFile.FieldType)) ∈ lw_all := lw_g (lw_at lw_m2 112 rfl) rfl
theorem q495 : (Jvm.Cond.methodLink "java/lang/String" (489 : Nat) ({ cls := "java/lang/String", name := "<init>", desc := "(Ljava/lang/AbstractStringBuilder;Ljava/lang/Void;)V" } : Jvm.MethodName)) ∈ lw_all := lw_g (lw_at lw_m2 113 rfl) rfl
theorem q496 : (Jvm.Cond.instanceMethod ({ cls := "java/lang/String", name := "<init>", desc := "(Ljava/lang/AbstractStringBuilder;Ljava/lang/Void;)V" } : Jvm.MethodName)) ∈ lw_all := lw_g (lw_at lw_m2 114 rfl) rfl
theorem q497 : (Jvm.Cond.code ({ cls := "java/lang/String", name := "<init>", desc := "(Ljava/lang/AbstractStringBuilder;Ljava/lang/Void;)V" } : Jvm.MethodName) prog_31_method_150_code (5 : Nat) (Option.none : Option Jvm.ClassFile.FieldType)) ∈ lw_all := lw_g (lw_at lw_m2 115 rfl) rfl
theorem q498 : (Jvm.Cond.methodLink "java/lang/String" (1 : Nat) ({ cls := "java/lang/Object", name := "<init>", desc := "()V" } : Jvm.MethodName)) ∈ lw_all := lw_g (lw_at lw_m2 116 rfl) rfl
theorem q499 : (Jvm.Cond.methodLink "java/lang/String" (552 : Nat) ({ cls := "java/lang/AbstractStringBuilder", name := "getValue", desc := "()[B" } : Jvm.MethodName)) ∈ lw_all := lw_g (lw_at lw_m2 117 rfl) rfl
theorem q504 : (Jvm.Cond.methodLink "java/lang/String" (549 : Nat) ({ cls := "java/lang/AbstractStringBuilder", name := "length", desc := "()I" } : Jvm.MethodName)) ∈ lw_all := lw_g (lw_at lw_m2 122 rfl) rfl
theorem q512 : (Jvm.Cond.methodLink "java/lang/String" (1047 : Nat) ({ cls := "java/lang/AbstractStringBuilder", name := "isLatin1", desc := "()Z" } : Jvm.MethodName)) ∈ lw_all := lw_g (lw_at lw_m2 130 rfl) rfl
theorem q513 : (Jvm.Cond.methodLink "java/lang/String" (54 : Nat) ({ cls := "java/util/Arrays", name := "copyOfRange", desc := "([BII)[B" } : Jvm.MethodName)) ∈ lw_all := lw_g (lw_at lw_m2 131 rfl) rfl
theorem q522 : (Jvm.Cond.fieldLink "java/lang/String" (38 : Nat) "java/lang/String" "COMPACT_STRINGS" "Z") ∈ lw_all := lw_g (lw_at lw_m2 140 rfl) rfl
theorem q523 : (Jvm.Cond.methodLink "java/lang/String" (1051 : Nat) ({ cls := "java/lang/StringUTF16", name := "compress", desc := "([BII)[B" } : Jvm.MethodName)) ∈ lw_all := lw_g (lw_at lw_m2 141 rfl) rfl
theorem q533 : (Jvm.Cond.methodLink "java/lang/String" (47 : Nat) ({ cls := "java/lang/StringUTF16", name := "coderFromArrayLen", desc := "([BI)B" } : Jvm.MethodName)) ∈ lw_all := lw_g (lw_at lw_m2 151 rfl) rfl
theorem q536 : (Jvm.Cond.fieldLink "java/lang/String" (9 : Nat) "java/lang/String" "value" "[B") ∈ lw_all := lw_g (lw_at lw_m2 154 rfl) rfl
theorem q537 : (Jvm.Cond.fieldLink "java/lang/String" (15 : Nat) "java/lang/String" "coder" "B") ∈ lw_all := lw_g (lw_at lw_m2 155 rfl) rfl
theorem q538 : (Jvm.Cond.laysFinal "java/lang/String" "java/lang/String" "value" "[B") ∈ lw_all := lw_g (lw_at lw_m2 156 rfl) rfl
theorem q539 : (Jvm.Cond.soleField "java/lang/String" "value") ∈ lw_all := lw_g (lw_at lw_m2 157 rfl) rfl
theorem q540 : (Jvm.Cond.laysFinal "java/lang/String" "java/lang/String" "coder" "B") ∈ lw_all := lw_g (lw_at lw_m2 158 rfl) rfl
theorem q541 : (Jvm.Cond.soleField "java/lang/String" "coder") ∈ lw_all := lw_g (lw_at lw_m2 159 rfl) rfl
theorem q542 : (Jvm.Cond.lays "java/lang/String" "java/lang/String" "hash" "I") ∈ lw_all := lw_g (lw_at lw_m2 160 rfl) rfl
theorem q543 : (Jvm.Cond.soleField "java/lang/String" "hash") ∈ lw_all := lw_g (lw_at lw_m2 161 rfl) rfl
theorem q544 : (Jvm.Cond.lays "java/lang/String" "java/lang/String" "hashIsZero" "Z") ∈ lw_all := lw_g (lw_at lw_m2 162 rfl) rfl
theorem q545 : (Jvm.Cond.soleField "java/lang/String" "hashIsZero") ∈ lw_all := lw_g (lw_at lw_m2 163 rfl) rfl
theorem q546 : (Jvm.Cond.superclass "java/lang/String" "java/lang/Object") ∈ lw_all := lw_g (lw_at lw_m2 164 rfl) rfl
theorem q552 : (Jvm.Cond.instanceMethod ({ cls := "java/lang/String", name := "length", desc := "()I" } : Jvm.MethodName)) ∈ lw_all := lw_g (lw_at lw_m2 170 rfl) rfl
theorem q553 : (Jvm.Cond.selects "java/lang/String" ({ cls := "java/lang/String", name := "length", desc := "()I" } : Jvm.MethodName) ({ cls := "java/lang/String", name := "length", desc := "()I" } : Jvm.MethodName)) ∈ lw_all := lw_g (lw_at lw_m2 171 rfl) rfl
theorem q554 : (Jvm.Cond.code ({ cls := "java/lang/String", name := "length", desc := "()I" } : Jvm.MethodName) prog_31_method_54_code (1 : Nat) (Option.some Jvm.ClassFile.FieldType.int)) ∈ lw_all := lw_g (lw_at lw_m2 172 rfl) rfl
theorem q555 : (Jvm.Cond.methodLink "java/lang/String" (335 : Nat) ({ cls := "java/lang/String", name := "coder", desc := "()B" } : Jvm.MethodName)) ∈ lw_all := lw_g (lw_at lw_m2 173 rfl) rfl
theorem q556 : (Jvm.Cond.instanceMethod ({ cls := "java/lang/String", name := "coder", desc := "()B" } : Jvm.MethodName)) ∈ lw_all := lw_g (lw_at lw_m2 174 rfl) rfl
theorem q557 : (Jvm.Cond.selects "java/lang/String" ({ cls := "java/lang/String", name := "coder", desc := "()B" } : Jvm.MethodName) ({ cls := "java/lang/String", name := "coder", desc := "()B" } : Jvm.MethodName)) ∈ lw_all := lw_g (lw_at lw_m2 175 rfl) rfl
theorem q558 : (Jvm.Cond.code ({ cls := "java/lang/String", name := "coder", desc := "()B" } : Jvm.MethodName) prog_31_method_152_code (1 : Nat) (Option.some Jvm.ClassFile.FieldType.byte)) ∈ lw_all := lw_g (lw_at lw_m2 176 rfl) rfl
theorem q560 : (Jvm.Cond.instanceMethod ({ cls := "java/lang/String", name := "substring", desc := "(II)Ljava/lang/String;" } : Jvm.MethodName)) ∈ lw_all := lw_g (lw_at lw_m2 178 rfl) rfl
theorem q561 : (Jvm.Cond.selects "java/lang/String" ({ cls := "java/lang/String", name := "substring", desc := "(II)Ljava/lang/String;" } : Jvm.MethodName) ({ cls := "java/lang/String", name := "substring", desc := "(II)Ljava/lang/String;" } : Jvm.MethodName)) ∈ lw_all := lw_g (lw_at lw_m2 179 rfl) rfl
theorem q562 : (Jvm.Cond.code ({ cls := "java/lang/String", name := "substring", desc := "(II)Ljava/lang/String;" } : Jvm.MethodName) prog_31_method_92_code (5 : Nat) (Option.some (Jvm.ClassFile.FieldType.object "java/lang/String"))) ∈ lw_all := lw_g (lw_at lw_m2 180 rfl) rfl
theorem q563 : (Jvm.Cond.methodLink "java/lang/String" (505 : Nat) ({ cls := "java/lang/String", name := "length", desc := "()I" } : Jvm.MethodName)) ∈ lw_all := lw_g (lw_at lw_m2 181 rfl) rfl
theorem q564 : (Jvm.Cond.methodLink "java/lang/String" (521 : Nat) ({ cls := "java/lang/String", name := "checkBoundsBeginEnd", desc := "(III)V" } : Jvm.MethodName)) ∈ lw_all := lw_g (lw_at lw_m2 182 rfl) rfl
theorem q565 : (Jvm.Cond.static ({ cls := "java/lang/String", name := "checkBoundsBeginEnd", desc := "(III)V" } : Jvm.MethodName)) ∈ lw_all := lw_g (lw_at lw_m2 183 rfl) rfl
theorem q566 : (Jvm.Cond.code ({ cls := "java/lang/String", name := "checkBoundsBeginEnd", desc := "(III)V" } : Jvm.MethodName) prog_31_method_158_code (3 : Nat) (Option.none : Option Jvm.ClassFile.FieldType)) ∈ lw_all := lw_g (lw_at lw_m2 184 rfl) rfl
theorem q567 : (Jvm.Cond.methodLink "java/lang/String" (1062 : Nat) ({ cls := "jdk/internal/util/Preconditions", name := "checkFromToIndex", desc := "(IIILjava/util/function/BiFunction;)I" } : Jvm.MethodName)) ∈ lw_all := lw_g (lw_at lw_m2 185 rfl) rfl
theorem q570 : (Jvm.Cond.methodLink "java/lang/String" (492 : Nat) ({ cls := "java/lang/String", name := "isLatin1", desc := "()Z" } : Jvm.MethodName)) ∈ lw_all := lw_g (lw_at lw_m2 188 rfl) rfl
theorem q571 : (Jvm.Cond.instanceMethod ({ cls := "java/lang/String", name := "isLatin1", desc := "()Z" } : Jvm.MethodName)) ∈ lw_all := lw_g (lw_at lw_m2 189 rfl) rfl
theorem q572 : (Jvm.Cond.selects "java/lang/String" ({ cls := "java/lang/String", name := "isLatin1", desc := "()Z" } : Jvm.MethodName) ({ cls := "java/lang/String", name := "isLatin1", desc := "()Z" } : Jvm.MethodName)) ∈ lw_all := lw_g (lw_at lw_m2 190 rfl) rfl
theorem q573 : (Jvm.Cond.code ({ cls := "java/lang/String", name := "isLatin1", desc := "()Z" } : Jvm.MethodName) prog_31_method_154_code (1 : Nat) (Option.some Jvm.ClassFile.FieldType.boolean)) ∈ lw_all := lw_g (lw_at lw_m2 191 rfl) rfl
theorem q574 : (Jvm.Cond.methodLink "java/lang/String" (685 : Nat) ({ cls := "java/lang/StringLatin1", name := "newString", desc := "([BII)Ljava/lang/String;" } : Jvm.MethodName)) ∈ lw_all := lw_g (lw_at lw_m2 192 rfl) rfl
theorem q581 : (Jvm.Cond.instanceMethod ({ cls := "java/lang/String", name := "<init>", desc := "([BB)V" } : Jvm.MethodName)) ∈ lw_all := lw_g (lw_at lw_m2 199 rfl) rfl
theorem q582 : (Jvm.Cond.code ({ cls := "java/lang/String", name := "<init>", desc := "([BB)V" } : Jvm.MethodName) prog_31_method_151_code (3 : Nat) (Option.none : Option Jvm.ClassFile.FieldType)) ∈ lw_all := lw_g (lw_at lw_m2 200 rfl) rfl
theorem q583 : (Jvm.Cond.methodLink "java/lang/String" (689 : Nat) ({ cls := "java/lang/StringUTF16", name := "newString", desc := "([BII)Ljava/lang/String;" } : Jvm.MethodName)) ∈ lw_all := lw_g (lw_at lw_m2 201 rfl) rfl
theorem q652 : (Jvm.Cond.castable "java/lang/String" "java/lang/Comparable") ∈ lw_tbl := lw_at lw_m3 30 rfl
theorem q653 : (Jvm.Cond.selects "java/lang/String" ({ cls := "java/lang/Comparable", name := "compareTo", desc := "(Ljava/lang/Object;)I" } : Jvm.MethodName) ({ cls := "java/lang/String", name := "compareTo", desc := "(Ljava/lang/Object;)I" } : Jvm.MethodName)) ∈ lw_all := lw_g (lw_at lw_m3 31 rfl) rfl
theorem q654 : (Jvm.Cond.unhidden "java/lang/String" "compareTo" "(Ljava/lang/Object;)I") ∈ lw_tbl := lw_at lw_m3 32 rfl
theorem q655 : (Jvm.Cond.instanceMethod ({ cls := "java/lang/String", name := "compareTo", desc := "(Ljava/lang/Object;)I" } : Jvm.MethodName)) ∈ lw_all := lw_g (lw_at lw_m3 33 rfl) rfl
theorem q656 : (Jvm.Cond.publicMethod ({ cls := "java/lang/String", name := "compareTo", desc := "(Ljava/lang/Object;)I" } : Jvm.MethodName)) ∈ lw_tbl := lw_at lw_m3 34 rfl
theorem q657 : (Jvm.Cond.code ({ cls := "java/lang/String", name := "compareTo", desc := "(Ljava/lang/Object;)I" } : Jvm.MethodName) prog_31_method_162_code (2 : Nat) (Option.some Jvm.ClassFile.FieldType.int)) ∈ lw_all := lw_g (lw_at lw_m3 35 rfl) rfl
theorem q658 : (Jvm.Cond.classLink "java/lang/String" (10 : Nat) "java/lang/String") ∈ lw_all := lw_g (lw_at lw_m3 36 rfl) rfl
theorem q659 : (Jvm.Cond.methodLink "java/lang/String" (1084 : Nat) ({ cls := "java/lang/String", name := "compareTo", desc := "(Ljava/lang/String;)I" } : Jvm.MethodName)) ∈ lw_all := lw_g (lw_at lw_m3 37 rfl) rfl
theorem q660 : (Jvm.Cond.instanceMethod ({ cls := "java/lang/String", name := "compareTo", desc := "(Ljava/lang/String;)I" } : Jvm.MethodName)) ∈ lw_all := lw_g (lw_at lw_m3 38 rfl) rfl
theorem q661 : (Jvm.Cond.selects "java/lang/String" ({ cls := "java/lang/String", name := "compareTo", desc := "(Ljava/lang/String;)I" } : Jvm.MethodName) ({ cls := "java/lang/String", name := "compareTo", desc := "(Ljava/lang/String;)I" } : Jvm.MethodName)) ∈ lw_all := lw_g (lw_at lw_m3 39 rfl) rfl
theorem q662 : (Jvm.Cond.code ({ cls := "java/lang/String", name := "compareTo", desc := "(Ljava/lang/String;)I" } : Jvm.MethodName) prog_31_method_71_code (5 : Nat) (Option.some Jvm.ClassFile.FieldType.int)) ∈ lw_all := lw_g (lw_at lw_m3 40 rfl) rfl
theorem q663 : (Jvm.Cond.methodLink "java/lang/String" (586 : Nat) ({ cls := "java/lang/StringLatin1", name := "compareTo", desc := "([B[B)I" } : Jvm.MethodName)) ∈ lw_all := lw_g (lw_at lw_m3 41 rfl) rfl
theorem q777 : (Jvm.Cond.methodLink "java/lang/String" (590 : Nat) ({ cls := "java/lang/StringUTF16", name := "compareTo", desc := "([B[B)I" } : Jvm.MethodName)) ∈ lw_all := lw_g (lw_at lw_m3 155 rfl) rfl
theorem q784 : (Jvm.Cond.methodLink "java/lang/String" (591 : Nat) ({ cls := "java/lang/StringLatin1", name := "compareToUTF16", desc := "([B[B)I" } : Jvm.MethodName)) ∈ lw_all := lw_g (lw_at lw_m3 162 rfl) rfl
theorem q795 : (Jvm.Cond.methodLink "java/lang/String" (594 : Nat) ({ cls := "java/lang/StringUTF16", name := "compareToLatin1", desc := "([B[B)I" } : Jvm.MethodName)) ∈ lw_all := lw_g (lw_at lw_m3 173 rfl) rfl
theorem q821 : (Jvm.Cond.static ({ cls := "java/lang/String", name := "checkOffset", desc := "(II)V" } : Jvm.MethodName)) ∈ lw_all := lw_g (lw_at lw_m3 199 rfl) rfl
theorem q822 : (Jvm.Cond.code ({ cls := "java/lang/String", name := "checkOffset", desc := "(II)V" } : Jvm.MethodName) prog_31_method_156_code (2 : Nat) (Option.none : Option Jvm.ClassFile.FieldType)) ∈ lw_all := lw_g (lw_at lw_m3 200 rfl) rfl
theorem q953 : (Jvm.Cond.instanceMethod ({ cls := "java/lang/String", name := "charAt", desc := "(I)C" } : Jvm.MethodName)) ∈ lw_all := lw_g (lw_at lw_m4 91 rfl) rfl
theorem q954 : (Jvm.Cond.selects "java/lang/String" ({ cls := "java/lang/String", name := "charAt", desc := "(I)C" } : Jvm.MethodName) ({ cls := "java/lang/String", name := "charAt", desc := "(I)C" } : Jvm.MethodName)) ∈ lw_all := lw_g (lw_at lw_m4 92 rfl) rfl
theorem q955 : (Jvm.Cond.code ({ cls := "java/lang/String", name := "charAt", desc := "(I)C" } : Jvm.MethodName) prog_31_method_56_code (2 : Nat) (Option.some Jvm.ClassFile.FieldType.char)) ∈ lw_all := lw_g (lw_at lw_m4 93 rfl) rfl
theorem q956 : (Jvm.Cond.methodLink "java/lang/String" (495 : Nat) ({ cls := "java/lang/StringLatin1", name := "charAt", desc := "([BI)C" } : Jvm.MethodName)) ∈ lw_all := lw_g (lw_at lw_m4 94 rfl) rfl
theorem q960 : (Jvm.Cond.methodLink "java/lang/String" (498 : Nat) ({ cls := "java/lang/StringUTF16", name := "charAt", desc := "([BI)C" } : Jvm.MethodName)) ∈ lw_all := lw_g (lw_at lw_m4 98 rfl) rfl
theorem q1622 : (Jvm.Cond.selects "java/lang/String" ({ cls := "java/lang/Object", name := "getClass", desc := "()Ljava/lang/Class;" } : Jvm.MethodName) ({ cls := "java/lang/Object", name := "getClass", desc := "()Ljava/lang/Class;" } : Jvm.MethodName)) ∈ lw_all := lw_g (lw_at lw_m7 40 rfl) rfl
theorem q1715 : (Jvm.Cond.instanceMethod ({ cls := "java/lang/String", name := "indexOf", desc := "(I)I" } : Jvm.MethodName)) ∈ lw_all := lw_g (lw_at lw_m7 133 rfl) rfl
theorem q1716 : (Jvm.Cond.selects "java/lang/String" ({ cls := "java/lang/String", name := "indexOf", desc := "(I)I" } : Jvm.MethodName) ({ cls := "java/lang/String", name := "indexOf", desc := "(I)I" } : Jvm.MethodName)) ∈ lw_all := lw_g (lw_at lw_m7 134 rfl) rfl
theorem q1717 : (Jvm.Cond.code ({ cls := "java/lang/String", name := "indexOf", desc := "(I)I" } : Jvm.MethodName) prog_31_method_79_code (2 : Nat) (Option.some Jvm.ClassFile.FieldType.int)) ∈ lw_all := lw_g (lw_at lw_m7 135 rfl) rfl
theorem q1718 : (Jvm.Cond.methodLink "java/lang/String" (633 : Nat) ({ cls := "java/lang/String", name := "indexOf", desc := "(II)I" } : Jvm.MethodName)) ∈ lw_all := lw_g (lw_at lw_m7 136 rfl) rfl
theorem q1719 : (Jvm.Cond.instanceMethod ({ cls := "java/lang/String", name := "indexOf", desc := "(II)I" } : Jvm.MethodName)) ∈ lw_all := lw_g (lw_at lw_m7 137 rfl) rfl
theorem q1720 : (Jvm.Cond.selects "java/lang/String" ({ cls := "java/lang/String", name := "indexOf", desc := "(II)I" } : Jvm.MethodName) ({ cls := "java/lang/String", name := "indexOf", desc := "(II)I" } : Jvm.MethodName)) ∈ lw_all := lw_g (lw_at lw_m7 138 rfl) rfl
theorem q1721 : (Jvm.Cond.code ({ cls := "java/lang/String", name := "indexOf", desc := "(II)I" } : Jvm.MethodName) prog_31_method_80_code (3 : Nat) (Option.some Jvm.ClassFile.FieldType.int)) ∈ lw_all := lw_g (lw_at lw_m7 139 rfl) rfl
theorem q1722 : (Jvm.Cond.methodLink "java/lang/String" (637 : Nat) ({ cls := "java/lang/StringLatin1", name := "indexOf", desc := "([BIII)I" } : Jvm.MethodName)) ∈ lw_all := lw_g (lw_at lw_m7 140 rfl) rfl
theorem q1732 : (Jvm.Cond.methodLink "java/lang/String" (640 : Nat) ({ cls := "java/lang/StringUTF16", name := "indexOf", desc := "([BIII)I" } : Jvm.MethodName)) ∈ lw_all := lw_g (lw_at lw_m7 150 rfl) rfl
theorem q2732 : (Jvm.Cond.castable "java/lang/String" "java/lang/Object") ∈ lw_tbl := lw_at lw_m11 190 rfl
theorem q153 : (Jvm.Cond.initialized "java/lang/StringUTF16") ∈ lw_all := lw_g (lw_at lw_m1 11 rfl) rfl
theorem q376 : (Jvm.Cond.static ({ cls := "java/lang/StringUTF16", name := "newBytesFor", desc := "(I)[B" } : Jvm.MethodName)) ∈ lw_all := lw_g (lw_at lw_m1 234 rfl) rfl
theorem q377 : (Jvm.Cond.code ({ cls := "java/lang/StringUTF16", name := "newBytesFor", desc := "(I)[B" } : Jvm.MethodName) prog_34_method_2_code (1 : Nat) (Option.some (Jvm.ClassFile.FieldType.array Jvm.ClassFile.FieldType.byte))) ∈ lw_all := lw_g (lw_at lw_m1 235 rfl) rfl
theorem q378 : (Jvm.Cond.methodLink "java/lang/StringUTF16" (11 : Nat) ({ cls := "java/lang/StringUTF16", name := "newBytesLength", desc := "(I)I" } : Jvm.MethodName)) ∈ lw_all := lw_g (lw_at lw_m1 236 rfl) rfl
theorem q379 : (Jvm.Cond.static ({ cls := "java/lang/StringUTF16", name := "newBytesLength", desc := "(I)I" } : Jvm.MethodName)) ∈ lw_all := lw_g (lw_at lw_m1 237 rfl) rfl
theorem q380 : (Jvm.Cond.code ({ cls := "java/lang/StringUTF16", name := "newBytesLength", desc := "(I)I" } : Jvm.MethodName) prog_34_method_3_code (1 : Nat) (Option.some Jvm.ClassFile.FieldType.int)) ∈ lw_all := lw_g (lw_at lw_m1 238 rfl) rfl
theorem q381 : (Jvm.Cond.constant "java/lang/StringUTF16" (20 : Nat) (1073741823 : Int32)) ∈ lw_all := lw_g (lw_at lw_m1 239 rfl) rfl
theorem q449 : (Jvm.Cond.static ({ cls := "java/lang/StringUTF16", name := "inflate", desc := "([BI[BII)V" } : Jvm.MethodName)) ∈ lw_all := lw_g (lw_at lw_m2 67 rfl) rfl
theorem q450 : (Jvm.Cond.code ({ cls := "java/lang/StringUTF16", name := "inflate", desc := "([BI[BII)V" } : Jvm.MethodName) prog_34_method_86_code (6 : Nat) (Option.none : Option Jvm.ClassFile.FieldType)) ∈ lw_all := lw_g (lw_at lw_m2 68 rfl) rfl
theorem q451 : (Jvm.Cond.methodLink "java/lang/StringUTF16" (173 : Nat) ({ cls := "java/lang/StringUTF16", name := "checkBoundsOffCount", desc := "(II[B)V" } : Jvm.MethodName)) ∈ lw_all := lw_g (lw_at lw_m2 69 rfl) rfl
theorem q452 : (Jvm.Cond.static ({ cls := "java/lang/StringUTF16", name := "checkBoundsOffCount", desc := "(II[B)V" } : Jvm.MethodName)) ∈ lw_all := lw_g (lw_at lw_m2 70 rfl) rfl
theorem q453 : (Jvm.Cond.code ({ cls := "java/lang/StringUTF16", name := "checkBoundsOffCount", desc := "(II[B)V" } : Jvm.MethodName) prog_34_method_94_code (3 : Nat) (Option.none : Option Jvm.ClassFile.FieldType)) ∈ lw_all := lw_g (lw_at lw_m2 71 rfl) rfl
theorem q454 : (Jvm.Cond.methodLink "java/lang/StringUTF16" (48 : Nat) ({ cls := "java/lang/StringUTF16", name := "length", desc := "([B)I" } : Jvm.MethodName)) ∈ lw_all := lw_g (lw_at lw_m2 72 rfl) rfl
theorem q455 : (Jvm.Cond.static ({ cls := "java/lang/StringUTF16", name := "length", desc := "([B)I" } : Jvm.MethodName)) ∈ lw_all := lw_g (lw_at lw_m2 73 rfl) rfl
theorem q456 : (Jvm.Cond.code ({ cls := "java/lang/StringUTF16", name := "length", desc := "([B)I" } : Jvm.MethodName) prog_34_method_6_code (1 : Nat) (Option.some Jvm.ClassFile.FieldType.int)) ∈ lw_all := lw_g (lw_at lw_m2 74 rfl) rfl
theorem q457 : (Jvm.Cond.methodLink "java/lang/StringUTF16" (419 : Nat) ({ cls := "java/lang/String", name := "checkBoundsOffCount", desc := "(III)I" } : Jvm.MethodName)) ∈ lw_all := lw_g (lw_at lw_m2 75 rfl) rfl
theorem q465 : (Jvm.Cond.methodLink "java/lang/StringUTF16" (111 : Nat) ({ cls := "java/lang/StringUTF16", name := "putChar", desc := "([BII)V" } : Jvm.MethodName)) ∈ lw_all := lw_g (lw_at lw_m2 83 rfl) rfl
theorem q466 : (Jvm.Cond.static ({ cls := "java/lang/StringUTF16", name := "putChar", desc := "([BII)V" } : Jvm.MethodName)) ∈ lw_all := lw_g (lw_at lw_m2 84 rfl) rfl
theorem q467 : (Jvm.Cond.code ({ cls := "java/lang/StringUTF16", name := "putChar", desc := "([BII)V" } : Jvm.MethodName) prog_34_method_4_code (3 : Nat) (Option.none : Option Jvm.ClassFile.FieldType)) ∈ lw_all := lw_g (lw_at lw_m2 85 rfl) rfl
theorem q468 : (Jvm.Cond.fieldLink "java/lang/StringUTF16" (44 : Nat) "java/lang/StringUTF16" "$assertionsDisabled" "Z") ∈ lw_all := lw_g (lw_at lw_m2 86 rfl) rfl
theorem q469 : (Jvm.Cond.laysStatic "java/lang/StringUTF16" "$assertionsDisabled" "Z") ∈ lw_tbl := lw_at lw_m2 87 rfl
theorem q470 : (Jvm.Cond.fieldLink "java/lang/StringUTF16" (59 : Nat) "java/lang/StringUTF16" "HI_BYTE_SHIFT" "I") ∈ lw_all := lw_g (lw_at lw_m2 88 rfl) rfl
theorem q471 : (Jvm.Cond.laysStatic "java/lang/StringUTF16" "HI_BYTE_SHIFT" "I") ∈ lw_tbl := lw_at lw_m2 89 rfl
theorem q472 : (Jvm.Cond.fieldLink "java/lang/StringUTF16" (63 : Nat) "java/lang/StringUTF16" "LO_BYTE_SHIFT" "I") ∈ lw_all := lw_g (lw_at lw_m2 90 rfl) rfl
theorem q473 : (Jvm.Cond.laysStatic "java/lang/StringUTF16" "LO_BYTE_SHIFT" "I") ∈ lw_tbl := lw_at lw_m2 91 rfl
theorem q475 : (Jvm.Cond.static ({ cls := "java/lang/StringUTF16", name := "putCharSB", desc := "([BII)V" } : Jvm.MethodName)) ∈ lw_all := lw_g (lw_at lw_m2 93 rfl) rfl
theorem q476 : (Jvm.Cond.code ({ cls := "java/lang/StringUTF16", name := "putCharSB", desc := "([BII)V" } : Jvm.MethodName) prog_34_method_71_code (3 : Nat) (Option.none : Option Jvm.ClassFile.FieldType)) ∈ lw_all := lw_g (lw_at lw_m2 94 rfl) rfl
theorem q477 : (Jvm.Cond.methodLink "java/lang/StringUTF16" (67 : Nat) ({ cls := "java/lang/StringUTF16", name := "checkIndex", desc := "(I[B)V" } : Jvm.MethodName)) ∈ lw_all := lw_g (lw_at lw_m2 95 rfl) rfl
theorem q478 : (Jvm.Cond.static ({ cls := "java/lang/StringUTF16", name := "checkIndex", desc := "(I[B)V" } : Jvm.MethodName)) ∈ lw_all := lw_g (lw_at lw_m2 96 rfl) rfl
theorem q479 : (Jvm.Cond.code ({ cls := "java/lang/StringUTF16", name := "checkIndex", desc := "(I[B)V" } : Jvm.MethodName) prog_34_method_91_code (2 : Nat) (Option.none : Option Jvm.ClassFile.FieldType)) ∈ lw_all := lw_g (lw_at lw_m2 97 rfl) rfl
theorem q480 : (Jvm.Cond.methodLink "java/lang/StringUTF16" (414 : Nat) ({ cls := "java/lang/String", name := "checkIndex", desc := "(II)V" } : Jvm.MethodName)) ∈ lw_all := lw_g (lw_at lw_m2 98 rfl) rfl
theorem q524 : (Jvm.Cond.static ({ cls := "java/lang/StringUTF16", name := "compress", desc := "([BII)[B" } : Jvm.MethodName)) ∈ lw_all := lw_g (lw_at lw_m2 142 rfl) rfl
theorem q525 : (Jvm.Cond.code ({ cls := "java/lang/StringUTF16", name := "compress", desc := "([BII)[B" } : Jvm.MethodName) prog_34_method_17_code (6 : Nat) (Option.some (Jvm.ClassFile.FieldType.array Jvm.ClassFile.FieldType.byte))) ∈ lw_all := lw_g (lw_at lw_m2 143 rfl) rfl
theorem q526 : (Jvm.Cond.methodLink "java/lang/StringUTF16" (123 : Nat) ({ cls := "java/lang/StringUTF16", name := "compress", desc := "([BI[BII)I" } : Jvm.MethodName)) ∈ lw_all := lw_g (lw_at lw_m2 144 rfl) rfl
theorem q527 : (Jvm.Cond.static ({ cls := "java/lang/StringUTF16", name := "compress", desc := "([BI[BII)I" } : Jvm.MethodName)) ∈ lw_all := lw_g (lw_at lw_m2 145 rfl) rfl
theorem q528 : (Jvm.Cond.code ({ cls := "java/lang/StringUTF16", name := "compress", desc := "([BI[BII)I" } : Jvm.MethodName) prog_34_method_22_code (7 : Nat) (Option.some Jvm.ClassFile.FieldType.int)) ∈ lw_all := lw_g (lw_at lw_m2 146 rfl) rfl
theorem q529 : (Jvm.Cond.methodLink "java/lang/StringUTF16" (71 : Nat) ({ cls := "java/lang/StringUTF16", name := "getChar", desc := "([BI)C" } : Jvm.MethodName)) ∈ lw_all := lw_g (lw_at lw_m2 147 rfl) rfl
theorem q530 : (Jvm.Cond.static ({ cls := "java/lang/StringUTF16", name := "getChar", desc := "([BI)C" } : Jvm.MethodName)) ∈ lw_all := lw_g (lw_at lw_m2 148 rfl) rfl
theorem q531 : (Jvm.Cond.code ({ cls := "java/lang/StringUTF16", name := "getChar", desc := "([BI)C" } : Jvm.MethodName) prog_34_method_5_code (2 : Nat) (Option.some Jvm.ClassFile.FieldType.char)) ∈ lw_all := lw_g (lw_at lw_m2 149 rfl) rfl
theorem q532 : (Jvm.Cond.methodLink "java/lang/StringUTF16" (126 : Nat) ({ cls := "java/util/Arrays", name := "copyOfRange", desc := "([BII)[B" } : Jvm.MethodName)) ∈ lw_all := lw_g (lw_at lw_m2 150 rfl) rfl
theorem q534 : (Jvm.Cond.static ({ cls := "java/lang/StringUTF16", name := "coderFromArrayLen", desc := "([BI)B" } : Jvm.MethodName)) ∈ lw_all := lw_g (lw_at lw_m2 152 rfl) rfl
theorem q535 : (Jvm.Cond.code ({ cls := "java/lang/StringUTF16", name := "coderFromArrayLen", desc := "([BI)B" } : Jvm.MethodName) prog_34_method_15_code (2 : Nat) (Option.some Jvm.ClassFile.FieldType.byte)) ∈ lw_all := lw_g (lw_at lw_m2 153 rfl) rfl
theorem q584 : (Jvm.Cond.static ({ cls := "java/lang/StringUTF16", name := "newString", desc := "([BII)Ljava/lang/String;" } : Jvm.MethodName)) ∈ lw_all := lw_g (lw_at lw_m2 202 rfl) rfl
theorem q585 : (Jvm.Cond.code ({ cls := "java/lang/StringUTF16", name := "newString", desc := "([BII)Ljava/lang/String;" } : Jvm.MethodName) prog_34_method_69_code (5 : Nat) (Option.some (Jvm.ClassFile.FieldType.object "java/lang/String"))) ∈ lw_all := lw_g (lw_at lw_m2 203 rfl) rfl
theorem q586 : (Jvm.Cond.stringRef "java/lang/StringUTF16" (295 : Nat) "") ∈ lw_tbl := lw_at lw_m2 204 rfl
theorem q587 : (Jvm.Cond.fieldLink "java/lang/StringUTF16" (251 : Nat) "java/lang/String" "COMPACT_STRINGS" "Z") ∈ lw_all := lw_g (lw_at lw_m2 205 rfl) rfl
theorem q588 : (Jvm.Cond.methodLink "java/lang/StringUTF16" (257 : Nat) ({ cls := "java/lang/StringUTF16", name := "compress", desc := "([BII)[B" } : Jvm.MethodName)) ∈ lw_all := lw_g (lw_at lw_m2 206 rfl) rfl
theorem q589 : (Jvm.Cond.methodLink "java/lang/StringUTF16" (259 : Nat) ({ cls := "java/lang/StringUTF16", name := "coderFromArrayLen", desc := "([BI)B" } : Jvm.MethodName)) ∈ lw_all := lw_g (lw_at lw_m2 207 rfl) rfl
theorem q590 : (Jvm.Cond.classLink "java/lang/StringUTF16" (3 : Nat) "java/lang/String") ∈ lw_all := lw_g (lw_at lw_m2 208 rfl) rfl
theorem q591 : (Jvm.Cond.methodLink "java/lang/StringUTF16" (263 : Nat) ({ cls := "java/lang/String", name := "<init>", desc := "([BB)V" } : Jvm.MethodName)) ∈ lw_all := lw_g (lw_at lw_m2 209 rfl) rfl
theorem q778 : (Jvm.Cond.static ({ cls := "java/lang/StringUTF16", name := "compareTo", desc := "([B[B)I" } : Jvm.MethodName)) ∈ lw_all := lw_g (lw_at lw_m3 156 rfl) rfl
theorem q779 : (Jvm.Cond.code ({ cls := "java/lang/StringUTF16", name := "compareTo", desc := "([B[B)I" } : Jvm.MethodName) prog_34_method_29_code (4 : Nat) (Option.some Jvm.ClassFile.FieldType.int)) ∈ lw_all := lw_g (lw_at lw_m3 157 rfl) rfl
theorem q780 : (Jvm.Cond.methodLink "java/lang/StringUTF16" (176 : Nat) ({ cls := "java/lang/StringUTF16", name := "compareValues", desc := "([B[BII)I" } : Jvm.MethodName)) ∈ lw_all := lw_g (lw_at lw_m3 158 rfl) rfl
theorem q781 : (Jvm.Cond.static ({ cls := "java/lang/StringUTF16", name := "compareValues", desc := "([B[BII)I" } : Jvm.MethodName)) ∈ lw_all := lw_g (lw_at lw_m3 159 rfl) rfl
theorem q782 : (Jvm.Cond.code ({ cls := "java/lang/StringUTF16", name := "compareValues", desc := "([B[BII)I" } : Jvm.MethodName) prog_34_method_31_code (8 : Nat) (Option.some Jvm.ClassFile.FieldType.int)) ∈ lw_all := lw_g (lw_at lw_m3 160 rfl) rfl
theorem q783 : (Jvm.Cond.methodLink "java/lang/StringUTF16" (183 : Nat) ({ cls := "java/lang/Math", name := "min", desc := "(II)I" } : Jvm.MethodName)) ∈ lw_all := lw_g (lw_at lw_m3 161 rfl) rfl
theorem q796 : (Jvm.Cond.static ({ cls := "java/lang/StringUTF16", name := "compareToLatin1", desc := "([B[B)I" } : Jvm.MethodName)) ∈ lw_all := lw_g (lw_at lw_m3 174 rfl) rfl
theorem q797 : (Jvm.Cond.code ({ cls := "java/lang/StringUTF16", name := "compareToLatin1", desc := "([B[B)I" } : Jvm.MethodName) prog_34_method_32_code (2 : Nat) (Option.some Jvm.ClassFile.FieldType.int)) ∈ lw_all := lw_g (lw_at lw_m3 175 rfl) rfl
theorem q798 : (Jvm.Cond.methodLink "java/lang/StringUTF16" (189 : Nat) ({ cls := "java/lang/StringLatin1", name := "compareToUTF16", desc := "([B[B)I" } : Jvm.MethodName)) ∈ lw_all := lw_g (lw_at lw_m3 176 rfl) rfl
theorem q815 : (Jvm.Cond.static ({ cls := "java/lang/StringUTF16", name := "compareTo", desc := "([B[BII)I" } : Jvm.MethodName)) ∈ lw_all := lw_g (lw_at lw_m3 193 rfl) rfl
theorem q816 : (Jvm.Cond.code ({ cls := "java/lang/StringUTF16", name := "compareTo", desc := "([B[BII)I" } : Jvm.MethodName) prog_34_method_30_code (4 : Nat) (Option.some Jvm.ClassFile.FieldType.int)) ∈ lw_all := lw_g (lw_at lw_m3 194 rfl) rfl
theorem q817 : (Jvm.Cond.methodLink "java/lang/StringUTF16" (180 : Nat) ({ cls := "java/lang/StringUTF16", name := "checkOffset", desc := "(I[B)V" } : Jvm.MethodName)) ∈ lw_all := lw_g (lw_at lw_m3 195 rfl) rfl
theorem q818 : (Jvm.Cond.static ({ cls := "java/lang/StringUTF16", name := "checkOffset", desc := "(I[B)V" } : Jvm.MethodName)) ∈ lw_all := lw_g (lw_at lw_m3 196 rfl) rfl
theorem q819 : (Jvm.Cond.code ({ cls := "java/lang/StringUTF16", name := "checkOffset", desc := "(I[B)V" } : Jvm.MethodName) prog_34_method_92_code (2 : Nat) (Option.none : Option Jvm.ClassFile.FieldType)) ∈ lw_all := lw_g (lw_at lw_m3 197 rfl) rfl
theorem q820 : (Jvm.Cond.methodLink "java/lang/StringUTF16" (417 : Nat) ({ cls := "java/lang/String", name := "checkOffset", desc := "(II)V" } : Jvm.MethodName)) ∈ lw_all := lw_g (lw_at lw_m3 198 rfl) rfl
theorem q828 : (Jvm.Cond.static ({ cls := "java/lang/StringUTF16", name := "compareToLatin1", desc := "([B[BII)I" } : Jvm.MethodName)) ∈ lw_all := lw_g (lw_at lw_m3 206 rfl) rfl
theorem q829 : (Jvm.Cond.code ({ cls := "java/lang/StringUTF16", name := "compareToLatin1", desc := "([B[BII)I" } : Jvm.MethodName) prog_34_method_33_code (4 : Nat) (Option.some Jvm.ClassFile.FieldType.int)) ∈ lw_all := lw_g (lw_at lw_m3 207 rfl) rfl
theorem q830 : (Jvm.Cond.methodLink "java/lang/StringUTF16" (193 : Nat) ({ cls := "java/lang/StringLatin1", name := "compareToUTF16", desc := "([B[BII)I" } : Jvm.MethodName)) ∈ lw_all := lw_g (lw_at lw_m3 208 rfl) rfl
theorem q961 : (Jvm.Cond.static ({ cls := "java/lang/StringUTF16", name := "charAt", desc := "([BI)C" } : Jvm.MethodName)) ∈ lw_all := lw_g (lw_at lw_m4 99 rfl) rfl
theorem q962 : (Jvm.Cond.code ({ cls := "java/lang/StringUTF16", name := "charAt", desc := "([BI)C" } : Jvm.MethodName) prog_34_method_83_code (2 : Nat) (Option.some Jvm.ClassFile.FieldType.char)) ∈ lw_all := lw_g (lw_at lw_m4 100 rfl) rfl
theorem q1733 : (Jvm.Cond.static ({ cls := "java/lang/StringUTF16", name := "indexOf", desc := "([BIII)I" } : Jvm.MethodName)) ∈ lw_all := lw_g (lw_at lw_m7 151 rfl) rfl
theorem q1734 : (Jvm.Cond.code ({ cls := "java/lang/StringUTF16", name := "indexOf", desc := "([BIII)I" } : Jvm.MethodName) prog_34_method_40_code (4 : Nat) (Option.some Jvm.ClassFile.FieldType.int)) ∈ lw_all := lw_g (lw_at lw_m7 152 rfl) rfl
theorem q1735 : (Jvm.Cond.methodLink "java/lang/StringUTF16" (224 : Nat) ({ cls := "java/lang/Math", name := "max", desc := "(II)I" } : Jvm.MethodName)) ∈ lw_all := lw_g (lw_at lw_m7 153 rfl) rfl
theorem q1736 : (Jvm.Cond.constant "java/lang/StringUTF16" (227 : Nat) (65536 : Int32)) ∈ lw_all := lw_g (lw_at lw_m7 154 rfl) rfl
theorem q1737 : (Jvm.Cond.methodLink "java/lang/StringUTF16" (228 : Nat) ({ cls := "java/lang/StringUTF16", name := "indexOfChar", desc := "([BIII)I" } : Jvm.MethodName)) ∈ lw_all := lw_g (lw_at lw_m7 155 rfl) rfl
theorem q1738 : (Jvm.Cond.static ({ cls := "java/lang/StringUTF16", name := "indexOfChar", desc := "([BIII)I" } : Jvm.MethodName)) ∈ lw_all := lw_g (lw_at lw_m7 156 rfl) rfl
theorem q1739 : (Jvm.Cond.code ({ cls := "java/lang/StringUTF16", name := "indexOfChar", desc := "([BIII)I" } : Jvm.MethodName) prog_34_method_47_code (4 : Nat) (Option.some Jvm.ClassFile.FieldType.int)) ∈ lw_all := lw_g (lw_at lw_m7 157 rfl) rfl
theorem q1740 : (Jvm.Cond.methodLink "java/lang/StringUTF16" (96 : Nat) ({ cls := "java/lang/StringUTF16", name := "checkBoundsBeginEnd", desc := "(II[B)V" } : Jvm.MethodName)) ∈ lw_all := lw_g (lw_at lw_m7 158 rfl) rfl
theorem q1741 : (Jvm.Cond.static ({ cls := "java/lang/StringUTF16", name := "checkBoundsBeginEnd", desc := "(II[B)V" } : Jvm.MethodName)) ∈ lw_all := lw_g (lw_at lw_m7 159 rfl) rfl
theorem q1742 : (Jvm.Cond.code ({ cls := "java/lang/StringUTF16", name := "checkBoundsBeginEnd", desc := "(II[B)V" } : Jvm.MethodName) prog_34_method_93_code (3 : Nat) (Option.none : Option Jvm.ClassFile.FieldType)) ∈ lw_all := lw_g (lw_at lw_m7 160 rfl) rfl
theorem q1743 : (Jvm.Cond.methodLink "java/lang/StringUTF16" (241 : Nat) ({ cls := "java/lang/String", name := "checkBoundsBeginEnd", desc := "(III)V" } : Jvm.MethodName)) ∈ lw_all := lw_g (lw_at lw_m7 161 rfl) rfl
theorem q1744 : (Jvm.Cond.methodLink "java/lang/StringUTF16" (244 : Nat) ({ cls := "java/lang/StringUTF16", name := "indexOfCharUnsafe", desc := "([BIII)I" } : Jvm.MethodName)) ∈ lw_all := lw_g (lw_at lw_m7 162 rfl) rfl
theorem q1745 : (Jvm.Cond.static ({ cls := "java/lang/StringUTF16", name := "indexOfCharUnsafe", desc := "([BIII)I" } : Jvm.MethodName)) ∈ lw_all := lw_g (lw_at lw_m7 163 rfl) rfl
theorem q1746 : (Jvm.Cond.code ({ cls := "java/lang/StringUTF16", name := "indexOfCharUnsafe", desc := "([BIII)I" } : Jvm.MethodName) prog_34_method_48_code (5 : Nat) (Option.some Jvm.ClassFile.FieldType.int)) ∈ lw_all := lw_g (lw_at lw_m7 164 rfl) rfl
theorem q1747 : (Jvm.Cond.methodLink "java/lang/StringUTF16" (232 : Nat) ({ cls := "java/lang/StringUTF16", name := "indexOfSupplementary", desc := "([BIII)I" } : Jvm.MethodName)) ∈ lw_all := lw_g (lw_at lw_m7 165 rfl) rfl
theorem q1748 : (Jvm.Cond.static ({ cls := "java/lang/StringUTF16", name := "indexOfSupplementary", desc := "([BIII)I" } : Jvm.MethodName)) ∈ lw_all := lw_g (lw_at lw_m7 166 rfl) rfl
theorem q1749 : (Jvm.Cond.code ({ cls := "java/lang/StringUTF16", name := "indexOfSupplementary", desc := "([BIII)I" } : Jvm.MethodName) prog_34_method_49_code (7 : Nat) (Option.some Jvm.ClassFile.FieldType.int)) ∈ lw_all := lw_g (lw_at lw_m7 167 rfl) rfl
theorem q1750 : (Jvm.Cond.methodLink "java/lang/StringUTF16" (164 : Nat) ({ cls := "java/lang/Character", name := "isValidCodePoint", desc := "(I)Z" } : Jvm.MethodName)) ∈ lw_all := lw_g (lw_at lw_m7 168 rfl) rfl
theorem q1753 : (Jvm.Cond.methodLink "java/lang/StringUTF16" (157 : Nat) ({ cls := "java/lang/Character", name := "highSurrogate", desc := "(I)C" } : Jvm.MethodName)) ∈ lw_all := lw_g (lw_at lw_m7 171 rfl) rfl
theorem q1757 : (Jvm.Cond.methodLink "java/lang/StringUTF16" (161 : Nat) ({ cls := "java/lang/Character", name := "lowSurrogate", desc := "(I)C" } : Jvm.MethodName)) ∈ lw_all := lw_g (lw_at lw_m7 175 rfl) rfl
theorem q154 : (Jvm.Cond.initialized "jdk/internal/util/ArraysSupport") ∈ lw_all := lw_g (lw_at lw_m1 12 rfl) rfl
theorem q411 : (Jvm.Cond.static ({ cls := "jdk/internal/util/ArraysSupport", name := "newLength", desc := "(III)I" } : Jvm.MethodName)) ∈ lw_all := lw_g (lw_at lw_m2 29 rfl) rfl
theorem q412 : (Jvm.Cond.code ({ cls := "jdk/internal/util/ArraysSupport", name := "newLength", desc := "(III)I" } : Jvm.MethodName) prog_77_method_27_code (4 : Nat) (Option.some Jvm.ClassFile.FieldType.int)) ∈ lw_all := lw_g (lw_at lw_m2 30 rfl) rfl
theorem q413 : (Jvm.Cond.methodLink "jdk/internal/util/ArraysSupport" (194 : Nat) ({ cls := "java/lang/Math", name := "max", desc := "(II)I" } : Jvm.MethodName)) ∈ lw_all := lw_g (lw_at lw_m2 31 rfl) rfl
theorem q414 : (Jvm.Cond.constant "jdk/internal/util/ArraysSupport" (200 : Nat) (2147483639 : Int32)) ∈ lw_all := lw_g (lw_at lw_m2 32 rfl) rfl
theorem q415 : (Jvm.Cond.methodLink "jdk/internal/util/ArraysSupport" (201 : Nat) ({ cls := "jdk/internal/util/ArraysSupport", name := "hugeLength", desc := "(II)I" } : Jvm.MethodName)) ∈ lw_all := lw_g (lw_at lw_m2 33 rfl) rfl
theorem q416 : (Jvm.Cond.static ({ cls := "jdk/internal/util/ArraysSupport", name := "hugeLength", desc := "(II)I" } : Jvm.MethodName)) ∈ lw_all := lw_g (lw_at lw_m2 34 rfl) rfl
theorem q417 : (Jvm.Cond.code ({ cls := "jdk/internal/util/ArraysSupport", name := "hugeLength", desc := "(II)I" } : Jvm.MethodName) prog_77_method_28_code (3 : Nat) (Option.some Jvm.ClassFile.FieldType.int)) ∈ lw_all := lw_g (lw_at lw_m2 35 rfl) rfl
theorem q671 : (Jvm.Cond.static ({ cls := "jdk/internal/util/ArraysSupport", name := "mismatch", desc := "([B[BI)I" } : Jvm.MethodName)) ∈ lw_all := lw_g (lw_at lw_m3 49 rfl) rfl
theorem q672 : (Jvm.Cond.code ({ cls := "jdk/internal/util/ArraysSupport", name := "mismatch", desc := "([B[BI)I" } : Jvm.MethodName) prog_77_method_13_code (4 : Nat) (Option.some Jvm.ClassFile.FieldType.int)) ∈ lw_all := lw_g (lw_at lw_m3 50 rfl) rfl
theorem q673 : (Jvm.Cond.fieldLink "jdk/internal/util/ArraysSupport" (126 : Nat) "jdk/internal/misc/Unsafe" "ARRAY_BYTE_BASE_OFFSET" "I") ∈ lw_all := lw_g (lw_at lw_m3 51 rfl) rfl
theorem q675 : (Jvm.Cond.fieldLink "jdk/internal/util/ArraysSupport" (129 : Nat) "jdk/internal/util/ArraysSupport" "LOG2_ARRAY_BYTE_INDEX_SCALE" "I") ∈ lw_all := lw_g (lw_at lw_m3 53 rfl) rfl
theorem q676 : (Jvm.Cond.laysStatic "jdk/internal/util/ArraysSupport" "LOG2_ARRAY_BYTE_INDEX_SCALE" "I") ∈ lw_tbl := lw_at lw_m3 54 rfl
theorem q677 : (Jvm.Cond.methodLink "jdk/internal/util/ArraysSupport" (122 : Nat) ({ cls := "jdk/internal/util/ArraysSupport", name := "vectorizedMismatch", desc := "(Ljava/lang/Object;JLjava/lang/Object;JII)I" } : Jvm.MethodName)) ∈ lw_all := lw_g (lw_at lw_m3 55 rfl) rfl
theorem q678 : (Jvm.Cond.static ({ cls := "jdk/internal/util/ArraysSupport", name := "vectorizedMismatch", desc := "(Ljava/lang/Object;JLjava/lang/Object;JII)I" } : Jvm.MethodName)) ∈ lw_all := lw_g (lw_at lw_m3 56 rfl) rfl
theorem q679 : (Jvm.Cond.code ({ cls := "jdk/internal/util/ArraysSupport", name := "vectorizedMismatch", desc := "(Ljava/lang/Object;JLjava/lang/Object;JII)I" } : Jvm.MethodName) prog_77_method_3_code (19 : Nat) (Option.some Jvm.ClassFile.FieldType.int)) ∈ lw_all := lw_g (lw_at lw_m3 57 rfl) rfl
theorem q680 : (Jvm.Cond.fieldLink "jdk/internal/util/ArraysSupport" (20 : Nat) "jdk/internal/util/ArraysSupport" "LOG2_ARRAY_LONG_INDEX_SCALE" "I") ∈ lw_all := lw_g (lw_at lw_m3 58 rfl) rfl
theorem q681 : (Jvm.Cond.laysStatic "jdk/internal/util/ArraysSupport" "LOG2_ARRAY_LONG_INDEX_SCALE" "I") ∈ lw_tbl := lw_at lw_m3 59 rfl
theorem q682 : (Jvm.Cond.fieldLink "jdk/internal/util/ArraysSupport" (26 : Nat) "jdk/internal/util/ArraysSupport" "U" "Ljdk/internal/misc/Unsafe;") ∈ lw_all := lw_g (lw_at lw_m3 60 rfl) rfl
theorem q683 : (Jvm.Cond.laysStatic "jdk/internal/util/ArraysSupport" "U" "Ljdk/internal/misc/Unsafe;") ∈ lw_tbl := lw_at lw_m3 61 rfl
theorem q684 : (Jvm.Cond.methodLink "jdk/internal/util/ArraysSupport" (30 : Nat) ({ cls := "jdk/internal/misc/Unsafe", name := "getLongUnaligned", desc := "(Ljava/lang/Object;J)J" } : Jvm.MethodName)) ∈ lw_all := lw_g (lw_at lw_m3 62 rfl) rfl
theorem q736 : (Jvm.Cond.fieldLink "jdk/internal/util/ArraysSupport" (36 : Nat) "jdk/internal/util/ArraysSupport" "BIG_ENDIAN" "Z") ∈ lw_all := lw_g (lw_at lw_m3 114 rfl) rfl
theorem q737 : (Jvm.Cond.laysStatic "jdk/internal/util/ArraysSupport" "BIG_ENDIAN" "Z") ∈ lw_tbl := lw_at lw_m3 115 rfl
theorem q738 : (Jvm.Cond.methodLink "jdk/internal/util/ArraysSupport" (40 : Nat) ({ cls := "java/lang/Long", name := "numberOfLeadingZeros", desc := "(J)I" } : Jvm.MethodName)) ∈ lw_all := lw_g (lw_at lw_m3 116 rfl) rfl
theorem q745 : (Jvm.Cond.fieldLink "jdk/internal/util/ArraysSupport" (46 : Nat) "jdk/internal/util/ArraysSupport" "LOG2_BYTE_BIT_SIZE" "I") ∈ lw_all := lw_g (lw_at lw_m3 123 rfl) rfl
theorem q746 : (Jvm.Cond.laysStatic "jdk/internal/util/ArraysSupport" "LOG2_BYTE_BIT_SIZE" "I") ∈ lw_tbl := lw_at lw_m3 124 rfl
theorem q747 : (Jvm.Cond.methodLink "jdk/internal/util/ArraysSupport" (49 : Nat) ({ cls := "java/lang/Long", name := "numberOfTrailingZeros", desc := "(J)I" } : Jvm.MethodName)) ∈ lw_all := lw_g (lw_at lw_m3 125 rfl) rfl
theorem q753 : (Jvm.Cond.fieldLink "jdk/internal/util/ArraysSupport" (51 : Nat) "jdk/internal/util/ArraysSupport" "LOG2_ARRAY_INT_INDEX_SCALE" "I") ∈ lw_all := lw_g (lw_at lw_m3 131 rfl) rfl
theorem q754 : (Jvm.Cond.laysStatic "jdk/internal/util/ArraysSupport" "LOG2_ARRAY_INT_INDEX_SCALE" "I") ∈ lw_tbl := lw_at lw_m3 132 rfl
theorem q755 : (Jvm.Cond.methodLink "jdk/internal/util/ArraysSupport" (54 : Nat) ({ cls := "jdk/internal/misc/Unsafe", name := "getIntUnaligned", desc := "(Ljava/lang/Object;J)I" } : Jvm.MethodName)) ∈ lw_all := lw_g (lw_at lw_m3 133 rfl) rfl
theorem q772 : (Jvm.Cond.methodLink "jdk/internal/util/ArraysSupport" (58 : Nat) ({ cls := "java/lang/Integer", name := "numberOfLeadingZeros", desc := "(I)I" } : Jvm.MethodName)) ∈ lw_all := lw_g (lw_at lw_m3 150 rfl) rfl
theorem q773 : (Jvm.Cond.methodLink "jdk/internal/util/ArraysSupport" (11 : Nat) ({ cls := "java/lang/Integer", name := "numberOfTrailingZeros", desc := "(I)I" } : Jvm.MethodName)) ∈ lw_all := lw_g (lw_at lw_m3 151 rfl) rfl
theorem q143 : (Jvm.Cond.initialized "UnreadSigns") ∈ lw_all := lw_g (lw_at lw_m1 1 rfl) rfl
theorem q192 : (Jvm.Cond.instantiable "UnreadSigns" (31 : Nat)) ∈ lw_all := lw_g (lw_at lw_m1 50 rfl) rfl
theorem q194 : (Jvm.Cond.instanceMethod ({ cls := "UnreadSigns", name := "<init>", desc := "()V" } : Jvm.MethodName)) ∈ lw_all := lw_g (lw_at lw_m1 52 rfl) rfl
theorem q195 : (Jvm.Cond.code ({ cls := "UnreadSigns", name := "<init>", desc := "()V" } : Jvm.MethodName) prog_1_method_1_code (1 : Nat) (Option.none : Option Jvm.ClassFile.FieldType)) ∈ lw_all := lw_g (lw_at lw_m1 53 rfl) rfl
theorem q196 : (Jvm.Cond.methodLink "UnreadSigns" (1 : Nat) ({ cls := "java/lang/Object", name := "<init>", desc := "()V" } : Jvm.MethodName)) ∈ lw_all := lw_g (lw_at lw_m1 54 rfl) rfl
theorem q199 : (Jvm.Cond.classLink "UnreadSigns" (13 : Nat) "UnreadSigns$Told") ∈ lw_all := lw_g (lw_at lw_m1 57 rfl) rfl
theorem q201 : (Jvm.Cond.methodLink "UnreadSigns" (15 : Nat) ({ cls := "UnreadSigns$Told", name := "<init>", desc := "()V" } : Jvm.MethodName)) ∈ lw_all := lw_g (lw_at lw_m1 59 rfl) rfl
theorem q210 : (Jvm.Cond.fieldLinkNest "UnreadSigns" (134 : Nat) "UnreadSigns$Told" "forms" "I" "UnreadSigns") ∈ lw_tbl := lw_at lw_m1 68 rfl
theorem q211 : (Jvm.Cond.fieldLinkNest "UnreadSigns" (136 : Nat) "UnreadSigns$Told" "stones" "I" "UnreadSigns") ∈ lw_tbl := lw_at lw_m1 69 rfl
theorem q212 : (Jvm.Cond.fieldLinkNest "UnreadSigns" (389 : Nat) "UnreadSigns$Told" "clues" "I" "UnreadSigns") ∈ lw_tbl := lw_at lw_m1 70 rfl
theorem q214 : (Jvm.Cond.fieldLinkNest "UnreadSigns" (230 : Nat) "UnreadSigns$Told" "loose" "I" "UnreadSigns") ∈ lw_tbl := lw_at lw_m1 72 rfl
theorem q216 : (Jvm.Cond.fieldLinkNest "UnreadSigns" (248 : Nat) "UnreadSigns$Told" "way" "I" "UnreadSigns") ∈ lw_tbl := lw_at lw_m1 74 rfl
theorem q218 : (Jvm.Cond.fieldLinkNest "UnreadSigns" (315 : Nat) "UnreadSigns$Told" "rise" "I" "UnreadSigns") ∈ lw_tbl := lw_at lw_m1 76 rfl
theorem q221 : (Jvm.Cond.fieldLinkNest "UnreadSigns" (190 : Nat) "UnreadSigns$Told" "form" "[I" "UnreadSigns") ∈ lw_tbl := lw_at lw_m1 79 rfl
theorem q223 : (Jvm.Cond.fieldLinkNest "UnreadSigns" (139 : Nat) "UnreadSigns$Told" "stone" "[LUnreadSigns$Stone;" "UnreadSigns") ∈ lw_tbl := lw_at lw_m1 81 rfl
theorem q225 : (Jvm.Cond.fieldLinkNest "UnreadSigns" (227 : Nat) "UnreadSigns$Told" "alike" "[I" "UnreadSigns") ∈ lw_tbl := lw_at lw_m1 83 rfl
theorem q227 : (Jvm.Cond.fieldLinkNest "UnreadSigns" (233 : Nat) "UnreadSigns$Told" "apart" "[I" "UnreadSigns") ∈ lw_tbl := lw_at lw_m1 85 rfl
theorem q229 : (Jvm.Cond.fieldLinkNest "UnreadSigns" (392 : Nat) "UnreadSigns$Told" "clue" "[LUnreadSigns$Clue;" "UnreadSigns") ∈ lw_tbl := lw_at lw_m1 87 rfl
theorem q231 : (Jvm.Cond.fieldLinkNest "UnreadSigns" (410 : Nat) "UnreadSigns$Told" "guess" "[I" "UnreadSigns") ∈ lw_tbl := lw_at lw_m1 89 rfl
theorem q259 : (Jvm.Cond.classLink "UnreadSigns" (20 : Nat) "[I") ∈ lw_all := lw_g (lw_at lw_m1 117 rfl) rfl
theorem q261 : (Jvm.Cond.classLink "UnreadSigns" (26 : Nat) "[[I") ∈ lw_all := lw_g (lw_at lw_m1 119 rfl) rfl
theorem q262 : (Jvm.Cond.classLink "UnreadSigns" (30 : Nat) "UnreadSigns$Two") ∈ lw_all := lw_g (lw_at lw_m1 120 rfl) rfl
theorem q264 : (Jvm.Cond.classLink "UnreadSigns" (45 : Nat) "[[Ljava/lang/String;") ∈ lw_all := lw_g (lw_at lw_m1 122 rfl) rfl
theorem q267 : (Jvm.Cond.classLink "UnreadSigns" (53 : Nat) "java/util/TreeMap") ∈ lw_all := lw_g (lw_at lw_m1 125 rfl) rfl
theorem q269 : (Jvm.Cond.methodLink "UnreadSigns" (55 : Nat) ({ cls := "java/util/TreeMap", name := "<init>", desc := "()V" } : Jvm.MethodName)) ∈ lw_all := lw_g (lw_at lw_m1 127 rfl) rfl
theorem q303 : (Jvm.Cond.classLink "UnreadSigns" (63 : Nat) "UnreadSigns$Word") ∈ lw_all := lw_g (lw_at lw_m1 161 rfl) rfl
theorem q305 : (Jvm.Cond.classLink "UnreadSigns" (81 : Nat) "UnreadSigns$Act") ∈ lw_all := lw_g (lw_at lw_m1 163 rfl) rfl
theorem q307 : (Jvm.Cond.methodLink "UnreadSigns" (99 : Nat) ({ cls := "UnreadSigns", name := "follows", desc := "(I)V" } : Jvm.MethodName)) ∈ lw_all := lw_g (lw_at lw_m1 165 rfl) rfl
theorem q308 : (Jvm.Cond.privateMethod ({ cls := "UnreadSigns", name := "follows", desc := "(I)V" } : Jvm.MethodName)) ∈ lw_tbl := lw_at lw_m1 166 rfl
theorem q309 : (Jvm.Cond.instanceMethod ({ cls := "UnreadSigns", name := "follows", desc := "(I)V" } : Jvm.MethodName)) ∈ lw_all := lw_g (lw_at lw_m1 167 rfl) rfl
theorem q310 : (Jvm.Cond.code ({ cls := "UnreadSigns", name := "follows", desc := "(I)V" } : Jvm.MethodName) prog_1_method_41_code (2 : Nat) (Option.none : Option Jvm.ClassFile.FieldType)) ∈ lw_all := lw_g (lw_at lw_m1 168 rfl) rfl
theorem q311 : (Jvm.Cond.methodLink "UnreadSigns" (426 : Nat) ({ cls := "UnreadSigns", name := "laysSigns", desc := "()V" } : Jvm.MethodName)) ∈ lw_all := lw_g (lw_at lw_m1 169 rfl) rfl
theorem q312 : (Jvm.Cond.privateMethod ({ cls := "UnreadSigns", name := "laysSigns", desc := "()V" } : Jvm.MethodName)) ∈ lw_tbl := lw_at lw_m1 170 rfl
theorem q313 : (Jvm.Cond.instanceMethod ({ cls := "UnreadSigns", name := "laysSigns", desc := "()V" } : Jvm.MethodName)) ∈ lw_all := lw_g (lw_at lw_m1 171 rfl) rfl
theorem q314 : (Jvm.Cond.code ({ cls := "UnreadSigns", name := "laysSigns", desc := "()V" } : Jvm.MethodName) prog_1_method_20_code (3 : Nat) (Option.none : Option Jvm.ClassFile.FieldType)) ∈ lw_all := lw_g (lw_at lw_m1 172 rfl) rfl
theorem q315 : (Jvm.Cond.methodLink "UnreadSigns" (203 : Nat) ({ cls := "UnreadSigns", name := "parts", desc := "([I)V" } : Jvm.MethodName)) ∈ lw_all := lw_g (lw_at lw_m1 173 rfl) rfl
theorem q316 : (Jvm.Cond.static ({ cls := "UnreadSigns", name := "parts", desc := "([I)V" } : Jvm.MethodName)) ∈ lw_all := lw_g (lw_at lw_m1 174 rfl) rfl
theorem q317 : (Jvm.Cond.code ({ cls := "UnreadSigns", name := "parts", desc := "([I)V" } : Jvm.MethodName) prog_1_method_16_code (2 : Nat) (Option.none : Option Jvm.ClassFile.FieldType)) ∈ lw_all := lw_g (lw_at lw_m1 175 rfl) rfl
theorem q318 : (Jvm.Cond.methodLink "UnreadSigns" (152 : Nat) ({ cls := "UnreadSigns", name := "has", desc := "(II)Z" } : Jvm.MethodName)) ∈ lw_all := lw_g (lw_at lw_m1 176 rfl) rfl
theorem q319 : (Jvm.Cond.static ({ cls := "UnreadSigns", name := "has", desc := "(II)Z" } : Jvm.MethodName)) ∈ lw_all := lw_g (lw_at lw_m1 177 rfl) rfl
theorem q320 : (Jvm.Cond.code ({ cls := "UnreadSigns", name := "has", desc := "(II)Z" } : Jvm.MethodName) prog_1_method_3_code (2 : Nat) (Option.some Jvm.ClassFile.FieldType.boolean)) ∈ lw_all := lw_g (lw_at lw_m1 178 rfl) rfl
theorem q321 : (Jvm.Cond.methodLink "UnreadSigns" (220 : Nat) ({ cls := "UnreadSigns", name := "joins", desc := "([III)Z" } : Jvm.MethodName)) ∈ lw_all := lw_g (lw_at lw_m1 179 rfl) rfl
theorem q322 : (Jvm.Cond.static ({ cls := "UnreadSigns", name := "joins", desc := "([III)Z" } : Jvm.MethodName)) ∈ lw_all := lw_g (lw_at lw_m1 180 rfl) rfl
theorem q323 : (Jvm.Cond.code ({ cls := "UnreadSigns", name := "joins", desc := "([III)Z" } : Jvm.MethodName) prog_1_method_15_code (5 : Nat) (Option.some Jvm.ClassFile.FieldType.boolean)) ∈ lw_all := lw_g (lw_at lw_m1 181 rfl) rfl
theorem q324 : (Jvm.Cond.methodLink "UnreadSigns" (180 : Nat) ({ cls := "UnreadSigns", name := "root", desc := "([II)I" } : Jvm.MethodName)) ∈ lw_all := lw_g (lw_at lw_m1 182 rfl) rfl
theorem q325 : (Jvm.Cond.static ({ cls := "UnreadSigns", name := "root", desc := "([II)I" } : Jvm.MethodName)) ∈ lw_all := lw_g (lw_at lw_m1 183 rfl) rfl
theorem q326 : (Jvm.Cond.code ({ cls := "UnreadSigns", name := "root", desc := "([II)I" } : Jvm.MethodName) prog_1_method_14_code (2 : Nat) (Option.some Jvm.ClassFile.FieldType.int)) ∈ lw_all := lw_g (lw_at lw_m1 184 rfl) rfl
theorem q327 : (Jvm.Cond.methodLink "UnreadSigns" (184 : Nat) ({ cls := "java/lang/Math", name := "max", desc := "(II)I" } : Jvm.MethodName)) ∈ lw_all := lw_g (lw_at lw_m1 185 rfl) rfl
theorem q330 : (Jvm.Cond.methodLink "UnreadSigns" (167 : Nat) ({ cls := "java/lang/Math", name := "min", desc := "(II)I" } : Jvm.MethodName)) ∈ lw_all := lw_g (lw_at lw_m1 188 rfl) rfl
theorem q333 : (Jvm.Cond.methodLink "UnreadSigns" (429 : Nat) ({ cls := "UnreadSigns", name := "judges", desc := "()V" } : Jvm.MethodName)) ∈ lw_all := lw_g (lw_at lw_m1 191 rfl) rfl
theorem q334 : (Jvm.Cond.privateMethod ({ cls := "UnreadSigns", name := "judges", desc := "()V" } : Jvm.MethodName)) ∈ lw_tbl := lw_at lw_m1 192 rfl
theorem q335 : (Jvm.Cond.instanceMethod ({ cls := "UnreadSigns", name := "judges", desc := "()V" } : Jvm.MethodName)) ∈ lw_all := lw_g (lw_at lw_m1 193 rfl) rfl
theorem q336 : (Jvm.Cond.code ({ cls := "UnreadSigns", name := "judges", desc := "()V" } : Jvm.MethodName) prog_1_method_21_code (8 : Nat) (Option.none : Option Jvm.ClassFile.FieldType)) ∈ lw_all := lw_g (lw_at lw_m1 194 rfl) rfl
theorem q337 : (Jvm.Cond.methodLink "UnreadSigns" (241 : Nat) ({ cls := "UnreadSigns$Stone", name := "end", desc := "(IZ)I" } : Jvm.MethodName)) ∈ lw_all := lw_g (lw_at lw_m1 195 rfl) rfl
theorem q345 : (Jvm.Cond.methodLink "UnreadSigns" (245 : Nat) ({ cls := "UnreadSigns$Stone", name := "empty", desc := "(IZ)I" } : Jvm.MethodName)) ∈ lw_all := lw_g (lw_at lw_m1 203 rfl) rfl
theorem q346 : (Jvm.Cond.methodLink "UnreadSigns" (162 : Nat) ({ cls := "java/lang/Integer", name := "bitCount", desc := "(I)I" } : Jvm.MethodName)) ∈ lw_all := lw_g (lw_at lw_m1 204 rfl) rfl
theorem q352 : (Jvm.Cond.methodLink "UnreadSigns" (432 : Nat) ({ cls := "UnreadSigns", name := "laysPieces", desc := "()V" } : Jvm.MethodName)) ∈ lw_all := lw_g (lw_at lw_m1 210 rfl) rfl
theorem q353 : (Jvm.Cond.privateMethod ({ cls := "UnreadSigns", name := "laysPieces", desc := "()V" } : Jvm.MethodName)) ∈ lw_tbl := lw_at lw_m1 211 rfl
theorem q354 : (Jvm.Cond.instanceMethod ({ cls := "UnreadSigns", name := "laysPieces", desc := "()V" } : Jvm.MethodName)) ∈ lw_all := lw_g (lw_at lw_m1 212 rfl) rfl
theorem q355 : (Jvm.Cond.code ({ cls := "UnreadSigns", name := "laysPieces", desc := "()V" } : Jvm.MethodName) prog_1_method_28_code (3 : Nat) (Option.none : Option Jvm.ClassFile.FieldType)) ∈ lw_all := lw_g (lw_at lw_m1 213 rfl) rfl
theorem q356 : (Jvm.Cond.methodLink "UnreadSigns" (334 : Nat) ({ cls := "UnreadSigns", name := "isToLeft", desc := "(I)Z" } : Jvm.MethodName)) ∈ lw_all := lw_g (lw_at lw_m1 214 rfl) rfl
theorem q357 : (Jvm.Cond.privateMethod ({ cls := "UnreadSigns", name := "isToLeft", desc := "(I)Z" } : Jvm.MethodName)) ∈ lw_tbl := lw_at lw_m1 215 rfl
theorem q358 : (Jvm.Cond.instanceMethod ({ cls := "UnreadSigns", name := "isToLeft", desc := "(I)Z" } : Jvm.MethodName)) ∈ lw_all := lw_g (lw_at lw_m1 216 rfl) rfl
theorem q359 : (Jvm.Cond.code ({ cls := "UnreadSigns", name := "isToLeft", desc := "(I)Z" } : Jvm.MethodName) prog_1_method_22_code (2 : Nat) (Option.some Jvm.ClassFile.FieldType.boolean)) ∈ lw_all := lw_g (lw_at lw_m1 217 rfl) rfl
theorem q360 : (Jvm.Cond.methodLink "UnreadSigns" (337 : Nat) ({ cls := "UnreadSigns", name := "reads", desc := "([IZ)Ljava/lang/String;" } : Jvm.MethodName)) ∈ lw_all := lw_g (lw_at lw_m1 218 rfl) rfl
theorem q361 : (Jvm.Cond.privateMethod ({ cls := "UnreadSigns", name := "reads", desc := "([IZ)Ljava/lang/String;" } : Jvm.MethodName)) ∈ lw_tbl := lw_at lw_m1 219 rfl
theorem q362 : (Jvm.Cond.instanceMethod ({ cls := "UnreadSigns", name := "reads", desc := "([IZ)Ljava/lang/String;" } : Jvm.MethodName)) ∈ lw_all := lw_g (lw_at lw_m1 220 rfl) rfl
theorem q363 : (Jvm.Cond.code ({ cls := "UnreadSigns", name := "reads", desc := "([IZ)Ljava/lang/String;" } : Jvm.MethodName) prog_1_method_23_code (6 : Nat) (Option.some (Jvm.ClassFile.FieldType.object "java/lang/String"))) ∈ lw_all := lw_g (lw_at lw_m1 221 rfl) rfl
theorem q364 : (Jvm.Cond.classLink "UnreadSigns" (251 : Nat) "java/lang/StringBuilder") ∈ lw_all := lw_g (lw_at lw_m1 222 rfl) rfl
theorem q366 : (Jvm.Cond.methodLink "UnreadSigns" (253 : Nat) ({ cls := "java/lang/StringBuilder", name := "<init>", desc := "()V" } : Jvm.MethodName)) ∈ lw_all := lw_g (lw_at lw_m1 224 rfl) rfl
theorem q395 : (Jvm.Cond.methodLink "UnreadSigns" (254 : Nat) ({ cls := "java/lang/StringBuilder", name := "append", desc := "(C)Ljava/lang/StringBuilder;" } : Jvm.MethodName)) ∈ lw_all := lw_g (lw_at lw_m2 13 rfl) rfl
theorem q486 : (Jvm.Cond.methodLink "UnreadSigns" (258 : Nat) ({ cls := "java/lang/StringBuilder", name := "toString", desc := "()Ljava/lang/String;" } : Jvm.MethodName)) ∈ lw_all := lw_g (lw_at lw_m2 104 rfl) rfl
theorem q547 : (Jvm.Cond.methodLink "UnreadSigns" (341 : Nat) ({ cls := "UnreadSigns", name := "takesPieces", desc := "(Ljava/lang/String;)V" } : Jvm.MethodName)) ∈ lw_all := lw_g (lw_at lw_m2 165 rfl) rfl
theorem q548 : (Jvm.Cond.privateMethod ({ cls := "UnreadSigns", name := "takesPieces", desc := "(Ljava/lang/String;)V" } : Jvm.MethodName)) ∈ lw_tbl := lw_at lw_m2 166 rfl
theorem q549 : (Jvm.Cond.instanceMethod ({ cls := "UnreadSigns", name := "takesPieces", desc := "(Ljava/lang/String;)V" } : Jvm.MethodName)) ∈ lw_all := lw_g (lw_at lw_m2 167 rfl) rfl
theorem q550 : (Jvm.Cond.code ({ cls := "UnreadSigns", name := "takesPieces", desc := "(Ljava/lang/String;)V" } : Jvm.MethodName) prog_1_method_24_code (6 : Nat) (Option.none : Option Jvm.ClassFile.FieldType)) ∈ lw_all := lw_g (lw_at lw_m2 168 rfl) rfl
theorem q551 : (Jvm.Cond.methodLink "UnreadSigns" (262 : Nat) ({ cls := "java/lang/String", name := "length", desc := "()I" } : Jvm.MethodName)) ∈ lw_all := lw_g (lw_at lw_m2 169 rfl) rfl
theorem q559 : (Jvm.Cond.methodLink "UnreadSigns" (268 : Nat) ({ cls := "java/lang/String", name := "substring", desc := "(II)Ljava/lang/String;" } : Jvm.MethodName)) ∈ lw_all := lw_g (lw_at lw_m2 177 rfl) rfl
theorem q592 : (Jvm.Cond.methodLink "UnreadSigns" (272 : Nat) ({ cls := "java/util/TreeMap", name := "containsKey", desc := "(Ljava/lang/Object;)Z" } : Jvm.MethodName)) ∈ lw_all := lw_g (lw_at lw_m2 210 rfl) rfl
theorem q831 : (Jvm.Cond.classLink "UnreadSigns" (275 : Nat) "UnreadSigns$Piece") ∈ lw_all := lw_g (lw_at lw_m3 209 rfl) rfl
theorem q833 : (Jvm.Cond.methodLinkNest "UnreadSigns" (277 : Nat) ({ cls := "UnreadSigns$Piece", name := "<init>", desc := "()V" } : Jvm.MethodName) "UnreadSigns") ∈ lw_tbl := lw_at lw_m3 211 rfl
theorem q858 : (Jvm.Cond.fieldLinkNest "UnreadSigns" (286 : Nat) "UnreadSigns$Piece" "comes" "I" "UnreadSigns") ∈ lw_tbl := lw_at lw_m3 236 rfl
theorem q860 : (Jvm.Cond.fieldLinkNest "UnreadSigns" (289 : Nat) "UnreadSigns$Piece" "ends" "Z" "UnreadSigns") ∈ lw_tbl := lw_at lw_m3 238 rfl
theorem q862 : (Jvm.Cond.fieldLinkNest "UnreadSigns" (293 : Nat) "UnreadSigns$Piece" "behind" "Ljava/util/TreeSet;" "UnreadSigns") ∈ lw_tbl := lw_at lw_m4 0 rfl
theorem q870 : (Jvm.Cond.methodLink "UnreadSigns" (278 : Nat) ({ cls := "java/util/TreeMap", name := "put", desc := "(Ljava/lang/Object;Ljava/lang/Object;)Ljava/lang/Object;" } : Jvm.MethodName)) ∈ lw_all := lw_g (lw_at lw_m4 8 rfl) rfl
theorem q948 : (Jvm.Cond.methodLink "UnreadSigns" (282 : Nat) ({ cls := "java/util/TreeMap", name := "get", desc := "(Ljava/lang/Object;)Ljava/lang/Object;" } : Jvm.MethodName)) ∈ lw_all := lw_g (lw_at lw_m4 86 rfl) rfl
theorem q952 : (Jvm.Cond.methodLink "UnreadSigns" (297 : Nat) ({ cls := "java/lang/String", name := "charAt", desc := "(I)C" } : Jvm.MethodName)) ∈ lw_all := lw_g (lw_at lw_m4 90 rfl) rfl
theorem q963 : (Jvm.Cond.methodLink "UnreadSigns" (301 : Nat) ({ cls := "java/lang/Integer", name := "valueOf", desc := "(I)Ljava/lang/Integer;" } : Jvm.MethodName)) ∈ lw_all := lw_g (lw_at lw_m4 101 rfl) rfl
theorem q982 : (Jvm.Cond.methodLink "UnreadSigns" (305 : Nat) ({ cls := "java/util/TreeSet", name := "add", desc := "(Ljava/lang/Object;)Z" } : Jvm.MethodName)) ∈ lw_all := lw_g (lw_at lw_m4 120 rfl) rfl
theorem q994 : (Jvm.Cond.methodLink "UnreadSigns" (435 : Nat) ({ cls := "UnreadSigns", name := "laysWords", desc := "()V" } : Jvm.MethodName)) ∈ lw_all := lw_g (lw_at lw_m4 132 rfl) rfl
theorem q995 : (Jvm.Cond.privateMethod ({ cls := "UnreadSigns", name := "laysWords", desc := "()V" } : Jvm.MethodName)) ∈ lw_tbl := lw_at lw_m4 133 rfl
theorem q996 : (Jvm.Cond.instanceMethod ({ cls := "UnreadSigns", name := "laysWords", desc := "()V" } : Jvm.MethodName)) ∈ lw_all := lw_g (lw_at lw_m4 134 rfl) rfl
theorem q997 : (Jvm.Cond.code ({ cls := "UnreadSigns", name := "laysWords", desc := "()V" } : Jvm.MethodName) prog_1_method_29_code (4 : Nat) (Option.none : Option Jvm.ClassFile.FieldType)) ∈ lw_all := lw_g (lw_at lw_m4 135 rfl) rfl
theorem q998 : (Jvm.Cond.methodLink "UnreadSigns" (344 : Nat) ({ cls := "UnreadSigns", name := "cuts", desc := "(Ljava/lang/String;)V" } : Jvm.MethodName)) ∈ lw_all := lw_g (lw_at lw_m4 136 rfl) rfl
theorem q999 : (Jvm.Cond.privateMethod ({ cls := "UnreadSigns", name := "cuts", desc := "(Ljava/lang/String;)V" } : Jvm.MethodName)) ∈ lw_tbl := lw_at lw_m4 137 rfl
theorem q1000 : (Jvm.Cond.instanceMethod ({ cls := "UnreadSigns", name := "cuts", desc := "(Ljava/lang/String;)V" } : Jvm.MethodName)) ∈ lw_all := lw_g (lw_at lw_m4 138 rfl) rfl
theorem q1001 : (Jvm.Cond.code ({ cls := "UnreadSigns", name := "cuts", desc := "(Ljava/lang/String;)V" } : Jvm.MethodName) prog_1_method_27_code (5 : Nat) (Option.none : Option Jvm.ClassFile.FieldType)) ∈ lw_all := lw_g (lw_at lw_m4 139 rfl) rfl
theorem q1002 : (Jvm.Cond.methodLink "UnreadSigns" (318 : Nat) ({ cls := "UnreadSigns", name := "isSeam", desc := "(Ljava/lang/String;)Z" } : Jvm.MethodName)) ∈ lw_all := lw_g (lw_at lw_m4 140 rfl) rfl
theorem q1003 : (Jvm.Cond.privateMethod ({ cls := "UnreadSigns", name := "isSeam", desc := "(Ljava/lang/String;)Z" } : Jvm.MethodName)) ∈ lw_tbl := lw_at lw_m4 141 rfl
theorem q1004 : (Jvm.Cond.instanceMethod ({ cls := "UnreadSigns", name := "isSeam", desc := "(Ljava/lang/String;)Z" } : Jvm.MethodName)) ∈ lw_all := lw_g (lw_at lw_m4 142 rfl) rfl
theorem q1005 : (Jvm.Cond.code ({ cls := "UnreadSigns", name := "isSeam", desc := "(Ljava/lang/String;)Z" } : Jvm.MethodName) prog_1_method_26_code (3 : Nat) (Option.some Jvm.ClassFile.FieldType.boolean)) ∈ lw_all := lw_g (lw_at lw_m4 143 rfl) rfl
theorem q1006 : (Jvm.Cond.methodLink "UnreadSigns" (311 : Nat) ({ cls := "UnreadSigns", name := "nextOf", desc := "(Ljava/lang/String;)I" } : Jvm.MethodName)) ∈ lw_all := lw_g (lw_at lw_m4 144 rfl) rfl
theorem q1007 : (Jvm.Cond.privateMethod ({ cls := "UnreadSigns", name := "nextOf", desc := "(Ljava/lang/String;)I" } : Jvm.MethodName)) ∈ lw_tbl := lw_at lw_m4 145 rfl
theorem q1008 : (Jvm.Cond.instanceMethod ({ cls := "UnreadSigns", name := "nextOf", desc := "(Ljava/lang/String;)I" } : Jvm.MethodName)) ∈ lw_all := lw_g (lw_at lw_m4 146 rfl) rfl
theorem q1009 : (Jvm.Cond.code ({ cls := "UnreadSigns", name := "nextOf", desc := "(Ljava/lang/String;)I" } : Jvm.MethodName) prog_1_method_25_code (3 : Nat) (Option.some Jvm.ClassFile.FieldType.int)) ∈ lw_all := lw_g (lw_at lw_m4 147 rfl) rfl
theorem q1010 : (Jvm.Cond.methodLink "UnreadSigns" (308 : Nat) ({ cls := "UnreadSigns$Piece", name := "next", desc := "()I" } : Jvm.MethodName)) ∈ lw_all := lw_g (lw_at lw_m4 148 rfl) rfl
theorem q1026 : (Jvm.Cond.methodLink "UnreadSigns" (322 : Nat) ({ cls := "UnreadSigns$Word", name := "<init>", desc := "(Ljava/lang/String;)V" } : Jvm.MethodName)) ∈ lw_all := lw_g (lw_at lw_m4 164 rfl) rfl
theorem q1031 : (Jvm.Cond.fieldLinkNest "UnreadSigns" (371 : Nat) "UnreadSigns$Word" "of" "Ljava/lang/String;" "UnreadSigns") ∈ lw_tbl := lw_at lw_m4 169 rfl
theorem q1033 : (Jvm.Cond.fieldLinkNest "UnreadSigns" (325 : Nat) "UnreadSigns$Word" "many" "I" "UnreadSigns") ∈ lw_tbl := lw_at lw_m4 171 rfl
theorem q1035 : (Jvm.Cond.fieldLinkNest "UnreadSigns" (368 : Nat) "UnreadSigns$Word" "number" "I" "UnreadSigns") ∈ lw_tbl := lw_at lw_m4 173 rfl
theorem q1043 : (Jvm.Cond.methodLink "UnreadSigns" (347 : Nat) ({ cls := "java/util/TreeMap", name := "size", desc := "()I" } : Jvm.MethodName)) ∈ lw_all := lw_g (lw_at lw_m4 181 rfl) rfl
theorem q1044 : (Jvm.Cond.methodLink "UnreadSigns" (350 : Nat) ({ cls := "java/util/TreeMap", name := "values", desc := "()Ljava/util/Collection;" } : Jvm.MethodName)) ∈ lw_all := lw_g (lw_at lw_m4 182 rfl) rfl
theorem q1058 : (Jvm.Cond.interfaceEntry "UnreadSigns" (354 : Nat)) ∈ lw_tbl := lw_at lw_m4 196 rfl
theorem q1059 : (Jvm.Cond.methodLink "UnreadSigns" (354 : Nat) ({ cls := "java/util/Collection", name := "iterator", desc := "()Ljava/util/Iterator;" } : Jvm.MethodName)) ∈ lw_all := lw_g (lw_at lw_m4 197 rfl) rfl
theorem q1185 : (Jvm.Cond.interfaceEntry "UnreadSigns" (360 : Nat)) ∈ lw_tbl := lw_at lw_m5 83 rfl
theorem q1186 : (Jvm.Cond.methodLink "UnreadSigns" (360 : Nat) ({ cls := "java/util/Iterator", name := "hasNext", desc := "()Z" } : Jvm.MethodName)) ∈ lw_all := lw_g (lw_at lw_m5 84 rfl) rfl
theorem q1208 : (Jvm.Cond.interfaceEntry "UnreadSigns" (366 : Nat)) ∈ lw_tbl := lw_at lw_m5 106 rfl
theorem q1209 : (Jvm.Cond.methodLink "UnreadSigns" (366 : Nat) ({ cls := "java/util/Iterator", name := "next", desc := "()Ljava/lang/Object;" } : Jvm.MethodName)) ∈ lw_all := lw_g (lw_at lw_m5 107 rfl) rfl
theorem q1253 : (Jvm.Cond.methodLink "UnreadSigns" (438 : Nat) ({ cls := "UnreadSigns", name := "laysGrid", desc := "()V" } : Jvm.MethodName)) ∈ lw_all := lw_g (lw_at lw_m5 151 rfl) rfl
theorem q1254 : (Jvm.Cond.privateMethod ({ cls := "UnreadSigns", name := "laysGrid", desc := "()V" } : Jvm.MethodName)) ∈ lw_tbl := lw_at lw_m5 152 rfl
theorem q1255 : (Jvm.Cond.instanceMethod ({ cls := "UnreadSigns", name := "laysGrid", desc := "()V" } : Jvm.MethodName)) ∈ lw_all := lw_g (lw_at lw_m5 153 rfl) rfl
theorem q1256 : (Jvm.Cond.code ({ cls := "UnreadSigns", name := "laysGrid", desc := "()V" } : Jvm.MethodName) prog_1_method_34_code (3 : Nat) (Option.none : Option Jvm.ClassFile.FieldType)) ∈ lw_all := lw_g (lw_at lw_m5 154 rfl) rfl
theorem q1257 : (Jvm.Cond.methodLink "UnreadSigns" (385 : Nat) ({ cls := "UnreadSigns", name := "cluesOf", desc := "(LUnreadSigns$Word;LUnreadSigns$Word;)V" } : Jvm.MethodName)) ∈ lw_all := lw_g (lw_at lw_m5 155 rfl) rfl
theorem q1258 : (Jvm.Cond.privateMethod ({ cls := "UnreadSigns", name := "cluesOf", desc := "(LUnreadSigns$Word;LUnreadSigns$Word;)V" } : Jvm.MethodName)) ∈ lw_tbl := lw_at lw_m5 156 rfl
theorem q1259 : (Jvm.Cond.instanceMethod ({ cls := "UnreadSigns", name := "cluesOf", desc := "(LUnreadSigns$Word;LUnreadSigns$Word;)V" } : Jvm.MethodName)) ∈ lw_all := lw_g (lw_at lw_m5 157 rfl) rfl
theorem q1260 : (Jvm.Cond.code ({ cls := "UnreadSigns", name := "cluesOf", desc := "(LUnreadSigns$Word;LUnreadSigns$Word;)V" } : Jvm.MethodName) prog_1_method_32_code (5 : Nat) (Option.none : Option Jvm.ClassFile.FieldType)) ∈ lw_all := lw_g (lw_at lw_m5 158 rfl) rfl
theorem q1261 : (Jvm.Cond.methodLink "UnreadSigns" (377 : Nat) ({ cls := "UnreadSigns", name := "onlyAt", desc := "(LUnreadSigns$Word;LUnreadSigns$Word;)I" } : Jvm.MethodName)) ∈ lw_all := lw_g (lw_at lw_m5 159 rfl) rfl
theorem q1262 : (Jvm.Cond.static ({ cls := "UnreadSigns", name := "onlyAt", desc := "(LUnreadSigns$Word;LUnreadSigns$Word;)I" } : Jvm.MethodName)) ∈ lw_all := lw_g (lw_at lw_m5 160 rfl) rfl
theorem q1263 : (Jvm.Cond.code ({ cls := "UnreadSigns", name := "onlyAt", desc := "(LUnreadSigns$Word;LUnreadSigns$Word;)I" } : Jvm.MethodName) prog_1_method_31_code (4 : Nat) (Option.some Jvm.ClassFile.FieldType.int)) ∈ lw_all := lw_g (lw_at lw_m5 161 rfl) rfl
theorem q1264 : (Jvm.Cond.methodLink "UnreadSigns" (374 : Nat) ({ cls := "UnreadSigns$Word", name := "sign", desc := "(I)I" } : Jvm.MethodName)) ∈ lw_all := lw_g (lw_at lw_m5 162 rfl) rfl
theorem q1269 : (Jvm.Cond.methodLink "UnreadSigns" (381 : Nat) ({ cls := "UnreadSigns", name := "links", desc := "([III)V" } : Jvm.MethodName)) ∈ lw_all := lw_g (lw_at lw_m5 167 rfl) rfl
theorem q1270 : (Jvm.Cond.static ({ cls := "UnreadSigns", name := "links", desc := "([III)V" } : Jvm.MethodName)) ∈ lw_all := lw_g (lw_at lw_m5 168 rfl) rfl
theorem q1271 : (Jvm.Cond.code ({ cls := "UnreadSigns", name := "links", desc := "([III)V" } : Jvm.MethodName) prog_1_method_30_code (3 : Nat) (Option.none : Option Jvm.ClassFile.FieldType)) ∈ lw_all := lw_g (lw_at lw_m5 169 rfl) rfl
theorem q1272 : (Jvm.Cond.methodLink "UnreadSigns" (403 : Nat) ({ cls := "UnreadSigns", name := "classes", desc := "([I[I)V" } : Jvm.MethodName)) ∈ lw_all := lw_g (lw_at lw_m5 170 rfl) rfl
theorem q1273 : (Jvm.Cond.privateMethod ({ cls := "UnreadSigns", name := "classes", desc := "([I[I)V" } : Jvm.MethodName)) ∈ lw_tbl := lw_at lw_m5 171 rfl
theorem q1274 : (Jvm.Cond.instanceMethod ({ cls := "UnreadSigns", name := "classes", desc := "([I[I)V" } : Jvm.MethodName)) ∈ lw_all := lw_g (lw_at lw_m5 172 rfl) rfl
theorem q1275 : (Jvm.Cond.code ({ cls := "UnreadSigns", name := "classes", desc := "([I[I)V" } : Jvm.MethodName) prog_1_method_33_code (5 : Nat) (Option.none : Option Jvm.ClassFile.FieldType)) ∈ lw_all := lw_g (lw_at lw_m5 173 rfl) rfl
theorem q1276 : (Jvm.Cond.methodLink "UnreadSigns" (441 : Nat) ({ cls := "UnreadSigns", name := "laysKnown", desc := "()V" } : Jvm.MethodName)) ∈ lw_all := lw_g (lw_at lw_m5 174 rfl) rfl
theorem q1277 : (Jvm.Cond.privateMethod ({ cls := "UnreadSigns", name := "laysKnown", desc := "()V" } : Jvm.MethodName)) ∈ lw_tbl := lw_at lw_m5 175 rfl
theorem q1278 : (Jvm.Cond.instanceMethod ({ cls := "UnreadSigns", name := "laysKnown", desc := "()V" } : Jvm.MethodName)) ∈ lw_all := lw_g (lw_at lw_m5 176 rfl) rfl
theorem q1279 : (Jvm.Cond.code ({ cls := "UnreadSigns", name := "laysKnown", desc := "()V" } : Jvm.MethodName) prog_1_method_40_code (3 : Nat) (Option.none : Option Jvm.ClassFile.FieldType)) ∈ lw_all := lw_g (lw_at lw_m5 177 rfl) rfl
theorem q1280 : (Jvm.Cond.methodLink "UnreadSigns" (407 : Nat) ({ cls := "UnreadSigns", name := "isSign", desc := "(I)Z" } : Jvm.MethodName)) ∈ lw_all := lw_g (lw_at lw_m5 178 rfl) rfl
theorem q1281 : (Jvm.Cond.privateMethod ({ cls := "UnreadSigns", name := "isSign", desc := "(I)Z" } : Jvm.MethodName)) ∈ lw_tbl := lw_at lw_m5 179 rfl
theorem q1282 : (Jvm.Cond.instanceMethod ({ cls := "UnreadSigns", name := "isSign", desc := "(I)Z" } : Jvm.MethodName)) ∈ lw_all := lw_g (lw_at lw_m5 180 rfl) rfl
theorem q1283 : (Jvm.Cond.code ({ cls := "UnreadSigns", name := "isSign", desc := "(I)Z" } : Jvm.MethodName) prog_1_method_19_code (2 : Nat) (Option.some Jvm.ClassFile.FieldType.boolean)) ∈ lw_all := lw_g (lw_at lw_m5 181 rfl) rfl
theorem q1284 : (Jvm.Cond.methodLink "UnreadSigns" (223 : Nat) ({ cls := "UnreadSigns", name := "isForm", desc := "(I)Z" } : Jvm.MethodName)) ∈ lw_all := lw_g (lw_at lw_m5 182 rfl) rfl
theorem q1285 : (Jvm.Cond.privateMethod ({ cls := "UnreadSigns", name := "isForm", desc := "(I)Z" } : Jvm.MethodName)) ∈ lw_tbl := lw_at lw_m5 183 rfl
theorem q1286 : (Jvm.Cond.instanceMethod ({ cls := "UnreadSigns", name := "isForm", desc := "(I)Z" } : Jvm.MethodName)) ∈ lw_all := lw_g (lw_at lw_m5 184 rfl) rfl
theorem q1287 : (Jvm.Cond.code ({ cls := "UnreadSigns", name := "isForm", desc := "(I)Z" } : Jvm.MethodName) prog_1_method_18_code (2 : Nat) (Option.some Jvm.ClassFile.FieldType.boolean)) ∈ lw_all := lw_g (lw_at lw_m5 185 rfl) rfl
theorem q1288 : (Jvm.Cond.methodLink "UnreadSigns" (110 : Nat) ({ cls := "UnreadSigns", name := "in", desc := "(JJJ)Z" } : Jvm.MethodName)) ∈ lw_all := lw_g (lw_at lw_m5 186 rfl) rfl
theorem q1289 : (Jvm.Cond.static ({ cls := "UnreadSigns", name := "in", desc := "(JJJ)Z" } : Jvm.MethodName)) ∈ lw_all := lw_g (lw_at lw_m5 187 rfl) rfl
theorem q1290 : (Jvm.Cond.code ({ cls := "UnreadSigns", name := "in", desc := "(JJJ)Z" } : Jvm.MethodName) prog_1_method_2_code (6 : Nat) (Option.some Jvm.ClassFile.FieldType.boolean)) ∈ lw_all := lw_g (lw_at lw_m5 188 rfl) rfl
theorem q1291 : (Jvm.Cond.methodLink "UnreadSigns" (416 : Nat) ({ cls := "UnreadSigns", name := "knows", desc := "([III[I)Z" } : Jvm.MethodName)) ∈ lw_all := lw_g (lw_at lw_m5 189 rfl) rfl
theorem q1292 : (Jvm.Cond.privateMethod ({ cls := "UnreadSigns", name := "knows", desc := "([III[I)Z" } : Jvm.MethodName)) ∈ lw_tbl := lw_at lw_m5 190 rfl
theorem q1293 : (Jvm.Cond.instanceMethod ({ cls := "UnreadSigns", name := "knows", desc := "([III[I)Z" } : Jvm.MethodName)) ∈ lw_all := lw_g (lw_at lw_m5 191 rfl) rfl
theorem q1294 : (Jvm.Cond.code ({ cls := "UnreadSigns", name := "knows", desc := "([III[I)Z" } : Jvm.MethodName) prog_1_method_37_code (9 : Nat) (Option.some Jvm.ClassFile.FieldType.boolean)) ∈ lw_all := lw_g (lw_at lw_m5 192 rfl) rfl
theorem q1295 : (Jvm.Cond.methodLink "UnreadSigns" (420 : Nat) ({ cls := "UnreadSigns", name := "signsBy", desc := "([II)I" } : Jvm.MethodName)) ∈ lw_all := lw_g (lw_at lw_m5 193 rfl) rfl
theorem q1296 : (Jvm.Cond.privateMethod ({ cls := "UnreadSigns", name := "signsBy", desc := "([II)I" } : Jvm.MethodName)) ∈ lw_tbl := lw_at lw_m5 194 rfl
theorem q1297 : (Jvm.Cond.instanceMethod ({ cls := "UnreadSigns", name := "signsBy", desc := "([II)I" } : Jvm.MethodName)) ∈ lw_all := lw_g (lw_at lw_m5 195 rfl) rfl
theorem q1298 : (Jvm.Cond.code ({ cls := "UnreadSigns", name := "signsBy", desc := "([II)I" } : Jvm.MethodName) prog_1_method_39_code (5 : Nat) (Option.some Jvm.ClassFile.FieldType.int)) ∈ lw_all := lw_g (lw_at lw_m5 196 rfl) rfl
theorem q1299 : (Jvm.Cond.methodLink "UnreadSigns" (423 : Nat) ({ cls := "UnreadSigns", name := "isKnown", desc := "(I)Z" } : Jvm.MethodName)) ∈ lw_all := lw_g (lw_at lw_m5 197 rfl) rfl
theorem q1300 : (Jvm.Cond.privateMethod ({ cls := "UnreadSigns", name := "isKnown", desc := "(I)Z" } : Jvm.MethodName)) ∈ lw_tbl := lw_at lw_m5 198 rfl
theorem q1301 : (Jvm.Cond.instanceMethod ({ cls := "UnreadSigns", name := "isKnown", desc := "(I)Z" } : Jvm.MethodName)) ∈ lw_all := lw_g (lw_at lw_m5 199 rfl) rfl
theorem q1302 : (Jvm.Cond.code ({ cls := "UnreadSigns", name := "isKnown", desc := "(I)Z" } : Jvm.MethodName) prog_1_method_38_code (2 : Nat) (Option.some Jvm.ClassFile.FieldType.boolean)) ∈ lw_all := lw_g (lw_at lw_m5 200 rfl) rfl
theorem q1303 : (Jvm.Cond.fieldLink "UnreadSigns" (9 : Nat) "UnreadSigns" "tape" "[B") ∈ lw_all := lw_g (lw_at lw_m5 201 rfl) rfl
theorem q1306 : (Jvm.Cond.fieldLink "UnreadSigns" (103 : Nat) "UnreadSigns" "taped" "I") ∈ lw_all := lw_g (lw_at lw_m5 204 rfl) rfl
theorem q1307 : (Jvm.Cond.fieldLink "UnreadSigns" (16 : Nat) "UnreadSigns" "told" "LUnreadSigns$Told;") ∈ lw_all := lw_g (lw_at lw_m5 205 rfl) rfl
theorem q1309 : (Jvm.Cond.fieldLink "UnreadSigns" (22 : Nat) "UnreadSigns" "name" "[[I") ∈ lw_all := lw_g (lw_at lw_m5 207 rfl) rfl
theorem q1311 : (Jvm.Cond.fieldLink "UnreadSigns" (146 : Nat) "UnreadSigns" "names" "I") ∈ lw_all := lw_g (lw_at lw_m5 209 rfl) rfl
theorem q1313 : (Jvm.Cond.fieldLink "UnreadSigns" (27 : Nat) "UnreadSigns" "unlike" "[[I") ∈ lw_all := lw_g (lw_at lw_m5 211 rfl) rfl
theorem q1314 : (Jvm.Cond.fieldLink "UnreadSigns" (32 : Nat) "UnreadSigns" "tree" "[LUnreadSigns$Two;") ∈ lw_all := lw_g (lw_at lw_m5 212 rfl) rfl
theorem q1315 : (Jvm.Cond.fieldLink "UnreadSigns" (207 : Nat) "UnreadSigns" "joins" "I") ∈ lw_all := lw_g (lw_at lw_m5 213 rfl) rfl
theorem q1316 : (Jvm.Cond.fieldLink "UnreadSigns" (36 : Nat) "UnreadSigns" "signOf" "[I") ∈ lw_all := lw_g (lw_at lw_m5 214 rfl) rfl
theorem q1317 : (Jvm.Cond.fieldLink "UnreadSigns" (39 : Nat) "UnreadSigns" "lineOf" "[I") ∈ lw_all := lw_g (lw_at lw_m5 215 rfl) rfl
theorem q1318 : (Jvm.Cond.fieldLink "UnreadSigns" (42 : Nat) "UnreadSigns" "fileOf" "[I") ∈ lw_all := lw_g (lw_at lw_m5 216 rfl) rfl
theorem q1319 : (Jvm.Cond.fieldLink "UnreadSigns" (47 : Nat) "UnreadSigns" "readAs" "[[Ljava/lang/String;") ∈ lw_all := lw_g (lw_at lw_m5 217 rfl) rfl
theorem q1320 : (Jvm.Cond.fieldLink "UnreadSigns" (50 : Nat) "UnreadSigns" "judged" "[I") ∈ lw_all := lw_g (lw_at lw_m5 218 rfl) rfl
theorem q1321 : (Jvm.Cond.fieldLink "UnreadSigns" (56 : Nat) "UnreadSigns" "pieces" "Ljava/util/TreeMap;") ∈ lw_all := lw_g (lw_at lw_m5 219 rfl) rfl
theorem q1322 : (Jvm.Cond.fieldLink "UnreadSigns" (60 : Nat) "UnreadSigns" "lexicon" "Ljava/util/TreeMap;") ∈ lw_all := lw_g (lw_at lw_m5 220 rfl) rfl
theorem q1323 : (Jvm.Cond.fieldLink "UnreadSigns" (65 : Nat) "UnreadSigns" "word" "[LUnreadSigns$Word;") ∈ lw_all := lw_g (lw_at lw_m5 221 rfl) rfl
theorem q1324 : (Jvm.Cond.fieldLink "UnreadSigns" (328 : Nat) "UnreadSigns" "wordsAll" "I") ∈ lw_all := lw_g (lw_at lw_m5 222 rfl) rfl
theorem q1325 : (Jvm.Cond.fieldLink "UnreadSigns" (69 : Nat) "UnreadSigns" "byLine" "[I") ∈ lw_all := lw_g (lw_at lw_m5 223 rfl) rfl
theorem q1326 : (Jvm.Cond.fieldLink "UnreadSigns" (72 : Nat) "UnreadSigns" "byFile" "[I") ∈ lw_all := lw_g (lw_at lw_m5 224 rfl) rfl
theorem q1327 : (Jvm.Cond.fieldLink "UnreadSigns" (75 : Nat) "UnreadSigns" "consonant" "[I") ∈ lw_all := lw_g (lw_at lw_m5 225 rfl) rfl
theorem q1328 : (Jvm.Cond.fieldLink "UnreadSigns" (78 : Nat) "UnreadSigns" "vowel" "[I") ∈ lw_all := lw_g (lw_at lw_m5 226 rfl) rfl
theorem q1329 : (Jvm.Cond.fieldLink "UnreadSigns" (413 : Nat) "UnreadSigns" "disputed" "I") ∈ lw_all := lw_g (lw_at lw_m5 227 rfl) rfl
theorem q1330 : (Jvm.Cond.fieldLink "UnreadSigns" (83 : Nat) "UnreadSigns" "act" "[LUnreadSigns$Act;") ∈ lw_all := lw_g (lw_at lw_m5 228 rfl) rfl
theorem q1331 : (Jvm.Cond.fieldLink "UnreadSigns" (128 : Nat) "UnreadSigns" "undone" "I") ∈ lw_all := lw_g (lw_at lw_m5 229 rfl) rfl
theorem q1332 : (Jvm.Cond.fieldLink "UnreadSigns" (87 : Nat) "UnreadSigns" "syllable" "[I") ∈ lw_all := lw_g (lw_at lw_m5 230 rfl) rfl
theorem q1333 : (Jvm.Cond.fieldLink "UnreadSigns" (90 : Nat) "UnreadSigns" "laid" "[I") ∈ lw_all := lw_g (lw_at lw_m5 231 rfl) rfl
theorem q1334 : (Jvm.Cond.fieldLink "UnreadSigns" (93 : Nat) "UnreadSigns" "wordOf" "[I") ∈ lw_all := lw_g (lw_at lw_m5 232 rfl) rfl
theorem q1335 : (Jvm.Cond.fieldLink "UnreadSigns" (96 : Nat) "UnreadSigns" "firstOf" "[I") ∈ lw_all := lw_g (lw_at lw_m5 233 rfl) rfl
theorem q1336 : (Jvm.Cond.fieldLink "UnreadSigns" (584 : Nat) "UnreadSigns" "wayMany" "I") ∈ lw_all := lw_g (lw_at lw_m5 234 rfl) rfl
theorem q1337 : (Jvm.Cond.fieldLink "UnreadSigns" (603 : Nat) "UnreadSigns" "x" "I") ∈ lw_all := lw_g (lw_at lw_m5 235 rfl) rfl
theorem q1338 : (Jvm.Cond.fieldLink "UnreadSigns" (606 : Nat) "UnreadSigns" "drawX" "J") ∈ lw_all := lw_g (lw_at lw_m5 236 rfl) rfl
theorem q1339 : (Jvm.Cond.laysFinal "UnreadSigns" "UnreadSigns" "tape" "[B") ∈ lw_all := lw_g (lw_at lw_m5 237 rfl) rfl
theorem q1340 : (Jvm.Cond.soleField "UnreadSigns" "tape") ∈ lw_all := lw_g (lw_at lw_m5 238 rfl) rfl
theorem q1341 : (Jvm.Cond.lays "UnreadSigns" "UnreadSigns" "taped" "I") ∈ lw_all := lw_g (lw_at lw_m5 239 rfl) rfl
theorem q1342 : (Jvm.Cond.soleField "UnreadSigns" "taped") ∈ lw_all := lw_g (lw_at lw_m6 0 rfl) rfl
theorem q1343 : (Jvm.Cond.lays "UnreadSigns" "UnreadSigns" "told" "LUnreadSigns$Told;") ∈ lw_all := lw_g (lw_at lw_m6 1 rfl) rfl
theorem q1344 : (Jvm.Cond.soleField "UnreadSigns" "told") ∈ lw_all := lw_g (lw_at lw_m6 2 rfl) rfl
theorem q1345 : (Jvm.Cond.laysFinal "UnreadSigns" "UnreadSigns" "name" "[[I") ∈ lw_all := lw_g (lw_at lw_m6 3 rfl) rfl
theorem q1346 : (Jvm.Cond.soleField "UnreadSigns" "name") ∈ lw_all := lw_g (lw_at lw_m6 4 rfl) rfl
theorem q1347 : (Jvm.Cond.lays "UnreadSigns" "UnreadSigns" "names" "I") ∈ lw_all := lw_g (lw_at lw_m6 5 rfl) rfl
theorem q1348 : (Jvm.Cond.soleField "UnreadSigns" "names") ∈ lw_all := lw_g (lw_at lw_m6 6 rfl) rfl
theorem q1349 : (Jvm.Cond.laysFinal "UnreadSigns" "UnreadSigns" "unlike" "[[I") ∈ lw_all := lw_g (lw_at lw_m6 7 rfl) rfl
theorem q1350 : (Jvm.Cond.soleField "UnreadSigns" "unlike") ∈ lw_all := lw_g (lw_at lw_m6 8 rfl) rfl
theorem q1351 : (Jvm.Cond.laysFinal "UnreadSigns" "UnreadSigns" "tree" "[LUnreadSigns$Two;") ∈ lw_all := lw_g (lw_at lw_m6 9 rfl) rfl
theorem q1352 : (Jvm.Cond.soleField "UnreadSigns" "tree") ∈ lw_all := lw_g (lw_at lw_m6 10 rfl) rfl
theorem q1353 : (Jvm.Cond.lays "UnreadSigns" "UnreadSigns" "joins" "I") ∈ lw_all := lw_g (lw_at lw_m6 11 rfl) rfl
theorem q1354 : (Jvm.Cond.soleField "UnreadSigns" "joins") ∈ lw_all := lw_g (lw_at lw_m6 12 rfl) rfl
theorem q1355 : (Jvm.Cond.laysFinal "UnreadSigns" "UnreadSigns" "signOf" "[I") ∈ lw_all := lw_g (lw_at lw_m6 13 rfl) rfl
theorem q1356 : (Jvm.Cond.soleField "UnreadSigns" "signOf") ∈ lw_all := lw_g (lw_at lw_m6 14 rfl) rfl
theorem q1357 : (Jvm.Cond.laysFinal "UnreadSigns" "UnreadSigns" "lineOf" "[I") ∈ lw_all := lw_g (lw_at lw_m6 15 rfl) rfl
theorem q1358 : (Jvm.Cond.soleField "UnreadSigns" "lineOf") ∈ lw_all := lw_g (lw_at lw_m6 16 rfl) rfl
theorem q1359 : (Jvm.Cond.laysFinal "UnreadSigns" "UnreadSigns" "fileOf" "[I") ∈ lw_all := lw_g (lw_at lw_m6 17 rfl) rfl
theorem q1360 : (Jvm.Cond.soleField "UnreadSigns" "fileOf") ∈ lw_all := lw_g (lw_at lw_m6 18 rfl) rfl
theorem q1361 : (Jvm.Cond.laysFinal "UnreadSigns" "UnreadSigns" "readAs" "[[Ljava/lang/String;") ∈ lw_all := lw_g (lw_at lw_m6 19 rfl) rfl
theorem q1362 : (Jvm.Cond.soleField "UnreadSigns" "readAs") ∈ lw_all := lw_g (lw_at lw_m6 20 rfl) rfl
theorem q1363 : (Jvm.Cond.laysFinal "UnreadSigns" "UnreadSigns" "judged" "[I") ∈ lw_all := lw_g (lw_at lw_m6 21 rfl) rfl
theorem q1364 : (Jvm.Cond.soleField "UnreadSigns" "judged") ∈ lw_all := lw_g (lw_at lw_m6 22 rfl) rfl
theorem q1365 : (Jvm.Cond.lays "UnreadSigns" "UnreadSigns" "pieces" "Ljava/util/TreeMap;") ∈ lw_all := lw_g (lw_at lw_m6 23 rfl) rfl
theorem q1366 : (Jvm.Cond.soleField "UnreadSigns" "pieces") ∈ lw_all := lw_g (lw_at lw_m6 24 rfl) rfl
theorem q1367 : (Jvm.Cond.lays "UnreadSigns" "UnreadSigns" "lexicon" "Ljava/util/TreeMap;") ∈ lw_all := lw_g (lw_at lw_m6 25 rfl) rfl
theorem q1368 : (Jvm.Cond.soleField "UnreadSigns" "lexicon") ∈ lw_all := lw_g (lw_at lw_m6 26 rfl) rfl
theorem q1369 : (Jvm.Cond.lays "UnreadSigns" "UnreadSigns" "word" "[LUnreadSigns$Word;") ∈ lw_all := lw_g (lw_at lw_m6 27 rfl) rfl
theorem q1370 : (Jvm.Cond.soleField "UnreadSigns" "word") ∈ lw_all := lw_g (lw_at lw_m6 28 rfl) rfl
theorem q1371 : (Jvm.Cond.lays "UnreadSigns" "UnreadSigns" "wordsAll" "I") ∈ lw_all := lw_g (lw_at lw_m6 29 rfl) rfl
theorem q1372 : (Jvm.Cond.soleField "UnreadSigns" "wordsAll") ∈ lw_all := lw_g (lw_at lw_m6 30 rfl) rfl
theorem q1373 : (Jvm.Cond.laysFinal "UnreadSigns" "UnreadSigns" "byLine" "[I") ∈ lw_all := lw_g (lw_at lw_m6 31 rfl) rfl
theorem q1374 : (Jvm.Cond.soleField "UnreadSigns" "byLine") ∈ lw_all := lw_g (lw_at lw_m6 32 rfl) rfl
theorem q1375 : (Jvm.Cond.laysFinal "UnreadSigns" "UnreadSigns" "byFile" "[I") ∈ lw_all := lw_g (lw_at lw_m6 33 rfl) rfl
theorem q1376 : (Jvm.Cond.soleField "UnreadSigns" "byFile") ∈ lw_all := lw_g (lw_at lw_m6 34 rfl) rfl
theorem q1377 : (Jvm.Cond.laysFinal "UnreadSigns" "UnreadSigns" "consonant" "[I") ∈ lw_all := lw_g (lw_at lw_m6 35 rfl) rfl
theorem q1378 : (Jvm.Cond.soleField "UnreadSigns" "consonant") ∈ lw_all := lw_g (lw_at lw_m6 36 rfl) rfl
theorem q1379 : (Jvm.Cond.laysFinal "UnreadSigns" "UnreadSigns" "vowel" "[I") ∈ lw_all := lw_g (lw_at lw_m6 37 rfl) rfl
theorem q1380 : (Jvm.Cond.soleField "UnreadSigns" "vowel") ∈ lw_all := lw_g (lw_at lw_m6 38 rfl) rfl
theorem q1381 : (Jvm.Cond.lays "UnreadSigns" "UnreadSigns" "disputed" "I") ∈ lw_all := lw_g (lw_at lw_m6 39 rfl) rfl
theorem q1382 : (Jvm.Cond.soleField "UnreadSigns" "disputed") ∈ lw_all := lw_g (lw_at lw_m6 40 rfl) rfl
theorem q1383 : (Jvm.Cond.laysFinal "UnreadSigns" "UnreadSigns" "act" "[LUnreadSigns$Act;") ∈ lw_all := lw_g (lw_at lw_m6 41 rfl) rfl
theorem q1384 : (Jvm.Cond.soleField "UnreadSigns" "act") ∈ lw_all := lw_g (lw_at lw_m6 42 rfl) rfl
theorem q1385 : (Jvm.Cond.lays "UnreadSigns" "UnreadSigns" "undone" "I") ∈ lw_all := lw_g (lw_at lw_m6 43 rfl) rfl
theorem q1386 : (Jvm.Cond.soleField "UnreadSigns" "undone") ∈ lw_all := lw_g (lw_at lw_m6 44 rfl) rfl
theorem q1387 : (Jvm.Cond.laysFinal "UnreadSigns" "UnreadSigns" "syllable" "[I") ∈ lw_all := lw_g (lw_at lw_m6 45 rfl) rfl
theorem q1388 : (Jvm.Cond.soleField "UnreadSigns" "syllable") ∈ lw_all := lw_g (lw_at lw_m6 46 rfl) rfl
theorem q1389 : (Jvm.Cond.laysFinal "UnreadSigns" "UnreadSigns" "laid" "[I") ∈ lw_all := lw_g (lw_at lw_m6 47 rfl) rfl
theorem q1390 : (Jvm.Cond.soleField "UnreadSigns" "laid") ∈ lw_all := lw_g (lw_at lw_m6 48 rfl) rfl
theorem q1391 : (Jvm.Cond.laysFinal "UnreadSigns" "UnreadSigns" "wordOf" "[I") ∈ lw_all := lw_g (lw_at lw_m6 49 rfl) rfl
theorem q1392 : (Jvm.Cond.soleField "UnreadSigns" "wordOf") ∈ lw_all := lw_g (lw_at lw_m6 50 rfl) rfl
theorem q1393 : (Jvm.Cond.laysFinal "UnreadSigns" "UnreadSigns" "firstOf" "[I") ∈ lw_all := lw_g (lw_at lw_m6 51 rfl) rfl
theorem q1394 : (Jvm.Cond.soleField "UnreadSigns" "firstOf") ∈ lw_all := lw_g (lw_at lw_m6 52 rfl) rfl
theorem q1395 : (Jvm.Cond.lays "UnreadSigns" "UnreadSigns" "wayMany" "I") ∈ lw_all := lw_g (lw_at lw_m6 53 rfl) rfl
theorem q1396 : (Jvm.Cond.soleField "UnreadSigns" "wayMany") ∈ lw_all := lw_g (lw_at lw_m6 54 rfl) rfl
theorem q1397 : (Jvm.Cond.lays "UnreadSigns" "UnreadSigns" "x" "I") ∈ lw_all := lw_g (lw_at lw_m6 55 rfl) rfl
theorem q1398 : (Jvm.Cond.soleField "UnreadSigns" "x") ∈ lw_all := lw_g (lw_at lw_m6 56 rfl) rfl
theorem q1399 : (Jvm.Cond.lays "UnreadSigns" "UnreadSigns" "drawX" "J") ∈ lw_all := lw_g (lw_at lw_m6 57 rfl) rfl
theorem q1400 : (Jvm.Cond.soleField "UnreadSigns" "drawX") ∈ lw_all := lw_g (lw_at lw_m6 58 rfl) rfl
theorem q1401 : (Jvm.Cond.superclass "UnreadSigns" "java/lang/Object") ∈ lw_all := lw_g (lw_at lw_m6 59 rfl) rfl
theorem q1403 : (Jvm.Cond.instanceMethod ({ cls := "UnreadSigns", name := "feed", desc := "(IIIII)I" } : Jvm.MethodName)) ∈ lw_all := lw_g (lw_at lw_m6 61 rfl) rfl
theorem q1404 : (Jvm.Cond.selects "UnreadSigns" ({ cls := "UnreadSigns", name := "feed", desc := "(IIIII)I" } : Jvm.MethodName) ({ cls := "UnreadSigns", name := "feed", desc := "(IIIII)I" } : Jvm.MethodName)) ∈ lw_all := lw_g (lw_at lw_m6 62 rfl) rfl
theorem q1405 : (Jvm.Cond.code ({ cls := "UnreadSigns", name := "feed", desc := "(IIIII)I" } : Jvm.MethodName) prog_1_method_5_code (6 : Nat) (Option.some Jvm.ClassFile.FieldType.int)) ∈ lw_all := lw_g (lw_at lw_m6 63 rfl) rfl
theorem q1406 : (Jvm.Cond.methodLink "UnreadSigns" (107 : Nat) ({ cls := "UnreadSigns", name := "lays", desc := "(I)V" } : Jvm.MethodName)) ∈ lw_all := lw_g (lw_at lw_m6 64 rfl) rfl
theorem q1407 : (Jvm.Cond.privateMethod ({ cls := "UnreadSigns", name := "lays", desc := "(I)V" } : Jvm.MethodName)) ∈ lw_tbl := lw_at lw_m6 65 rfl
theorem q1408 : (Jvm.Cond.instanceMethod ({ cls := "UnreadSigns", name := "lays", desc := "(I)V" } : Jvm.MethodName)) ∈ lw_all := lw_g (lw_at lw_m6 66 rfl) rfl
theorem q1409 : (Jvm.Cond.code ({ cls := "UnreadSigns", name := "lays", desc := "(I)V" } : Jvm.MethodName) prog_1_method_4_code (3 : Nat) (Option.none : Option Jvm.ClassFile.FieldType)) ∈ lw_all := lw_g (lw_at lw_m6 67 rfl) rfl
theorem q1411 : (Jvm.Cond.instanceMethod ({ cls := "UnreadSigns", name := "end", desc := "(I)I" } : Jvm.MethodName)) ∈ lw_all := lw_g (lw_at lw_m6 69 rfl) rfl
theorem q1412 : (Jvm.Cond.selects "UnreadSigns" ({ cls := "UnreadSigns", name := "end", desc := "(I)I" } : Jvm.MethodName) ({ cls := "UnreadSigns", name := "end", desc := "(I)I" } : Jvm.MethodName)) ∈ lw_all := lw_g (lw_at lw_m6 70 rfl) rfl
theorem q1413 : (Jvm.Cond.code ({ cls := "UnreadSigns", name := "end", desc := "(I)I" } : Jvm.MethodName) prog_1_method_6_code (2 : Nat) (Option.some Jvm.ClassFile.FieldType.int)) ∈ lw_all := lw_g (lw_at lw_m6 71 rfl) rfl
theorem q1415 : (Jvm.Cond.instanceMethod ({ cls := "UnreadSigns", name := "forms", desc := "()I" } : Jvm.MethodName)) ∈ lw_all := lw_g (lw_at lw_m6 73 rfl) rfl
theorem q1416 : (Jvm.Cond.selects "UnreadSigns" ({ cls := "UnreadSigns", name := "forms", desc := "()I" } : Jvm.MethodName) ({ cls := "UnreadSigns", name := "forms", desc := "()I" } : Jvm.MethodName)) ∈ lw_all := lw_g (lw_at lw_m6 74 rfl) rfl
theorem q1417 : (Jvm.Cond.codeWith ({ cls := "UnreadSigns", name := "forms", desc := "()I" } : Jvm.MethodName) prog_1_method_8_code (4 : Nat) (Option.some Jvm.ClassFile.FieldType.int) [((0 : Nat), (15 : Nat), (23 : Nat), (123 : Nat)), ((0 : Nat), (15 : Nat), (39 : Nat), (0 : Nat)), ((23 : Nat), (32 : Nat), (39 : Nat), (0 : Nat))]) ∈ lw_all := lw_g (lw_at lw_m6 75 rfl) rfl
theorem q1418 : (Jvm.Cond.classLink "UnreadSigns" (123 : Nat) "UnreadSigns$Wrong") ∈ lw_all := lw_g (lw_at lw_m6 76 rfl) rfl
theorem q1419 : (Jvm.Cond.classLink "UnreadSigns" (114 : Nat) "UnreadSigns$Reader") ∈ lw_all := lw_g (lw_at lw_m6 77 rfl) rfl
theorem q1421 : (Jvm.Cond.methodLinkNest "UnreadSigns" (116 : Nat) ({ cls := "UnreadSigns$Reader", name := "<init>", desc := "(LUnreadSigns;)V" } : Jvm.MethodName) "UnreadSigns") ∈ lw_tbl := lw_at lw_m6 79 rfl
theorem q1432 : (Jvm.Cond.methodLink "UnreadSigns" (119 : Nat) ({ cls := "UnreadSigns$Reader", name := "forms", desc := "()LUnreadSigns$Told;" } : Jvm.MethodName)) ∈ lw_all := lw_g (lw_at lw_m6 90 rfl) rfl
theorem q1502 : (Jvm.Cond.fieldLinkNest "UnreadSigns" (125 : Nat) "UnreadSigns$Wrong" "fault" "I" "UnreadSigns") ∈ lw_tbl := lw_at lw_m6 160 rfl
theorem q1522 : (Jvm.Cond.methodLink "UnreadSigns" (131 : Nat) ({ cls := "UnreadSigns", name := "laysTree", desc := "()V" } : Jvm.MethodName)) ∈ lw_all := lw_g (lw_at lw_m6 180 rfl) rfl
theorem q1523 : (Jvm.Cond.privateMethod ({ cls := "UnreadSigns", name := "laysTree", desc := "()V" } : Jvm.MethodName)) ∈ lw_tbl := lw_at lw_m6 181 rfl
theorem q1524 : (Jvm.Cond.instanceMethod ({ cls := "UnreadSigns", name := "laysTree", desc := "()V" } : Jvm.MethodName)) ∈ lw_all := lw_g (lw_at lw_m6 182 rfl) rfl
theorem q1525 : (Jvm.Cond.code ({ cls := "UnreadSigns", name := "laysTree", desc := "()V" } : Jvm.MethodName) prog_1_method_17_code (5 : Nat) (Option.none : Option Jvm.ClassFile.FieldType)) ∈ lw_all := lw_g (lw_at lw_m6 183 rfl) rfl
theorem q1526 : (Jvm.Cond.classLink "UnreadSigns" (187 : Nat) "java/util/PriorityQueue") ∈ lw_all := lw_g (lw_at lw_m6 184 rfl) rfl
theorem q1528 : (Jvm.Cond.methodLink "UnreadSigns" (189 : Nat) ({ cls := "java/util/PriorityQueue", name := "<init>", desc := "()V" } : Jvm.MethodName)) ∈ lw_all := lw_g (lw_at lw_m6 186 rfl) rfl
theorem q1556 : (Jvm.Cond.methodLink "UnreadSigns" (193 : Nat) ({ cls := "UnreadSigns", name := "unlikeOf", desc := "(II)I" } : Jvm.MethodName)) ∈ lw_all := lw_g (lw_at lw_m6 214 rfl) rfl
theorem q1557 : (Jvm.Cond.static ({ cls := "UnreadSigns", name := "unlikeOf", desc := "(II)I" } : Jvm.MethodName)) ∈ lw_all := lw_g (lw_at lw_m6 215 rfl) rfl
theorem q1558 : (Jvm.Cond.code ({ cls := "UnreadSigns", name := "unlikeOf", desc := "(II)I" } : Jvm.MethodName) prog_1_method_13_code (7 : Nat) (Option.some Jvm.ClassFile.FieldType.int)) ∈ lw_all := lw_g (lw_at lw_m6 216 rfl) rfl
theorem q1559 : (Jvm.Cond.static ({ cls := "UnreadSigns", name := "lambda$unlikeOf$0", desc := "(III)I" } : Jvm.MethodName)) ∈ lw_all := lw_g (lw_at lw_m6 217 rfl) rfl
theorem q1560 : (Jvm.Cond.code ({ cls := "UnreadSigns", name := "lambda$unlikeOf$0", desc := "(III)I" } : Jvm.MethodName) prog_1_method_107_code (3 : Nat) (Option.some Jvm.ClassFile.FieldType.int)) ∈ lw_all := lw_g (lw_at lw_m6 218 rfl) rfl
theorem q1561 : (Jvm.Cond.methodLink "UnreadSigns" (639 : Nat) ({ cls := "UnreadSigns", name := "shifted", desc := "(III)I" } : Jvm.MethodName)) ∈ lw_all := lw_g (lw_at lw_m6 219 rfl) rfl
theorem q1562 : (Jvm.Cond.static ({ cls := "UnreadSigns", name := "shifted", desc := "(III)I" } : Jvm.MethodName)) ∈ lw_all := lw_g (lw_at lw_m6 220 rfl) rfl
theorem q1563 : (Jvm.Cond.code ({ cls := "UnreadSigns", name := "shifted", desc := "(III)I" } : Jvm.MethodName) prog_1_method_11_code (8 : Nat) (Option.some Jvm.ClassFile.FieldType.int)) ∈ lw_all := lw_g (lw_at lw_m6 221 rfl) rfl
theorem q1564 : (Jvm.Cond.methodLink "UnreadSigns" (176 : Nat) ({ cls := "UnreadSigns", name := "leastBy", desc := "(IILUnreadSigns$Shift;I)I" } : Jvm.MethodName)) ∈ lw_all := lw_g (lw_at lw_m6 222 rfl) rfl
theorem q1565 : (Jvm.Cond.static ({ cls := "UnreadSigns", name := "leastBy", desc := "(IILUnreadSigns$Shift;I)I" } : Jvm.MethodName)) ∈ lw_all := lw_g (lw_at lw_m6 223 rfl) rfl
theorem q1566 : (Jvm.Cond.code ({ cls := "UnreadSigns", name := "leastBy", desc := "(IILUnreadSigns$Shift;I)I" } : Jvm.MethodName) prog_1_method_12_code (4 : Nat) (Option.some Jvm.ClassFile.FieldType.int)) ∈ lw_all := lw_g (lw_at lw_m6 224 rfl) rfl
theorem q1567 : (Jvm.Cond.interfaceEntry "UnreadSigns" (156 : Nat)) ∈ lw_tbl := lw_at lw_m6 225 rfl
theorem q1568 : (Jvm.Cond.methodLink "UnreadSigns" (156 : Nat) ({ cls := "UnreadSigns$Shift", name := "of", desc := "(I)I" } : Jvm.MethodName)) ∈ lw_all := lw_g (lw_at lw_m6 226 rfl) rfl
theorem q1572 : (Jvm.Cond.methodLink "UnreadSigns" (196 : Nat) ({ cls := "UnreadSigns$Two", name := "<init>", desc := "(III)V" } : Jvm.MethodName)) ∈ lw_all := lw_g (lw_at lw_m6 230 rfl) rfl
theorem q1577 : (Jvm.Cond.fieldLinkNest "UnreadSigns" (214 : Nat) "UnreadSigns$Two" "one" "I" "UnreadSigns") ∈ lw_tbl := lw_at lw_m6 235 rfl
theorem q1579 : (Jvm.Cond.fieldLinkNest "UnreadSigns" (217 : Nat) "UnreadSigns$Two" "other" "I" "UnreadSigns") ∈ lw_tbl := lw_at lw_m6 237 rfl
theorem q1581 : (Jvm.Cond.fieldLinkNest "UnreadSigns" (444 : Nat) "UnreadSigns$Two" "unlike" "I" "UnreadSigns") ∈ lw_tbl := lw_at lw_m6 239 rfl
theorem q1589 : (Jvm.Cond.methodLink "UnreadSigns" (199 : Nat) ({ cls := "java/util/PriorityQueue", name := "add", desc := "(Ljava/lang/Object;)Z" } : Jvm.MethodName)) ∈ lw_all := lw_g (lw_at lw_m7 7 rfl) rfl
theorem q1608 : (Jvm.Cond.selects "UnreadSigns" ({ cls := "java/lang/Object", name := "getClass", desc := "()Ljava/lang/Class;" } : Jvm.MethodName) ({ cls := "java/lang/Object", name := "getClass", desc := "()Ljava/lang/Class;" } : Jvm.MethodName)) ∈ lw_all := lw_g (lw_at lw_m7 26 rfl) rfl
theorem q1655 : (Jvm.Cond.methodLink "UnreadSigns" (210 : Nat) ({ cls := "java/util/PriorityQueue", name := "poll", desc := "()Ljava/lang/Object;" } : Jvm.MethodName)) ∈ lw_all := lw_g (lw_at lw_m7 73 rfl) rfl
theorem q1666 : (Jvm.Cond.instanceMethod ({ cls := "UnreadSigns", name := "stone", desc := "()I" } : Jvm.MethodName)) ∈ lw_all := lw_g (lw_at lw_m7 84 rfl) rfl
theorem q1667 : (Jvm.Cond.selects "UnreadSigns" ({ cls := "UnreadSigns", name := "stone", desc := "()I" } : Jvm.MethodName) ({ cls := "UnreadSigns", name := "stone", desc := "()I" } : Jvm.MethodName)) ∈ lw_all := lw_g (lw_at lw_m7 85 rfl) rfl
theorem q1668 : (Jvm.Cond.codeWith ({ cls := "UnreadSigns", name := "stone", desc := "()I" } : Jvm.MethodName) prog_1_method_9_code (4 : Nat) (Option.some Jvm.ClassFile.FieldType.int) [((14 : Nat), (40 : Nat), (48 : Nat), (123 : Nat)), ((14 : Nat), (40 : Nat), (64 : Nat), (0 : Nat)), ((48 : Nat), (57 : Nat), (64 : Nat), (0 : Nat))]) ∈ lw_all := lw_g (lw_at lw_m7 86 rfl) rfl
theorem q1669 : (Jvm.Cond.methodLink "UnreadSigns" (143 : Nat) ({ cls := "UnreadSigns$Reader", name := "stone", desc := "()LUnreadSigns$Stone;" } : Jvm.MethodName)) ∈ lw_all := lw_g (lw_at lw_m7 87 rfl) rfl
theorem q1682 : (Jvm.Cond.fieldLinkNest "UnreadSigns" (331 : Nat) "UnreadSigns$Stone" "row" "[[I" "UnreadSigns") ∈ lw_tbl := lw_at lw_m7 100 rfl
theorem q1684 : (Jvm.Cond.fieldLinkNest "UnreadSigns" (236 : Nat) "UnreadSigns$Stone" "rows" "I" "UnreadSigns") ∈ lw_tbl := lw_at lw_m7 102 rfl
theorem q1702 : (Jvm.Cond.instanceMethod ({ cls := "UnreadSigns", name := "name", desc := "()I" } : Jvm.MethodName)) ∈ lw_all := lw_g (lw_at lw_m7 120 rfl) rfl
theorem q1703 : (Jvm.Cond.selects "UnreadSigns" ({ cls := "UnreadSigns", name := "name", desc := "()I" } : Jvm.MethodName) ({ cls := "UnreadSigns", name := "name", desc := "()I" } : Jvm.MethodName)) ∈ lw_all := lw_g (lw_at lw_m7 121 rfl) rfl
theorem q1704 : (Jvm.Cond.codeWith ({ cls := "UnreadSigns", name := "name", desc := "()I" } : Jvm.MethodName) prog_1_method_10_code (4 : Nat) (Option.some Jvm.ClassFile.FieldType.int) [((10 : Nat), (30 : Nat), (38 : Nat), (123 : Nat)), ((10 : Nat), (30 : Nat), (54 : Nat), (0 : Nat)), ((38 : Nat), (47 : Nat), (54 : Nat), (0 : Nat))]) ∈ lw_all := lw_g (lw_at lw_m7 122 rfl) rfl
theorem q1705 : (Jvm.Cond.methodLink "UnreadSigns" (149 : Nat) ({ cls := "UnreadSigns$Reader", name := "name", desc := "()[I" } : Jvm.MethodName)) ∈ lw_all := lw_g (lw_at lw_m7 123 rfl) rfl
theorem q1763 : (Jvm.Cond.static ({ cls := "UnreadSigns", name := "isLike", desc := "([I[I)Z" } : Jvm.MethodName)) ∈ lw_all := lw_g (lw_at lw_m7 181 rfl) rfl
theorem q1764 : (Jvm.Cond.code ({ cls := "UnreadSigns", name := "isLike", desc := "([I[I)Z" } : Jvm.MethodName) prog_1_method_7_code (4 : Nat) (Option.some Jvm.ClassFile.FieldType.boolean)) ∈ lw_all := lw_g (lw_at lw_m7 182 rfl) rfl
theorem q1766 : (Jvm.Cond.instanceMethod ({ cls := "UnreadSigns", name := "unlike", desc := "(II)I" } : Jvm.MethodName)) ∈ lw_all := lw_g (lw_at lw_m7 184 rfl) rfl
theorem q1767 : (Jvm.Cond.selects "UnreadSigns" ({ cls := "UnreadSigns", name := "unlike", desc := "(II)I" } : Jvm.MethodName) ({ cls := "UnreadSigns", name := "unlike", desc := "(II)I" } : Jvm.MethodName)) ∈ lw_all := lw_g (lw_at lw_m7 185 rfl) rfl
theorem q1768 : (Jvm.Cond.code ({ cls := "UnreadSigns", name := "unlike", desc := "(II)I" } : Jvm.MethodName) prog_1_method_42_code (3 : Nat) (Option.some Jvm.ClassFile.FieldType.int)) ∈ lw_all := lw_g (lw_at lw_m7 186 rfl) rfl
theorem q1770 : (Jvm.Cond.instanceMethod ({ cls := "UnreadSigns", name := "sign", desc := "(I)I" } : Jvm.MethodName)) ∈ lw_all := lw_g (lw_at lw_m7 188 rfl) rfl
theorem q1771 : (Jvm.Cond.selects "UnreadSigns" ({ cls := "UnreadSigns", name := "sign", desc := "(I)I" } : Jvm.MethodName) ({ cls := "UnreadSigns", name := "sign", desc := "(I)I" } : Jvm.MethodName)) ∈ lw_all := lw_g (lw_at lw_m7 189 rfl) rfl
theorem q1772 : (Jvm.Cond.code ({ cls := "UnreadSigns", name := "sign", desc := "(I)I" } : Jvm.MethodName) prog_1_method_43_code (2 : Nat) (Option.some Jvm.ClassFile.FieldType.int)) ∈ lw_all := lw_g (lw_at lw_m7 190 rfl) rfl
theorem q1774 : (Jvm.Cond.instanceMethod ({ cls := "UnreadSigns", name := "size", desc := "(I)I" } : Jvm.MethodName)) ∈ lw_all := lw_g (lw_at lw_m7 192 rfl) rfl
theorem q1775 : (Jvm.Cond.selects "UnreadSigns" ({ cls := "UnreadSigns", name := "size", desc := "(I)I" } : Jvm.MethodName) ({ cls := "UnreadSigns", name := "size", desc := "(I)I" } : Jvm.MethodName)) ∈ lw_all := lw_g (lw_at lw_m7 193 rfl) rfl
theorem q1776 : (Jvm.Cond.code ({ cls := "UnreadSigns", name := "size", desc := "(I)I" } : Jvm.MethodName) prog_1_method_44_code (4 : Nat) (Option.some Jvm.ClassFile.FieldType.int)) ∈ lw_all := lw_g (lw_at lw_m7 194 rfl) rfl
theorem q1778 : (Jvm.Cond.instanceMethod ({ cls := "UnreadSigns", name := "tree", desc := "(II)I" } : Jvm.MethodName)) ∈ lw_all := lw_g (lw_at lw_m7 196 rfl) rfl
theorem q1779 : (Jvm.Cond.selects "UnreadSigns" ({ cls := "UnreadSigns", name := "tree", desc := "(II)I" } : Jvm.MethodName) ({ cls := "UnreadSigns", name := "tree", desc := "(II)I" } : Jvm.MethodName)) ∈ lw_all := lw_g (lw_at lw_m7 197 rfl) rfl
theorem q1780 : (Jvm.Cond.code ({ cls := "UnreadSigns", name := "tree", desc := "(II)I" } : Jvm.MethodName) prog_1_method_45_code (3 : Nat) (Option.some Jvm.ClassFile.FieldType.int)) ∈ lw_all := lw_g (lw_at lw_m7 198 rfl) rfl
theorem q1782 : (Jvm.Cond.instanceMethod ({ cls := "UnreadSigns", name := "judged", desc := "(I)I" } : Jvm.MethodName)) ∈ lw_all := lw_g (lw_at lw_m7 200 rfl) rfl
theorem q1783 : (Jvm.Cond.selects "UnreadSigns" ({ cls := "UnreadSigns", name := "judged", desc := "(I)I" } : Jvm.MethodName) ({ cls := "UnreadSigns", name := "judged", desc := "(I)I" } : Jvm.MethodName)) ∈ lw_all := lw_g (lw_at lw_m7 201 rfl) rfl
theorem q1784 : (Jvm.Cond.code ({ cls := "UnreadSigns", name := "judged", desc := "(I)I" } : Jvm.MethodName) prog_1_method_46_code (2 : Nat) (Option.some Jvm.ClassFile.FieldType.int)) ∈ lw_all := lw_g (lw_at lw_m7 202 rfl) rfl
theorem q1785 : (Jvm.Cond.constantLong "UnreadSigns" (446 : Nat) (4 : Int64)) ∈ lw_all := lw_g (lw_at lw_m7 203 rfl) rfl
theorem q1787 : (Jvm.Cond.instanceMethod ({ cls := "UnreadSigns", name := "read", desc := "(III)I" } : Jvm.MethodName)) ∈ lw_all := lw_g (lw_at lw_m7 205 rfl) rfl
theorem q1788 : (Jvm.Cond.selects "UnreadSigns" ({ cls := "UnreadSigns", name := "read", desc := "(III)I" } : Jvm.MethodName) ({ cls := "UnreadSigns", name := "read", desc := "(III)I" } : Jvm.MethodName)) ∈ lw_all := lw_g (lw_at lw_m7 206 rfl) rfl
theorem q1789 : (Jvm.Cond.code ({ cls := "UnreadSigns", name := "read", desc := "(III)I" } : Jvm.MethodName) prog_1_method_47_code (5 : Nat) (Option.some Jvm.ClassFile.FieldType.int)) ∈ lw_all := lw_g (lw_at lw_m7 207 rfl) rfl
theorem q1791 : (Jvm.Cond.instanceMethod ({ cls := "UnreadSigns", name := "comes", desc := "()I" } : Jvm.MethodName)) ∈ lw_all := lw_g (lw_at lw_m7 209 rfl) rfl
theorem q1792 : (Jvm.Cond.selects "UnreadSigns" ({ cls := "UnreadSigns", name := "comes", desc := "()I" } : Jvm.MethodName) ({ cls := "UnreadSigns", name := "comes", desc := "()I" } : Jvm.MethodName)) ∈ lw_all := lw_g (lw_at lw_m7 210 rfl) rfl
theorem q1793 : (Jvm.Cond.code ({ cls := "UnreadSigns", name := "comes", desc := "()I" } : Jvm.MethodName) prog_1_method_49_code (3 : Nat) (Option.some Jvm.ClassFile.FieldType.int)) ∈ lw_all := lw_g (lw_at lw_m7 211 rfl) rfl
theorem q1794 : (Jvm.Cond.methodLink "UnreadSigns" (450 : Nat) ({ cls := "UnreadSigns", name := "pieceTold", desc := "()Ljava/lang/String;" } : Jvm.MethodName)) ∈ lw_all := lw_g (lw_at lw_m7 212 rfl) rfl
theorem q1795 : (Jvm.Cond.privateMethod ({ cls := "UnreadSigns", name := "pieceTold", desc := "()Ljava/lang/String;" } : Jvm.MethodName)) ∈ lw_tbl := lw_at lw_m7 213 rfl
theorem q1796 : (Jvm.Cond.instanceMethod ({ cls := "UnreadSigns", name := "pieceTold", desc := "()Ljava/lang/String;" } : Jvm.MethodName)) ∈ lw_all := lw_g (lw_at lw_m7 214 rfl) rfl
theorem q1797 : (Jvm.Cond.code ({ cls := "UnreadSigns", name := "pieceTold", desc := "()Ljava/lang/String;" } : Jvm.MethodName) prog_1_method_48_code (4 : Nat) (Option.some (Jvm.ClassFile.FieldType.object "java/lang/String"))) ∈ lw_all := lw_g (lw_at lw_m7 215 rfl) rfl
theorem q1798 : (Jvm.Cond.constantLong "UnreadSigns" (448 : Nat) (7 : Int64)) ∈ lw_all := lw_g (lw_at lw_m7 216 rfl) rfl
theorem q1800 : (Jvm.Cond.instanceMethod ({ cls := "UnreadSigns", name := "next", desc := "()I" } : Jvm.MethodName)) ∈ lw_all := lw_g (lw_at lw_m7 218 rfl) rfl
theorem q1801 : (Jvm.Cond.selects "UnreadSigns" ({ cls := "UnreadSigns", name := "next", desc := "()I" } : Jvm.MethodName) ({ cls := "UnreadSigns", name := "next", desc := "()I" } : Jvm.MethodName)) ∈ lw_all := lw_g (lw_at lw_m7 219 rfl) rfl
theorem q1802 : (Jvm.Cond.code ({ cls := "UnreadSigns", name := "next", desc := "()I" } : Jvm.MethodName) prog_1_method_50_code (2 : Nat) (Option.some Jvm.ClassFile.FieldType.int)) ∈ lw_all := lw_g (lw_at lw_m7 220 rfl) rfl
theorem q1804 : (Jvm.Cond.instanceMethod ({ cls := "UnreadSigns", name := "words", desc := "()I" } : Jvm.MethodName)) ∈ lw_all := lw_g (lw_at lw_m7 222 rfl) rfl
theorem q1805 : (Jvm.Cond.selects "UnreadSigns" ({ cls := "UnreadSigns", name := "words", desc := "()I" } : Jvm.MethodName) ({ cls := "UnreadSigns", name := "words", desc := "()I" } : Jvm.MethodName)) ∈ lw_all := lw_g (lw_at lw_m7 223 rfl) rfl
theorem q1806 : (Jvm.Cond.code ({ cls := "UnreadSigns", name := "words", desc := "()I" } : Jvm.MethodName) prog_1_method_51_code (1 : Nat) (Option.some Jvm.ClassFile.FieldType.int)) ∈ lw_all := lw_g (lw_at lw_m7 224 rfl) rfl
theorem q1808 : (Jvm.Cond.instanceMethod ({ cls := "UnreadSigns", name := "word", desc := "(II)I" } : Jvm.MethodName)) ∈ lw_all := lw_g (lw_at lw_m7 226 rfl) rfl
theorem q1809 : (Jvm.Cond.selects "UnreadSigns" ({ cls := "UnreadSigns", name := "word", desc := "(II)I" } : Jvm.MethodName) ({ cls := "UnreadSigns", name := "word", desc := "(II)I" } : Jvm.MethodName)) ∈ lw_all := lw_g (lw_at lw_m7 227 rfl) rfl
theorem q1810 : (Jvm.Cond.code ({ cls := "UnreadSigns", name := "word", desc := "(II)I" } : Jvm.MethodName) prog_1_method_53_code (4 : Nat) (Option.some Jvm.ClassFile.FieldType.int)) ∈ lw_all := lw_g (lw_at lw_m7 228 rfl) rfl
theorem q1811 : (Jvm.Cond.methodLink "UnreadSigns" (453 : Nat) ({ cls := "UnreadSigns", name := "isWord", desc := "(I)Z" } : Jvm.MethodName)) ∈ lw_all := lw_g (lw_at lw_m7 229 rfl) rfl
theorem q1812 : (Jvm.Cond.privateMethod ({ cls := "UnreadSigns", name := "isWord", desc := "(I)Z" } : Jvm.MethodName)) ∈ lw_tbl := lw_at lw_m7 230 rfl
theorem q1813 : (Jvm.Cond.instanceMethod ({ cls := "UnreadSigns", name := "isWord", desc := "(I)Z" } : Jvm.MethodName)) ∈ lw_all := lw_g (lw_at lw_m7 231 rfl) rfl
theorem q1814 : (Jvm.Cond.code ({ cls := "UnreadSigns", name := "isWord", desc := "(I)Z" } : Jvm.MethodName) prog_1_method_52_code (2 : Nat) (Option.some Jvm.ClassFile.FieldType.boolean)) ∈ lw_all := lw_g (lw_at lw_m7 232 rfl) rfl
theorem q1815 : (Jvm.Cond.constantLong "UnreadSigns" (456 : Nat) (8 : Int64)) ∈ lw_all := lw_g (lw_at lw_m7 233 rfl) rfl
theorem q1817 : (Jvm.Cond.instanceMethod ({ cls := "UnreadSigns", name := "rank", desc := "(I)I" } : Jvm.MethodName)) ∈ lw_all := lw_g (lw_at lw_m7 235 rfl) rfl
theorem q1818 : (Jvm.Cond.selects "UnreadSigns" ({ cls := "UnreadSigns", name := "rank", desc := "(I)I" } : Jvm.MethodName) ({ cls := "UnreadSigns", name := "rank", desc := "(I)I" } : Jvm.MethodName)) ∈ lw_all := lw_g (lw_at lw_m7 236 rfl) rfl
theorem q1819 : (Jvm.Cond.code ({ cls := "UnreadSigns", name := "rank", desc := "(I)I" } : Jvm.MethodName) prog_1_method_54_code (7 : Nat) (Option.some Jvm.ClassFile.FieldType.int)) ∈ lw_all := lw_g (lw_at lw_m7 237 rfl) rfl
theorem q1820 : (Jvm.Cond.classLink "UnreadSigns" (458 : Nat) "UnreadSigns$ByCount") ∈ lw_all := lw_g (lw_at lw_m7 238 rfl) rfl
theorem q1822 : (Jvm.Cond.methodLinkNest "UnreadSigns" (460 : Nat) ({ cls := "UnreadSigns$ByCount", name := "<init>", desc := "()V" } : Jvm.MethodName) "UnreadSigns") ∈ lw_tbl := lw_at lw_m8 0 rfl
theorem q1827 : (Jvm.Cond.methodLink "UnreadSigns" (461 : Nat) ({ cls := "java/util/PriorityQueue", name := "<init>", desc := "(ILjava/util/Comparator;)V" } : Jvm.MethodName)) ∈ lw_all := lw_g (lw_at lw_m8 5 rfl) rfl
theorem q1829 : (Jvm.Cond.instanceMethod ({ cls := "UnreadSigns", name := "stands", desc := "(II)I" } : Jvm.MethodName)) ∈ lw_all := lw_g (lw_at lw_m8 7 rfl) rfl
theorem q1830 : (Jvm.Cond.selects "UnreadSigns" ({ cls := "UnreadSigns", name := "stands", desc := "(II)I" } : Jvm.MethodName) ({ cls := "UnreadSigns", name := "stands", desc := "(II)I" } : Jvm.MethodName)) ∈ lw_all := lw_g (lw_at lw_m8 8 rfl) rfl
theorem q1831 : (Jvm.Cond.code ({ cls := "UnreadSigns", name := "stands", desc := "(II)I" } : Jvm.MethodName) prog_1_method_58_code (4 : Nat) (Option.some Jvm.ClassFile.FieldType.int)) ∈ lw_all := lw_g (lw_at lw_m8 9 rfl) rfl
theorem q1832 : (Jvm.Cond.methodLink "UnreadSigns" (467 : Nat) ({ cls := "UnreadSigns", name := "comesAs", desc := "(Ljava/lang/StringBuilder;)I" } : Jvm.MethodName)) ∈ lw_all := lw_g (lw_at lw_m8 10 rfl) rfl
theorem q1833 : (Jvm.Cond.privateMethod ({ cls := "UnreadSigns", name := "comesAs", desc := "(Ljava/lang/StringBuilder;)I" } : Jvm.MethodName)) ∈ lw_tbl := lw_at lw_m8 11 rfl
theorem q1834 : (Jvm.Cond.instanceMethod ({ cls := "UnreadSigns", name := "comesAs", desc := "(Ljava/lang/StringBuilder;)I" } : Jvm.MethodName)) ∈ lw_all := lw_g (lw_at lw_m8 12 rfl) rfl
theorem q1835 : (Jvm.Cond.code ({ cls := "UnreadSigns", name := "comesAs", desc := "(Ljava/lang/StringBuilder;)I" } : Jvm.MethodName) prog_1_method_57_code (3 : Nat) (Option.some Jvm.ClassFile.FieldType.int)) ∈ lw_all := lw_g (lw_at lw_m8 13 rfl) rfl
theorem q1836 : (Jvm.Cond.methodLink "UnreadSigns" (471 : Nat) ({ cls := "UnreadSigns", name := "atEnds", desc := "(IZ)I" } : Jvm.MethodName)) ∈ lw_all := lw_g (lw_at lw_m8 14 rfl) rfl
theorem q1837 : (Jvm.Cond.privateMethod ({ cls := "UnreadSigns", name := "atEnds", desc := "(IZ)I" } : Jvm.MethodName)) ∈ lw_tbl := lw_at lw_m8 15 rfl
theorem q1838 : (Jvm.Cond.instanceMethod ({ cls := "UnreadSigns", name := "atEnds", desc := "(IZ)I" } : Jvm.MethodName)) ∈ lw_all := lw_g (lw_at lw_m8 16 rfl) rfl
theorem q1839 : (Jvm.Cond.code ({ cls := "UnreadSigns", name := "atEnds", desc := "(IZ)I" } : Jvm.MethodName) prog_1_method_55_code (8 : Nat) (Option.some Jvm.ClassFile.FieldType.int)) ∈ lw_all := lw_g (lw_at lw_m8 17 rfl) rfl
theorem q1840 : (Jvm.Cond.methodLink "UnreadSigns" (474 : Nat) ({ cls := "UnreadSigns", name := "inWords", desc := "(I)I" } : Jvm.MethodName)) ∈ lw_all := lw_g (lw_at lw_m8 18 rfl) rfl
theorem q1841 : (Jvm.Cond.privateMethod ({ cls := "UnreadSigns", name := "inWords", desc := "(I)I" } : Jvm.MethodName)) ∈ lw_tbl := lw_at lw_m8 19 rfl
theorem q1842 : (Jvm.Cond.instanceMethod ({ cls := "UnreadSigns", name := "inWords", desc := "(I)I" } : Jvm.MethodName)) ∈ lw_all := lw_g (lw_at lw_m8 20 rfl) rfl
theorem q1843 : (Jvm.Cond.code ({ cls := "UnreadSigns", name := "inWords", desc := "(I)I" } : Jvm.MethodName) prog_1_method_56_code (7 : Nat) (Option.some Jvm.ClassFile.FieldType.int)) ∈ lw_all := lw_g (lw_at lw_m8 21 rfl) rfl
theorem q1844 : (Jvm.Cond.methodLink "UnreadSigns" (464 : Nat) ({ cls := "java/lang/String", name := "indexOf", desc := "(I)I" } : Jvm.MethodName)) ∈ lw_all := lw_g (lw_at lw_m8 22 rfl) rfl
theorem q1846 : (Jvm.Cond.instanceMethod ({ cls := "UnreadSigns", name := "ahead", desc := "(II)I" } : Jvm.MethodName)) ∈ lw_all := lw_g (lw_at lw_m8 24 rfl) rfl
theorem q1847 : (Jvm.Cond.selects "UnreadSigns" ({ cls := "UnreadSigns", name := "ahead", desc := "(II)I" } : Jvm.MethodName) ({ cls := "UnreadSigns", name := "ahead", desc := "(II)I" } : Jvm.MethodName)) ∈ lw_all := lw_g (lw_at lw_m8 25 rfl) rfl
theorem q1848 : (Jvm.Cond.code ({ cls := "UnreadSigns", name := "ahead", desc := "(II)I" } : Jvm.MethodName) prog_1_method_59_code (3 : Nat) (Option.some Jvm.ClassFile.FieldType.int)) ∈ lw_all := lw_g (lw_at lw_m8 26 rfl) rfl
theorem q1850 : (Jvm.Cond.instanceMethod ({ cls := "UnreadSigns", name := "stem", desc := "(II)I" } : Jvm.MethodName)) ∈ lw_all := lw_g (lw_at lw_m8 28 rfl) rfl
theorem q1851 : (Jvm.Cond.selects "UnreadSigns" ({ cls := "UnreadSigns", name := "stem", desc := "(II)I" } : Jvm.MethodName) ({ cls := "UnreadSigns", name := "stem", desc := "(II)I" } : Jvm.MethodName)) ∈ lw_all := lw_g (lw_at lw_m8 29 rfl) rfl
theorem q1852 : (Jvm.Cond.code ({ cls := "UnreadSigns", name := "stem", desc := "(II)I" } : Jvm.MethodName) prog_1_method_61_code (6 : Nat) (Option.some Jvm.ClassFile.FieldType.int)) ∈ lw_all := lw_g (lw_at lw_m8 30 rfl) rfl
theorem q1853 : (Jvm.Cond.methodLink "UnreadSigns" (483 : Nat) ({ cls := "UnreadSigns", name := "stemsNow", desc := "()Ljava/util/TreeMap;" } : Jvm.MethodName)) ∈ lw_all := lw_g (lw_at lw_m8 31 rfl) rfl
theorem q1854 : (Jvm.Cond.privateMethod ({ cls := "UnreadSigns", name := "stemsNow", desc := "()Ljava/util/TreeMap;" } : Jvm.MethodName)) ∈ lw_tbl := lw_at lw_m8 32 rfl
theorem q1855 : (Jvm.Cond.instanceMethod ({ cls := "UnreadSigns", name := "stemsNow", desc := "()Ljava/util/TreeMap;" } : Jvm.MethodName)) ∈ lw_all := lw_g (lw_at lw_m8 33 rfl) rfl
theorem q1856 : (Jvm.Cond.code ({ cls := "UnreadSigns", name := "stemsNow", desc := "()Ljava/util/TreeMap;" } : Jvm.MethodName) prog_1_method_60_code (8 : Nat) (Option.some (Jvm.ClassFile.FieldType.object "java/util/TreeMap"))) ∈ lw_all := lw_g (lw_at lw_m8 34 rfl) rfl
theorem q1857 : (Jvm.Cond.classLink "UnreadSigns" (477 : Nat) "UnreadSigns$Stem") ∈ lw_all := lw_g (lw_at lw_m8 35 rfl) rfl
theorem q1859 : (Jvm.Cond.methodLink "UnreadSigns" (479 : Nat) ({ cls := "UnreadSigns$Stem", name := "<init>", desc := "(Ljava/lang/String;)V" } : Jvm.MethodName)) ∈ lw_all := lw_g (lw_at lw_m8 37 rfl) rfl
theorem q1864 : (Jvm.Cond.fieldLinkNest "UnreadSigns" (487 : Nat) "UnreadSigns$Stem" "of" "Ljava/lang/String;" "UnreadSigns") ∈ lw_tbl := lw_at lw_m8 42 rfl
theorem q1865 : (Jvm.Cond.fieldLinkNest "UnreadSigns" (480 : Nat) "UnreadSigns$Stem" "endings" "I" "UnreadSigns") ∈ lw_tbl := lw_at lw_m8 43 rfl
theorem q1872 : (Jvm.Cond.instanceMethod ({ cls := "UnreadSigns", name := "clues", desc := "(Z)I" } : Jvm.MethodName)) ∈ lw_all := lw_g (lw_at lw_m8 50 rfl) rfl
theorem q1873 : (Jvm.Cond.selects "UnreadSigns" ({ cls := "UnreadSigns", name := "clues", desc := "(Z)I" } : Jvm.MethodName) ({ cls := "UnreadSigns", name := "clues", desc := "(Z)I" } : Jvm.MethodName)) ∈ lw_all := lw_g (lw_at lw_m8 51 rfl) rfl
theorem q1874 : (Jvm.Cond.code ({ cls := "UnreadSigns", name := "clues", desc := "(Z)I" } : Jvm.MethodName) prog_1_method_63_code (2 : Nat) (Option.some Jvm.ClassFile.FieldType.int)) ∈ lw_all := lw_g (lw_at lw_m8 52 rfl) rfl
theorem q1875 : (Jvm.Cond.methodLink "UnreadSigns" (488 : Nat) ({ cls := "UnreadSigns", name := "bitsOf", desc := "([I)I" } : Jvm.MethodName)) ∈ lw_all := lw_g (lw_at lw_m8 53 rfl) rfl
theorem q1876 : (Jvm.Cond.privateMethod ({ cls := "UnreadSigns", name := "bitsOf", desc := "([I)I" } : Jvm.MethodName)) ∈ lw_tbl := lw_at lw_m8 54 rfl
theorem q1877 : (Jvm.Cond.instanceMethod ({ cls := "UnreadSigns", name := "bitsOf", desc := "([I)I" } : Jvm.MethodName)) ∈ lw_all := lw_g (lw_at lw_m8 55 rfl) rfl
theorem q1878 : (Jvm.Cond.code ({ cls := "UnreadSigns", name := "bitsOf", desc := "([I)I" } : Jvm.MethodName) prog_1_method_62_code (4 : Nat) (Option.some Jvm.ClassFile.FieldType.int)) ∈ lw_all := lw_g (lw_at lw_m8 56 rfl) rfl
theorem q1880 : (Jvm.Cond.instanceMethod ({ cls := "UnreadSigns", name := "place", desc := "(IZ)I" } : Jvm.MethodName)) ∈ lw_all := lw_g (lw_at lw_m8 58 rfl) rfl
theorem q1881 : (Jvm.Cond.selects "UnreadSigns" ({ cls := "UnreadSigns", name := "place", desc := "(IZ)I" } : Jvm.MethodName) ({ cls := "UnreadSigns", name := "place", desc := "(IZ)I" } : Jvm.MethodName)) ∈ lw_all := lw_g (lw_at lw_m8 59 rfl) rfl
theorem q1882 : (Jvm.Cond.code ({ cls := "UnreadSigns", name := "place", desc := "(IZ)I" } : Jvm.MethodName) prog_1_method_64_code (3 : Nat) (Option.some Jvm.ClassFile.FieldType.int)) ∈ lw_all := lw_g (lw_at lw_m8 60 rfl) rfl
theorem q1884 : (Jvm.Cond.instanceMethod ({ cls := "UnreadSigns", name := "clash", desc := "(I)I" } : Jvm.MethodName)) ∈ lw_all := lw_g (lw_at lw_m8 62 rfl) rfl
theorem q1885 : (Jvm.Cond.selects "UnreadSigns" ({ cls := "UnreadSigns", name := "clash", desc := "(I)I" } : Jvm.MethodName) ({ cls := "UnreadSigns", name := "clash", desc := "(I)I" } : Jvm.MethodName)) ∈ lw_all := lw_g (lw_at lw_m8 63 rfl) rfl
theorem q1886 : (Jvm.Cond.code ({ cls := "UnreadSigns", name := "clash", desc := "(I)I" } : Jvm.MethodName) prog_1_method_65_code (4 : Nat) (Option.some Jvm.ClassFile.FieldType.int)) ∈ lw_all := lw_g (lw_at lw_m8 64 rfl) rfl
theorem q1887 : (Jvm.Cond.constantLong "UnreadSigns" (492 : Nat) (2 : Int64)) ∈ lw_all := lw_g (lw_at lw_m8 65 rfl) rfl
theorem q1888 : (Jvm.Cond.methodLink "UnreadSigns" (494 : Nat) ({ cls := "UnreadSigns", name := "doClash", desc := "(II)Z" } : Jvm.MethodName)) ∈ lw_all := lw_g (lw_at lw_m8 66 rfl) rfl
theorem q1889 : (Jvm.Cond.privateMethod ({ cls := "UnreadSigns", name := "doClash", desc := "(II)Z" } : Jvm.MethodName)) ∈ lw_tbl := lw_at lw_m8 67 rfl
theorem q1890 : (Jvm.Cond.instanceMethod ({ cls := "UnreadSigns", name := "doClash", desc := "(II)Z" } : Jvm.MethodName)) ∈ lw_all := lw_g (lw_at lw_m8 68 rfl) rfl
theorem q1891 : (Jvm.Cond.code ({ cls := "UnreadSigns", name := "doClash", desc := "(II)Z" } : Jvm.MethodName) prog_1_method_35_code (3 : Nat) (Option.some Jvm.ClassFile.FieldType.boolean)) ∈ lw_all := lw_g (lw_at lw_m8 69 rfl) rfl
theorem q1892 : (Jvm.Cond.methodLink "UnreadSigns" (497 : Nat) ({ cls := "UnreadSigns", name := "steps", desc := "([III)I" } : Jvm.MethodName)) ∈ lw_all := lw_g (lw_at lw_m8 70 rfl) rfl
theorem q1893 : (Jvm.Cond.static ({ cls := "UnreadSigns", name := "steps", desc := "([III)I" } : Jvm.MethodName)) ∈ lw_all := lw_g (lw_at lw_m8 71 rfl) rfl
theorem q1894 : (Jvm.Cond.code ({ cls := "UnreadSigns", name := "steps", desc := "([III)I" } : Jvm.MethodName) prog_1_method_36_code (7 : Nat) (Option.some Jvm.ClassFile.FieldType.int)) ∈ lw_all := lw_g (lw_at lw_m8 72 rfl) rfl
theorem q1896 : (Jvm.Cond.instanceMethod ({ cls := "UnreadSigns", name := "clashes", desc := "()I" } : Jvm.MethodName)) ∈ lw_all := lw_g (lw_at lw_m8 74 rfl) rfl
theorem q1897 : (Jvm.Cond.selects "UnreadSigns" ({ cls := "UnreadSigns", name := "clashes", desc := "()I" } : Jvm.MethodName) ({ cls := "UnreadSigns", name := "clashes", desc := "()I" } : Jvm.MethodName)) ∈ lw_all := lw_g (lw_at lw_m8 75 rfl) rfl
theorem q1898 : (Jvm.Cond.code ({ cls := "UnreadSigns", name := "clashes", desc := "()I" } : Jvm.MethodName) prog_1_method_66_code (4 : Nat) (Option.some Jvm.ClassFile.FieldType.int)) ∈ lw_all := lw_g (lw_at lw_m8 76 rfl) rfl
theorem q1900 : (Jvm.Cond.instanceMethod ({ cls := "UnreadSigns", name := "known", desc := "(II)I" } : Jvm.MethodName)) ∈ lw_all := lw_g (lw_at lw_m8 78 rfl) rfl
theorem q1901 : (Jvm.Cond.selects "UnreadSigns" ({ cls := "UnreadSigns", name := "known", desc := "(II)I" } : Jvm.MethodName) ({ cls := "UnreadSigns", name := "known", desc := "(II)I" } : Jvm.MethodName)) ∈ lw_all := lw_g (lw_at lw_m8 79 rfl) rfl
theorem q1902 : (Jvm.Cond.code ({ cls := "UnreadSigns", name := "known", desc := "(II)I" } : Jvm.MethodName) prog_1_method_67_code (4 : Nat) (Option.some Jvm.ClassFile.FieldType.int)) ∈ lw_all := lw_g (lw_at lw_m8 80 rfl) rfl
theorem q1904 : (Jvm.Cond.instanceMethod ({ cls := "UnreadSigns", name := "loose", desc := "(I)I" } : Jvm.MethodName)) ∈ lw_all := lw_g (lw_at lw_m8 82 rfl) rfl
theorem q1905 : (Jvm.Cond.selects "UnreadSigns" ({ cls := "UnreadSigns", name := "loose", desc := "(I)I" } : Jvm.MethodName) ({ cls := "UnreadSigns", name := "loose", desc := "(I)I" } : Jvm.MethodName)) ∈ lw_all := lw_g (lw_at lw_m8 83 rfl) rfl
theorem q1906 : (Jvm.Cond.code ({ cls := "UnreadSigns", name := "loose", desc := "(I)I" } : Jvm.MethodName) prog_1_method_69_code (3 : Nat) (Option.some Jvm.ClassFile.FieldType.int)) ∈ lw_all := lw_g (lw_at lw_m8 84 rfl) rfl
theorem q1907 : (Jvm.Cond.constantLong "UnreadSigns" (510 : Nat) (25 : Int64)) ∈ lw_all := lw_g (lw_at lw_m8 85 rfl) rfl
theorem q1908 : (Jvm.Cond.privateMethod ({ cls := "UnreadSigns", name := "lambda$loose$1", desc := "(I)V" } : Jvm.MethodName)) ∈ lw_tbl := lw_at lw_m8 86 rfl
theorem q1909 : (Jvm.Cond.instanceMethod ({ cls := "UnreadSigns", name := "lambda$loose$1", desc := "(I)V" } : Jvm.MethodName)) ∈ lw_all := lw_g (lw_at lw_m8 87 rfl) rfl
theorem q1910 : (Jvm.Cond.code ({ cls := "UnreadSigns", name := "lambda$loose$1", desc := "(I)V" } : Jvm.MethodName) prog_1_method_106_code (2 : Nat) (Option.none : Option Jvm.ClassFile.FieldType)) ∈ lw_all := lw_g (lw_at lw_m8 88 rfl) rfl
theorem q1911 : (Jvm.Cond.methodLink "UnreadSigns" (516 : Nat) ({ cls := "UnreadSigns", name := "keeps", desc := "(LUnreadSigns$Back;I)V" } : Jvm.MethodName)) ∈ lw_all := lw_g (lw_at lw_m8 89 rfl) rfl
theorem q1912 : (Jvm.Cond.privateMethod ({ cls := "UnreadSigns", name := "keeps", desc := "(LUnreadSigns$Back;I)V" } : Jvm.MethodName)) ∈ lw_tbl := lw_at lw_m8 90 rfl
theorem q1913 : (Jvm.Cond.instanceMethod ({ cls := "UnreadSigns", name := "keeps", desc := "(LUnreadSigns$Back;I)V" } : Jvm.MethodName)) ∈ lw_all := lw_g (lw_at lw_m8 91 rfl) rfl
theorem q1914 : (Jvm.Cond.code ({ cls := "UnreadSigns", name := "keeps", desc := "(LUnreadSigns$Back;I)V" } : Jvm.MethodName) prog_1_method_68_code (3 : Nat) (Option.none : Option Jvm.ClassFile.FieldType)) ∈ lw_all := lw_g (lw_at lw_m8 92 rfl) rfl
theorem q1915 : (Jvm.Cond.methodLink "UnreadSigns" (501 : Nat) ({ cls := "java/lang/System", name := "arraycopy", desc := "(Ljava/lang/Object;ILjava/lang/Object;II)V" } : Jvm.MethodName)) ∈ lw_all := lw_g (lw_at lw_m8 93 rfl) rfl
theorem q1917 : (Jvm.Cond.methodLink "UnreadSigns" (507 : Nat) ({ cls := "UnreadSigns$Act", name := "<init>", desc := "(LUnreadSigns$Back;I)V" } : Jvm.MethodName)) ∈ lw_all := lw_g (lw_at lw_m8 95 rfl) rfl
theorem q1922 : (Jvm.Cond.fieldLinkNest "UnreadSigns" (556 : Nat) "UnreadSigns$Act" "back" "LUnreadSigns$Back;" "UnreadSigns") ∈ lw_tbl := lw_at lw_m8 100 rfl
theorem q1924 : (Jvm.Cond.fieldLinkNest "UnreadSigns" (564 : Nat) "UnreadSigns$Act" "from" "I" "UnreadSigns") ∈ lw_tbl := lw_at lw_m8 102 rfl
theorem q1931 : (Jvm.Cond.instanceMethod ({ cls := "UnreadSigns", name := "alike", desc := "(IIZ)Z" } : Jvm.MethodName)) ∈ lw_all := lw_g (lw_at lw_m8 109 rfl) rfl
theorem q1932 : (Jvm.Cond.selects "UnreadSigns" ({ cls := "UnreadSigns", name := "alike", desc := "(IIZ)Z" } : Jvm.MethodName) ({ cls := "UnreadSigns", name := "alike", desc := "(IIZ)Z" } : Jvm.MethodName)) ∈ lw_all := lw_g (lw_at lw_m8 110 rfl) rfl
theorem q1933 : (Jvm.Cond.code ({ cls := "UnreadSigns", name := "alike", desc := "(IIZ)Z" } : Jvm.MethodName) prog_1_method_73_code (4 : Nat) (Option.some Jvm.ClassFile.FieldType.boolean)) ∈ lw_all := lw_g (lw_at lw_m8 111 rfl) rfl
theorem q1934 : (Jvm.Cond.methodLink "UnreadSigns" (529 : Nat) ({ cls := "UnreadSigns", name := "tellsTwo", desc := "([I[IIIZ)Z" } : Jvm.MethodName)) ∈ lw_all := lw_g (lw_at lw_m8 112 rfl) rfl
theorem q1935 : (Jvm.Cond.privateMethod ({ cls := "UnreadSigns", name := "tellsTwo", desc := "([I[IIIZ)Z" } : Jvm.MethodName)) ∈ lw_tbl := lw_at lw_m8 113 rfl
theorem q1936 : (Jvm.Cond.instanceMethod ({ cls := "UnreadSigns", name := "tellsTwo", desc := "([I[IIIZ)Z" } : Jvm.MethodName)) ∈ lw_all := lw_g (lw_at lw_m8 114 rfl) rfl
theorem q1937 : (Jvm.Cond.code ({ cls := "UnreadSigns", name := "tellsTwo", desc := "([I[IIIZ)Z" } : Jvm.MethodName) prog_1_method_72_code (7 : Nat) (Option.some Jvm.ClassFile.FieldType.boolean)) ∈ lw_all := lw_g (lw_at lw_m8 115 rfl) rfl
theorem q1938 : (Jvm.Cond.methodLink "UnreadSigns" (519 : Nat) ({ cls := "UnreadSigns", name := "areTwo", desc := "(II)Z" } : Jvm.MethodName)) ∈ lw_all := lw_g (lw_at lw_m8 116 rfl) rfl
theorem q1939 : (Jvm.Cond.privateMethod ({ cls := "UnreadSigns", name := "areTwo", desc := "(II)Z" } : Jvm.MethodName)) ∈ lw_tbl := lw_at lw_m8 117 rfl
theorem q1940 : (Jvm.Cond.instanceMethod ({ cls := "UnreadSigns", name := "areTwo", desc := "(II)Z" } : Jvm.MethodName)) ∈ lw_all := lw_g (lw_at lw_m8 118 rfl) rfl
theorem q1941 : (Jvm.Cond.code ({ cls := "UnreadSigns", name := "areTwo", desc := "(II)Z" } : Jvm.MethodName) prog_1_method_70_code (3 : Nat) (Option.some Jvm.ClassFile.FieldType.boolean)) ∈ lw_all := lw_g (lw_at lw_m8 119 rfl) rfl
theorem q1942 : (Jvm.Cond.methodLink "UnreadSigns" (522 : Nat) ({ cls := "UnreadSigns", name := "tells", desc := "([IIIZ)V" } : Jvm.MethodName)) ∈ lw_all := lw_g (lw_at lw_m8 120 rfl) rfl
theorem q1943 : (Jvm.Cond.static ({ cls := "UnreadSigns", name := "tells", desc := "([IIIZ)V" } : Jvm.MethodName)) ∈ lw_all := lw_g (lw_at lw_m8 121 rfl) rfl
theorem q1944 : (Jvm.Cond.code ({ cls := "UnreadSigns", name := "tells", desc := "([IIIZ)V" } : Jvm.MethodName) prog_1_method_71_code (4 : Nat) (Option.none : Option Jvm.ClassFile.FieldType)) ∈ lw_all := lw_g (lw_at lw_m8 122 rfl) rfl
theorem q1945 : (Jvm.Cond.static ({ cls := "UnreadSigns", name := "lambda$tellsTwo$2", desc := "([IIIZ[IZ)V" } : Jvm.MethodName)) ∈ lw_all := lw_g (lw_at lw_m8 123 rfl) rfl
theorem q1946 : (Jvm.Cond.code ({ cls := "UnreadSigns", name := "lambda$tellsTwo$2", desc := "([IIIZ[IZ)V" } : Jvm.MethodName) prog_1_method_105_code (6 : Nat) (Option.none : Option Jvm.ClassFile.FieldType)) ∈ lw_all := lw_g (lw_at lw_m8 124 rfl) rfl
theorem q1948 : (Jvm.Cond.instanceMethod ({ cls := "UnreadSigns", name := "apart", desc := "(IIZ)Z" } : Jvm.MethodName)) ∈ lw_all := lw_g (lw_at lw_m8 126 rfl) rfl
theorem q1949 : (Jvm.Cond.selects "UnreadSigns" ({ cls := "UnreadSigns", name := "apart", desc := "(IIZ)Z" } : Jvm.MethodName) ({ cls := "UnreadSigns", name := "apart", desc := "(IIZ)Z" } : Jvm.MethodName)) ∈ lw_all := lw_g (lw_at lw_m8 127 rfl) rfl
theorem q1950 : (Jvm.Cond.code ({ cls := "UnreadSigns", name := "apart", desc := "(IIZ)Z" } : Jvm.MethodName) prog_1_method_74_code (4 : Nat) (Option.some Jvm.ClassFile.FieldType.boolean)) ∈ lw_all := lw_g (lw_at lw_m8 128 rfl) rfl
theorem q1952 : (Jvm.Cond.instanceMethod ({ cls := "UnreadSigns", name := "way", desc := "(I)I" } : Jvm.MethodName)) ∈ lw_all := lw_g (lw_at lw_m8 130 rfl) rfl
theorem q1953 : (Jvm.Cond.selects "UnreadSigns" ({ cls := "UnreadSigns", name := "way", desc := "(I)I" } : Jvm.MethodName) ({ cls := "UnreadSigns", name := "way", desc := "(I)I" } : Jvm.MethodName)) ∈ lw_all := lw_g (lw_at lw_m8 131 rfl) rfl
theorem q1954 : (Jvm.Cond.code ({ cls := "UnreadSigns", name := "way", desc := "(I)I" } : Jvm.MethodName) prog_1_method_75_code (3 : Nat) (Option.some Jvm.ClassFile.FieldType.int)) ∈ lw_all := lw_g (lw_at lw_m8 132 rfl) rfl
theorem q1955 : (Jvm.Cond.constantLong "UnreadSigns" (533 : Nat) (3 : Int64)) ∈ lw_all := lw_g (lw_at lw_m8 133 rfl) rfl
theorem q1956 : (Jvm.Cond.privateMethod ({ cls := "UnreadSigns", name := "lambda$way$3", desc := "(I)V" } : Jvm.MethodName)) ∈ lw_tbl := lw_at lw_m8 134 rfl
theorem q1957 : (Jvm.Cond.instanceMethod ({ cls := "UnreadSigns", name := "lambda$way$3", desc := "(I)V" } : Jvm.MethodName)) ∈ lw_all := lw_g (lw_at lw_m8 135 rfl) rfl
theorem q1958 : (Jvm.Cond.code ({ cls := "UnreadSigns", name := "lambda$way$3", desc := "(I)V" } : Jvm.MethodName) prog_1_method_104_code (2 : Nat) (Option.none : Option Jvm.ClassFile.FieldType)) ∈ lw_all := lw_g (lw_at lw_m8 136 rfl) rfl
theorem q1960 : (Jvm.Cond.instanceMethod ({ cls := "UnreadSigns", name := "rise", desc := "(I)I" } : Jvm.MethodName)) ∈ lw_all := lw_g (lw_at lw_m8 138 rfl) rfl
theorem q1961 : (Jvm.Cond.selects "UnreadSigns" ({ cls := "UnreadSigns", name := "rise", desc := "(I)I" } : Jvm.MethodName) ({ cls := "UnreadSigns", name := "rise", desc := "(I)I" } : Jvm.MethodName)) ∈ lw_all := lw_g (lw_at lw_m8 139 rfl) rfl
theorem q1962 : (Jvm.Cond.code ({ cls := "UnreadSigns", name := "rise", desc := "(I)I" } : Jvm.MethodName) prog_1_method_76_code (3 : Nat) (Option.some Jvm.ClassFile.FieldType.int)) ∈ lw_all := lw_g (lw_at lw_m8 140 rfl) rfl
theorem q1963 : (Jvm.Cond.constantLong "UnreadSigns" (536 : Nat) (9 : Int64)) ∈ lw_all := lw_g (lw_at lw_m8 141 rfl) rfl
theorem q1964 : (Jvm.Cond.privateMethod ({ cls := "UnreadSigns", name := "lambda$rise$4", desc := "(I)V" } : Jvm.MethodName)) ∈ lw_tbl := lw_at lw_m8 142 rfl
theorem q1965 : (Jvm.Cond.instanceMethod ({ cls := "UnreadSigns", name := "lambda$rise$4", desc := "(I)V" } : Jvm.MethodName)) ∈ lw_all := lw_g (lw_at lw_m8 143 rfl) rfl
theorem q1966 : (Jvm.Cond.code ({ cls := "UnreadSigns", name := "lambda$rise$4", desc := "(I)V" } : Jvm.MethodName) prog_1_method_103_code (2 : Nat) (Option.none : Option Jvm.ClassFile.FieldType)) ∈ lw_all := lw_g (lw_at lw_m8 144 rfl) rfl
theorem q1968 : (Jvm.Cond.instanceMethod ({ cls := "UnreadSigns", name := "clue", desc := "(IIZ)I" } : Jvm.MethodName)) ∈ lw_all := lw_g (lw_at lw_m8 146 rfl) rfl
theorem q1969 : (Jvm.Cond.selects "UnreadSigns" ({ cls := "UnreadSigns", name := "clue", desc := "(IIZ)I" } : Jvm.MethodName) ({ cls := "UnreadSigns", name := "clue", desc := "(IIZ)I" } : Jvm.MethodName)) ∈ lw_all := lw_g (lw_at lw_m8 147 rfl) rfl
theorem q1970 : (Jvm.Cond.code ({ cls := "UnreadSigns", name := "clue", desc := "(IIZ)I" } : Jvm.MethodName) prog_1_method_77_code (5 : Nat) (Option.some Jvm.ClassFile.FieldType.int)) ∈ lw_all := lw_g (lw_at lw_m8 148 rfl) rfl
theorem q1971 : (Jvm.Cond.methodLink "UnreadSigns" (539 : Nat) ({ cls := "UnreadSigns$Clue", name := "isOf", desc := "(IIZ)Z" } : Jvm.MethodName)) ∈ lw_all := lw_g (lw_at lw_m8 149 rfl) rfl
theorem q1975 : (Jvm.Cond.classLink "UnreadSigns" (397 : Nat) "UnreadSigns$Clue") ∈ lw_all := lw_g (lw_at lw_m8 153 rfl) rfl
theorem q1977 : (Jvm.Cond.methodLink "UnreadSigns" (543 : Nat) ({ cls := "UnreadSigns$Clue", name := "<init>", desc := "(IIZ)V" } : Jvm.MethodName)) ∈ lw_all := lw_g (lw_at lw_m8 155 rfl) rfl
theorem q1982 : (Jvm.Cond.fieldLinkNest "UnreadSigns" (401 : Nat) "UnreadSigns$Clue" "one" "I" "UnreadSigns") ∈ lw_tbl := lw_at lw_m8 160 rfl
theorem q1984 : (Jvm.Cond.fieldLinkNest "UnreadSigns" (402 : Nat) "UnreadSigns$Clue" "other" "I" "UnreadSigns") ∈ lw_tbl := lw_at lw_m8 162 rfl
theorem q1986 : (Jvm.Cond.fieldLinkNest "UnreadSigns" (396 : Nat) "UnreadSigns$Clue" "isFile" "Z" "UnreadSigns") ∈ lw_tbl := lw_at lw_m8 164 rfl
theorem q1994 : (Jvm.Cond.privateMethod ({ cls := "UnreadSigns", name := "lambda$clue$5", desc := "()V" } : Jvm.MethodName)) ∈ lw_tbl := lw_at lw_m8 172 rfl
theorem q1995 : (Jvm.Cond.instanceMethod ({ cls := "UnreadSigns", name := "lambda$clue$5", desc := "()V" } : Jvm.MethodName)) ∈ lw_all := lw_g (lw_at lw_m8 173 rfl) rfl
theorem q1996 : (Jvm.Cond.code ({ cls := "UnreadSigns", name := "lambda$clue$5", desc := "()V" } : Jvm.MethodName) prog_1_method_102_code (1 : Nat) (Option.none : Option Jvm.ClassFile.FieldType)) ∈ lw_all := lw_g (lw_at lw_m8 174 rfl) rfl
theorem q1998 : (Jvm.Cond.instanceMethod ({ cls := "UnreadSigns", name := "guess", desc := "(III)I" } : Jvm.MethodName)) ∈ lw_all := lw_g (lw_at lw_m8 176 rfl) rfl
theorem q1999 : (Jvm.Cond.selects "UnreadSigns" ({ cls := "UnreadSigns", name := "guess", desc := "(III)I" } : Jvm.MethodName) ({ cls := "UnreadSigns", name := "guess", desc := "(III)I" } : Jvm.MethodName)) ∈ lw_all := lw_g (lw_at lw_m8 177 rfl) rfl
theorem q2000 : (Jvm.Cond.code ({ cls := "UnreadSigns", name := "guess", desc := "(III)I" } : Jvm.MethodName) prog_1_method_79_code (7 : Nat) (Option.some Jvm.ClassFile.FieldType.int)) ∈ lw_all := lw_g (lw_at lw_m8 178 rfl) rfl
theorem q2001 : (Jvm.Cond.methodLink "UnreadSigns" (549 : Nat) ({ cls := "UnreadSigns", name := "guesses", desc := "(II)V" } : Jvm.MethodName)) ∈ lw_all := lw_g (lw_at lw_m8 179 rfl) rfl
theorem q2002 : (Jvm.Cond.privateMethod ({ cls := "UnreadSigns", name := "guesses", desc := "(II)V" } : Jvm.MethodName)) ∈ lw_tbl := lw_at lw_m8 180 rfl
theorem q2003 : (Jvm.Cond.instanceMethod ({ cls := "UnreadSigns", name := "guesses", desc := "(II)V" } : Jvm.MethodName)) ∈ lw_all := lw_g (lw_at lw_m8 181 rfl) rfl
theorem q2004 : (Jvm.Cond.code ({ cls := "UnreadSigns", name := "guesses", desc := "(II)V" } : Jvm.MethodName) prog_1_method_78_code (3 : Nat) (Option.none : Option Jvm.ClassFile.FieldType)) ∈ lw_all := lw_g (lw_at lw_m8 182 rfl) rfl
theorem q2005 : (Jvm.Cond.privateMethod ({ cls := "UnreadSigns", name := "lambda$guess$6", desc := "(II)V" } : Jvm.MethodName)) ∈ lw_tbl := lw_at lw_m8 183 rfl
theorem q2006 : (Jvm.Cond.instanceMethod ({ cls := "UnreadSigns", name := "lambda$guess$6", desc := "(II)V" } : Jvm.MethodName)) ∈ lw_all := lw_g (lw_at lw_m8 184 rfl) rfl
theorem q2007 : (Jvm.Cond.code ({ cls := "UnreadSigns", name := "lambda$guess$6", desc := "(II)V" } : Jvm.MethodName) prog_1_method_101_code (3 : Nat) (Option.none : Option Jvm.ClassFile.FieldType)) ∈ lw_all := lw_g (lw_at lw_m8 185 rfl) rfl
theorem q2009 : (Jvm.Cond.instanceMethod ({ cls := "UnreadSigns", name := "undo", desc := "()I" } : Jvm.MethodName)) ∈ lw_all := lw_g (lw_at lw_m8 187 rfl) rfl
theorem q2010 : (Jvm.Cond.selects "UnreadSigns" ({ cls := "UnreadSigns", name := "undo", desc := "()I" } : Jvm.MethodName) ({ cls := "UnreadSigns", name := "undo", desc := "()I" } : Jvm.MethodName)) ∈ lw_all := lw_g (lw_at lw_m8 188 rfl) rfl
theorem q2011 : (Jvm.Cond.code ({ cls := "UnreadSigns", name := "undo", desc := "()I" } : Jvm.MethodName) prog_1_method_80_code (1 : Nat) (Option.some Jvm.ClassFile.FieldType.int)) ∈ lw_all := lw_g (lw_at lw_m8 189 rfl) rfl
theorem q2012 : (Jvm.Cond.interfaceEntry "UnreadSigns" (560 : Nat)) ∈ lw_tbl := lw_at lw_m8 190 rfl
theorem q2013 : (Jvm.Cond.methodLink "UnreadSigns" (560 : Nat) ({ cls := "UnreadSigns$Back", name := "goes", desc := "()V" } : Jvm.MethodName)) ∈ lw_all := lw_g (lw_at lw_m8 191 rfl) rfl
theorem q2017 : (Jvm.Cond.instanceMethod ({ cls := "UnreadSigns", name := "fits", desc := "(II)I" } : Jvm.MethodName)) ∈ lw_all := lw_g (lw_at lw_m8 195 rfl) rfl
theorem q2018 : (Jvm.Cond.selects "UnreadSigns" ({ cls := "UnreadSigns", name := "fits", desc := "(II)I" } : Jvm.MethodName) ({ cls := "UnreadSigns", name := "fits", desc := "(II)I" } : Jvm.MethodName)) ∈ lw_all := lw_g (lw_at lw_m8 196 rfl) rfl
theorem q2019 : (Jvm.Cond.code ({ cls := "UnreadSigns", name := "fits", desc := "(II)I" } : Jvm.MethodName) prog_1_method_84_code (8 : Nat) (Option.some Jvm.ClassFile.FieldType.int)) ∈ lw_all := lw_g (lw_at lw_m8 197 rfl) rfl
theorem q2020 : (Jvm.Cond.methodLink "UnreadSigns" (570 : Nat) ({ cls := "UnreadSigns", name := "doFit", desc := "(LUnreadSigns$Word;[I)Z" } : Jvm.MethodName)) ∈ lw_all := lw_g (lw_at lw_m8 198 rfl) rfl
theorem q2021 : (Jvm.Cond.privateMethod ({ cls := "UnreadSigns", name := "doFit", desc := "(LUnreadSigns$Word;[I)Z" } : Jvm.MethodName)) ∈ lw_tbl := lw_at lw_m8 199 rfl
theorem q2022 : (Jvm.Cond.instanceMethod ({ cls := "UnreadSigns", name := "doFit", desc := "(LUnreadSigns$Word;[I)Z" } : Jvm.MethodName)) ∈ lw_all := lw_g (lw_at lw_m8 200 rfl) rfl
theorem q2023 : (Jvm.Cond.code ({ cls := "UnreadSigns", name := "doFit", desc := "(LUnreadSigns$Word;[I)Z" } : Jvm.MethodName) prog_1_method_82_code (5 : Nat) (Option.some Jvm.ClassFile.FieldType.boolean)) ∈ lw_all := lw_g (lw_at lw_m8 201 rfl) rfl
theorem q2024 : (Jvm.Cond.methodLink "UnreadSigns" (567 : Nat) ({ cls := "UnreadSigns", name := "may", desc := "(II)Z" } : Jvm.MethodName)) ∈ lw_all := lw_g (lw_at lw_m8 202 rfl) rfl
theorem q2025 : (Jvm.Cond.privateMethod ({ cls := "UnreadSigns", name := "may", desc := "(II)Z" } : Jvm.MethodName)) ∈ lw_tbl := lw_at lw_m8 203 rfl
theorem q2026 : (Jvm.Cond.instanceMethod ({ cls := "UnreadSigns", name := "may", desc := "(II)Z" } : Jvm.MethodName)) ∈ lw_all := lw_g (lw_at lw_m8 204 rfl) rfl
theorem q2027 : (Jvm.Cond.code ({ cls := "UnreadSigns", name := "may", desc := "(II)Z" } : Jvm.MethodName) prog_1_method_81_code (3 : Nat) (Option.some Jvm.ClassFile.FieldType.boolean)) ∈ lw_all := lw_g (lw_at lw_m8 205 rfl) rfl
theorem q2029 : (Jvm.Cond.instanceMethod ({ cls := "UnreadSigns", name := "hits", desc := "()I" } : Jvm.MethodName)) ∈ lw_all := lw_g (lw_at lw_m8 207 rfl) rfl
theorem q2030 : (Jvm.Cond.selects "UnreadSigns" ({ cls := "UnreadSigns", name := "hits", desc := "()I" } : Jvm.MethodName) ({ cls := "UnreadSigns", name := "hits", desc := "()I" } : Jvm.MethodName)) ∈ lw_all := lw_g (lw_at lw_m8 208 rfl) rfl
theorem q2031 : (Jvm.Cond.code ({ cls := "UnreadSigns", name := "hits", desc := "()I" } : Jvm.MethodName) prog_1_method_86_code (1 : Nat) (Option.some Jvm.ClassFile.FieldType.int)) ∈ lw_all := lw_g (lw_at lw_m8 209 rfl) rfl
theorem q2032 : (Jvm.Cond.methodLink "UnreadSigns" (578 : Nat) ({ cls := "UnreadSigns", name := "hitsNow", desc := "()I" } : Jvm.MethodName)) ∈ lw_all := lw_g (lw_at lw_m8 210 rfl) rfl
theorem q2033 : (Jvm.Cond.privateMethod ({ cls := "UnreadSigns", name := "hitsNow", desc := "()I" } : Jvm.MethodName)) ∈ lw_tbl := lw_at lw_m8 211 rfl
theorem q2034 : (Jvm.Cond.instanceMethod ({ cls := "UnreadSigns", name := "hitsNow", desc := "()I" } : Jvm.MethodName)) ∈ lw_all := lw_g (lw_at lw_m8 212 rfl) rfl
theorem q2035 : (Jvm.Cond.code ({ cls := "UnreadSigns", name := "hitsNow", desc := "()I" } : Jvm.MethodName) prog_1_method_85_code (7 : Nat) (Option.some Jvm.ClassFile.FieldType.int)) ∈ lw_all := lw_g (lw_at lw_m8 213 rfl) rfl
theorem q2036 : (Jvm.Cond.methodLink "UnreadSigns" (574 : Nat) ({ cls := "UnreadSigns", name := "isAllKnown", desc := "(LUnreadSigns$Word;)Z" } : Jvm.MethodName)) ∈ lw_all := lw_g (lw_at lw_m8 214 rfl) rfl
theorem q2037 : (Jvm.Cond.privateMethod ({ cls := "UnreadSigns", name := "isAllKnown", desc := "(LUnreadSigns$Word;)Z" } : Jvm.MethodName)) ∈ lw_tbl := lw_at lw_m8 215 rfl
theorem q2038 : (Jvm.Cond.instanceMethod ({ cls := "UnreadSigns", name := "isAllKnown", desc := "(LUnreadSigns$Word;)Z" } : Jvm.MethodName)) ∈ lw_all := lw_g (lw_at lw_m8 216 rfl) rfl
theorem q2039 : (Jvm.Cond.code ({ cls := "UnreadSigns", name := "isAllKnown", desc := "(LUnreadSigns$Word;)Z" } : Jvm.MethodName) prog_1_method_83_code (4 : Nat) (Option.some Jvm.ClassFile.FieldType.boolean)) ∈ lw_all := lw_g (lw_at lw_m8 217 rfl) rfl
theorem q2041 : (Jvm.Cond.instanceMethod ({ cls := "UnreadSigns", name := "ways", desc := "(I)I" } : Jvm.MethodName)) ∈ lw_all := lw_g (lw_at lw_m8 219 rfl) rfl
theorem q2042 : (Jvm.Cond.selects "UnreadSigns" ({ cls := "UnreadSigns", name := "ways", desc := "(I)I" } : Jvm.MethodName) ({ cls := "UnreadSigns", name := "ways", desc := "(I)I" } : Jvm.MethodName)) ∈ lw_all := lw_g (lw_at lw_m8 220 rfl) rfl
theorem q2043 : (Jvm.Cond.code ({ cls := "UnreadSigns", name := "ways", desc := "(I)I" } : Jvm.MethodName) prog_1_method_92_code (3 : Nat) (Option.some Jvm.ClassFile.FieldType.int)) ∈ lw_all := lw_g (lw_at lw_m8 221 rfl) rfl
theorem q2044 : (Jvm.Cond.constantLong "UnreadSigns" (601 : Nat) (-1 : Int64)) ∈ lw_all := lw_g (lw_at lw_m8 222 rfl) rfl
theorem q2045 : (Jvm.Cond.methodLink "UnreadSigns" (594 : Nat) ({ cls := "UnreadSigns", name := "waysFrom", desc := "(I)V" } : Jvm.MethodName)) ∈ lw_all := lw_g (lw_at lw_m8 223 rfl) rfl
theorem q2046 : (Jvm.Cond.privateMethod ({ cls := "UnreadSigns", name := "waysFrom", desc := "(I)V" } : Jvm.MethodName)) ∈ lw_tbl := lw_at lw_m8 224 rfl
theorem q2047 : (Jvm.Cond.instanceMethod ({ cls := "UnreadSigns", name := "waysFrom", desc := "(I)V" } : Jvm.MethodName)) ∈ lw_all := lw_g (lw_at lw_m8 225 rfl) rfl
theorem q2048 : (Jvm.Cond.code ({ cls := "UnreadSigns", name := "waysFrom", desc := "(I)V" } : Jvm.MethodName) prog_1_method_91_code (7 : Nat) (Option.none : Option Jvm.ClassFile.FieldType)) ∈ lw_all := lw_g (lw_at lw_m8 226 rfl) rfl
theorem q2049 : (Jvm.Cond.methodLink "UnreadSigns" (587 : Nat) ({ cls := "UnreadSigns", name := "isTaken", desc := "(II)Z" } : Jvm.MethodName)) ∈ lw_all := lw_g (lw_at lw_m8 227 rfl) rfl
theorem q2050 : (Jvm.Cond.privateMethod ({ cls := "UnreadSigns", name := "isTaken", desc := "(II)Z" } : Jvm.MethodName)) ∈ lw_tbl := lw_at lw_m8 228 rfl
theorem q2051 : (Jvm.Cond.instanceMethod ({ cls := "UnreadSigns", name := "isTaken", desc := "(II)Z" } : Jvm.MethodName)) ∈ lw_all := lw_g (lw_at lw_m8 229 rfl) rfl
theorem q2052 : (Jvm.Cond.code ({ cls := "UnreadSigns", name := "isTaken", desc := "(II)Z" } : Jvm.MethodName) prog_1_method_90_code (4 : Nat) (Option.some Jvm.ClassFile.FieldType.boolean)) ∈ lw_all := lw_g (lw_at lw_m8 230 rfl) rfl
theorem q2053 : (Jvm.Cond.methodLink "UnreadSigns" (590 : Nat) ({ cls := "UnreadSigns", name := "laysWord", desc := "(LUnreadSigns$Word;[I)I" } : Jvm.MethodName)) ∈ lw_all := lw_g (lw_at lw_m8 231 rfl) rfl
theorem q2054 : (Jvm.Cond.privateMethod ({ cls := "UnreadSigns", name := "laysWord", desc := "(LUnreadSigns$Word;[I)I" } : Jvm.MethodName)) ∈ lw_tbl := lw_at lw_m8 232 rfl
theorem q2055 : (Jvm.Cond.instanceMethod ({ cls := "UnreadSigns", name := "laysWord", desc := "(LUnreadSigns$Word;[I)I" } : Jvm.MethodName)) ∈ lw_all := lw_g (lw_at lw_m8 233 rfl) rfl
theorem q2056 : (Jvm.Cond.code ({ cls := "UnreadSigns", name := "laysWord", desc := "(LUnreadSigns$Word;[I)I" } : Jvm.MethodName) prog_1_method_88_code (4 : Nat) (Option.some Jvm.ClassFile.FieldType.int)) ∈ lw_all := lw_g (lw_at lw_m8 234 rfl) rfl
theorem q2057 : (Jvm.Cond.methodLink "UnreadSigns" (581 : Nat) ({ cls := "UnreadSigns", name := "can", desc := "(II)Z" } : Jvm.MethodName)) ∈ lw_all := lw_g (lw_at lw_m8 235 rfl) rfl
theorem q2058 : (Jvm.Cond.privateMethod ({ cls := "UnreadSigns", name := "can", desc := "(II)Z" } : Jvm.MethodName)) ∈ lw_tbl := lw_at lw_m8 236 rfl
theorem q2059 : (Jvm.Cond.instanceMethod ({ cls := "UnreadSigns", name := "can", desc := "(II)Z" } : Jvm.MethodName)) ∈ lw_all := lw_g (lw_at lw_m8 237 rfl) rfl
theorem q2060 : (Jvm.Cond.code ({ cls := "UnreadSigns", name := "can", desc := "(II)Z" } : Jvm.MethodName) prog_1_method_87_code (4 : Nat) (Option.some Jvm.ClassFile.FieldType.boolean)) ∈ lw_all := lw_g (lw_at lw_m8 238 rfl) rfl
theorem q2061 : (Jvm.Cond.methodLink "UnreadSigns" (597 : Nat) ({ cls := "UnreadSigns", name := "takesWord", desc := "(LUnreadSigns$Word;I)V" } : Jvm.MethodName)) ∈ lw_all := lw_g (lw_at lw_m8 239 rfl) rfl
theorem q2062 : (Jvm.Cond.privateMethod ({ cls := "UnreadSigns", name := "takesWord", desc := "(LUnreadSigns$Word;I)V" } : Jvm.MethodName)) ∈ lw_tbl := lw_at lw_m9 0 rfl
theorem q2063 : (Jvm.Cond.instanceMethod ({ cls := "UnreadSigns", name := "takesWord", desc := "(LUnreadSigns$Word;I)V" } : Jvm.MethodName)) ∈ lw_all := lw_g (lw_at lw_m9 1 rfl) rfl
theorem q2064 : (Jvm.Cond.code ({ cls := "UnreadSigns", name := "takesWord", desc := "(LUnreadSigns$Word;I)V" } : Jvm.MethodName) prog_1_method_89_code (4 : Nat) (Option.none : Option Jvm.ClassFile.FieldType)) ∈ lw_all := lw_g (lw_at lw_m9 2 rfl) rfl
theorem q2066 : (Jvm.Cond.instanceMethod ({ cls := "UnreadSigns", name := "draws", desc := "(I)I" } : Jvm.MethodName)) ∈ lw_all := lw_g (lw_at lw_m9 4 rfl) rfl
theorem q2067 : (Jvm.Cond.selects "UnreadSigns" ({ cls := "UnreadSigns", name := "draws", desc := "(I)I" } : Jvm.MethodName) ({ cls := "UnreadSigns", name := "draws", desc := "(I)I" } : Jvm.MethodName)) ∈ lw_all := lw_g (lw_at lw_m9 5 rfl) rfl
theorem q2068 : (Jvm.Cond.code ({ cls := "UnreadSigns", name := "draws", desc := "(I)I" } : Jvm.MethodName) prog_1_method_93_code (3 : Nat) (Option.some Jvm.ClassFile.FieldType.int)) ∈ lw_all := lw_g (lw_at lw_m9 6 rfl) rfl
theorem q2070 : (Jvm.Cond.instanceMethod ({ cls := "UnreadSigns", name := "test", desc := "(I)I" } : Jvm.MethodName)) ∈ lw_all := lw_g (lw_at lw_m9 8 rfl) rfl
theorem q2071 : (Jvm.Cond.selects "UnreadSigns" ({ cls := "UnreadSigns", name := "test", desc := "(I)I" } : Jvm.MethodName) ({ cls := "UnreadSigns", name := "test", desc := "(I)I" } : Jvm.MethodName)) ∈ lw_all := lw_g (lw_at lw_m9 9 rfl) rfl
theorem q2072 : (Jvm.Cond.code ({ cls := "UnreadSigns", name := "test", desc := "(I)I" } : Jvm.MethodName) prog_1_method_96_code (11 : Nat) (Option.some Jvm.ClassFile.FieldType.int)) ∈ lw_all := lw_g (lw_at lw_m9 10 rfl) rfl
theorem q2073 : (Jvm.Cond.constantLong "UnreadSigns" (618 : Nat) (50 : Int64)) ∈ lw_all := lw_g (lw_at lw_m9 11 rfl) rfl
theorem q2074 : (Jvm.Cond.methodLink "UnreadSigns" (620 : Nat) ({ cls := "[I", name := "clone", desc := "()Ljava/lang/Object;" } : Jvm.MethodName)) ∈ lw_all := lw_g (lw_at lw_m9 12 rfl) rfl
theorem q2078 : (Jvm.Cond.methodLink "UnreadSigns" (623 : Nat) ({ cls := "UnreadSigns", name := "draw", desc := "(I)I" } : Jvm.MethodName)) ∈ lw_all := lw_g (lw_at lw_m9 16 rfl) rfl
theorem q2079 : (Jvm.Cond.privateMethod ({ cls := "UnreadSigns", name := "draw", desc := "(I)I" } : Jvm.MethodName)) ∈ lw_tbl := lw_at lw_m9 17 rfl
theorem q2080 : (Jvm.Cond.instanceMethod ({ cls := "UnreadSigns", name := "draw", desc := "(I)I" } : Jvm.MethodName)) ∈ lw_all := lw_g (lw_at lw_m9 18 rfl) rfl
theorem q2081 : (Jvm.Cond.code ({ cls := "UnreadSigns", name := "draw", desc := "(I)I" } : Jvm.MethodName) prog_1_method_94_code (2 : Nat) (Option.some Jvm.ClassFile.FieldType.int)) ∈ lw_all := lw_g (lw_at lw_m9 19 rfl) rfl
theorem q2082 : (Jvm.Cond.constantLong "UnreadSigns" (610 : Nat) (1103515245 : Int64)) ∈ lw_all := lw_g (lw_at lw_m9 20 rfl) rfl
theorem q2083 : (Jvm.Cond.constantLong "UnreadSigns" (612 : Nat) (12345 : Int64)) ∈ lw_all := lw_g (lw_at lw_m9 21 rfl) rfl
theorem q2084 : (Jvm.Cond.constantLong "UnreadSigns" (614 : Nat) (2147483648 : Int64)) ∈ lw_all := lw_g (lw_at lw_m9 22 rfl) rfl
theorem q2085 : (Jvm.Cond.constantLong "UnreadSigns" (616 : Nat) (65536 : Int64)) ∈ lw_all := lw_g (lw_at lw_m9 23 rfl) rfl
theorem q2086 : (Jvm.Cond.methodLink "UnreadSigns" (626 : Nat) ({ cls := "UnreadSigns", name := "changes", desc := "([III)V" } : Jvm.MethodName)) ∈ lw_all := lw_g (lw_at lw_m9 24 rfl) rfl
theorem q2087 : (Jvm.Cond.static ({ cls := "UnreadSigns", name := "changes", desc := "([III)V" } : Jvm.MethodName)) ∈ lw_all := lw_g (lw_at lw_m9 25 rfl) rfl
theorem q2088 : (Jvm.Cond.code ({ cls := "UnreadSigns", name := "changes", desc := "([III)V" } : Jvm.MethodName) prog_1_method_95_code (4 : Nat) (Option.none : Option Jvm.ClassFile.FieldType)) ∈ lw_all := lw_g (lw_at lw_m9 26 rfl) rfl
theorem q2090 : (Jvm.Cond.instanceMethod ({ cls := "UnreadSigns", name := "count", desc := "(I)I" } : Jvm.MethodName)) ∈ lw_all := lw_g (lw_at lw_m9 28 rfl) rfl
theorem q2091 : (Jvm.Cond.selects "UnreadSigns" ({ cls := "UnreadSigns", name := "count", desc := "(I)I" } : Jvm.MethodName) ({ cls := "UnreadSigns", name := "count", desc := "(I)I" } : Jvm.MethodName)) ∈ lw_all := lw_g (lw_at lw_m9 29 rfl) rfl
theorem q2092 : (Jvm.Cond.code ({ cls := "UnreadSigns", name := "count", desc := "(I)I" } : Jvm.MethodName) prog_1_method_100_code (2 : Nat) (Option.some Jvm.ClassFile.FieldType.int)) ∈ lw_all := lw_g (lw_at lw_m9 30 rfl) rfl
theorem q2093 : (Jvm.Cond.methodLink "UnreadSigns" (629 : Nat) ({ cls := "UnreadSigns", name := "classesOf", desc := "([I)I" } : Jvm.MethodName)) ∈ lw_all := lw_g (lw_at lw_m9 31 rfl) rfl
theorem q2094 : (Jvm.Cond.privateMethod ({ cls := "UnreadSigns", name := "classesOf", desc := "([I)I" } : Jvm.MethodName)) ∈ lw_tbl := lw_at lw_m9 32 rfl
theorem q2095 : (Jvm.Cond.instanceMethod ({ cls := "UnreadSigns", name := "classesOf", desc := "([I)I" } : Jvm.MethodName)) ∈ lw_all := lw_g (lw_at lw_m9 33 rfl) rfl
theorem q2096 : (Jvm.Cond.code ({ cls := "UnreadSigns", name := "classesOf", desc := "([I)I" } : Jvm.MethodName) prog_1_method_98_code (4 : Nat) (Option.some Jvm.ClassFile.FieldType.int)) ∈ lw_all := lw_g (lw_at lw_m9 34 rfl) rfl
theorem q2097 : (Jvm.Cond.methodLink "UnreadSigns" (632 : Nat) ({ cls := "UnreadSigns", name := "rowsAll", desc := "(Z)I" } : Jvm.MethodName)) ∈ lw_all := lw_g (lw_at lw_m9 35 rfl) rfl
theorem q2098 : (Jvm.Cond.privateMethod ({ cls := "UnreadSigns", name := "rowsAll", desc := "(Z)I" } : Jvm.MethodName)) ∈ lw_tbl := lw_at lw_m9 36 rfl
theorem q2099 : (Jvm.Cond.instanceMethod ({ cls := "UnreadSigns", name := "rowsAll", desc := "(Z)I" } : Jvm.MethodName)) ∈ lw_all := lw_g (lw_at lw_m9 37 rfl) rfl
theorem q2100 : (Jvm.Cond.code ({ cls := "UnreadSigns", name := "rowsAll", desc := "(Z)I" } : Jvm.MethodName) prog_1_method_97_code (5 : Nat) (Option.some Jvm.ClassFile.FieldType.int)) ∈ lw_all := lw_g (lw_at lw_m9 38 rfl) rfl
theorem q2101 : (Jvm.Cond.methodLink "UnreadSigns" (636 : Nat) ({ cls := "UnreadSigns", name := "guessed", desc := "()I" } : Jvm.MethodName)) ∈ lw_all := lw_g (lw_at lw_m9 39 rfl) rfl
theorem q2102 : (Jvm.Cond.privateMethod ({ cls := "UnreadSigns", name := "guessed", desc := "()I" } : Jvm.MethodName)) ∈ lw_tbl := lw_at lw_m9 40 rfl
theorem q2103 : (Jvm.Cond.instanceMethod ({ cls := "UnreadSigns", name := "guessed", desc := "()I" } : Jvm.MethodName)) ∈ lw_all := lw_g (lw_at lw_m9 41 rfl) rfl
theorem q2104 : (Jvm.Cond.code ({ cls := "UnreadSigns", name := "guessed", desc := "()I" } : Jvm.MethodName) prog_1_method_99_code (3 : Nat) (Option.some Jvm.ClassFile.FieldType.int)) ∈ lw_all := lw_g (lw_at lw_m9 42 rfl) rfl
theorem q2735 : (Jvm.Cond.castable "UnreadSigns" "java/lang/Object") ∈ lw_tbl := lw_at lw_m11 193 rfl
theorem q144 : (Jvm.Cond.initialized "UnreadSigns$Told") ∈ lw_all := lw_g (lw_at lw_m1 2 rfl) rfl
theorem q200 : (Jvm.Cond.instantiable "UnreadSigns$Told" (12 : Nat)) ∈ lw_all := lw_g (lw_at lw_m1 58 rfl) rfl
theorem q202 : (Jvm.Cond.instanceMethod ({ cls := "UnreadSigns$Told", name := "<init>", desc := "()V" } : Jvm.MethodName)) ∈ lw_all := lw_g (lw_at lw_m1 60 rfl) rfl
theorem q203 : (Jvm.Cond.code ({ cls := "UnreadSigns$Told", name := "<init>", desc := "()V" } : Jvm.MethodName) prog_11_method_1_code (2 : Nat) (Option.none : Option Jvm.ClassFile.FieldType)) ∈ lw_all := lw_g (lw_at lw_m1 61 rfl) rfl
theorem q204 : (Jvm.Cond.methodLink "UnreadSigns$Told" (3 : Nat) ({ cls := "java/lang/Object", name := "<init>", desc := "()V" } : Jvm.MethodName)) ∈ lw_all := lw_g (lw_at lw_m1 62 rfl) rfl
theorem q205 : (Jvm.Cond.classLink "UnreadSigns$Told" (25 : Nat) "UnreadSigns$Stone") ∈ lw_all := lw_g (lw_at lw_m1 63 rfl) rfl
theorem q207 : (Jvm.Cond.classLink "UnreadSigns$Told" (37 : Nat) "UnreadSigns$Clue") ∈ lw_all := lw_g (lw_at lw_m1 65 rfl) rfl
theorem q213 : (Jvm.Cond.fieldLink "UnreadSigns$Told" (9 : Nat) "UnreadSigns$Told" "loose" "I") ∈ lw_all := lw_g (lw_at lw_m1 71 rfl) rfl
theorem q215 : (Jvm.Cond.fieldLink "UnreadSigns$Told" (15 : Nat) "UnreadSigns$Told" "way" "I") ∈ lw_all := lw_g (lw_at lw_m1 73 rfl) rfl
theorem q217 : (Jvm.Cond.fieldLink "UnreadSigns$Told" (18 : Nat) "UnreadSigns$Told" "rise" "I") ∈ lw_all := lw_g (lw_at lw_m1 75 rfl) rfl
theorem q219 : (Jvm.Cond.fieldLink "UnreadSigns$Told" (21 : Nat) "UnreadSigns$Told" "form" "[I") ∈ lw_all := lw_g (lw_at lw_m1 77 rfl) rfl
theorem q222 : (Jvm.Cond.fieldLink "UnreadSigns$Told" (27 : Nat) "UnreadSigns$Told" "stone" "[LUnreadSigns$Stone;") ∈ lw_all := lw_g (lw_at lw_m1 80 rfl) rfl
theorem q224 : (Jvm.Cond.fieldLink "UnreadSigns$Told" (31 : Nat) "UnreadSigns$Told" "alike" "[I") ∈ lw_all := lw_g (lw_at lw_m1 82 rfl) rfl
theorem q226 : (Jvm.Cond.fieldLink "UnreadSigns$Told" (34 : Nat) "UnreadSigns$Told" "apart" "[I") ∈ lw_all := lw_g (lw_at lw_m1 84 rfl) rfl
theorem q228 : (Jvm.Cond.fieldLink "UnreadSigns$Told" (39 : Nat) "UnreadSigns$Told" "clue" "[LUnreadSigns$Clue;") ∈ lw_all := lw_g (lw_at lw_m1 86 rfl) rfl
theorem q230 : (Jvm.Cond.fieldLink "UnreadSigns$Told" (43 : Nat) "UnreadSigns$Told" "guess" "[I") ∈ lw_all := lw_g (lw_at lw_m1 88 rfl) rfl
theorem q232 : (Jvm.Cond.lays "UnreadSigns$Told" "UnreadSigns$Told" "forms" "I") ∈ lw_all := lw_g (lw_at lw_m1 90 rfl) rfl
theorem q233 : (Jvm.Cond.soleField "UnreadSigns$Told" "forms") ∈ lw_all := lw_g (lw_at lw_m1 91 rfl) rfl
theorem q234 : (Jvm.Cond.lays "UnreadSigns$Told" "UnreadSigns$Told" "stones" "I") ∈ lw_all := lw_g (lw_at lw_m1 92 rfl) rfl
theorem q235 : (Jvm.Cond.soleField "UnreadSigns$Told" "stones") ∈ lw_all := lw_g (lw_at lw_m1 93 rfl) rfl
theorem q236 : (Jvm.Cond.lays "UnreadSigns$Told" "UnreadSigns$Told" "clues" "I") ∈ lw_all := lw_g (lw_at lw_m1 94 rfl) rfl
theorem q237 : (Jvm.Cond.soleField "UnreadSigns$Told" "clues") ∈ lw_all := lw_g (lw_at lw_m1 95 rfl) rfl
theorem q238 : (Jvm.Cond.lays "UnreadSigns$Told" "UnreadSigns$Told" "loose" "I") ∈ lw_all := lw_g (lw_at lw_m1 96 rfl) rfl
theorem q239 : (Jvm.Cond.soleField "UnreadSigns$Told" "loose") ∈ lw_all := lw_g (lw_at lw_m1 97 rfl) rfl
theorem q240 : (Jvm.Cond.lays "UnreadSigns$Told" "UnreadSigns$Told" "way" "I") ∈ lw_all := lw_g (lw_at lw_m1 98 rfl) rfl
theorem q241 : (Jvm.Cond.soleField "UnreadSigns$Told" "way") ∈ lw_all := lw_g (lw_at lw_m1 99 rfl) rfl
theorem q242 : (Jvm.Cond.lays "UnreadSigns$Told" "UnreadSigns$Told" "rise" "I") ∈ lw_all := lw_g (lw_at lw_m1 100 rfl) rfl
theorem q243 : (Jvm.Cond.soleField "UnreadSigns$Told" "rise") ∈ lw_all := lw_g (lw_at lw_m1 101 rfl) rfl
theorem q244 : (Jvm.Cond.laysFinal "UnreadSigns$Told" "UnreadSigns$Told" "form" "[I") ∈ lw_all := lw_g (lw_at lw_m1 102 rfl) rfl
theorem q245 : (Jvm.Cond.soleField "UnreadSigns$Told" "form") ∈ lw_all := lw_g (lw_at lw_m1 103 rfl) rfl
theorem q246 : (Jvm.Cond.laysFinal "UnreadSigns$Told" "UnreadSigns$Told" "stone" "[LUnreadSigns$Stone;") ∈ lw_all := lw_g (lw_at lw_m1 104 rfl) rfl
theorem q247 : (Jvm.Cond.soleField "UnreadSigns$Told" "stone") ∈ lw_all := lw_g (lw_at lw_m1 105 rfl) rfl
theorem q248 : (Jvm.Cond.laysFinal "UnreadSigns$Told" "UnreadSigns$Told" "alike" "[I") ∈ lw_all := lw_g (lw_at lw_m1 106 rfl) rfl
theorem q249 : (Jvm.Cond.soleField "UnreadSigns$Told" "alike") ∈ lw_all := lw_g (lw_at lw_m1 107 rfl) rfl
theorem q250 : (Jvm.Cond.laysFinal "UnreadSigns$Told" "UnreadSigns$Told" "apart" "[I") ∈ lw_all := lw_g (lw_at lw_m1 108 rfl) rfl
theorem q251 : (Jvm.Cond.soleField "UnreadSigns$Told" "apart") ∈ lw_all := lw_g (lw_at lw_m1 109 rfl) rfl
theorem q252 : (Jvm.Cond.laysFinal "UnreadSigns$Told" "UnreadSigns$Told" "clue" "[LUnreadSigns$Clue;") ∈ lw_all := lw_g (lw_at lw_m1 110 rfl) rfl
theorem q253 : (Jvm.Cond.soleField "UnreadSigns$Told" "clue") ∈ lw_all := lw_g (lw_at lw_m1 111 rfl) rfl
theorem q254 : (Jvm.Cond.laysFinal "UnreadSigns$Told" "UnreadSigns$Told" "guess" "[I") ∈ lw_all := lw_g (lw_at lw_m1 112 rfl) rfl
theorem q255 : (Jvm.Cond.soleField "UnreadSigns$Told" "guess") ∈ lw_all := lw_g (lw_at lw_m1 113 rfl) rfl
theorem q256 : (Jvm.Cond.superclass "UnreadSigns$Told" "java/lang/Object") ∈ lw_all := lw_g (lw_at lw_m1 114 rfl) rfl
theorem q1616 : (Jvm.Cond.selects "UnreadSigns$Told" ({ cls := "java/lang/Object", name := "getClass", desc := "()Ljava/lang/Class;" } : Jvm.MethodName) ({ cls := "java/lang/Object", name := "getClass", desc := "()Ljava/lang/Class;" } : Jvm.MethodName)) ∈ lw_all := lw_g (lw_at lw_m7 34 rfl) rfl
theorem q2736 : (Jvm.Cond.castable "UnreadSigns$Told" "java/lang/Object") ∈ lw_tbl := lw_at lw_m11 194 rfl
theorem q188 : (Jvm.Cond.initialized "UnreadSigns$ByCount") ∈ lw_all := lw_g (lw_at lw_m1 46 rfl) rfl
theorem q608 : (Jvm.Cond.castable "UnreadSigns$ByCount" "java/util/Comparator") ∈ lw_tbl := lw_at lw_m2 226 rfl
theorem q609 : (Jvm.Cond.selects "UnreadSigns$ByCount" ({ cls := "java/util/Comparator", name := "compare", desc := "(Ljava/lang/Object;Ljava/lang/Object;)I" } : Jvm.MethodName) ({ cls := "UnreadSigns$ByCount", name := "compare", desc := "(Ljava/lang/Object;Ljava/lang/Object;)I" } : Jvm.MethodName)) ∈ lw_all := lw_g (lw_at lw_m2 227 rfl) rfl
theorem q610 : (Jvm.Cond.unhidden "UnreadSigns$ByCount" "compare" "(Ljava/lang/Object;Ljava/lang/Object;)I") ∈ lw_tbl := lw_at lw_m2 228 rfl
theorem q611 : (Jvm.Cond.instanceMethod ({ cls := "UnreadSigns$ByCount", name := "compare", desc := "(Ljava/lang/Object;Ljava/lang/Object;)I" } : Jvm.MethodName)) ∈ lw_all := lw_g (lw_at lw_m2 229 rfl) rfl
theorem q612 : (Jvm.Cond.publicMethod ({ cls := "UnreadSigns$ByCount", name := "compare", desc := "(Ljava/lang/Object;Ljava/lang/Object;)I" } : Jvm.MethodName)) ∈ lw_tbl := lw_at lw_m2 230 rfl
theorem q613 : (Jvm.Cond.code ({ cls := "UnreadSigns$ByCount", name := "compare", desc := "(Ljava/lang/Object;Ljava/lang/Object;)I" } : Jvm.MethodName) prog_4_method_3_code (3 : Nat) (Option.some Jvm.ClassFile.FieldType.int)) ∈ lw_all := lw_g (lw_at lw_m2 231 rfl) rfl
theorem q614 : (Jvm.Cond.classLink "UnreadSigns$ByCount" (8 : Nat) "UnreadSigns$Word") ∈ lw_all := lw_g (lw_at lw_m2 232 rfl) rfl
theorem q615 : (Jvm.Cond.methodLink "UnreadSigns$ByCount" (16 : Nat) ({ cls := "UnreadSigns$ByCount", name := "compare", desc := "(LUnreadSigns$Word;LUnreadSigns$Word;)I" } : Jvm.MethodName)) ∈ lw_all := lw_g (lw_at lw_m2 233 rfl) rfl
theorem q616 : (Jvm.Cond.instanceMethod ({ cls := "UnreadSigns$ByCount", name := "compare", desc := "(LUnreadSigns$Word;LUnreadSigns$Word;)I" } : Jvm.MethodName)) ∈ lw_all := lw_g (lw_at lw_m2 234 rfl) rfl
theorem q617 : (Jvm.Cond.selects "UnreadSigns$ByCount" ({ cls := "UnreadSigns$ByCount", name := "compare", desc := "(LUnreadSigns$Word;LUnreadSigns$Word;)I" } : Jvm.MethodName) ({ cls := "UnreadSigns$ByCount", name := "compare", desc := "(LUnreadSigns$Word;LUnreadSigns$Word;)I" } : Jvm.MethodName)) ∈ lw_all := lw_g (lw_at lw_m2 235 rfl) rfl
theorem q618 : (Jvm.Cond.code ({ cls := "UnreadSigns$ByCount", name := "compare", desc := "(LUnreadSigns$Word;LUnreadSigns$Word;)I" } : Jvm.MethodName) prog_4_method_2_code (3 : Nat) (Option.some Jvm.ClassFile.FieldType.int)) ∈ lw_all := lw_g (lw_at lw_m2 236 rfl) rfl
theorem q1032 : (Jvm.Cond.fieldLinkNest "UnreadSigns$ByCount" (7 : Nat) "UnreadSigns$Word" "many" "I" "UnreadSigns") ∈ lw_tbl := lw_at lw_m4 170 rfl
theorem q1034 : (Jvm.Cond.fieldLinkNest "UnreadSigns$ByCount" (13 : Nat) "UnreadSigns$Word" "number" "I" "UnreadSigns") ∈ lw_tbl := lw_at lw_m4 172 rfl
theorem q1610 : (Jvm.Cond.selects "UnreadSigns$ByCount" ({ cls := "java/lang/Object", name := "getClass", desc := "()Ljava/lang/Class;" } : Jvm.MethodName) ({ cls := "java/lang/Object", name := "getClass", desc := "()Ljava/lang/Class;" } : Jvm.MethodName)) ∈ lw_all := lw_g (lw_at lw_m7 28 rfl) rfl
theorem q1821 : (Jvm.Cond.instantiable "UnreadSigns$ByCount" (0 : Nat)) ∈ lw_all := lw_g (lw_at lw_m7 239 rfl) rfl
theorem q1823 : (Jvm.Cond.instanceMethod ({ cls := "UnreadSigns$ByCount", name := "<init>", desc := "()V" } : Jvm.MethodName)) ∈ lw_all := lw_g (lw_at lw_m8 1 rfl) rfl
theorem q1824 : (Jvm.Cond.code ({ cls := "UnreadSigns$ByCount", name := "<init>", desc := "()V" } : Jvm.MethodName) prog_4_method_1_code (1 : Nat) (Option.none : Option Jvm.ClassFile.FieldType)) ∈ lw_all := lw_g (lw_at lw_m8 2 rfl) rfl
theorem q1825 : (Jvm.Cond.methodLink "UnreadSigns$ByCount" (1 : Nat) ({ cls := "java/lang/Object", name := "<init>", desc := "()V" } : Jvm.MethodName)) ∈ lw_all := lw_g (lw_at lw_m8 3 rfl) rfl
theorem q1826 : (Jvm.Cond.superclass "UnreadSigns$ByCount" "java/lang/Object") ∈ lw_all := lw_g (lw_at lw_m8 4 rfl) rfl
theorem q2753 : (Jvm.Cond.castable "UnreadSigns$ByCount" "java/lang/Object") ∈ lw_tbl := lw_at lw_m11 211 rfl
theorem q189 : (Jvm.Cond.initialized "UnreadSigns$Stem") ∈ lw_all := lw_g (lw_at lw_m1 47 rfl) rfl
theorem q1614 : (Jvm.Cond.selects "UnreadSigns$Stem" ({ cls := "java/lang/Object", name := "getClass", desc := "()Ljava/lang/Class;" } : Jvm.MethodName) ({ cls := "java/lang/Object", name := "getClass", desc := "()Ljava/lang/Class;" } : Jvm.MethodName)) ∈ lw_all := lw_g (lw_at lw_m7 32 rfl) rfl
theorem q1858 : (Jvm.Cond.instantiable "UnreadSigns$Stem" (2 : Nat)) ∈ lw_all := lw_g (lw_at lw_m8 36 rfl) rfl
theorem q1860 : (Jvm.Cond.instanceMethod ({ cls := "UnreadSigns$Stem", name := "<init>", desc := "(Ljava/lang/String;)V" } : Jvm.MethodName)) ∈ lw_all := lw_g (lw_at lw_m8 38 rfl) rfl
theorem q1861 : (Jvm.Cond.code ({ cls := "UnreadSigns$Stem", name := "<init>", desc := "(Ljava/lang/String;)V" } : Jvm.MethodName) prog_9_method_1_code (2 : Nat) (Option.none : Option Jvm.ClassFile.FieldType)) ∈ lw_all := lw_g (lw_at lw_m8 39 rfl) rfl
theorem q1862 : (Jvm.Cond.methodLink "UnreadSigns$Stem" (1 : Nat) ({ cls := "java/lang/Object", name := "<init>", desc := "()V" } : Jvm.MethodName)) ∈ lw_all := lw_g (lw_at lw_m8 40 rfl) rfl
theorem q1863 : (Jvm.Cond.fieldLink "UnreadSigns$Stem" (7 : Nat) "UnreadSigns$Stem" "of" "Ljava/lang/String;") ∈ lw_all := lw_g (lw_at lw_m8 41 rfl) rfl
theorem q1866 : (Jvm.Cond.laysFinal "UnreadSigns$Stem" "UnreadSigns$Stem" "of" "Ljava/lang/String;") ∈ lw_all := lw_g (lw_at lw_m8 44 rfl) rfl
theorem q1867 : (Jvm.Cond.soleField "UnreadSigns$Stem" "of") ∈ lw_all := lw_g (lw_at lw_m8 45 rfl) rfl
theorem q1868 : (Jvm.Cond.lays "UnreadSigns$Stem" "UnreadSigns$Stem" "endings" "I") ∈ lw_all := lw_g (lw_at lw_m8 46 rfl) rfl
theorem q1869 : (Jvm.Cond.soleField "UnreadSigns$Stem" "endings") ∈ lw_all := lw_g (lw_at lw_m8 47 rfl) rfl
theorem q1870 : (Jvm.Cond.superclass "UnreadSigns$Stem" "java/lang/Object") ∈ lw_all := lw_g (lw_at lw_m8 48 rfl) rfl
theorem q2754 : (Jvm.Cond.castable "UnreadSigns$Stem" "java/lang/Object") ∈ lw_tbl := lw_at lw_m11 212 rfl
theorem q190 : (Jvm.Cond.initialized "UnreadSigns$Clue") ∈ lw_all := lw_g (lw_at lw_m1 48 rfl) rfl
theorem q1611 : (Jvm.Cond.selects "UnreadSigns$Clue" ({ cls := "java/lang/Object", name := "getClass", desc := "()Ljava/lang/Class;" } : Jvm.MethodName) ({ cls := "java/lang/Object", name := "getClass", desc := "()Ljava/lang/Class;" } : Jvm.MethodName)) ∈ lw_all := lw_g (lw_at lw_m7 29 rfl) rfl
theorem q1972 : (Jvm.Cond.instanceMethod ({ cls := "UnreadSigns$Clue", name := "isOf", desc := "(IIZ)Z" } : Jvm.MethodName)) ∈ lw_all := lw_g (lw_at lw_m8 150 rfl) rfl
theorem q1973 : (Jvm.Cond.selects "UnreadSigns$Clue" ({ cls := "UnreadSigns$Clue", name := "isOf", desc := "(IIZ)Z" } : Jvm.MethodName) ({ cls := "UnreadSigns$Clue", name := "isOf", desc := "(IIZ)Z" } : Jvm.MethodName)) ∈ lw_all := lw_g (lw_at lw_m8 151 rfl) rfl
theorem q1974 : (Jvm.Cond.code ({ cls := "UnreadSigns$Clue", name := "isOf", desc := "(IIZ)Z" } : Jvm.MethodName) prog_5_method_2_code (4 : Nat) (Option.some Jvm.ClassFile.FieldType.boolean)) ∈ lw_all := lw_g (lw_at lw_m8 152 rfl) rfl
theorem q1976 : (Jvm.Cond.instantiable "UnreadSigns$Clue" (3 : Nat)) ∈ lw_all := lw_g (lw_at lw_m8 154 rfl) rfl
theorem q1978 : (Jvm.Cond.instanceMethod ({ cls := "UnreadSigns$Clue", name := "<init>", desc := "(IIZ)V" } : Jvm.MethodName)) ∈ lw_all := lw_g (lw_at lw_m8 156 rfl) rfl
theorem q1979 : (Jvm.Cond.code ({ cls := "UnreadSigns$Clue", name := "<init>", desc := "(IIZ)V" } : Jvm.MethodName) prog_5_method_1_code (4 : Nat) (Option.none : Option Jvm.ClassFile.FieldType)) ∈ lw_all := lw_g (lw_at lw_m8 157 rfl) rfl
theorem q1980 : (Jvm.Cond.methodLink "UnreadSigns$Clue" (1 : Nat) ({ cls := "java/lang/Object", name := "<init>", desc := "()V" } : Jvm.MethodName)) ∈ lw_all := lw_g (lw_at lw_m8 158 rfl) rfl
theorem q1981 : (Jvm.Cond.fieldLink "UnreadSigns$Clue" (7 : Nat) "UnreadSigns$Clue" "one" "I") ∈ lw_all := lw_g (lw_at lw_m8 159 rfl) rfl
theorem q1983 : (Jvm.Cond.fieldLink "UnreadSigns$Clue" (13 : Nat) "UnreadSigns$Clue" "other" "I") ∈ lw_all := lw_g (lw_at lw_m8 161 rfl) rfl
theorem q1985 : (Jvm.Cond.fieldLink "UnreadSigns$Clue" (16 : Nat) "UnreadSigns$Clue" "isFile" "Z") ∈ lw_all := lw_g (lw_at lw_m8 163 rfl) rfl
theorem q1987 : (Jvm.Cond.laysFinal "UnreadSigns$Clue" "UnreadSigns$Clue" "one" "I") ∈ lw_all := lw_g (lw_at lw_m8 165 rfl) rfl
theorem q1988 : (Jvm.Cond.soleField "UnreadSigns$Clue" "one") ∈ lw_all := lw_g (lw_at lw_m8 166 rfl) rfl
theorem q1989 : (Jvm.Cond.laysFinal "UnreadSigns$Clue" "UnreadSigns$Clue" "other" "I") ∈ lw_all := lw_g (lw_at lw_m8 167 rfl) rfl
theorem q1990 : (Jvm.Cond.soleField "UnreadSigns$Clue" "other") ∈ lw_all := lw_g (lw_at lw_m8 168 rfl) rfl
theorem q1991 : (Jvm.Cond.laysFinal "UnreadSigns$Clue" "UnreadSigns$Clue" "isFile" "Z") ∈ lw_all := lw_g (lw_at lw_m8 169 rfl) rfl
theorem q1992 : (Jvm.Cond.soleField "UnreadSigns$Clue" "isFile") ∈ lw_all := lw_g (lw_at lw_m8 170 rfl) rfl
theorem q1993 : (Jvm.Cond.superclass "UnreadSigns$Clue" "java/lang/Object") ∈ lw_all := lw_g (lw_at lw_m8 171 rfl) rfl
theorem q2730 : (Jvm.Cond.castable "UnreadSigns$Clue" "java/lang/Object") ∈ lw_tbl := lw_at lw_m11 188 rfl
theorem q163 : (Jvm.Cond.initialized "UnreadSigns$Piece") ∈ lw_all := lw_g (lw_at lw_m1 21 rfl) rfl
theorem q832 : (Jvm.Cond.instantiable "UnreadSigns$Piece" (3 : Nat)) ∈ lw_all := lw_g (lw_at lw_m3 210 rfl) rfl
theorem q834 : (Jvm.Cond.instanceMethod ({ cls := "UnreadSigns$Piece", name := "<init>", desc := "()V" } : Jvm.MethodName)) ∈ lw_all := lw_g (lw_at lw_m3 212 rfl) rfl
theorem q835 : (Jvm.Cond.code ({ cls := "UnreadSigns$Piece", name := "<init>", desc := "()V" } : Jvm.MethodName) prog_6_method_1_code (1 : Nat) (Option.none : Option Jvm.ClassFile.FieldType)) ∈ lw_all := lw_g (lw_at lw_m3 213 rfl) rfl
theorem q836 : (Jvm.Cond.methodLink "UnreadSigns$Piece" (1 : Nat) ({ cls := "java/lang/Object", name := "<init>", desc := "()V" } : Jvm.MethodName)) ∈ lw_all := lw_g (lw_at lw_m3 214 rfl) rfl
theorem q837 : (Jvm.Cond.classLink "UnreadSigns$Piece" (7 : Nat) "java/util/TreeSet") ∈ lw_all := lw_g (lw_at lw_m3 215 rfl) rfl
theorem q839 : (Jvm.Cond.methodLink "UnreadSigns$Piece" (9 : Nat) ({ cls := "java/util/TreeSet", name := "<init>", desc := "()V" } : Jvm.MethodName)) ∈ lw_all := lw_g (lw_at lw_m3 217 rfl) rfl
theorem q859 : (Jvm.Cond.fieldLink "UnreadSigns$Piece" (20 : Nat) "UnreadSigns$Piece" "ends" "Z") ∈ lw_all := lw_g (lw_at lw_m3 237 rfl) rfl
theorem q861 : (Jvm.Cond.fieldLink "UnreadSigns$Piece" (10 : Nat) "UnreadSigns$Piece" "behind" "Ljava/util/TreeSet;") ∈ lw_all := lw_g (lw_at lw_m3 239 rfl) rfl
theorem q863 : (Jvm.Cond.lays "UnreadSigns$Piece" "UnreadSigns$Piece" "comes" "I") ∈ lw_all := lw_g (lw_at lw_m4 1 rfl) rfl
theorem q864 : (Jvm.Cond.soleField "UnreadSigns$Piece" "comes") ∈ lw_all := lw_g (lw_at lw_m4 2 rfl) rfl
theorem q865 : (Jvm.Cond.lays "UnreadSigns$Piece" "UnreadSigns$Piece" "ends" "Z") ∈ lw_all := lw_g (lw_at lw_m4 3 rfl) rfl
theorem q866 : (Jvm.Cond.soleField "UnreadSigns$Piece" "ends") ∈ lw_all := lw_g (lw_at lw_m4 4 rfl) rfl
theorem q867 : (Jvm.Cond.laysFinal "UnreadSigns$Piece" "UnreadSigns$Piece" "behind" "Ljava/util/TreeSet;") ∈ lw_all := lw_g (lw_at lw_m4 5 rfl) rfl
theorem q868 : (Jvm.Cond.soleField "UnreadSigns$Piece" "behind") ∈ lw_all := lw_g (lw_at lw_m4 6 rfl) rfl
theorem q869 : (Jvm.Cond.superclass "UnreadSigns$Piece" "java/lang/Object") ∈ lw_all := lw_g (lw_at lw_m4 7 rfl) rfl
theorem q1011 : (Jvm.Cond.instanceMethod ({ cls := "UnreadSigns$Piece", name := "next", desc := "()I" } : Jvm.MethodName)) ∈ lw_all := lw_g (lw_at lw_m4 149 rfl) rfl
theorem q1012 : (Jvm.Cond.selects "UnreadSigns$Piece" ({ cls := "UnreadSigns$Piece", name := "next", desc := "()I" } : Jvm.MethodName) ({ cls := "UnreadSigns$Piece", name := "next", desc := "()I" } : Jvm.MethodName)) ∈ lw_all := lw_g (lw_at lw_m4 150 rfl) rfl
theorem q1013 : (Jvm.Cond.code ({ cls := "UnreadSigns$Piece", name := "next", desc := "()I" } : Jvm.MethodName) prog_6_method_2_code (1 : Nat) (Option.some Jvm.ClassFile.FieldType.int)) ∈ lw_all := lw_g (lw_at lw_m4 151 rfl) rfl
theorem q1014 : (Jvm.Cond.methodLink "UnreadSigns$Piece" (16 : Nat) ({ cls := "java/util/TreeSet", name := "size", desc := "()I" } : Jvm.MethodName)) ∈ lw_all := lw_g (lw_at lw_m4 152 rfl) rfl
theorem q1612 : (Jvm.Cond.selects "UnreadSigns$Piece" ({ cls := "java/lang/Object", name := "getClass", desc := "()Ljava/lang/Class;" } : Jvm.MethodName) ({ cls := "java/lang/Object", name := "getClass", desc := "()Ljava/lang/Class;" } : Jvm.MethodName)) ∈ lw_all := lw_g (lw_at lw_m7 30 rfl) rfl
theorem q2740 : (Jvm.Cond.castable "UnreadSigns$Piece" "java/lang/Object") ∈ lw_tbl := lw_at lw_m11 198 rfl
theorem q169 : (Jvm.Cond.initialized "UnreadSigns$Word") ∈ lw_all := lw_g (lw_at lw_m1 27 rfl) rfl
theorem q1025 : (Jvm.Cond.instantiable "UnreadSigns$Word" (3 : Nat)) ∈ lw_all := lw_g (lw_at lw_m4 163 rfl) rfl
theorem q1027 : (Jvm.Cond.instanceMethod ({ cls := "UnreadSigns$Word", name := "<init>", desc := "(Ljava/lang/String;)V" } : Jvm.MethodName)) ∈ lw_all := lw_g (lw_at lw_m4 165 rfl) rfl
theorem q1028 : (Jvm.Cond.code ({ cls := "UnreadSigns$Word", name := "<init>", desc := "(Ljava/lang/String;)V" } : Jvm.MethodName) prog_13_method_1_code (2 : Nat) (Option.none : Option Jvm.ClassFile.FieldType)) ∈ lw_all := lw_g (lw_at lw_m4 166 rfl) rfl
theorem q1029 : (Jvm.Cond.methodLink "UnreadSigns$Word" (1 : Nat) ({ cls := "java/lang/Object", name := "<init>", desc := "()V" } : Jvm.MethodName)) ∈ lw_all := lw_g (lw_at lw_m4 167 rfl) rfl
theorem q1030 : (Jvm.Cond.fieldLink "UnreadSigns$Word" (7 : Nat) "UnreadSigns$Word" "of" "Ljava/lang/String;") ∈ lw_all := lw_g (lw_at lw_m4 168 rfl) rfl
theorem q1036 : (Jvm.Cond.laysFinal "UnreadSigns$Word" "UnreadSigns$Word" "of" "Ljava/lang/String;") ∈ lw_all := lw_g (lw_at lw_m4 174 rfl) rfl
theorem q1037 : (Jvm.Cond.soleField "UnreadSigns$Word" "of") ∈ lw_all := lw_g (lw_at lw_m4 175 rfl) rfl
theorem q1038 : (Jvm.Cond.lays "UnreadSigns$Word" "UnreadSigns$Word" "many" "I") ∈ lw_all := lw_g (lw_at lw_m4 176 rfl) rfl
theorem q1039 : (Jvm.Cond.soleField "UnreadSigns$Word" "many") ∈ lw_all := lw_g (lw_at lw_m4 177 rfl) rfl
theorem q1040 : (Jvm.Cond.lays "UnreadSigns$Word" "UnreadSigns$Word" "number" "I") ∈ lw_all := lw_g (lw_at lw_m4 178 rfl) rfl
theorem q1041 : (Jvm.Cond.soleField "UnreadSigns$Word" "number") ∈ lw_all := lw_g (lw_at lw_m4 179 rfl) rfl
theorem q1042 : (Jvm.Cond.superclass "UnreadSigns$Word" "java/lang/Object") ∈ lw_all := lw_g (lw_at lw_m4 180 rfl) rfl
theorem q1265 : (Jvm.Cond.instanceMethod ({ cls := "UnreadSigns$Word", name := "sign", desc := "(I)I" } : Jvm.MethodName)) ∈ lw_all := lw_g (lw_at lw_m5 163 rfl) rfl
theorem q1266 : (Jvm.Cond.selects "UnreadSigns$Word" ({ cls := "UnreadSigns$Word", name := "sign", desc := "(I)I" } : Jvm.MethodName) ({ cls := "UnreadSigns$Word", name := "sign", desc := "(I)I" } : Jvm.MethodName)) ∈ lw_all := lw_g (lw_at lw_m5 164 rfl) rfl
theorem q1267 : (Jvm.Cond.code ({ cls := "UnreadSigns$Word", name := "sign", desc := "(I)I" } : Jvm.MethodName) prog_13_method_2_code (2 : Nat) (Option.some Jvm.ClassFile.FieldType.int)) ∈ lw_all := lw_g (lw_at lw_m5 165 rfl) rfl
theorem q1268 : (Jvm.Cond.methodLink "UnreadSigns$Word" (13 : Nat) ({ cls := "java/lang/String", name := "charAt", desc := "(I)C" } : Jvm.MethodName)) ∈ lw_all := lw_g (lw_at lw_m5 166 rfl) rfl
theorem q1618 : (Jvm.Cond.selects "UnreadSigns$Word" ({ cls := "java/lang/Object", name := "getClass", desc := "()Ljava/lang/Class;" } : Jvm.MethodName) ({ cls := "java/lang/Object", name := "getClass", desc := "()Ljava/lang/Class;" } : Jvm.MethodName)) ∈ lw_all := lw_g (lw_at lw_m7 36 rfl) rfl
theorem q2733 : (Jvm.Cond.castable "UnreadSigns$Word" "java/lang/Object") ∈ lw_tbl := lw_at lw_m11 191 rfl
theorem q177 : (Jvm.Cond.initialized "UnreadSignsModel") ∈ lw_all := lw_g (lw_at lw_m1 35 rfl) rfl
theorem q1620 : (Jvm.Cond.selects "UnreadSignsModel" ({ cls := "java/lang/Object", name := "getClass", desc := "()Ljava/lang/Class;" } : Jvm.MethodName) ({ cls := "java/lang/Object", name := "getClass", desc := "()Ljava/lang/Class;" } : Jvm.MethodName)) ∈ lw_all := lw_g (lw_at lw_m7 38 rfl) rfl
theorem q2106 : (Jvm.Cond.instantiable "UnreadSignsModel" (46 : Nat)) ∈ lw_all := lw_g (lw_at lw_m9 44 rfl) rfl
theorem q2108 : (Jvm.Cond.instanceMethod ({ cls := "UnreadSignsModel", name := "<init>", desc := "()V" } : Jvm.MethodName)) ∈ lw_all := lw_g (lw_at lw_m9 46 rfl) rfl
theorem q2109 : (Jvm.Cond.code ({ cls := "UnreadSignsModel", name := "<init>", desc := "()V" } : Jvm.MethodName) prog_16_method_1_code (1 : Nat) (Option.none : Option Jvm.ClassFile.FieldType)) ∈ lw_all := lw_g (lw_at lw_m9 47 rfl) rfl
theorem q2110 : (Jvm.Cond.methodLink "UnreadSignsModel" (3 : Nat) ({ cls := "java/lang/Object", name := "<init>", desc := "()V" } : Jvm.MethodName)) ∈ lw_all := lw_g (lw_at lw_m9 48 rfl) rfl
theorem q2111 : (Jvm.Cond.methodLink "UnreadSignsModel" (102 : Nat) ({ cls := "UnreadSignsModel", name := "clearsTold", desc := "()V" } : Jvm.MethodName)) ∈ lw_all := lw_g (lw_at lw_m9 49 rfl) rfl
theorem q2112 : (Jvm.Cond.privateMethod ({ cls := "UnreadSignsModel", name := "clearsTold", desc := "()V" } : Jvm.MethodName)) ∈ lw_tbl := lw_at lw_m9 50 rfl
theorem q2113 : (Jvm.Cond.instanceMethod ({ cls := "UnreadSignsModel", name := "clearsTold", desc := "()V" } : Jvm.MethodName)) ∈ lw_all := lw_g (lw_at lw_m9 51 rfl) rfl
theorem q2114 : (Jvm.Cond.code ({ cls := "UnreadSignsModel", name := "clearsTold", desc := "()V" } : Jvm.MethodName) prog_16_method_25_code (2 : Nat) (Option.none : Option Jvm.ClassFile.FieldType)) ∈ lw_all := lw_g (lw_at lw_m9 52 rfl) rfl
theorem q2115 : (Jvm.Cond.fieldLink "UnreadSignsModel" (9 : Nat) "UnreadSignsModel" "tape" "[B") ∈ lw_all := lw_g (lw_at lw_m9 53 rfl) rfl
theorem q2116 : (Jvm.Cond.fieldLink "UnreadSignsModel" (105 : Nat) "UnreadSignsModel" "taped" "I") ∈ lw_all := lw_g (lw_at lw_m9 54 rfl) rfl
theorem q2117 : (Jvm.Cond.fieldLink "UnreadSignsModel" (113 : Nat) "UnreadSignsModel" "p" "I") ∈ lw_all := lw_g (lw_at lw_m9 55 rfl) rfl
theorem q2118 : (Jvm.Cond.fieldLink "UnreadSignsModel" (116 : Nat) "UnreadSignsModel" "fault" "I") ∈ lw_all := lw_g (lw_at lw_m9 56 rfl) rfl
theorem q2119 : (Jvm.Cond.fieldLink "UnreadSignsModel" (162 : Nat) "UnreadSignsModel" "forms" "I") ∈ lw_all := lw_g (lw_at lw_m9 57 rfl) rfl
theorem q2120 : (Jvm.Cond.fieldLink "UnreadSignsModel" (144 : Nat) "UnreadSignsModel" "newForms" "I") ∈ lw_all := lw_g (lw_at lw_m9 58 rfl) rfl
theorem q2121 : (Jvm.Cond.fieldLink "UnreadSignsModel" (13 : Nat) "UnreadSignsModel" "form" "[I") ∈ lw_all := lw_g (lw_at lw_m9 59 rfl) rfl
theorem q2122 : (Jvm.Cond.fieldLink "UnreadSignsModel" (17 : Nat) "UnreadSignsModel" "newForm" "[I") ∈ lw_all := lw_g (lw_at lw_m9 60 rfl) rfl
theorem q2123 : (Jvm.Cond.fieldLink "UnreadSignsModel" (165 : Nat) "UnreadSignsModel" "stones" "I") ∈ lw_all := lw_g (lw_at lw_m9 61 rfl) rfl
theorem q2124 : (Jvm.Cond.fieldLink "UnreadSignsModel" (20 : Nat) "UnreadSignsModel" "rowMany" "[I") ∈ lw_all := lw_g (lw_at lw_m9 62 rfl) rfl
theorem q2125 : (Jvm.Cond.fieldLink "UnreadSignsModel" (23 : Nat) "UnreadSignsModel" "rowLong" "[I") ∈ lw_all := lw_g (lw_at lw_m9 63 rfl) rfl
theorem q2126 : (Jvm.Cond.fieldLink "UnreadSignsModel" (26 : Nat) "UnreadSignsModel" "stone" "[I") ∈ lw_all := lw_g (lw_at lw_m9 64 rfl) rfl
theorem q2127 : (Jvm.Cond.fieldLink "UnreadSignsModel" (203 : Nat) "UnreadSignsModel" "names" "I") ∈ lw_all := lw_g (lw_at lw_m9 65 rfl) rfl
theorem q2128 : (Jvm.Cond.fieldLink "UnreadSignsModel" (29 : Nat) "UnreadSignsModel" "nameLong" "[I") ∈ lw_all := lw_g (lw_at lw_m9 66 rfl) rfl
theorem q2129 : (Jvm.Cond.fieldLink "UnreadSignsModel" (32 : Nat) "UnreadSignsModel" "name" "[I") ∈ lw_all := lw_g (lw_at lw_m9 67 rfl) rfl
theorem q2130 : (Jvm.Cond.fieldLink "UnreadSignsModel" (35 : Nat) "UnreadSignsModel" "told" "[I") ∈ lw_all := lw_g (lw_at lw_m9 68 rfl) rfl
theorem q2131 : (Jvm.Cond.fieldLink "UnreadSignsModel" (38 : Nat) "UnreadSignsModel" "past" "[I") ∈ lw_all := lw_g (lw_at lw_m9 69 rfl) rfl
theorem q2132 : (Jvm.Cond.fieldLink "UnreadSignsModel" (181 : Nat) "UnreadSignsModel" "pastMany" "I") ∈ lw_all := lw_g (lw_at lw_m9 70 rfl) rfl
theorem q2133 : (Jvm.Cond.fieldLink "UnreadSignsModel" (41 : Nat) "UnreadSignsModel" "signOf" "[I") ∈ lw_all := lw_g (lw_at lw_m9 71 rfl) rfl
theorem q2134 : (Jvm.Cond.fieldLink "UnreadSignsModel" (259 : Nat) "UnreadSignsModel" "signMany" "I") ∈ lw_all := lw_g (lw_at lw_m9 72 rfl) rfl
theorem q2135 : (Jvm.Cond.fieldLink "UnreadSignsModel" (44 : Nat) "UnreadSignsModel" "joined" "[I") ∈ lw_all := lw_g (lw_at lw_m9 73 rfl) rfl
theorem q2136 : (Jvm.Cond.fieldLink "UnreadSignsModel" (47 : Nat) "UnreadSignsModel" "begin" "[I") ∈ lw_all := lw_g (lw_at lw_m9 74 rfl) rfl
theorem q2137 : (Jvm.Cond.fieldLink "UnreadSignsModel" (50 : Nat) "UnreadSignsModel" "read" "[I") ∈ lw_all := lw_g (lw_at lw_m9 75 rfl) rfl
theorem q2138 : (Jvm.Cond.fieldLink "UnreadSignsModel" (283 : Nat) "UnreadSignsModel" "rows" "I") ∈ lw_all := lw_g (lw_at lw_m9 76 rfl) rfl
theorem q2139 : (Jvm.Cond.fieldLink "UnreadSignsModel" (53 : Nat) "UnreadSignsModel" "piece" "[I") ∈ lw_all := lw_g (lw_at lw_m9 77 rfl) rfl
theorem q2140 : (Jvm.Cond.fieldLink "UnreadSignsModel" (302 : Nat) "UnreadSignsModel" "words" "I") ∈ lw_all := lw_g (lw_at lw_m9 78 rfl) rfl
theorem q2141 : (Jvm.Cond.fieldLink "UnreadSignsModel" (311 : Nat) "UnreadSignsModel" "wordMany" "I") ∈ lw_all := lw_g (lw_at lw_m9 79 rfl) rfl
theorem q2142 : (Jvm.Cond.fieldLink "UnreadSignsModel" (56 : Nat) "UnreadSignsModel" "wordLong" "[I") ∈ lw_all := lw_g (lw_at lw_m9 80 rfl) rfl
theorem q2143 : (Jvm.Cond.fieldLink "UnreadSignsModel" (59 : Nat) "UnreadSignsModel" "word" "[I") ∈ lw_all := lw_g (lw_at lw_m9 81 rfl) rfl
theorem q2144 : (Jvm.Cond.fieldLink "UnreadSignsModel" (62 : Nat) "UnreadSignsModel" "times" "[I") ∈ lw_all := lw_g (lw_at lw_m9 82 rfl) rfl
theorem q2145 : (Jvm.Cond.fieldLink "UnreadSignsModel" (65 : Nat) "UnreadSignsModel" "firsts" "[I") ∈ lw_all := lw_g (lw_at lw_m9 83 rfl) rfl
theorem q2146 : (Jvm.Cond.fieldLink "UnreadSignsModel" (68 : Nat) "UnreadSignsModel" "lasts" "[I") ∈ lw_all := lw_g (lw_at lw_m9 84 rfl) rfl
theorem q2147 : (Jvm.Cond.fieldLink "UnreadSignsModel" (322 : Nat) "UnreadSignsModel" "stems" "I") ∈ lw_all := lw_g (lw_at lw_m9 85 rfl) rfl
theorem q2148 : (Jvm.Cond.fieldLink "UnreadSignsModel" (71 : Nat) "UnreadSignsModel" "stemOf" "[I") ∈ lw_all := lw_g (lw_at lw_m9 86 rfl) rfl
theorem q2149 : (Jvm.Cond.fieldLink "UnreadSignsModel" (74 : Nat) "UnreadSignsModel" "isClue" "[Z") ∈ lw_all := lw_g (lw_at lw_m9 87 rfl) rfl
theorem q2150 : (Jvm.Cond.fieldLink "UnreadSignsModel" (78 : Nat) "UnreadSignsModel" "group" "[I") ∈ lw_all := lw_g (lw_at lw_m9 88 rfl) rfl
theorem q2151 : (Jvm.Cond.fieldLink "UnreadSignsModel" (81 : Nat) "UnreadSignsModel" "far" "[I") ∈ lw_all := lw_g (lw_at lw_m9 89 rfl) rfl
theorem q2152 : (Jvm.Cond.fieldLink "UnreadSignsModel" (84 : Nat) "UnreadSignsModel" "known" "[I") ∈ lw_all := lw_g (lw_at lw_m9 90 rfl) rfl
theorem q2153 : (Jvm.Cond.fieldLink "UnreadSignsModel" (87 : Nat) "UnreadSignsModel" "given" "[I") ∈ lw_all := lw_g (lw_at lw_m9 91 rfl) rfl
theorem q2154 : (Jvm.Cond.fieldLink "UnreadSignsModel" (90 : Nat) "UnreadSignsModel" "first" "[I") ∈ lw_all := lw_g (lw_at lw_m9 92 rfl) rfl
theorem q2155 : (Jvm.Cond.fieldLink "UnreadSignsModel" (386 : Nat) "UnreadSignsModel" "wayMany" "I") ∈ lw_all := lw_g (lw_at lw_m9 93 rfl) rfl
theorem q2156 : (Jvm.Cond.fieldLink "UnreadSignsModel" (398 : Nat) "UnreadSignsModel" "x" "I") ∈ lw_all := lw_g (lw_at lw_m9 94 rfl) rfl
theorem q2157 : (Jvm.Cond.fieldLink "UnreadSignsModel" (93 : Nat) "UnreadSignsModel" "whole" "[I") ∈ lw_all := lw_g (lw_at lw_m9 95 rfl) rfl
theorem q2158 : (Jvm.Cond.fieldLink "UnreadSignsModel" (96 : Nat) "UnreadSignsModel" "value" "[I") ∈ lw_all := lw_g (lw_at lw_m9 96 rfl) rfl
theorem q2159 : (Jvm.Cond.fieldLink "UnreadSignsModel" (99 : Nat) "UnreadSignsModel" "mixed" "[I") ∈ lw_all := lw_g (lw_at lw_m9 97 rfl) rfl
theorem q2160 : (Jvm.Cond.fieldLink "UnreadSignsModel" (184 : Nat) "UnreadSignsModel" "isLaid" "Z") ∈ lw_all := lw_g (lw_at lw_m9 98 rfl) rfl
theorem q2161 : (Jvm.Cond.laysFinal "UnreadSignsModel" "UnreadSignsModel" "tape" "[B") ∈ lw_all := lw_g (lw_at lw_m9 99 rfl) rfl
theorem q2162 : (Jvm.Cond.soleField "UnreadSignsModel" "tape") ∈ lw_all := lw_g (lw_at lw_m9 100 rfl) rfl
theorem q2163 : (Jvm.Cond.lays "UnreadSignsModel" "UnreadSignsModel" "taped" "I") ∈ lw_all := lw_g (lw_at lw_m9 101 rfl) rfl
theorem q2164 : (Jvm.Cond.soleField "UnreadSignsModel" "taped") ∈ lw_all := lw_g (lw_at lw_m9 102 rfl) rfl
theorem q2165 : (Jvm.Cond.lays "UnreadSignsModel" "UnreadSignsModel" "p" "I") ∈ lw_all := lw_g (lw_at lw_m9 103 rfl) rfl
theorem q2166 : (Jvm.Cond.soleField "UnreadSignsModel" "p") ∈ lw_all := lw_g (lw_at lw_m9 104 rfl) rfl
theorem q2167 : (Jvm.Cond.lays "UnreadSignsModel" "UnreadSignsModel" "fault" "I") ∈ lw_all := lw_g (lw_at lw_m9 105 rfl) rfl
theorem q2168 : (Jvm.Cond.soleField "UnreadSignsModel" "fault") ∈ lw_all := lw_g (lw_at lw_m9 106 rfl) rfl
theorem q2169 : (Jvm.Cond.lays "UnreadSignsModel" "UnreadSignsModel" "forms" "I") ∈ lw_all := lw_g (lw_at lw_m9 107 rfl) rfl
theorem q2170 : (Jvm.Cond.soleField "UnreadSignsModel" "forms") ∈ lw_all := lw_g (lw_at lw_m9 108 rfl) rfl
theorem q2171 : (Jvm.Cond.lays "UnreadSignsModel" "UnreadSignsModel" "newForms" "I") ∈ lw_all := lw_g (lw_at lw_m9 109 rfl) rfl
theorem q2172 : (Jvm.Cond.soleField "UnreadSignsModel" "newForms") ∈ lw_all := lw_g (lw_at lw_m9 110 rfl) rfl
theorem q2173 : (Jvm.Cond.laysFinal "UnreadSignsModel" "UnreadSignsModel" "form" "[I") ∈ lw_all := lw_g (lw_at lw_m9 111 rfl) rfl
theorem q2174 : (Jvm.Cond.soleField "UnreadSignsModel" "form") ∈ lw_all := lw_g (lw_at lw_m9 112 rfl) rfl
theorem q2175 : (Jvm.Cond.laysFinal "UnreadSignsModel" "UnreadSignsModel" "newForm" "[I") ∈ lw_all := lw_g (lw_at lw_m9 113 rfl) rfl
theorem q2176 : (Jvm.Cond.soleField "UnreadSignsModel" "newForm") ∈ lw_all := lw_g (lw_at lw_m9 114 rfl) rfl
theorem q2177 : (Jvm.Cond.lays "UnreadSignsModel" "UnreadSignsModel" "stones" "I") ∈ lw_all := lw_g (lw_at lw_m9 115 rfl) rfl
theorem q2178 : (Jvm.Cond.soleField "UnreadSignsModel" "stones") ∈ lw_all := lw_g (lw_at lw_m9 116 rfl) rfl
theorem q2179 : (Jvm.Cond.laysFinal "UnreadSignsModel" "UnreadSignsModel" "rowMany" "[I") ∈ lw_all := lw_g (lw_at lw_m9 117 rfl) rfl
theorem q2180 : (Jvm.Cond.soleField "UnreadSignsModel" "rowMany") ∈ lw_all := lw_g (lw_at lw_m9 118 rfl) rfl
theorem q2181 : (Jvm.Cond.laysFinal "UnreadSignsModel" "UnreadSignsModel" "rowLong" "[I") ∈ lw_all := lw_g (lw_at lw_m9 119 rfl) rfl
theorem q2182 : (Jvm.Cond.soleField "UnreadSignsModel" "rowLong") ∈ lw_all := lw_g (lw_at lw_m9 120 rfl) rfl
theorem q2183 : (Jvm.Cond.laysFinal "UnreadSignsModel" "UnreadSignsModel" "stone" "[I") ∈ lw_all := lw_g (lw_at lw_m9 121 rfl) rfl
theorem q2184 : (Jvm.Cond.soleField "UnreadSignsModel" "stone") ∈ lw_all := lw_g (lw_at lw_m9 122 rfl) rfl
theorem q2185 : (Jvm.Cond.lays "UnreadSignsModel" "UnreadSignsModel" "names" "I") ∈ lw_all := lw_g (lw_at lw_m9 123 rfl) rfl
theorem q2186 : (Jvm.Cond.soleField "UnreadSignsModel" "names") ∈ lw_all := lw_g (lw_at lw_m9 124 rfl) rfl
theorem q2187 : (Jvm.Cond.laysFinal "UnreadSignsModel" "UnreadSignsModel" "nameLong" "[I") ∈ lw_all := lw_g (lw_at lw_m9 125 rfl) rfl
theorem q2188 : (Jvm.Cond.soleField "UnreadSignsModel" "nameLong") ∈ lw_all := lw_g (lw_at lw_m9 126 rfl) rfl
theorem q2189 : (Jvm.Cond.laysFinal "UnreadSignsModel" "UnreadSignsModel" "name" "[I") ∈ lw_all := lw_g (lw_at lw_m9 127 rfl) rfl
theorem q2190 : (Jvm.Cond.soleField "UnreadSignsModel" "name") ∈ lw_all := lw_g (lw_at lw_m9 128 rfl) rfl
theorem q2191 : (Jvm.Cond.laysFinal "UnreadSignsModel" "UnreadSignsModel" "told" "[I") ∈ lw_all := lw_g (lw_at lw_m9 129 rfl) rfl
theorem q2192 : (Jvm.Cond.soleField "UnreadSignsModel" "told") ∈ lw_all := lw_g (lw_at lw_m9 130 rfl) rfl
theorem q2193 : (Jvm.Cond.laysFinal "UnreadSignsModel" "UnreadSignsModel" "past" "[I") ∈ lw_all := lw_g (lw_at lw_m9 131 rfl) rfl
theorem q2194 : (Jvm.Cond.soleField "UnreadSignsModel" "past") ∈ lw_all := lw_g (lw_at lw_m9 132 rfl) rfl
theorem q2195 : (Jvm.Cond.lays "UnreadSignsModel" "UnreadSignsModel" "pastMany" "I") ∈ lw_all := lw_g (lw_at lw_m9 133 rfl) rfl
theorem q2196 : (Jvm.Cond.soleField "UnreadSignsModel" "pastMany") ∈ lw_all := lw_g (lw_at lw_m9 134 rfl) rfl
theorem q2197 : (Jvm.Cond.laysFinal "UnreadSignsModel" "UnreadSignsModel" "signOf" "[I") ∈ lw_all := lw_g (lw_at lw_m9 135 rfl) rfl
theorem q2198 : (Jvm.Cond.soleField "UnreadSignsModel" "signOf") ∈ lw_all := lw_g (lw_at lw_m9 136 rfl) rfl
theorem q2199 : (Jvm.Cond.lays "UnreadSignsModel" "UnreadSignsModel" "signMany" "I") ∈ lw_all := lw_g (lw_at lw_m9 137 rfl) rfl
theorem q2200 : (Jvm.Cond.soleField "UnreadSignsModel" "signMany") ∈ lw_all := lw_g (lw_at lw_m9 138 rfl) rfl
theorem q2201 : (Jvm.Cond.laysFinal "UnreadSignsModel" "UnreadSignsModel" "joined" "[I") ∈ lw_all := lw_g (lw_at lw_m9 139 rfl) rfl
theorem q2202 : (Jvm.Cond.soleField "UnreadSignsModel" "joined") ∈ lw_all := lw_g (lw_at lw_m9 140 rfl) rfl
theorem q2203 : (Jvm.Cond.laysFinal "UnreadSignsModel" "UnreadSignsModel" "begin" "[I") ∈ lw_all := lw_g (lw_at lw_m9 141 rfl) rfl
theorem q2204 : (Jvm.Cond.soleField "UnreadSignsModel" "begin") ∈ lw_all := lw_g (lw_at lw_m9 142 rfl) rfl
theorem q2205 : (Jvm.Cond.laysFinal "UnreadSignsModel" "UnreadSignsModel" "read" "[I") ∈ lw_all := lw_g (lw_at lw_m9 143 rfl) rfl
theorem q2206 : (Jvm.Cond.soleField "UnreadSignsModel" "read") ∈ lw_all := lw_g (lw_at lw_m9 144 rfl) rfl
theorem q2207 : (Jvm.Cond.lays "UnreadSignsModel" "UnreadSignsModel" "rows" "I") ∈ lw_all := lw_g (lw_at lw_m9 145 rfl) rfl
theorem q2208 : (Jvm.Cond.soleField "UnreadSignsModel" "rows") ∈ lw_all := lw_g (lw_at lw_m9 146 rfl) rfl
theorem q2209 : (Jvm.Cond.laysFinal "UnreadSignsModel" "UnreadSignsModel" "piece" "[I") ∈ lw_all := lw_g (lw_at lw_m9 147 rfl) rfl
theorem q2210 : (Jvm.Cond.soleField "UnreadSignsModel" "piece") ∈ lw_all := lw_g (lw_at lw_m9 148 rfl) rfl
theorem q2211 : (Jvm.Cond.lays "UnreadSignsModel" "UnreadSignsModel" "words" "I") ∈ lw_all := lw_g (lw_at lw_m9 149 rfl) rfl
theorem q2212 : (Jvm.Cond.soleField "UnreadSignsModel" "words") ∈ lw_all := lw_g (lw_at lw_m9 150 rfl) rfl
theorem q2213 : (Jvm.Cond.lays "UnreadSignsModel" "UnreadSignsModel" "wordMany" "I") ∈ lw_all := lw_g (lw_at lw_m9 151 rfl) rfl
theorem q2214 : (Jvm.Cond.soleField "UnreadSignsModel" "wordMany") ∈ lw_all := lw_g (lw_at lw_m9 152 rfl) rfl
theorem q2215 : (Jvm.Cond.laysFinal "UnreadSignsModel" "UnreadSignsModel" "wordLong" "[I") ∈ lw_all := lw_g (lw_at lw_m9 153 rfl) rfl
theorem q2216 : (Jvm.Cond.soleField "UnreadSignsModel" "wordLong") ∈ lw_all := lw_g (lw_at lw_m9 154 rfl) rfl
theorem q2217 : (Jvm.Cond.laysFinal "UnreadSignsModel" "UnreadSignsModel" "word" "[I") ∈ lw_all := lw_g (lw_at lw_m9 155 rfl) rfl
theorem q2218 : (Jvm.Cond.soleField "UnreadSignsModel" "word") ∈ lw_all := lw_g (lw_at lw_m9 156 rfl) rfl
theorem q2219 : (Jvm.Cond.laysFinal "UnreadSignsModel" "UnreadSignsModel" "times" "[I") ∈ lw_all := lw_g (lw_at lw_m9 157 rfl) rfl
theorem q2220 : (Jvm.Cond.soleField "UnreadSignsModel" "times") ∈ lw_all := lw_g (lw_at lw_m9 158 rfl) rfl
theorem q2221 : (Jvm.Cond.laysFinal "UnreadSignsModel" "UnreadSignsModel" "firsts" "[I") ∈ lw_all := lw_g (lw_at lw_m9 159 rfl) rfl
theorem q2222 : (Jvm.Cond.soleField "UnreadSignsModel" "firsts") ∈ lw_all := lw_g (lw_at lw_m9 160 rfl) rfl
theorem q2223 : (Jvm.Cond.laysFinal "UnreadSignsModel" "UnreadSignsModel" "lasts" "[I") ∈ lw_all := lw_g (lw_at lw_m9 161 rfl) rfl
theorem q2224 : (Jvm.Cond.soleField "UnreadSignsModel" "lasts") ∈ lw_all := lw_g (lw_at lw_m9 162 rfl) rfl
theorem q2225 : (Jvm.Cond.lays "UnreadSignsModel" "UnreadSignsModel" "stems" "I") ∈ lw_all := lw_g (lw_at lw_m9 163 rfl) rfl
theorem q2226 : (Jvm.Cond.soleField "UnreadSignsModel" "stems") ∈ lw_all := lw_g (lw_at lw_m9 164 rfl) rfl
theorem q2227 : (Jvm.Cond.laysFinal "UnreadSignsModel" "UnreadSignsModel" "stemOf" "[I") ∈ lw_all := lw_g (lw_at lw_m9 165 rfl) rfl
theorem q2228 : (Jvm.Cond.soleField "UnreadSignsModel" "stemOf") ∈ lw_all := lw_g (lw_at lw_m9 166 rfl) rfl
theorem q2229 : (Jvm.Cond.laysFinal "UnreadSignsModel" "UnreadSignsModel" "isClue" "[Z") ∈ lw_all := lw_g (lw_at lw_m9 167 rfl) rfl
theorem q2230 : (Jvm.Cond.soleField "UnreadSignsModel" "isClue") ∈ lw_all := lw_g (lw_at lw_m9 168 rfl) rfl
theorem q2231 : (Jvm.Cond.laysFinal "UnreadSignsModel" "UnreadSignsModel" "group" "[I") ∈ lw_all := lw_g (lw_at lw_m9 169 rfl) rfl
theorem q2232 : (Jvm.Cond.soleField "UnreadSignsModel" "group") ∈ lw_all := lw_g (lw_at lw_m9 170 rfl) rfl
theorem q2233 : (Jvm.Cond.laysFinal "UnreadSignsModel" "UnreadSignsModel" "far" "[I") ∈ lw_all := lw_g (lw_at lw_m9 171 rfl) rfl
theorem q2234 : (Jvm.Cond.soleField "UnreadSignsModel" "far") ∈ lw_all := lw_g (lw_at lw_m9 172 rfl) rfl
theorem q2235 : (Jvm.Cond.laysFinal "UnreadSignsModel" "UnreadSignsModel" "known" "[I") ∈ lw_all := lw_g (lw_at lw_m9 173 rfl) rfl
theorem q2236 : (Jvm.Cond.soleField "UnreadSignsModel" "known") ∈ lw_all := lw_g (lw_at lw_m9 174 rfl) rfl
theorem q2237 : (Jvm.Cond.laysFinal "UnreadSignsModel" "UnreadSignsModel" "given" "[I") ∈ lw_all := lw_g (lw_at lw_m9 175 rfl) rfl
theorem q2238 : (Jvm.Cond.soleField "UnreadSignsModel" "given") ∈ lw_all := lw_g (lw_at lw_m9 176 rfl) rfl
theorem q2239 : (Jvm.Cond.laysFinal "UnreadSignsModel" "UnreadSignsModel" "first" "[I") ∈ lw_all := lw_g (lw_at lw_m9 177 rfl) rfl
theorem q2240 : (Jvm.Cond.soleField "UnreadSignsModel" "first") ∈ lw_all := lw_g (lw_at lw_m9 178 rfl) rfl
theorem q2241 : (Jvm.Cond.lays "UnreadSignsModel" "UnreadSignsModel" "wayMany" "I") ∈ lw_all := lw_g (lw_at lw_m9 179 rfl) rfl
theorem q2242 : (Jvm.Cond.soleField "UnreadSignsModel" "wayMany") ∈ lw_all := lw_g (lw_at lw_m9 180 rfl) rfl
theorem q2243 : (Jvm.Cond.lays "UnreadSignsModel" "UnreadSignsModel" "x" "I") ∈ lw_all := lw_g (lw_at lw_m9 181 rfl) rfl
theorem q2244 : (Jvm.Cond.soleField "UnreadSignsModel" "x") ∈ lw_all := lw_g (lw_at lw_m9 182 rfl) rfl
theorem q2245 : (Jvm.Cond.laysFinal "UnreadSignsModel" "UnreadSignsModel" "whole" "[I") ∈ lw_all := lw_g (lw_at lw_m9 183 rfl) rfl
theorem q2246 : (Jvm.Cond.soleField "UnreadSignsModel" "whole") ∈ lw_all := lw_g (lw_at lw_m9 184 rfl) rfl
theorem q2247 : (Jvm.Cond.laysFinal "UnreadSignsModel" "UnreadSignsModel" "value" "[I") ∈ lw_all := lw_g (lw_at lw_m9 185 rfl) rfl
theorem q2248 : (Jvm.Cond.soleField "UnreadSignsModel" "value") ∈ lw_all := lw_g (lw_at lw_m9 186 rfl) rfl
theorem q2249 : (Jvm.Cond.laysFinal "UnreadSignsModel" "UnreadSignsModel" "mixed" "[I") ∈ lw_all := lw_g (lw_at lw_m9 187 rfl) rfl
theorem q2250 : (Jvm.Cond.soleField "UnreadSignsModel" "mixed") ∈ lw_all := lw_g (lw_at lw_m9 188 rfl) rfl
theorem q2251 : (Jvm.Cond.lays "UnreadSignsModel" "UnreadSignsModel" "isLaid" "Z") ∈ lw_all := lw_g (lw_at lw_m9 189 rfl) rfl
theorem q2252 : (Jvm.Cond.soleField "UnreadSignsModel" "isLaid") ∈ lw_all := lw_g (lw_at lw_m9 190 rfl) rfl
theorem q2253 : (Jvm.Cond.superclass "UnreadSignsModel" "java/lang/Object") ∈ lw_all := lw_g (lw_at lw_m9 191 rfl) rfl
theorem q2256 : (Jvm.Cond.instanceMethod ({ cls := "UnreadSignsModel", name := "feed", desc := "(IIIII)I" } : Jvm.MethodName)) ∈ lw_all := lw_g (lw_at lw_m9 194 rfl) rfl
theorem q2257 : (Jvm.Cond.selects "UnreadSignsModel" ({ cls := "UnreadSignsModel", name := "feed", desc := "(IIIII)I" } : Jvm.MethodName) ({ cls := "UnreadSignsModel", name := "feed", desc := "(IIIII)I" } : Jvm.MethodName)) ∈ lw_all := lw_g (lw_at lw_m9 195 rfl) rfl
theorem q2258 : (Jvm.Cond.code ({ cls := "UnreadSignsModel", name := "feed", desc := "(IIIII)I" } : Jvm.MethodName) prog_16_method_4_code (6 : Nat) (Option.some Jvm.ClassFile.FieldType.int)) ∈ lw_all := lw_g (lw_at lw_m9 196 rfl) rfl
theorem q2259 : (Jvm.Cond.methodLink "UnreadSignsModel" (109 : Nat) ({ cls := "UnreadSignsModel", name := "puts", desc := "(I)V" } : Jvm.MethodName)) ∈ lw_all := lw_g (lw_at lw_m9 197 rfl) rfl
theorem q2260 : (Jvm.Cond.privateMethod ({ cls := "UnreadSignsModel", name := "puts", desc := "(I)V" } : Jvm.MethodName)) ∈ lw_tbl := lw_at lw_m9 198 rfl
theorem q2261 : (Jvm.Cond.instanceMethod ({ cls := "UnreadSignsModel", name := "puts", desc := "(I)V" } : Jvm.MethodName)) ∈ lw_all := lw_g (lw_at lw_m9 199 rfl) rfl
theorem q2262 : (Jvm.Cond.code ({ cls := "UnreadSignsModel", name := "puts", desc := "(I)V" } : Jvm.MethodName) prog_16_method_5_code (3 : Nat) (Option.none : Option Jvm.ClassFile.FieldType)) ∈ lw_all := lw_g (lw_at lw_m9 200 rfl) rfl
theorem q2264 : (Jvm.Cond.instanceMethod ({ cls := "UnreadSignsModel", name := "end", desc := "(I)I" } : Jvm.MethodName)) ∈ lw_all := lw_g (lw_at lw_m9 202 rfl) rfl
theorem q2265 : (Jvm.Cond.selects "UnreadSignsModel" ({ cls := "UnreadSignsModel", name := "end", desc := "(I)I" } : Jvm.MethodName) ({ cls := "UnreadSignsModel", name := "end", desc := "(I)I" } : Jvm.MethodName)) ∈ lw_all := lw_g (lw_at lw_m9 203 rfl) rfl
theorem q2266 : (Jvm.Cond.code ({ cls := "UnreadSignsModel", name := "end", desc := "(I)I" } : Jvm.MethodName) prog_16_method_6_code (2 : Nat) (Option.some Jvm.ClassFile.FieldType.int)) ∈ lw_all := lw_g (lw_at lw_m9 204 rfl) rfl
theorem q2268 : (Jvm.Cond.instanceMethod ({ cls := "UnreadSignsModel", name := "forms", desc := "()I" } : Jvm.MethodName)) ∈ lw_all := lw_g (lw_at lw_m9 206 rfl) rfl
theorem q2269 : (Jvm.Cond.selects "UnreadSignsModel" ({ cls := "UnreadSignsModel", name := "forms", desc := "()I" } : Jvm.MethodName) ({ cls := "UnreadSignsModel", name := "forms", desc := "()I" } : Jvm.MethodName)) ∈ lw_all := lw_g (lw_at lw_m9 207 rfl) rfl
theorem q2270 : (Jvm.Cond.code ({ cls := "UnreadSignsModel", name := "forms", desc := "()I" } : Jvm.MethodName) prog_16_method_16_code (2 : Nat) (Option.some Jvm.ClassFile.FieldType.int)) ∈ lw_all := lw_g (lw_at lw_m9 208 rfl) rfl
theorem q2271 : (Jvm.Cond.methodLink "UnreadSignsModel" (156 : Nat) ({ cls := "UnreadSignsModel", name := "starts", desc := "()V" } : Jvm.MethodName)) ∈ lw_all := lw_g (lw_at lw_m9 209 rfl) rfl
theorem q2272 : (Jvm.Cond.privateMethod ({ cls := "UnreadSignsModel", name := "starts", desc := "()V" } : Jvm.MethodName)) ∈ lw_tbl := lw_at lw_m9 210 rfl
theorem q2273 : (Jvm.Cond.instanceMethod ({ cls := "UnreadSignsModel", name := "starts", desc := "()V" } : Jvm.MethodName)) ∈ lw_all := lw_g (lw_at lw_m9 211 rfl) rfl
theorem q2274 : (Jvm.Cond.code ({ cls := "UnreadSignsModel", name := "starts", desc := "()V" } : Jvm.MethodName) prog_16_method_12_code (1 : Nat) (Option.none : Option Jvm.ClassFile.FieldType)) ∈ lw_all := lw_g (lw_at lw_m9 212 rfl) rfl
theorem q2275 : (Jvm.Cond.methodLink "UnreadSignsModel" (127 : Nat) ({ cls := "UnreadSignsModel", name := "blanks", desc := "()V" } : Jvm.MethodName)) ∈ lw_all := lw_g (lw_at lw_m9 213 rfl) rfl
theorem q2276 : (Jvm.Cond.privateMethod ({ cls := "UnreadSignsModel", name := "blanks", desc := "()V" } : Jvm.MethodName)) ∈ lw_tbl := lw_at lw_m9 214 rfl
theorem q2277 : (Jvm.Cond.instanceMethod ({ cls := "UnreadSignsModel", name := "blanks", desc := "()V" } : Jvm.MethodName)) ∈ lw_all := lw_g (lw_at lw_m9 215 rfl) rfl
theorem q2278 : (Jvm.Cond.code ({ cls := "UnreadSignsModel", name := "blanks", desc := "()V" } : Jvm.MethodName) prog_16_method_11_code (1 : Nat) (Option.none : Option Jvm.ClassFile.FieldType)) ∈ lw_all := lw_g (lw_at lw_m9 216 rfl) rfl
theorem q2279 : (Jvm.Cond.methodLink "UnreadSignsModel" (119 : Nat) ({ cls := "UnreadSignsModel", name := "sign", desc := "()I" } : Jvm.MethodName)) ∈ lw_all := lw_g (lw_at lw_m9 217 rfl) rfl
theorem q2280 : (Jvm.Cond.privateMethod ({ cls := "UnreadSignsModel", name := "sign", desc := "()I" } : Jvm.MethodName)) ∈ lw_tbl := lw_at lw_m9 218 rfl
theorem q2281 : (Jvm.Cond.instanceMethod ({ cls := "UnreadSignsModel", name := "sign", desc := "()I" } : Jvm.MethodName)) ∈ lw_all := lw_g (lw_at lw_m9 219 rfl) rfl
theorem q2282 : (Jvm.Cond.code ({ cls := "UnreadSignsModel", name := "sign", desc := "()I" } : Jvm.MethodName) prog_16_method_7_code (1 : Nat) (Option.some Jvm.ClassFile.FieldType.int)) ∈ lw_all := lw_g (lw_at lw_m9 220 rfl) rfl
theorem q2283 : (Jvm.Cond.methodLink "UnreadSignsModel" (147 : Nat) ({ cls := "UnreadSignsModel", name := "isRight", desc := "()Z" } : Jvm.MethodName)) ∈ lw_all := lw_g (lw_at lw_m9 221 rfl) rfl
theorem q2284 : (Jvm.Cond.privateMethod ({ cls := "UnreadSignsModel", name := "isRight", desc := "()Z" } : Jvm.MethodName)) ∈ lw_tbl := lw_at lw_m9 222 rfl
theorem q2285 : (Jvm.Cond.instanceMethod ({ cls := "UnreadSignsModel", name := "isRight", desc := "()Z" } : Jvm.MethodName)) ∈ lw_all := lw_g (lw_at lw_m9 223 rfl) rfl
theorem q2286 : (Jvm.Cond.code ({ cls := "UnreadSignsModel", name := "isRight", desc := "()Z" } : Jvm.MethodName) prog_16_method_9_code (1 : Nat) (Option.some Jvm.ClassFile.FieldType.boolean)) ∈ lw_all := lw_g (lw_at lw_m9 224 rfl) rfl
theorem q2287 : (Jvm.Cond.methodLink "UnreadSignsModel" (159 : Nat) ({ cls := "UnreadSignsModel", name := "readsForm", desc := "()V" } : Jvm.MethodName)) ∈ lw_all := lw_g (lw_at lw_m9 225 rfl) rfl
theorem q2288 : (Jvm.Cond.privateMethod ({ cls := "UnreadSignsModel", name := "readsForm", desc := "()V" } : Jvm.MethodName)) ∈ lw_tbl := lw_at lw_m9 226 rfl
theorem q2289 : (Jvm.Cond.instanceMethod ({ cls := "UnreadSignsModel", name := "readsForm", desc := "()V" } : Jvm.MethodName)) ∈ lw_all := lw_g (lw_at lw_m9 227 rfl) rfl
theorem q2290 : (Jvm.Cond.code ({ cls := "UnreadSignsModel", name := "readsForm", desc := "()V" } : Jvm.MethodName) prog_16_method_15_code (3 : Nat) (Option.none : Option Jvm.ClassFile.FieldType)) ∈ lw_all := lw_g (lw_at lw_m9 228 rfl) rfl
theorem q2291 : (Jvm.Cond.methodLink "UnreadSignsModel" (150 : Nat) ({ cls := "UnreadSignsModel", name := "numberTaken", desc := "()I" } : Jvm.MethodName)) ∈ lw_all := lw_g (lw_at lw_m9 229 rfl) rfl
theorem q2292 : (Jvm.Cond.privateMethod ({ cls := "UnreadSignsModel", name := "numberTaken", desc := "()I" } : Jvm.MethodName)) ∈ lw_tbl := lw_at lw_m9 230 rfl
theorem q2293 : (Jvm.Cond.instanceMethod ({ cls := "UnreadSignsModel", name := "numberTaken", desc := "()I" } : Jvm.MethodName)) ∈ lw_all := lw_g (lw_at lw_m9 231 rfl) rfl
theorem q2294 : (Jvm.Cond.code ({ cls := "UnreadSignsModel", name := "numberTaken", desc := "()I" } : Jvm.MethodName) prog_16_method_13_code (3 : Nat) (Option.some Jvm.ClassFile.FieldType.int)) ∈ lw_all := lw_g (lw_at lw_m9 232 rfl) rfl
theorem q2295 : (Jvm.Cond.methodLink "UnreadSignsModel" (130 : Nat) ({ cls := "UnreadSignsModel", name := "isDigit", desc := "()Z" } : Jvm.MethodName)) ∈ lw_all := lw_g (lw_at lw_m9 233 rfl) rfl
theorem q2296 : (Jvm.Cond.privateMethod ({ cls := "UnreadSignsModel", name := "isDigit", desc := "()Z" } : Jvm.MethodName)) ∈ lw_tbl := lw_at lw_m9 234 rfl
theorem q2297 : (Jvm.Cond.instanceMethod ({ cls := "UnreadSignsModel", name := "isDigit", desc := "()Z" } : Jvm.MethodName)) ∈ lw_all := lw_g (lw_at lw_m9 235 rfl) rfl
theorem q2298 : (Jvm.Cond.code ({ cls := "UnreadSignsModel", name := "isDigit", desc := "()Z" } : Jvm.MethodName) prog_16_method_10_code (1 : Nat) (Option.some Jvm.ClassFile.FieldType.boolean)) ∈ lw_all := lw_g (lw_at lw_m9 236 rfl) rfl
theorem q2299 : (Jvm.Cond.methodLink "UnreadSignsModel" (123 : Nat) ({ cls := "UnreadSignsModel", name := "in", desc := "(III)Z" } : Jvm.MethodName)) ∈ lw_all := lw_g (lw_at lw_m9 237 rfl) rfl
theorem q2300 : (Jvm.Cond.static ({ cls := "UnreadSignsModel", name := "in", desc := "(III)Z" } : Jvm.MethodName)) ∈ lw_all := lw_g (lw_at lw_m9 238 rfl) rfl
theorem q2301 : (Jvm.Cond.code ({ cls := "UnreadSignsModel", name := "in", desc := "(III)Z" } : Jvm.MethodName) prog_16_method_2_code (3 : Nat) (Option.some Jvm.ClassFile.FieldType.boolean)) ∈ lw_all := lw_g (lw_at lw_m9 239 rfl) rfl
theorem q2302 : (Jvm.Cond.methodLink "UnreadSignsModel" (134 : Nat) ({ cls := "UnreadSignsModel", name := "fails", desc := "(II)V" } : Jvm.MethodName)) ∈ lw_all := lw_g (lw_at lw_m10 0 rfl) rfl
theorem q2303 : (Jvm.Cond.privateMethod ({ cls := "UnreadSignsModel", name := "fails", desc := "(II)V" } : Jvm.MethodName)) ∈ lw_tbl := lw_at lw_m10 1 rfl
theorem q2304 : (Jvm.Cond.instanceMethod ({ cls := "UnreadSignsModel", name := "fails", desc := "(II)V" } : Jvm.MethodName)) ∈ lw_all := lw_g (lw_at lw_m10 2 rfl) rfl
theorem q2305 : (Jvm.Cond.code ({ cls := "UnreadSignsModel", name := "fails", desc := "(II)V" } : Jvm.MethodName) prog_16_method_8_code (3 : Nat) (Option.none : Option Jvm.ClassFile.FieldType)) ∈ lw_all := lw_g (lw_at lw_m10 3 rfl) rfl
theorem q2306 : (Jvm.Cond.methodLink "UnreadSignsModel" (138 : Nat) ({ cls := "java/lang/Math", name := "min", desc := "(II)I" } : Jvm.MethodName)) ∈ lw_all := lw_g (lw_at lw_m10 4 rfl) rfl
theorem q2307 : (Jvm.Cond.methodLink "UnreadSignsModel" (153 : Nat) ({ cls := "UnreadSignsModel", name := "isTold", desc := "()Z" } : Jvm.MethodName)) ∈ lw_all := lw_g (lw_at lw_m10 5 rfl) rfl
theorem q2308 : (Jvm.Cond.privateMethod ({ cls := "UnreadSignsModel", name := "isTold", desc := "()Z" } : Jvm.MethodName)) ∈ lw_tbl := lw_at lw_m10 6 rfl
theorem q2309 : (Jvm.Cond.instanceMethod ({ cls := "UnreadSignsModel", name := "isTold", desc := "()Z" } : Jvm.MethodName)) ∈ lw_all := lw_g (lw_at lw_m10 7 rfl) rfl
theorem q2310 : (Jvm.Cond.code ({ cls := "UnreadSignsModel", name := "isTold", desc := "()Z" } : Jvm.MethodName) prog_16_method_14_code (4 : Nat) (Option.some Jvm.ClassFile.FieldType.boolean)) ∈ lw_all := lw_g (lw_at lw_m10 8 rfl) rfl
theorem q2312 : (Jvm.Cond.instanceMethod ({ cls := "UnreadSignsModel", name := "stone", desc := "()I" } : Jvm.MethodName)) ∈ lw_all := lw_g (lw_at lw_m10 10 rfl) rfl
theorem q2313 : (Jvm.Cond.selects "UnreadSignsModel" ({ cls := "UnreadSignsModel", name := "stone", desc := "()I" } : Jvm.MethodName) ({ cls := "UnreadSignsModel", name := "stone", desc := "()I" } : Jvm.MethodName)) ∈ lw_all := lw_g (lw_at lw_m10 11 rfl) rfl
theorem q2314 : (Jvm.Cond.code ({ cls := "UnreadSignsModel", name := "stone", desc := "()I" } : Jvm.MethodName) prog_16_method_20_code (2 : Nat) (Option.some Jvm.ClassFile.FieldType.int)) ∈ lw_all := lw_g (lw_at lw_m10 12 rfl) rfl
theorem q2315 : (Jvm.Cond.methodLink "UnreadSignsModel" (174 : Nat) ({ cls := "UnreadSignsModel", name := "readsRow", desc := "()V" } : Jvm.MethodName)) ∈ lw_all := lw_g (lw_at lw_m10 13 rfl) rfl
theorem q2316 : (Jvm.Cond.privateMethod ({ cls := "UnreadSignsModel", name := "readsRow", desc := "()V" } : Jvm.MethodName)) ∈ lw_tbl := lw_at lw_m10 14 rfl
theorem q2317 : (Jvm.Cond.instanceMethod ({ cls := "UnreadSignsModel", name := "readsRow", desc := "()V" } : Jvm.MethodName)) ∈ lw_all := lw_g (lw_at lw_m10 15 rfl) rfl
theorem q2318 : (Jvm.Cond.code ({ cls := "UnreadSignsModel", name := "readsRow", desc := "()V" } : Jvm.MethodName) prog_16_method_19_code (3 : Nat) (Option.none : Option Jvm.ClassFile.FieldType)) ∈ lw_all := lw_g (lw_at lw_m10 16 rfl) rfl
theorem q2319 : (Jvm.Cond.methodLink "UnreadSignsModel" (168 : Nat) ({ cls := "UnreadSignsModel", name := "isLetter", desc := "()Z" } : Jvm.MethodName)) ∈ lw_all := lw_g (lw_at lw_m10 17 rfl) rfl
theorem q2320 : (Jvm.Cond.privateMethod ({ cls := "UnreadSignsModel", name := "isLetter", desc := "()Z" } : Jvm.MethodName)) ∈ lw_tbl := lw_at lw_m10 18 rfl
theorem q2321 : (Jvm.Cond.instanceMethod ({ cls := "UnreadSignsModel", name := "isLetter", desc := "()Z" } : Jvm.MethodName)) ∈ lw_all := lw_g (lw_at lw_m10 19 rfl) rfl
theorem q2322 : (Jvm.Cond.code ({ cls := "UnreadSignsModel", name := "isLetter", desc := "()Z" } : Jvm.MethodName) prog_16_method_17_code (1 : Nat) (Option.some Jvm.ClassFile.FieldType.boolean)) ∈ lw_all := lw_g (lw_at lw_m10 20 rfl) rfl
theorem q2323 : (Jvm.Cond.methodLink "UnreadSignsModel" (171 : Nat) ({ cls := "UnreadSignsModel", name := "placeTaken", desc := "(I)V" } : Jvm.MethodName)) ∈ lw_all := lw_g (lw_at lw_m10 21 rfl) rfl
theorem q2324 : (Jvm.Cond.privateMethod ({ cls := "UnreadSignsModel", name := "placeTaken", desc := "(I)V" } : Jvm.MethodName)) ∈ lw_tbl := lw_at lw_m10 22 rfl
theorem q2325 : (Jvm.Cond.instanceMethod ({ cls := "UnreadSignsModel", name := "placeTaken", desc := "(I)V" } : Jvm.MethodName)) ∈ lw_all := lw_g (lw_at lw_m10 23 rfl) rfl
theorem q2326 : (Jvm.Cond.code ({ cls := "UnreadSignsModel", name := "placeTaken", desc := "(I)V" } : Jvm.MethodName) prog_16_method_18_code (3 : Nat) (Option.none : Option Jvm.ClassFile.FieldType)) ∈ lw_all := lw_g (lw_at lw_m10 24 rfl) rfl
theorem q2327 : (Jvm.Cond.methodLink "UnreadSignsModel" (177 : Nat) ({ cls := "UnreadSignsModel", name := "truth", desc := "(Z)I" } : Jvm.MethodName)) ∈ lw_all := lw_g (lw_at lw_m10 25 rfl) rfl
theorem q2328 : (Jvm.Cond.static ({ cls := "UnreadSignsModel", name := "truth", desc := "(Z)I" } : Jvm.MethodName)) ∈ lw_all := lw_g (lw_at lw_m10 26 rfl) rfl
theorem q2329 : (Jvm.Cond.code ({ cls := "UnreadSignsModel", name := "truth", desc := "(Z)I" } : Jvm.MethodName) prog_16_method_3_code (1 : Nat) (Option.some Jvm.ClassFile.FieldType.int)) ∈ lw_all := lw_g (lw_at lw_m10 27 rfl) rfl
theorem q2331 : (Jvm.Cond.instanceMethod ({ cls := "UnreadSignsModel", name := "name", desc := "()I" } : Jvm.MethodName)) ∈ lw_all := lw_g (lw_at lw_m10 29 rfl) rfl
theorem q2332 : (Jvm.Cond.selects "UnreadSignsModel" ({ cls := "UnreadSignsModel", name := "name", desc := "()I" } : Jvm.MethodName) ({ cls := "UnreadSignsModel", name := "name", desc := "()I" } : Jvm.MethodName)) ∈ lw_all := lw_g (lw_at lw_m10 30 rfl) rfl
theorem q2333 : (Jvm.Cond.code ({ cls := "UnreadSignsModel", name := "name", desc := "()I" } : Jvm.MethodName) prog_16_method_24_code (1 : Nat) (Option.some Jvm.ClassFile.FieldType.int)) ∈ lw_all := lw_g (lw_at lw_m10 31 rfl) rfl
theorem q2334 : (Jvm.Cond.methodLink "UnreadSignsModel" (208 : Nat) ({ cls := "UnreadSignsModel", name := "readsSyllable", desc := "()V" } : Jvm.MethodName)) ∈ lw_all := lw_g (lw_at lw_m10 32 rfl) rfl
theorem q2335 : (Jvm.Cond.privateMethod ({ cls := "UnreadSignsModel", name := "readsSyllable", desc := "()V" } : Jvm.MethodName)) ∈ lw_tbl := lw_at lw_m10 33 rfl
theorem q2336 : (Jvm.Cond.instanceMethod ({ cls := "UnreadSignsModel", name := "readsSyllable", desc := "()V" } : Jvm.MethodName)) ∈ lw_all := lw_g (lw_at lw_m10 34 rfl) rfl
theorem q2337 : (Jvm.Cond.code ({ cls := "UnreadSignsModel", name := "readsSyllable", desc := "()V" } : Jvm.MethodName) prog_16_method_22_code (3 : Nat) (Option.none : Option Jvm.ClassFile.FieldType)) ∈ lw_all := lw_g (lw_at lw_m10 35 rfl) rfl
theorem q2338 : (Jvm.Cond.stringRef "UnreadSignsModel" (197 : Nat) "ptkmnrlswj") ∈ lw_tbl := lw_at lw_m10 36 rfl
theorem q2339 : (Jvm.Cond.methodLink "UnreadSignsModel" (199 : Nat) ({ cls := "UnreadSignsModel", name := "oneOf", desc := "(Ljava/lang/String;)I" } : Jvm.MethodName)) ∈ lw_all := lw_g (lw_at lw_m10 37 rfl) rfl
theorem q2340 : (Jvm.Cond.privateMethod ({ cls := "UnreadSignsModel", name := "oneOf", desc := "(Ljava/lang/String;)I" } : Jvm.MethodName)) ∈ lw_tbl := lw_at lw_m10 38 rfl
theorem q2341 : (Jvm.Cond.instanceMethod ({ cls := "UnreadSignsModel", name := "oneOf", desc := "(Ljava/lang/String;)I" } : Jvm.MethodName)) ∈ lw_all := lw_g (lw_at lw_m10 39 rfl) rfl
theorem q2342 : (Jvm.Cond.code ({ cls := "UnreadSignsModel", name := "oneOf", desc := "(Ljava/lang/String;)I" } : Jvm.MethodName) prog_16_method_21_code (3 : Nat) (Option.some Jvm.ClassFile.FieldType.int)) ∈ lw_all := lw_g (lw_at lw_m10 40 rfl) rfl
theorem q2343 : (Jvm.Cond.methodLink "UnreadSignsModel" (188 : Nat) ({ cls := "java/lang/String", name := "length", desc := "()I" } : Jvm.MethodName)) ∈ lw_all := lw_g (lw_at lw_m10 41 rfl) rfl
theorem q2344 : (Jvm.Cond.methodLink "UnreadSignsModel" (193 : Nat) ({ cls := "java/lang/String", name := "charAt", desc := "(I)C" } : Jvm.MethodName)) ∈ lw_all := lw_g (lw_at lw_m10 42 rfl) rfl
theorem q2345 : (Jvm.Cond.stringRef "UnreadSignsModel" (206 : Nat) "aeiou") ∈ lw_tbl := lw_at lw_m10 43 rfl
theorem q2346 : (Jvm.Cond.methodLink "UnreadSignsModel" (211 : Nat) ({ cls := "UnreadSignsModel", name := "isNameTold", desc := "()Z" } : Jvm.MethodName)) ∈ lw_all := lw_g (lw_at lw_m10 44 rfl) rfl
theorem q2347 : (Jvm.Cond.privateMethod ({ cls := "UnreadSignsModel", name := "isNameTold", desc := "()Z" } : Jvm.MethodName)) ∈ lw_tbl := lw_at lw_m10 45 rfl
theorem q2348 : (Jvm.Cond.instanceMethod ({ cls := "UnreadSignsModel", name := "isNameTold", desc := "()Z" } : Jvm.MethodName)) ∈ lw_all := lw_g (lw_at lw_m10 46 rfl) rfl
theorem q2349 : (Jvm.Cond.code ({ cls := "UnreadSignsModel", name := "isNameTold", desc := "()Z" } : Jvm.MethodName) prog_16_method_23_code (4 : Nat) (Option.some Jvm.ClassFile.FieldType.boolean)) ∈ lw_all := lw_g (lw_at lw_m10 47 rfl) rfl
theorem q2351 : (Jvm.Cond.instanceMethod ({ cls := "UnreadSignsModel", name := "undo", desc := "()I" } : Jvm.MethodName)) ∈ lw_all := lw_g (lw_at lw_m10 49 rfl) rfl
theorem q2352 : (Jvm.Cond.selects "UnreadSignsModel" ({ cls := "UnreadSignsModel", name := "undo", desc := "()I" } : Jvm.MethodName) ({ cls := "UnreadSignsModel", name := "undo", desc := "()I" } : Jvm.MethodName)) ∈ lw_all := lw_g (lw_at lw_m10 50 rfl) rfl
theorem q2353 : (Jvm.Cond.code ({ cls := "UnreadSignsModel", name := "undo", desc := "()I" } : Jvm.MethodName) prog_16_method_27_code (2 : Nat) (Option.some Jvm.ClassFile.FieldType.int)) ∈ lw_all := lw_g (lw_at lw_m10 51 rfl) rfl
theorem q2355 : (Jvm.Cond.instanceMethod ({ cls := "UnreadSignsModel", name := "loose", desc := "(I)I" } : Jvm.MethodName)) ∈ lw_all := lw_g (lw_at lw_m10 53 rfl) rfl
theorem q2356 : (Jvm.Cond.selects "UnreadSignsModel" ({ cls := "UnreadSignsModel", name := "loose", desc := "(I)I" } : Jvm.MethodName) ({ cls := "UnreadSignsModel", name := "loose", desc := "(I)I" } : Jvm.MethodName)) ∈ lw_all := lw_g (lw_at lw_m10 54 rfl) rfl
theorem q2357 : (Jvm.Cond.code ({ cls := "UnreadSignsModel", name := "loose", desc := "(I)I" } : Jvm.MethodName) prog_16_method_29_code (2 : Nat) (Option.some Jvm.ClassFile.FieldType.int)) ∈ lw_all := lw_g (lw_at lw_m10 55 rfl) rfl
theorem q2358 : (Jvm.Cond.methodLink "UnreadSignsModel" (217 : Nat) ({ cls := "UnreadSignsModel", name := "changes", desc := "(IIII)I" } : Jvm.MethodName)) ∈ lw_all := lw_g (lw_at lw_m10 56 rfl) rfl
theorem q2359 : (Jvm.Cond.privateMethod ({ cls := "UnreadSignsModel", name := "changes", desc := "(IIII)I" } : Jvm.MethodName)) ∈ lw_tbl := lw_at lw_m10 57 rfl
theorem q2360 : (Jvm.Cond.instanceMethod ({ cls := "UnreadSignsModel", name := "changes", desc := "(IIII)I" } : Jvm.MethodName)) ∈ lw_all := lw_g (lw_at lw_m10 58 rfl) rfl
theorem q2361 : (Jvm.Cond.code ({ cls := "UnreadSignsModel", name := "changes", desc := "(IIII)I" } : Jvm.MethodName) prog_16_method_28_code (6 : Nat) (Option.some Jvm.ClassFile.FieldType.int)) ∈ lw_all := lw_g (lw_at lw_m10 59 rfl) rfl
theorem q2362 : (Jvm.Cond.methodLink "UnreadSignsModel" (214 : Nat) ({ cls := "UnreadSignsModel", name := "remembers", desc := "()V" } : Jvm.MethodName)) ∈ lw_all := lw_g (lw_at lw_m10 60 rfl) rfl
theorem q2363 : (Jvm.Cond.privateMethod ({ cls := "UnreadSignsModel", name := "remembers", desc := "()V" } : Jvm.MethodName)) ∈ lw_tbl := lw_at lw_m10 61 rfl
theorem q2364 : (Jvm.Cond.instanceMethod ({ cls := "UnreadSignsModel", name := "remembers", desc := "()V" } : Jvm.MethodName)) ∈ lw_all := lw_g (lw_at lw_m10 62 rfl) rfl
theorem q2365 : (Jvm.Cond.code ({ cls := "UnreadSignsModel", name := "remembers", desc := "()V" } : Jvm.MethodName) prog_16_method_26_code (2 : Nat) (Option.none : Option Jvm.ClassFile.FieldType)) ∈ lw_all := lw_g (lw_at lw_m10 63 rfl) rfl
theorem q2367 : (Jvm.Cond.instanceMethod ({ cls := "UnreadSignsModel", name := "way", desc := "(I)I" } : Jvm.MethodName)) ∈ lw_all := lw_g (lw_at lw_m10 65 rfl) rfl
theorem q2368 : (Jvm.Cond.selects "UnreadSignsModel" ({ cls := "UnreadSignsModel", name := "way", desc := "(I)I" } : Jvm.MethodName) ({ cls := "UnreadSignsModel", name := "way", desc := "(I)I" } : Jvm.MethodName)) ∈ lw_all := lw_g (lw_at lw_m10 66 rfl) rfl
theorem q2369 : (Jvm.Cond.code ({ cls := "UnreadSignsModel", name := "way", desc := "(I)I" } : Jvm.MethodName) prog_16_method_30_code (2 : Nat) (Option.some Jvm.ClassFile.FieldType.int)) ∈ lw_all := lw_g (lw_at lw_m10 67 rfl) rfl
theorem q2371 : (Jvm.Cond.instanceMethod ({ cls := "UnreadSignsModel", name := "rise", desc := "(I)I" } : Jvm.MethodName)) ∈ lw_all := lw_g (lw_at lw_m10 69 rfl) rfl
theorem q2372 : (Jvm.Cond.selects "UnreadSignsModel" ({ cls := "UnreadSignsModel", name := "rise", desc := "(I)I" } : Jvm.MethodName) ({ cls := "UnreadSignsModel", name := "rise", desc := "(I)I" } : Jvm.MethodName)) ∈ lw_all := lw_g (lw_at lw_m10 70 rfl) rfl
theorem q2373 : (Jvm.Cond.code ({ cls := "UnreadSignsModel", name := "rise", desc := "(I)I" } : Jvm.MethodName) prog_16_method_31_code (2 : Nat) (Option.some Jvm.ClassFile.FieldType.int)) ∈ lw_all := lw_g (lw_at lw_m10 71 rfl) rfl
theorem q2375 : (Jvm.Cond.instanceMethod ({ cls := "UnreadSignsModel", name := "alike", desc := "(IIZ)Z" } : Jvm.MethodName)) ∈ lw_all := lw_g (lw_at lw_m10 73 rfl) rfl
theorem q2376 : (Jvm.Cond.selects "UnreadSignsModel" ({ cls := "UnreadSignsModel", name := "alike", desc := "(IIZ)Z" } : Jvm.MethodName) ({ cls := "UnreadSignsModel", name := "alike", desc := "(IIZ)Z" } : Jvm.MethodName)) ∈ lw_all := lw_g (lw_at lw_m10 74 rfl) rfl
theorem q2377 : (Jvm.Cond.code ({ cls := "UnreadSignsModel", name := "alike", desc := "(IIZ)Z" } : Jvm.MethodName) prog_16_method_35_code (4 : Nat) (Option.some Jvm.ClassFile.FieldType.boolean)) ∈ lw_all := lw_g (lw_at lw_m10 75 rfl) rfl
theorem q2378 : (Jvm.Cond.methodLink "UnreadSignsModel" (231 : Nat) ({ cls := "UnreadSignsModel", name := "tellsTwo", desc := "(IIIZ)Z" } : Jvm.MethodName)) ∈ lw_all := lw_g (lw_at lw_m10 76 rfl) rfl
theorem q2379 : (Jvm.Cond.privateMethod ({ cls := "UnreadSignsModel", name := "tellsTwo", desc := "(IIIZ)Z" } : Jvm.MethodName)) ∈ lw_tbl := lw_at lw_m10 77 rfl
theorem q2380 : (Jvm.Cond.instanceMethod ({ cls := "UnreadSignsModel", name := "tellsTwo", desc := "(IIIZ)Z" } : Jvm.MethodName)) ∈ lw_all := lw_g (lw_at lw_m10 78 rfl) rfl
theorem q2381 : (Jvm.Cond.code ({ cls := "UnreadSignsModel", name := "tellsTwo", desc := "(IIIZ)Z" } : Jvm.MethodName) prog_16_method_34_code (5 : Nat) (Option.some Jvm.ClassFile.FieldType.boolean)) ∈ lw_all := lw_g (lw_at lw_m10 79 rfl) rfl
theorem q2382 : (Jvm.Cond.methodLink "UnreadSignsModel" (224 : Nat) ({ cls := "UnreadSignsModel", name := "isForm", desc := "(I)Z" } : Jvm.MethodName)) ∈ lw_all := lw_g (lw_at lw_m10 80 rfl) rfl
theorem q2383 : (Jvm.Cond.privateMethod ({ cls := "UnreadSignsModel", name := "isForm", desc := "(I)Z" } : Jvm.MethodName)) ∈ lw_tbl := lw_at lw_m10 81 rfl
theorem q2384 : (Jvm.Cond.instanceMethod ({ cls := "UnreadSignsModel", name := "isForm", desc := "(I)Z" } : Jvm.MethodName)) ∈ lw_all := lw_g (lw_at lw_m10 82 rfl) rfl
theorem q2385 : (Jvm.Cond.code ({ cls := "UnreadSignsModel", name := "isForm", desc := "(I)Z" } : Jvm.MethodName) prog_16_method_32_code (2 : Nat) (Option.some Jvm.ClassFile.FieldType.boolean)) ∈ lw_all := lw_g (lw_at lw_m10 83 rfl) rfl
theorem q2386 : (Jvm.Cond.methodLink "UnreadSignsModel" (228 : Nat) ({ cls := "UnreadSignsModel", name := "twoAt", desc := "(II)I" } : Jvm.MethodName)) ∈ lw_all := lw_g (lw_at lw_m10 84 rfl) rfl
theorem q2387 : (Jvm.Cond.static ({ cls := "UnreadSignsModel", name := "twoAt", desc := "(II)I" } : Jvm.MethodName)) ∈ lw_all := lw_g (lw_at lw_m10 85 rfl) rfl
theorem q2388 : (Jvm.Cond.code ({ cls := "UnreadSignsModel", name := "twoAt", desc := "(II)I" } : Jvm.MethodName) prog_16_method_33_code (2 : Nat) (Option.some Jvm.ClassFile.FieldType.int)) ∈ lw_all := lw_g (lw_at lw_m10 86 rfl) rfl
theorem q2389 : (Jvm.Cond.methodLink "UnreadSignsModel" (221 : Nat) ({ cls := "java/lang/Math", name := "max", desc := "(II)I" } : Jvm.MethodName)) ∈ lw_all := lw_g (lw_at lw_m10 87 rfl) rfl
theorem q2391 : (Jvm.Cond.instanceMethod ({ cls := "UnreadSignsModel", name := "apart", desc := "(IIZ)Z" } : Jvm.MethodName)) ∈ lw_all := lw_g (lw_at lw_m10 89 rfl) rfl
theorem q2392 : (Jvm.Cond.selects "UnreadSignsModel" ({ cls := "UnreadSignsModel", name := "apart", desc := "(IIZ)Z" } : Jvm.MethodName) ({ cls := "UnreadSignsModel", name := "apart", desc := "(IIZ)Z" } : Jvm.MethodName)) ∈ lw_all := lw_g (lw_at lw_m10 90 rfl) rfl
theorem q2393 : (Jvm.Cond.code ({ cls := "UnreadSignsModel", name := "apart", desc := "(IIZ)Z" } : Jvm.MethodName) prog_16_method_36_code (4 : Nat) (Option.some Jvm.ClassFile.FieldType.boolean)) ∈ lw_all := lw_g (lw_at lw_m10 91 rfl) rfl
theorem q2395 : (Jvm.Cond.instanceMethod ({ cls := "UnreadSignsModel", name := "clue", desc := "(IIZ)I" } : Jvm.MethodName)) ∈ lw_all := lw_g (lw_at lw_m10 93 rfl) rfl
theorem q2396 : (Jvm.Cond.selects "UnreadSignsModel" ({ cls := "UnreadSignsModel", name := "clue", desc := "(IIZ)I" } : Jvm.MethodName) ({ cls := "UnreadSignsModel", name := "clue", desc := "(IIZ)I" } : Jvm.MethodName)) ∈ lw_all := lw_g (lw_at lw_m10 94 rfl) rfl
theorem q2397 : (Jvm.Cond.code ({ cls := "UnreadSignsModel", name := "clue", desc := "(IIZ)I" } : Jvm.MethodName) prog_16_method_38_code (5 : Nat) (Option.some Jvm.ClassFile.FieldType.int)) ∈ lw_all := lw_g (lw_at lw_m10 95 rfl) rfl
theorem q2398 : (Jvm.Cond.methodLink "UnreadSignsModel" (235 : Nat) ({ cls := "UnreadSignsModel", name := "lays", desc := "()V" } : Jvm.MethodName)) ∈ lw_all := lw_g (lw_at lw_m10 96 rfl) rfl
theorem q2399 : (Jvm.Cond.privateMethod ({ cls := "UnreadSignsModel", name := "lays", desc := "()V" } : Jvm.MethodName)) ∈ lw_tbl := lw_at lw_m10 97 rfl
theorem q2400 : (Jvm.Cond.instanceMethod ({ cls := "UnreadSignsModel", name := "lays", desc := "()V" } : Jvm.MethodName)) ∈ lw_all := lw_g (lw_at lw_m10 98 rfl) rfl
theorem q2401 : (Jvm.Cond.code ({ cls := "UnreadSignsModel", name := "lays", desc := "()V" } : Jvm.MethodName) prog_16_method_114_code (1 : Nat) (Option.none : Option Jvm.ClassFile.FieldType)) ∈ lw_all := lw_g (lw_at lw_m10 99 rfl) rfl
theorem q2402 : (Jvm.Cond.methodLink "UnreadSignsModel" (420 : Nat) ({ cls := "UnreadSignsModel", name := "laysSigns", desc := "()V" } : Jvm.MethodName)) ∈ lw_all := lw_g (lw_at lw_m10 100 rfl) rfl
theorem q2403 : (Jvm.Cond.privateMethod ({ cls := "UnreadSignsModel", name := "laysSigns", desc := "()V" } : Jvm.MethodName)) ∈ lw_tbl := lw_at lw_m10 101 rfl
theorem q2404 : (Jvm.Cond.instanceMethod ({ cls := "UnreadSignsModel", name := "laysSigns", desc := "()V" } : Jvm.MethodName)) ∈ lw_all := lw_g (lw_at lw_m10 102 rfl) rfl
theorem q2405 : (Jvm.Cond.code ({ cls := "UnreadSignsModel", name := "laysSigns", desc := "()V" } : Jvm.MethodName) prog_16_method_45_code (4 : Nat) (Option.none : Option Jvm.ClassFile.FieldType)) ∈ lw_all := lw_g (lw_at lw_m10 103 rfl) rfl
theorem q2406 : (Jvm.Cond.methodLink "UnreadSignsModel" (255 : Nat) ({ cls := "UnreadSignsModel", name := "areLinked", desc := "(II)Z" } : Jvm.MethodName)) ∈ lw_all := lw_g (lw_at lw_m10 104 rfl) rfl
theorem q2407 : (Jvm.Cond.privateMethod ({ cls := "UnreadSignsModel", name := "areLinked", desc := "(II)Z" } : Jvm.MethodName)) ∈ lw_tbl := lw_at lw_m10 105 rfl
theorem q2408 : (Jvm.Cond.instanceMethod ({ cls := "UnreadSignsModel", name := "areLinked", desc := "(II)Z" } : Jvm.MethodName)) ∈ lw_all := lw_g (lw_at lw_m10 106 rfl) rfl
theorem q2409 : (Jvm.Cond.code ({ cls := "UnreadSignsModel", name := "areLinked", desc := "(II)Z" } : Jvm.MethodName) prog_16_method_44_code (4 : Nat) (Option.some Jvm.ClassFile.FieldType.boolean)) ∈ lw_all := lw_g (lw_at lw_m10 107 rfl) rfl
theorem q2410 : (Jvm.Cond.methodLink "UnreadSignsModel" (252 : Nat) ({ cls := "UnreadSignsModel", name := "unlikeOf", desc := "(II)I" } : Jvm.MethodName)) ∈ lw_all := lw_g (lw_at lw_m10 108 rfl) rfl
theorem q2411 : (Jvm.Cond.privateMethod ({ cls := "UnreadSignsModel", name := "unlikeOf", desc := "(II)I" } : Jvm.MethodName)) ∈ lw_tbl := lw_at lw_m10 109 rfl
theorem q2412 : (Jvm.Cond.instanceMethod ({ cls := "UnreadSignsModel", name := "unlikeOf", desc := "(II)I" } : Jvm.MethodName)) ∈ lw_all := lw_g (lw_at lw_m10 110 rfl) rfl
theorem q2413 : (Jvm.Cond.code ({ cls := "UnreadSignsModel", name := "unlikeOf", desc := "(II)I" } : Jvm.MethodName) prog_16_method_42_code (6 : Nat) (Option.some Jvm.ClassFile.FieldType.int)) ∈ lw_all := lw_g (lw_at lw_m10 111 rfl) rfl
theorem q2414 : (Jvm.Cond.methodLink "UnreadSignsModel" (249 : Nat) ({ cls := "UnreadSignsModel", name := "unlikeBy", desc := "(IIII)I" } : Jvm.MethodName)) ∈ lw_all := lw_g (lw_at lw_m10 112 rfl) rfl
theorem q2415 : (Jvm.Cond.privateMethod ({ cls := "UnreadSignsModel", name := "unlikeBy", desc := "(IIII)I" } : Jvm.MethodName)) ∈ lw_tbl := lw_at lw_m10 113 rfl
theorem q2416 : (Jvm.Cond.instanceMethod ({ cls := "UnreadSignsModel", name := "unlikeBy", desc := "(IIII)I" } : Jvm.MethodName)) ∈ lw_all := lw_g (lw_at lw_m10 114 rfl) rfl
theorem q2417 : (Jvm.Cond.code ({ cls := "UnreadSignsModel", name := "unlikeBy", desc := "(IIII)I" } : Jvm.MethodName) prog_16_method_41_code (8 : Nat) (Option.some Jvm.ClassFile.FieldType.int)) ∈ lw_all := lw_g (lw_at lw_m10 115 rfl) rfl
theorem q2418 : (Jvm.Cond.methodLink "UnreadSignsModel" (245 : Nat) ({ cls := "UnreadSignsModel", name := "dotOf", desc := "(III)I" } : Jvm.MethodName)) ∈ lw_all := lw_g (lw_at lw_m10 116 rfl) rfl
theorem q2419 : (Jvm.Cond.privateMethod ({ cls := "UnreadSignsModel", name := "dotOf", desc := "(III)I" } : Jvm.MethodName)) ∈ lw_tbl := lw_at lw_m10 117 rfl
theorem q2420 : (Jvm.Cond.instanceMethod ({ cls := "UnreadSignsModel", name := "dotOf", desc := "(III)I" } : Jvm.MethodName)) ∈ lw_all := lw_g (lw_at lw_m10 118 rfl) rfl
theorem q2421 : (Jvm.Cond.code ({ cls := "UnreadSignsModel", name := "dotOf", desc := "(III)I" } : Jvm.MethodName) prog_16_method_40_code (4 : Nat) (Option.some Jvm.ClassFile.FieldType.int)) ∈ lw_all := lw_g (lw_at lw_m10 119 rfl) rfl
theorem q2422 : (Jvm.Cond.methodLink "UnreadSignsModel" (423 : Nat) ({ cls := "UnreadSignsModel", name := "laysRows", desc := "()V" } : Jvm.MethodName)) ∈ lw_all := lw_g (lw_at lw_m10 120 rfl) rfl
theorem q2423 : (Jvm.Cond.privateMethod ({ cls := "UnreadSignsModel", name := "laysRows", desc := "()V" } : Jvm.MethodName)) ∈ lw_tbl := lw_at lw_m10 121 rfl
theorem q2424 : (Jvm.Cond.instanceMethod ({ cls := "UnreadSignsModel", name := "laysRows", desc := "()V" } : Jvm.MethodName)) ∈ lw_all := lw_g (lw_at lw_m10 122 rfl) rfl
theorem q2425 : (Jvm.Cond.code ({ cls := "UnreadSignsModel", name := "laysRows", desc := "()V" } : Jvm.MethodName) prog_16_method_55_code (5 : Nat) (Option.none : Option Jvm.ClassFile.FieldType)) ∈ lw_all := lw_g (lw_at lw_m10 123 rfl) rfl
theorem q2426 : (Jvm.Cond.methodLink "UnreadSignsModel" (280 : Nat) ({ cls := "UnreadSignsModel", name := "judgedWay", desc := "()I" } : Jvm.MethodName)) ∈ lw_all := lw_g (lw_at lw_m10 124 rfl) rfl
theorem q2427 : (Jvm.Cond.privateMethod ({ cls := "UnreadSignsModel", name := "judgedWay", desc := "()I" } : Jvm.MethodName)) ∈ lw_tbl := lw_at lw_m10 125 rfl
theorem q2428 : (Jvm.Cond.instanceMethod ({ cls := "UnreadSignsModel", name := "judgedWay", desc := "()I" } : Jvm.MethodName)) ∈ lw_all := lw_g (lw_at lw_m10 126 rfl) rfl
theorem q2429 : (Jvm.Cond.code ({ cls := "UnreadSignsModel", name := "judgedWay", desc := "()I" } : Jvm.MethodName) prog_16_method_53_code (1 : Nat) (Option.some Jvm.ClassFile.FieldType.int)) ∈ lw_all := lw_g (lw_at lw_m10 127 rfl) rfl
theorem q2430 : (Jvm.Cond.methodLink "UnreadSignsModel" (274 : Nat) ({ cls := "UnreadSignsModel", name := "ragged", desc := "(I)I" } : Jvm.MethodName)) ∈ lw_all := lw_g (lw_at lw_m10 128 rfl) rfl
theorem q2431 : (Jvm.Cond.privateMethod ({ cls := "UnreadSignsModel", name := "ragged", desc := "(I)I" } : Jvm.MethodName)) ∈ lw_tbl := lw_at lw_m10 129 rfl
theorem q2432 : (Jvm.Cond.instanceMethod ({ cls := "UnreadSignsModel", name := "ragged", desc := "(I)I" } : Jvm.MethodName)) ∈ lw_all := lw_g (lw_at lw_m10 130 rfl) rfl
theorem q2433 : (Jvm.Cond.code ({ cls := "UnreadSignsModel", name := "ragged", desc := "(I)I" } : Jvm.MethodName) prog_16_method_50_code (7 : Nat) (Option.some Jvm.ClassFile.FieldType.int)) ∈ lw_all := lw_g (lw_at lw_m10 131 rfl) rfl
theorem q2434 : (Jvm.Cond.methodLink "UnreadSignsModel" (277 : Nat) ({ cls := "UnreadSignsModel", name := "ends", desc := "(I)I" } : Jvm.MethodName)) ∈ lw_all := lw_g (lw_at lw_m10 132 rfl) rfl
theorem q2435 : (Jvm.Cond.privateMethod ({ cls := "UnreadSignsModel", name := "ends", desc := "(I)I" } : Jvm.MethodName)) ∈ lw_tbl := lw_at lw_m10 133 rfl
theorem q2436 : (Jvm.Cond.instanceMethod ({ cls := "UnreadSignsModel", name := "ends", desc := "(I)I" } : Jvm.MethodName)) ∈ lw_all := lw_g (lw_at lw_m10 134 rfl) rfl
theorem q2437 : (Jvm.Cond.code ({ cls := "UnreadSignsModel", name := "ends", desc := "(I)I" } : Jvm.MethodName) prog_16_method_52_code (5 : Nat) (Option.some Jvm.ClassFile.FieldType.int)) ∈ lw_all := lw_g (lw_at lw_m10 135 rfl) rfl
theorem q2438 : (Jvm.Cond.methodLink "UnreadSignsModel" (265 : Nat) ({ cls := "UnreadSignsModel", name := "endOf", desc := "(II)I" } : Jvm.MethodName)) ∈ lw_all := lw_g (lw_at lw_m10 136 rfl) rfl
theorem q2439 : (Jvm.Cond.privateMethod ({ cls := "UnreadSignsModel", name := "endOf", desc := "(II)I" } : Jvm.MethodName)) ∈ lw_tbl := lw_at lw_m10 137 rfl
theorem q2440 : (Jvm.Cond.instanceMethod ({ cls := "UnreadSignsModel", name := "endOf", desc := "(II)I" } : Jvm.MethodName)) ∈ lw_all := lw_g (lw_at lw_m10 138 rfl) rfl
theorem q2441 : (Jvm.Cond.code ({ cls := "UnreadSignsModel", name := "endOf", desc := "(II)I" } : Jvm.MethodName) prog_16_method_51_code (4 : Nat) (Option.some Jvm.ClassFile.FieldType.int)) ∈ lw_all := lw_g (lw_at lw_m10 139 rfl) rfl
theorem q2442 : (Jvm.Cond.methodLink "UnreadSignsModel" (268 : Nat) ({ cls := "java/lang/Integer", name := "bitCount", desc := "(I)I" } : Jvm.MethodName)) ∈ lw_all := lw_g (lw_at lw_m10 140 rfl) rfl
theorem q2443 : (Jvm.Cond.methodLink "UnreadSignsModel" (286 : Nat) ({ cls := "UnreadSignsModel", name := "laysRow", desc := "(IZ)V" } : Jvm.MethodName)) ∈ lw_all := lw_g (lw_at lw_m10 141 rfl) rfl
theorem q2444 : (Jvm.Cond.privateMethod ({ cls := "UnreadSignsModel", name := "laysRow", desc := "(IZ)V" } : Jvm.MethodName)) ∈ lw_tbl := lw_at lw_m10 142 rfl
theorem q2445 : (Jvm.Cond.instanceMethod ({ cls := "UnreadSignsModel", name := "laysRow", desc := "(IZ)V" } : Jvm.MethodName)) ∈ lw_all := lw_g (lw_at lw_m10 143 rfl) rfl
theorem q2446 : (Jvm.Cond.code ({ cls := "UnreadSignsModel", name := "laysRow", desc := "(IZ)V" } : Jvm.MethodName) prog_16_method_56_code (6 : Nat) (Option.none : Option Jvm.ClassFile.FieldType)) ∈ lw_all := lw_g (lw_at lw_m10 144 rfl) rfl
theorem q2447 : (Jvm.Cond.methodLink "UnreadSignsModel" (426 : Nat) ({ cls := "UnreadSignsModel", name := "laysWords", desc := "()V" } : Jvm.MethodName)) ∈ lw_all := lw_g (lw_at lw_m10 145 rfl) rfl
theorem q2448 : (Jvm.Cond.privateMethod ({ cls := "UnreadSignsModel", name := "laysWords", desc := "()V" } : Jvm.MethodName)) ∈ lw_tbl := lw_at lw_m10 146 rfl
theorem q2449 : (Jvm.Cond.instanceMethod ({ cls := "UnreadSignsModel", name := "laysWords", desc := "()V" } : Jvm.MethodName)) ∈ lw_all := lw_g (lw_at lw_m10 147 rfl) rfl
theorem q2450 : (Jvm.Cond.code ({ cls := "UnreadSignsModel", name := "laysWords", desc := "()V" } : Jvm.MethodName) prog_16_method_68_code (4 : Nat) (Option.none : Option Jvm.ClassFile.FieldType)) ∈ lw_all := lw_g (lw_at lw_m10 148 rfl) rfl
theorem q2451 : (Jvm.Cond.methodLink "UnreadSignsModel" (314 : Nat) ({ cls := "UnreadSignsModel", name := "length", desc := "(II)I" } : Jvm.MethodName)) ∈ lw_all := lw_g (lw_at lw_m10 149 rfl) rfl
theorem q2452 : (Jvm.Cond.privateMethod ({ cls := "UnreadSignsModel", name := "length", desc := "(II)I" } : Jvm.MethodName)) ∈ lw_tbl := lw_at lw_m10 150 rfl
theorem q2453 : (Jvm.Cond.instanceMethod ({ cls := "UnreadSignsModel", name := "length", desc := "(II)I" } : Jvm.MethodName)) ∈ lw_all := lw_g (lw_at lw_m10 151 rfl) rfl
theorem q2454 : (Jvm.Cond.code ({ cls := "UnreadSignsModel", name := "length", desc := "(II)I" } : Jvm.MethodName) prog_16_method_64_code (7 : Nat) (Option.some Jvm.ClassFile.FieldType.int)) ∈ lw_all := lw_g (lw_at lw_m10 152 rfl) rfl
theorem q2455 : (Jvm.Cond.methodLink "UnreadSignsModel" (299 : Nat) ({ cls := "UnreadSignsModel", name := "nextOf", desc := "(I)I" } : Jvm.MethodName)) ∈ lw_all := lw_g (lw_at lw_m10 153 rfl) rfl
theorem q2456 : (Jvm.Cond.privateMethod ({ cls := "UnreadSignsModel", name := "nextOf", desc := "(I)I" } : Jvm.MethodName)) ∈ lw_tbl := lw_at lw_m10 154 rfl
theorem q2457 : (Jvm.Cond.instanceMethod ({ cls := "UnreadSignsModel", name := "nextOf", desc := "(I)I" } : Jvm.MethodName)) ∈ lw_all := lw_g (lw_at lw_m10 155 rfl) rfl
theorem q2458 : (Jvm.Cond.code ({ cls := "UnreadSignsModel", name := "nextOf", desc := "(I)I" } : Jvm.MethodName) prog_16_method_60_code (6 : Nat) (Option.some Jvm.ClassFile.FieldType.int)) ∈ lw_all := lw_g (lw_at lw_m10 156 rfl) rfl
theorem q2459 : (Jvm.Cond.methodLink "UnreadSignsModel" (290 : Nat) ({ cls := "UnreadSignsModel", name := "stands", desc := "(III)Z" } : Jvm.MethodName)) ∈ lw_all := lw_g (lw_at lw_m10 157 rfl) rfl
theorem q2460 : (Jvm.Cond.privateMethod ({ cls := "UnreadSignsModel", name := "stands", desc := "(III)Z" } : Jvm.MethodName)) ∈ lw_tbl := lw_at lw_m10 158 rfl
theorem q2461 : (Jvm.Cond.instanceMethod ({ cls := "UnreadSignsModel", name := "stands", desc := "(III)Z" } : Jvm.MethodName)) ∈ lw_all := lw_g (lw_at lw_m10 159 rfl) rfl
theorem q2462 : (Jvm.Cond.code ({ cls := "UnreadSignsModel", name := "stands", desc := "(III)Z" } : Jvm.MethodName) prog_16_method_58_code (5 : Nat) (Option.some Jvm.ClassFile.FieldType.boolean)) ∈ lw_all := lw_g (lw_at lw_m10 160 rfl) rfl
theorem q2463 : (Jvm.Cond.methodLink "UnreadSignsModel" (316 : Nat) ({ cls := "UnreadSignsModel", name := "comesWord", desc := "(I)V" } : Jvm.MethodName)) ∈ lw_all := lw_g (lw_at lw_m10 161 rfl) rfl
theorem q2464 : (Jvm.Cond.privateMethod ({ cls := "UnreadSignsModel", name := "comesWord", desc := "(I)V" } : Jvm.MethodName)) ∈ lw_tbl := lw_at lw_m10 162 rfl
theorem q2465 : (Jvm.Cond.instanceMethod ({ cls := "UnreadSignsModel", name := "comesWord", desc := "(I)V" } : Jvm.MethodName)) ∈ lw_all := lw_g (lw_at lw_m10 163 rfl) rfl
theorem q2466 : (Jvm.Cond.code ({ cls := "UnreadSignsModel", name := "comesWord", desc := "(I)V" } : Jvm.MethodName) prog_16_method_67_code (4 : Nat) (Option.none : Option Jvm.ClassFile.FieldType)) ∈ lw_all := lw_g (lw_at lw_m10 164 rfl) rfl
theorem q2467 : (Jvm.Cond.methodLink "UnreadSignsModel" (305 : Nat) ({ cls := "UnreadSignsModel", name := "against", desc := "(II)I" } : Jvm.MethodName)) ∈ lw_all := lw_g (lw_at lw_m10 165 rfl) rfl
theorem q2468 : (Jvm.Cond.privateMethod ({ cls := "UnreadSignsModel", name := "against", desc := "(II)I" } : Jvm.MethodName)) ∈ lw_tbl := lw_at lw_m10 166 rfl
theorem q2469 : (Jvm.Cond.instanceMethod ({ cls := "UnreadSignsModel", name := "against", desc := "(II)I" } : Jvm.MethodName)) ∈ lw_all := lw_g (lw_at lw_m10 167 rfl) rfl
theorem q2470 : (Jvm.Cond.code ({ cls := "UnreadSignsModel", name := "against", desc := "(II)I" } : Jvm.MethodName) prog_16_method_65_code (4 : Nat) (Option.some Jvm.ClassFile.FieldType.int)) ∈ lw_all := lw_g (lw_at lw_m10 168 rfl) rfl
theorem q2471 : (Jvm.Cond.methodLink "UnreadSignsModel" (308 : Nat) ({ cls := "UnreadSignsModel", name := "copiesWord", desc := "(II)V" } : Jvm.MethodName)) ∈ lw_all := lw_g (lw_at lw_m10 169 rfl) rfl
theorem q2472 : (Jvm.Cond.privateMethod ({ cls := "UnreadSignsModel", name := "copiesWord", desc := "(II)V" } : Jvm.MethodName)) ∈ lw_tbl := lw_at lw_m10 170 rfl
theorem q2473 : (Jvm.Cond.instanceMethod ({ cls := "UnreadSignsModel", name := "copiesWord", desc := "(II)V" } : Jvm.MethodName)) ∈ lw_all := lw_g (lw_at lw_m10 171 rfl) rfl
theorem q2474 : (Jvm.Cond.code ({ cls := "UnreadSignsModel", name := "copiesWord", desc := "(II)V" } : Jvm.MethodName) prog_16_method_66_code (4 : Nat) (Option.none : Option Jvm.ClassFile.FieldType)) ∈ lw_all := lw_g (lw_at lw_m10 172 rfl) rfl
theorem q2475 : (Jvm.Cond.methodLink "UnreadSignsModel" (429 : Nat) ({ cls := "UnreadSignsModel", name := "laysGrid", desc := "()V" } : Jvm.MethodName)) ∈ lw_all := lw_g (lw_at lw_m10 173 rfl) rfl
theorem q2476 : (Jvm.Cond.privateMethod ({ cls := "UnreadSignsModel", name := "laysGrid", desc := "()V" } : Jvm.MethodName)) ∈ lw_tbl := lw_at lw_m10 174 rfl
theorem q2477 : (Jvm.Cond.instanceMethod ({ cls := "UnreadSignsModel", name := "laysGrid", desc := "()V" } : Jvm.MethodName)) ∈ lw_all := lw_g (lw_at lw_m10 175 rfl) rfl
theorem q2478 : (Jvm.Cond.code ({ cls := "UnreadSignsModel", name := "laysGrid", desc := "()V" } : Jvm.MethodName) prog_16_method_85_code (3 : Nat) (Option.none : Option Jvm.ClassFile.FieldType)) ∈ lw_all := lw_g (lw_at lw_m10 176 rfl) rfl
theorem q2479 : (Jvm.Cond.methodLink "UnreadSignsModel" (350 : Nat) ({ cls := "UnreadSignsModel", name := "cluesOf", desc := "(II)V" } : Jvm.MethodName)) ∈ lw_all := lw_g (lw_at lw_m10 177 rfl) rfl
theorem q2480 : (Jvm.Cond.privateMethod ({ cls := "UnreadSignsModel", name := "cluesOf", desc := "(II)V" } : Jvm.MethodName)) ∈ lw_tbl := lw_at lw_m10 178 rfl
theorem q2481 : (Jvm.Cond.instanceMethod ({ cls := "UnreadSignsModel", name := "cluesOf", desc := "(II)V" } : Jvm.MethodName)) ∈ lw_all := lw_g (lw_at lw_m10 179 rfl) rfl
theorem q2482 : (Jvm.Cond.code ({ cls := "UnreadSignsModel", name := "cluesOf", desc := "(II)V" } : Jvm.MethodName) prog_16_method_83_code (5 : Nat) (Option.none : Option Jvm.ClassFile.FieldType)) ∈ lw_all := lw_g (lw_at lw_m10 180 rfl) rfl
theorem q2483 : (Jvm.Cond.methodLink "UnreadSignsModel" (343 : Nat) ({ cls := "UnreadSignsModel", name := "unlikePlaces", desc := "(II)I" } : Jvm.MethodName)) ∈ lw_all := lw_g (lw_at lw_m10 181 rfl) rfl
theorem q2484 : (Jvm.Cond.privateMethod ({ cls := "UnreadSignsModel", name := "unlikePlaces", desc := "(II)I" } : Jvm.MethodName)) ∈ lw_tbl := lw_at lw_m10 182 rfl
theorem q2485 : (Jvm.Cond.instanceMethod ({ cls := "UnreadSignsModel", name := "unlikePlaces", desc := "(II)I" } : Jvm.MethodName)) ∈ lw_all := lw_g (lw_at lw_m10 183 rfl) rfl
theorem q2486 : (Jvm.Cond.code ({ cls := "UnreadSignsModel", name := "unlikePlaces", desc := "(II)I" } : Jvm.MethodName) prog_16_method_82_code (5 : Nat) (Option.some Jvm.ClassFile.FieldType.int)) ∈ lw_all := lw_g (lw_at lw_m10 184 rfl) rfl
theorem q2487 : (Jvm.Cond.methodLink "UnreadSignsModel" (346 : Nat) ({ cls := "UnreadSignsModel", name := "tellsClue", desc := "(III)V" } : Jvm.MethodName)) ∈ lw_all := lw_g (lw_at lw_m10 185 rfl) rfl
theorem q2488 : (Jvm.Cond.privateMethod ({ cls := "UnreadSignsModel", name := "tellsClue", desc := "(III)V" } : Jvm.MethodName)) ∈ lw_tbl := lw_at lw_m10 186 rfl
theorem q2489 : (Jvm.Cond.instanceMethod ({ cls := "UnreadSignsModel", name := "tellsClue", desc := "(III)V" } : Jvm.MethodName)) ∈ lw_all := lw_g (lw_at lw_m10 187 rfl) rfl
theorem q2490 : (Jvm.Cond.code ({ cls := "UnreadSignsModel", name := "tellsClue", desc := "(III)V" } : Jvm.MethodName) prog_16_method_81_code (4 : Nat) (Option.none : Option Jvm.ClassFile.FieldType)) ∈ lw_all := lw_g (lw_at lw_m10 188 rfl) rfl
theorem q2491 : (Jvm.Cond.methodLink "UnreadSignsModel" (340 : Nat) ({ cls := "UnreadSignsModel", name := "clueAt", desc := "(III)I" } : Jvm.MethodName)) ∈ lw_all := lw_g (lw_at lw_m10 189 rfl) rfl
theorem q2492 : (Jvm.Cond.static ({ cls := "UnreadSignsModel", name := "clueAt", desc := "(III)I" } : Jvm.MethodName)) ∈ lw_all := lw_g (lw_at lw_m10 190 rfl) rfl
theorem q2493 : (Jvm.Cond.code ({ cls := "UnreadSignsModel", name := "clueAt", desc := "(III)I" } : Jvm.MethodName) prog_16_method_80_code (3 : Nat) (Option.some Jvm.ClassFile.FieldType.int)) ∈ lw_all := lw_g (lw_at lw_m10 191 rfl) rfl
theorem q2494 : (Jvm.Cond.methodLink "UnreadSignsModel" (353 : Nat) ({ cls := "UnreadSignsModel", name := "laysGroups", desc := "(I)V" } : Jvm.MethodName)) ∈ lw_all := lw_g (lw_at lw_m10 192 rfl) rfl
theorem q2495 : (Jvm.Cond.privateMethod ({ cls := "UnreadSignsModel", name := "laysGroups", desc := "(I)V" } : Jvm.MethodName)) ∈ lw_tbl := lw_at lw_m10 193 rfl
theorem q2496 : (Jvm.Cond.instanceMethod ({ cls := "UnreadSignsModel", name := "laysGroups", desc := "(I)V" } : Jvm.MethodName)) ∈ lw_all := lw_g (lw_at lw_m10 194 rfl) rfl
theorem q2497 : (Jvm.Cond.code ({ cls := "UnreadSignsModel", name := "laysGroups", desc := "(I)V" } : Jvm.MethodName) prog_16_method_84_code (6 : Nat) (Option.none : Option Jvm.ClassFile.FieldType)) ∈ lw_all := lw_g (lw_at lw_m10 195 rfl) rfl
theorem q2498 : (Jvm.Cond.methodLink "UnreadSignsModel" (417 : Nat) ({ cls := "UnreadSignsModel", name := "laysKnown", desc := "()V" } : Jvm.MethodName)) ∈ lw_all := lw_g (lw_at lw_m10 196 rfl) rfl
theorem q2499 : (Jvm.Cond.privateMethod ({ cls := "UnreadSignsModel", name := "laysKnown", desc := "()V" } : Jvm.MethodName)) ∈ lw_tbl := lw_at lw_m10 197 rfl
theorem q2500 : (Jvm.Cond.instanceMethod ({ cls := "UnreadSignsModel", name := "laysKnown", desc := "()V" } : Jvm.MethodName)) ∈ lw_all := lw_g (lw_at lw_m10 198 rfl) rfl
theorem q2501 : (Jvm.Cond.code ({ cls := "UnreadSignsModel", name := "laysKnown", desc := "()V" } : Jvm.MethodName) prog_16_method_94_code (4 : Nat) (Option.none : Option Jvm.ClassFile.FieldType)) ∈ lw_all := lw_g (lw_at lw_m10 199 rfl) rfl
theorem q2502 : (Jvm.Cond.methodLink "UnreadSignsModel" (365 : Nat) ({ cls := "UnreadSignsModel", name := "partOf", desc := "(II)I" } : Jvm.MethodName)) ∈ lw_all := lw_g (lw_at lw_m10 200 rfl) rfl
theorem q2503 : (Jvm.Cond.static ({ cls := "UnreadSignsModel", name := "partOf", desc := "(II)I" } : Jvm.MethodName)) ∈ lw_all := lw_g (lw_at lw_m10 201 rfl) rfl
theorem q2504 : (Jvm.Cond.code ({ cls := "UnreadSignsModel", name := "partOf", desc := "(II)I" } : Jvm.MethodName) prog_16_method_93_code (2 : Nat) (Option.some Jvm.ClassFile.FieldType.int)) ∈ lw_all := lw_g (lw_at lw_m10 202 rfl) rfl
theorem q2505 : (Jvm.Cond.methodLink "UnreadSignsModel" (238 : Nat) ({ cls := "UnreadSignsModel", name := "isClueTold", desc := "(IIZ)Z" } : Jvm.MethodName)) ∈ lw_all := lw_g (lw_at lw_m10 203 rfl) rfl
theorem q2506 : (Jvm.Cond.privateMethod ({ cls := "UnreadSignsModel", name := "isClueTold", desc := "(IIZ)Z" } : Jvm.MethodName)) ∈ lw_tbl := lw_at lw_m10 204 rfl
theorem q2507 : (Jvm.Cond.instanceMethod ({ cls := "UnreadSignsModel", name := "isClueTold", desc := "(IIZ)Z" } : Jvm.MethodName)) ∈ lw_all := lw_g (lw_at lw_m10 205 rfl) rfl
theorem q2508 : (Jvm.Cond.code ({ cls := "UnreadSignsModel", name := "isClueTold", desc := "(IIZ)Z" } : Jvm.MethodName) prog_16_method_37_code (7 : Nat) (Option.some Jvm.ClassFile.FieldType.boolean)) ∈ lw_all := lw_g (lw_at lw_m10 206 rfl) rfl
theorem q2510 : (Jvm.Cond.instanceMethod ({ cls := "UnreadSignsModel", name := "guess", desc := "(III)I" } : Jvm.MethodName)) ∈ lw_all := lw_g (lw_at lw_m10 208 rfl) rfl
theorem q2511 : (Jvm.Cond.selects "UnreadSignsModel" ({ cls := "UnreadSignsModel", name := "guess", desc := "(III)I" } : Jvm.MethodName) ({ cls := "UnreadSignsModel", name := "guess", desc := "(III)I" } : Jvm.MethodName)) ∈ lw_all := lw_g (lw_at lw_m10 209 rfl) rfl
theorem q2512 : (Jvm.Cond.code ({ cls := "UnreadSignsModel", name := "guess", desc := "(III)I" } : Jvm.MethodName) prog_16_method_39_code (6 : Nat) (Option.some Jvm.ClassFile.FieldType.int)) ∈ lw_all := lw_g (lw_at lw_m10 210 rfl) rfl
theorem q2513 : (Jvm.Cond.methodLink "UnreadSignsModel" (242 : Nat) ({ cls := "UnreadSignsModel", name := "disputedMany", desc := "()I" } : Jvm.MethodName)) ∈ lw_all := lw_g (lw_at lw_m10 211 rfl) rfl
theorem q2514 : (Jvm.Cond.privateMethod ({ cls := "UnreadSignsModel", name := "disputedMany", desc := "()I" } : Jvm.MethodName)) ∈ lw_tbl := lw_at lw_m10 212 rfl
theorem q2515 : (Jvm.Cond.instanceMethod ({ cls := "UnreadSignsModel", name := "disputedMany", desc := "()I" } : Jvm.MethodName)) ∈ lw_all := lw_g (lw_at lw_m10 213 rfl) rfl
theorem q2516 : (Jvm.Cond.code ({ cls := "UnreadSignsModel", name := "disputedMany", desc := "()I" } : Jvm.MethodName) prog_16_method_97_code (3 : Nat) (Option.some Jvm.ClassFile.FieldType.int)) ∈ lw_all := lw_g (lw_at lw_m10 214 rfl) rfl
theorem q2517 : (Jvm.Cond.methodLink "UnreadSignsModel" (356 : Nat) ({ cls := "UnreadSignsModel", name := "isSign", desc := "(I)Z" } : Jvm.MethodName)) ∈ lw_all := lw_g (lw_at lw_m10 215 rfl) rfl
theorem q2518 : (Jvm.Cond.privateMethod ({ cls := "UnreadSignsModel", name := "isSign", desc := "(I)Z" } : Jvm.MethodName)) ∈ lw_tbl := lw_at lw_m10 216 rfl
theorem q2519 : (Jvm.Cond.instanceMethod ({ cls := "UnreadSignsModel", name := "isSign", desc := "(I)Z" } : Jvm.MethodName)) ∈ lw_all := lw_g (lw_at lw_m10 217 rfl) rfl
theorem q2520 : (Jvm.Cond.code ({ cls := "UnreadSignsModel", name := "isSign", desc := "(I)Z" } : Jvm.MethodName) prog_16_method_86_code (2 : Nat) (Option.some Jvm.ClassFile.FieldType.boolean)) ∈ lw_all := lw_g (lw_at lw_m10 218 rfl) rfl
theorem q2521 : (Jvm.Cond.methodLink "UnreadSignsModel" (371 : Nat) ({ cls := "UnreadSignsModel", name := "isDisputed", desc := "(I)Z" } : Jvm.MethodName)) ∈ lw_all := lw_g (lw_at lw_m10 219 rfl) rfl
theorem q2522 : (Jvm.Cond.privateMethod ({ cls := "UnreadSignsModel", name := "isDisputed", desc := "(I)Z" } : Jvm.MethodName)) ∈ lw_tbl := lw_at lw_m10 220 rfl
theorem q2523 : (Jvm.Cond.instanceMethod ({ cls := "UnreadSignsModel", name := "isDisputed", desc := "(I)Z" } : Jvm.MethodName)) ∈ lw_all := lw_g (lw_at lw_m10 221 rfl) rfl
theorem q2524 : (Jvm.Cond.code ({ cls := "UnreadSignsModel", name := "isDisputed", desc := "(I)Z" } : Jvm.MethodName) prog_16_method_96_code (5 : Nat) (Option.some Jvm.ClassFile.FieldType.boolean)) ∈ lw_all := lw_g (lw_at lw_m10 222 rfl) rfl
theorem q2525 : (Jvm.Cond.methodLink "UnreadSignsModel" (368 : Nat) ({ cls := "UnreadSignsModel", name := "isWhole", desc := "(I)Z" } : Jvm.MethodName)) ∈ lw_all := lw_g (lw_at lw_m10 223 rfl) rfl
theorem q2526 : (Jvm.Cond.privateMethod ({ cls := "UnreadSignsModel", name := "isWhole", desc := "(I)Z" } : Jvm.MethodName)) ∈ lw_tbl := lw_at lw_m10 224 rfl
theorem q2527 : (Jvm.Cond.instanceMethod ({ cls := "UnreadSignsModel", name := "isWhole", desc := "(I)Z" } : Jvm.MethodName)) ∈ lw_all := lw_g (lw_at lw_m10 225 rfl) rfl
theorem q2528 : (Jvm.Cond.code ({ cls := "UnreadSignsModel", name := "isWhole", desc := "(I)Z" } : Jvm.MethodName) prog_16_method_95_code (2 : Nat) (Option.some Jvm.ClassFile.FieldType.boolean)) ∈ lw_all := lw_g (lw_at lw_m10 226 rfl) rfl
theorem q2530 : (Jvm.Cond.instanceMethod ({ cls := "UnreadSignsModel", name := "unlike", desc := "(II)I" } : Jvm.MethodName)) ∈ lw_all := lw_g (lw_at lw_m10 228 rfl) rfl
theorem q2531 : (Jvm.Cond.selects "UnreadSignsModel" ({ cls := "UnreadSignsModel", name := "unlike", desc := "(II)I" } : Jvm.MethodName) ({ cls := "UnreadSignsModel", name := "unlike", desc := "(II)I" } : Jvm.MethodName)) ∈ lw_all := lw_g (lw_at lw_m10 229 rfl) rfl
theorem q2532 : (Jvm.Cond.code ({ cls := "UnreadSignsModel", name := "unlike", desc := "(II)I" } : Jvm.MethodName) prog_16_method_43_code (3 : Nat) (Option.some Jvm.ClassFile.FieldType.int)) ∈ lw_all := lw_g (lw_at lw_m10 230 rfl) rfl
theorem q2534 : (Jvm.Cond.instanceMethod ({ cls := "UnreadSignsModel", name := "sign", desc := "(I)I" } : Jvm.MethodName)) ∈ lw_all := lw_g (lw_at lw_m10 232 rfl) rfl
theorem q2535 : (Jvm.Cond.selects "UnreadSignsModel" ({ cls := "UnreadSignsModel", name := "sign", desc := "(I)I" } : Jvm.MethodName) ({ cls := "UnreadSignsModel", name := "sign", desc := "(I)I" } : Jvm.MethodName)) ∈ lw_all := lw_g (lw_at lw_m10 233 rfl) rfl
theorem q2536 : (Jvm.Cond.code ({ cls := "UnreadSignsModel", name := "sign", desc := "(I)I" } : Jvm.MethodName) prog_16_method_46_code (2 : Nat) (Option.some Jvm.ClassFile.FieldType.int)) ∈ lw_all := lw_g (lw_at lw_m10 234 rfl) rfl
theorem q2538 : (Jvm.Cond.instanceMethod ({ cls := "UnreadSignsModel", name := "size", desc := "(I)I" } : Jvm.MethodName)) ∈ lw_all := lw_g (lw_at lw_m10 236 rfl) rfl
theorem q2539 : (Jvm.Cond.selects "UnreadSignsModel" ({ cls := "UnreadSignsModel", name := "size", desc := "(I)I" } : Jvm.MethodName) ({ cls := "UnreadSignsModel", name := "size", desc := "(I)I" } : Jvm.MethodName)) ∈ lw_all := lw_g (lw_at lw_m10 237 rfl) rfl
theorem q2540 : (Jvm.Cond.code ({ cls := "UnreadSignsModel", name := "size", desc := "(I)I" } : Jvm.MethodName) prog_16_method_47_code (4 : Nat) (Option.some Jvm.ClassFile.FieldType.int)) ∈ lw_all := lw_g (lw_at lw_m10 238 rfl) rfl
theorem q2542 : (Jvm.Cond.instanceMethod ({ cls := "UnreadSignsModel", name := "tree", desc := "(II)I" } : Jvm.MethodName)) ∈ lw_all := lw_g (lw_at lw_m11 0 rfl) rfl
theorem q2543 : (Jvm.Cond.selects "UnreadSignsModel" ({ cls := "UnreadSignsModel", name := "tree", desc := "(II)I" } : Jvm.MethodName) ({ cls := "UnreadSignsModel", name := "tree", desc := "(II)I" } : Jvm.MethodName)) ∈ lw_all := lw_g (lw_at lw_m11 1 rfl) rfl
theorem q2544 : (Jvm.Cond.code ({ cls := "UnreadSignsModel", name := "tree", desc := "(II)I" } : Jvm.MethodName) prog_16_method_48_code (7 : Nat) (Option.some Jvm.ClassFile.FieldType.int)) ∈ lw_all := lw_g (lw_at lw_m11 2 rfl) rfl
theorem q2545 : (Jvm.Cond.methodLink "UnreadSignsModel" (262 : Nat) ({ cls := "UnreadSignsModel", name := "joins", desc := "(II)V" } : Jvm.MethodName)) ∈ lw_all := lw_g (lw_at lw_m11 3 rfl) rfl
theorem q2546 : (Jvm.Cond.privateMethod ({ cls := "UnreadSignsModel", name := "joins", desc := "(II)V" } : Jvm.MethodName)) ∈ lw_tbl := lw_at lw_m11 4 rfl
theorem q2547 : (Jvm.Cond.instanceMethod ({ cls := "UnreadSignsModel", name := "joins", desc := "(II)V" } : Jvm.MethodName)) ∈ lw_all := lw_g (lw_at lw_m11 5 rfl) rfl
theorem q2548 : (Jvm.Cond.code ({ cls := "UnreadSignsModel", name := "joins", desc := "(II)V" } : Jvm.MethodName) prog_16_method_49_code (4 : Nat) (Option.none : Option Jvm.ClassFile.FieldType)) ∈ lw_all := lw_g (lw_at lw_m11 6 rfl) rfl
theorem q2550 : (Jvm.Cond.instanceMethod ({ cls := "UnreadSignsModel", name := "judged", desc := "(I)I" } : Jvm.MethodName)) ∈ lw_all := lw_g (lw_at lw_m11 8 rfl) rfl
theorem q2551 : (Jvm.Cond.selects "UnreadSignsModel" ({ cls := "UnreadSignsModel", name := "judged", desc := "(I)I" } : Jvm.MethodName) ({ cls := "UnreadSignsModel", name := "judged", desc := "(I)I" } : Jvm.MethodName)) ∈ lw_all := lw_g (lw_at lw_m11 9 rfl) rfl
theorem q2552 : (Jvm.Cond.code ({ cls := "UnreadSignsModel", name := "judged", desc := "(I)I" } : Jvm.MethodName) prog_16_method_54_code (2 : Nat) (Option.some Jvm.ClassFile.FieldType.int)) ∈ lw_all := lw_g (lw_at lw_m11 10 rfl) rfl
theorem q2554 : (Jvm.Cond.instanceMethod ({ cls := "UnreadSignsModel", name := "read", desc := "(III)I" } : Jvm.MethodName)) ∈ lw_all := lw_g (lw_at lw_m11 12 rfl) rfl
theorem q2555 : (Jvm.Cond.selects "UnreadSignsModel" ({ cls := "UnreadSignsModel", name := "read", desc := "(III)I" } : Jvm.MethodName) ({ cls := "UnreadSignsModel", name := "read", desc := "(III)I" } : Jvm.MethodName)) ∈ lw_all := lw_g (lw_at lw_m11 13 rfl) rfl
theorem q2556 : (Jvm.Cond.code ({ cls := "UnreadSignsModel", name := "read", desc := "(III)I" } : Jvm.MethodName) prog_16_method_57_code (6 : Nat) (Option.some Jvm.ClassFile.FieldType.int)) ∈ lw_all := lw_g (lw_at lw_m11 14 rfl) rfl
theorem q2558 : (Jvm.Cond.instanceMethod ({ cls := "UnreadSignsModel", name := "comes", desc := "()I" } : Jvm.MethodName)) ∈ lw_all := lw_g (lw_at lw_m11 16 rfl) rfl
theorem q2559 : (Jvm.Cond.selects "UnreadSignsModel" ({ cls := "UnreadSignsModel", name := "comes", desc := "()I" } : Jvm.MethodName) ({ cls := "UnreadSignsModel", name := "comes", desc := "()I" } : Jvm.MethodName)) ∈ lw_all := lw_g (lw_at lw_m11 17 rfl) rfl
theorem q2560 : (Jvm.Cond.code ({ cls := "UnreadSignsModel", name := "comes", desc := "()I" } : Jvm.MethodName) prog_16_method_62_code (2 : Nat) (Option.some Jvm.ClassFile.FieldType.int)) ∈ lw_all := lw_g (lw_at lw_m11 18 rfl) rfl
theorem q2561 : (Jvm.Cond.methodLink "UnreadSignsModel" (293 : Nat) ({ cls := "UnreadSignsModel", name := "pieceTold", desc := "()I" } : Jvm.MethodName)) ∈ lw_all := lw_g (lw_at lw_m11 19 rfl) rfl
theorem q2562 : (Jvm.Cond.privateMethod ({ cls := "UnreadSignsModel", name := "pieceTold", desc := "()I" } : Jvm.MethodName)) ∈ lw_tbl := lw_at lw_m11 20 rfl
theorem q2563 : (Jvm.Cond.instanceMethod ({ cls := "UnreadSignsModel", name := "pieceTold", desc := "()I" } : Jvm.MethodName)) ∈ lw_all := lw_g (lw_at lw_m11 21 rfl) rfl
theorem q2564 : (Jvm.Cond.code ({ cls := "UnreadSignsModel", name := "pieceTold", desc := "()I" } : Jvm.MethodName) prog_16_method_61_code (3 : Nat) (Option.some Jvm.ClassFile.FieldType.int)) ∈ lw_all := lw_g (lw_at lw_m11 22 rfl) rfl
theorem q2565 : (Jvm.Cond.methodLink "UnreadSignsModel" (296 : Nat) ({ cls := "UnreadSignsModel", name := "comesOf", desc := "(I)I" } : Jvm.MethodName)) ∈ lw_all := lw_g (lw_at lw_m11 23 rfl) rfl
theorem q2566 : (Jvm.Cond.privateMethod ({ cls := "UnreadSignsModel", name := "comesOf", desc := "(I)I" } : Jvm.MethodName)) ∈ lw_tbl := lw_at lw_m11 24 rfl
theorem q2567 : (Jvm.Cond.instanceMethod ({ cls := "UnreadSignsModel", name := "comesOf", desc := "(I)I" } : Jvm.MethodName)) ∈ lw_all := lw_g (lw_at lw_m11 25 rfl) rfl
theorem q2568 : (Jvm.Cond.code ({ cls := "UnreadSignsModel", name := "comesOf", desc := "(I)I" } : Jvm.MethodName) prog_16_method_59_code (5 : Nat) (Option.some Jvm.ClassFile.FieldType.int)) ∈ lw_all := lw_g (lw_at lw_m11 26 rfl) rfl
theorem q2570 : (Jvm.Cond.instanceMethod ({ cls := "UnreadSignsModel", name := "next", desc := "()I" } : Jvm.MethodName)) ∈ lw_all := lw_g (lw_at lw_m11 28 rfl) rfl
theorem q2571 : (Jvm.Cond.selects "UnreadSignsModel" ({ cls := "UnreadSignsModel", name := "next", desc := "()I" } : Jvm.MethodName) ({ cls := "UnreadSignsModel", name := "next", desc := "()I" } : Jvm.MethodName)) ∈ lw_all := lw_g (lw_at lw_m11 29 rfl) rfl
theorem q2572 : (Jvm.Cond.code ({ cls := "UnreadSignsModel", name := "next", desc := "()I" } : Jvm.MethodName) prog_16_method_63_code (2 : Nat) (Option.some Jvm.ClassFile.FieldType.int)) ∈ lw_all := lw_g (lw_at lw_m11 30 rfl) rfl
theorem q2574 : (Jvm.Cond.instanceMethod ({ cls := "UnreadSignsModel", name := "words", desc := "()I" } : Jvm.MethodName)) ∈ lw_all := lw_g (lw_at lw_m11 32 rfl) rfl
theorem q2575 : (Jvm.Cond.selects "UnreadSignsModel" ({ cls := "UnreadSignsModel", name := "words", desc := "()I" } : Jvm.MethodName) ({ cls := "UnreadSignsModel", name := "words", desc := "()I" } : Jvm.MethodName)) ∈ lw_all := lw_g (lw_at lw_m11 33 rfl) rfl
theorem q2576 : (Jvm.Cond.code ({ cls := "UnreadSignsModel", name := "words", desc := "()I" } : Jvm.MethodName) prog_16_method_69_code (1 : Nat) (Option.some Jvm.ClassFile.FieldType.int)) ∈ lw_all := lw_g (lw_at lw_m11 34 rfl) rfl
theorem q2578 : (Jvm.Cond.instanceMethod ({ cls := "UnreadSignsModel", name := "word", desc := "(II)I" } : Jvm.MethodName)) ∈ lw_all := lw_g (lw_at lw_m11 36 rfl) rfl
theorem q2579 : (Jvm.Cond.selects "UnreadSignsModel" ({ cls := "UnreadSignsModel", name := "word", desc := "(II)I" } : Jvm.MethodName) ({ cls := "UnreadSignsModel", name := "word", desc := "(II)I" } : Jvm.MethodName)) ∈ lw_all := lw_g (lw_at lw_m11 37 rfl) rfl
theorem q2580 : (Jvm.Cond.code ({ cls := "UnreadSignsModel", name := "word", desc := "(II)I" } : Jvm.MethodName) prog_16_method_70_code (3 : Nat) (Option.some Jvm.ClassFile.FieldType.int)) ∈ lw_all := lw_g (lw_at lw_m11 38 rfl) rfl
theorem q2582 : (Jvm.Cond.instanceMethod ({ cls := "UnreadSignsModel", name := "rank", desc := "(I)I" } : Jvm.MethodName)) ∈ lw_all := lw_g (lw_at lw_m11 40 rfl) rfl
theorem q2583 : (Jvm.Cond.selects "UnreadSignsModel" ({ cls := "UnreadSignsModel", name := "rank", desc := "(I)I" } : Jvm.MethodName) ({ cls := "UnreadSignsModel", name := "rank", desc := "(I)I" } : Jvm.MethodName)) ∈ lw_all := lw_g (lw_at lw_m11 41 rfl) rfl
theorem q2584 : (Jvm.Cond.code ({ cls := "UnreadSignsModel", name := "rank", desc := "(I)I" } : Jvm.MethodName) prog_16_method_71_code (5 : Nat) (Option.some Jvm.ClassFile.FieldType.int)) ∈ lw_all := lw_g (lw_at lw_m11 42 rfl) rfl
theorem q2586 : (Jvm.Cond.instanceMethod ({ cls := "UnreadSignsModel", name := "stands", desc := "(II)I" } : Jvm.MethodName)) ∈ lw_all := lw_g (lw_at lw_m11 44 rfl) rfl
theorem q2587 : (Jvm.Cond.selects "UnreadSignsModel" ({ cls := "UnreadSignsModel", name := "stands", desc := "(II)I" } : Jvm.MethodName) ({ cls := "UnreadSignsModel", name := "stands", desc := "(II)I" } : Jvm.MethodName)) ∈ lw_all := lw_g (lw_at lw_m11 45 rfl) rfl
theorem q2588 : (Jvm.Cond.code ({ cls := "UnreadSignsModel", name := "stands", desc := "(II)I" } : Jvm.MethodName) prog_16_method_73_code (6 : Nat) (Option.some Jvm.ClassFile.FieldType.int)) ∈ lw_all := lw_g (lw_at lw_m11 46 rfl) rfl
theorem q2589 : (Jvm.Cond.methodLink "UnreadSignsModel" (319 : Nat) ({ cls := "UnreadSignsModel", name := "standsIn", desc := "(I)I" } : Jvm.MethodName)) ∈ lw_all := lw_g (lw_at lw_m11 47 rfl) rfl
theorem q2590 : (Jvm.Cond.privateMethod ({ cls := "UnreadSignsModel", name := "standsIn", desc := "(I)I" } : Jvm.MethodName)) ∈ lw_tbl := lw_at lw_m11 48 rfl
theorem q2591 : (Jvm.Cond.instanceMethod ({ cls := "UnreadSignsModel", name := "standsIn", desc := "(I)I" } : Jvm.MethodName)) ∈ lw_all := lw_g (lw_at lw_m11 49 rfl) rfl
theorem q2592 : (Jvm.Cond.code ({ cls := "UnreadSignsModel", name := "standsIn", desc := "(I)I" } : Jvm.MethodName) prog_16_method_72_code (6 : Nat) (Option.some Jvm.ClassFile.FieldType.int)) ∈ lw_all := lw_g (lw_at lw_m11 50 rfl) rfl
theorem q2594 : (Jvm.Cond.instanceMethod ({ cls := "UnreadSignsModel", name := "ahead", desc := "(II)I" } : Jvm.MethodName)) ∈ lw_all := lw_g (lw_at lw_m11 52 rfl) rfl
theorem q2595 : (Jvm.Cond.selects "UnreadSignsModel" ({ cls := "UnreadSignsModel", name := "ahead", desc := "(II)I" } : Jvm.MethodName) ({ cls := "UnreadSignsModel", name := "ahead", desc := "(II)I" } : Jvm.MethodName)) ∈ lw_all := lw_g (lw_at lw_m11 53 rfl) rfl
theorem q2596 : (Jvm.Cond.code ({ cls := "UnreadSignsModel", name := "ahead", desc := "(II)I" } : Jvm.MethodName) prog_16_method_74_code (6 : Nat) (Option.some Jvm.ClassFile.FieldType.int)) ∈ lw_all := lw_g (lw_at lw_m11 54 rfl) rfl
theorem q2598 : (Jvm.Cond.instanceMethod ({ cls := "UnreadSignsModel", name := "stem", desc := "(II)I" } : Jvm.MethodName)) ∈ lw_all := lw_g (lw_at lw_m11 56 rfl) rfl
theorem q2599 : (Jvm.Cond.selects "UnreadSignsModel" ({ cls := "UnreadSignsModel", name := "stem", desc := "(II)I" } : Jvm.MethodName) ({ cls := "UnreadSignsModel", name := "stem", desc := "(II)I" } : Jvm.MethodName)) ∈ lw_all := lw_g (lw_at lw_m11 57 rfl) rfl
theorem q2600 : (Jvm.Cond.code ({ cls := "UnreadSignsModel", name := "stem", desc := "(II)I" } : Jvm.MethodName) prog_16_method_79_code (5 : Nat) (Option.some Jvm.ClassFile.FieldType.int)) ∈ lw_all := lw_g (lw_at lw_m11 58 rfl) rfl
theorem q2601 : (Jvm.Cond.methodLink "UnreadSignsModel" (337 : Nat) ({ cls := "UnreadSignsModel", name := "laysStems", desc := "()V" } : Jvm.MethodName)) ∈ lw_all := lw_g (lw_at lw_m11 59 rfl) rfl
theorem q2602 : (Jvm.Cond.privateMethod ({ cls := "UnreadSignsModel", name := "laysStems", desc := "()V" } : Jvm.MethodName)) ∈ lw_tbl := lw_at lw_m11 60 rfl
theorem q2603 : (Jvm.Cond.instanceMethod ({ cls := "UnreadSignsModel", name := "laysStems", desc := "()V" } : Jvm.MethodName)) ∈ lw_all := lw_g (lw_at lw_m11 61 rfl) rfl
theorem q2604 : (Jvm.Cond.code ({ cls := "UnreadSignsModel", name := "laysStems", desc := "()V" } : Jvm.MethodName) prog_16_method_78_code (5 : Nat) (Option.none : Option Jvm.ClassFile.FieldType)) ∈ lw_all := lw_g (lw_at lw_m11 62 rfl) rfl
theorem q2605 : (Jvm.Cond.methodLink "UnreadSignsModel" (325 : Nat) ({ cls := "UnreadSignsModel", name := "laysPiece", desc := "(II)V" } : Jvm.MethodName)) ∈ lw_all := lw_g (lw_at lw_m11 63 rfl) rfl
theorem q2606 : (Jvm.Cond.privateMethod ({ cls := "UnreadSignsModel", name := "laysPiece", desc := "(II)V" } : Jvm.MethodName)) ∈ lw_tbl := lw_at lw_m11 64 rfl
theorem q2607 : (Jvm.Cond.instanceMethod ({ cls := "UnreadSignsModel", name := "laysPiece", desc := "(II)V" } : Jvm.MethodName)) ∈ lw_all := lw_g (lw_at lw_m11 65 rfl) rfl
theorem q2608 : (Jvm.Cond.code ({ cls := "UnreadSignsModel", name := "laysPiece", desc := "(II)V" } : Jvm.MethodName) prog_16_method_77_code (4 : Nat) (Option.none : Option Jvm.ClassFile.FieldType)) ∈ lw_all := lw_g (lw_at lw_m11 66 rfl) rfl
theorem q2609 : (Jvm.Cond.methodLink "UnreadSignsModel" (328 : Nat) ({ cls := "UnreadSignsModel", name := "endingsOf", desc := "(I)I" } : Jvm.MethodName)) ∈ lw_all := lw_g (lw_at lw_m11 67 rfl) rfl
theorem q2610 : (Jvm.Cond.privateMethod ({ cls := "UnreadSignsModel", name := "endingsOf", desc := "(I)I" } : Jvm.MethodName)) ∈ lw_tbl := lw_at lw_m11 68 rfl
theorem q2611 : (Jvm.Cond.instanceMethod ({ cls := "UnreadSignsModel", name := "endingsOf", desc := "(I)I" } : Jvm.MethodName)) ∈ lw_all := lw_g (lw_at lw_m11 69 rfl) rfl
theorem q2612 : (Jvm.Cond.code ({ cls := "UnreadSignsModel", name := "endingsOf", desc := "(I)I" } : Jvm.MethodName) prog_16_method_75_code (6 : Nat) (Option.some Jvm.ClassFile.FieldType.int)) ∈ lw_all := lw_g (lw_at lw_m11 70 rfl) rfl
theorem q2613 : (Jvm.Cond.methodLink "UnreadSignsModel" (331 : Nat) ({ cls := "java/lang/Integer", name := "numberOfTrailingZeros", desc := "(I)I" } : Jvm.MethodName)) ∈ lw_all := lw_g (lw_at lw_m11 71 rfl) rfl
theorem q2614 : (Jvm.Cond.methodLink "UnreadSignsModel" (334 : Nat) ({ cls := "UnreadSignsModel", name := "isAhead", desc := "(II)Z" } : Jvm.MethodName)) ∈ lw_all := lw_g (lw_at lw_m11 72 rfl) rfl
theorem q2615 : (Jvm.Cond.privateMethod ({ cls := "UnreadSignsModel", name := "isAhead", desc := "(II)Z" } : Jvm.MethodName)) ∈ lw_tbl := lw_at lw_m11 73 rfl
theorem q2616 : (Jvm.Cond.instanceMethod ({ cls := "UnreadSignsModel", name := "isAhead", desc := "(II)Z" } : Jvm.MethodName)) ∈ lw_all := lw_g (lw_at lw_m11 74 rfl) rfl
theorem q2617 : (Jvm.Cond.code ({ cls := "UnreadSignsModel", name := "isAhead", desc := "(II)Z" } : Jvm.MethodName) prog_16_method_76_code (7 : Nat) (Option.some Jvm.ClassFile.FieldType.boolean)) ∈ lw_all := lw_g (lw_at lw_m11 75 rfl) rfl
theorem q2619 : (Jvm.Cond.instanceMethod ({ cls := "UnreadSignsModel", name := "clues", desc := "(Z)I" } : Jvm.MethodName)) ∈ lw_all := lw_g (lw_at lw_m11 77 rfl) rfl
theorem q2620 : (Jvm.Cond.selects "UnreadSignsModel" ({ cls := "UnreadSignsModel", name := "clues", desc := "(Z)I" } : Jvm.MethodName) ({ cls := "UnreadSignsModel", name := "clues", desc := "(Z)I" } : Jvm.MethodName)) ∈ lw_all := lw_g (lw_at lw_m11 78 rfl) rfl
theorem q2621 : (Jvm.Cond.code ({ cls := "UnreadSignsModel", name := "clues", desc := "(Z)I" } : Jvm.MethodName) prog_16_method_87_code (5 : Nat) (Option.some Jvm.ClassFile.FieldType.int)) ∈ lw_all := lw_g (lw_at lw_m11 79 rfl) rfl
theorem q2623 : (Jvm.Cond.instanceMethod ({ cls := "UnreadSignsModel", name := "place", desc := "(IZ)I" } : Jvm.MethodName)) ∈ lw_all := lw_g (lw_at lw_m11 81 rfl) rfl
theorem q2624 : (Jvm.Cond.selects "UnreadSignsModel" ({ cls := "UnreadSignsModel", name := "place", desc := "(IZ)I" } : Jvm.MethodName) ({ cls := "UnreadSignsModel", name := "place", desc := "(IZ)I" } : Jvm.MethodName)) ∈ lw_all := lw_g (lw_at lw_m11 82 rfl) rfl
theorem q2625 : (Jvm.Cond.code ({ cls := "UnreadSignsModel", name := "place", desc := "(IZ)I" } : Jvm.MethodName) prog_16_method_88_code (3 : Nat) (Option.some Jvm.ClassFile.FieldType.int)) ∈ lw_all := lw_g (lw_at lw_m11 83 rfl) rfl
theorem q2627 : (Jvm.Cond.instanceMethod ({ cls := "UnreadSignsModel", name := "clash", desc := "(I)I" } : Jvm.MethodName)) ∈ lw_all := lw_g (lw_at lw_m11 85 rfl) rfl
theorem q2628 : (Jvm.Cond.selects "UnreadSignsModel" ({ cls := "UnreadSignsModel", name := "clash", desc := "(I)I" } : Jvm.MethodName) ({ cls := "UnreadSignsModel", name := "clash", desc := "(I)I" } : Jvm.MethodName)) ∈ lw_all := lw_g (lw_at lw_m11 86 rfl) rfl
theorem q2629 : (Jvm.Cond.code ({ cls := "UnreadSignsModel", name := "clash", desc := "(I)I" } : Jvm.MethodName) prog_16_method_91_code (4 : Nat) (Option.some Jvm.ClassFile.FieldType.int)) ∈ lw_all := lw_g (lw_at lw_m11 87 rfl) rfl
theorem q2630 : (Jvm.Cond.methodLink "UnreadSignsModel" (359 : Nat) ({ cls := "UnreadSignsModel", name := "doClash", desc := "(II)Z" } : Jvm.MethodName)) ∈ lw_all := lw_g (lw_at lw_m11 88 rfl) rfl
theorem q2631 : (Jvm.Cond.privateMethod ({ cls := "UnreadSignsModel", name := "doClash", desc := "(II)Z" } : Jvm.MethodName)) ∈ lw_tbl := lw_at lw_m11 89 rfl
theorem q2632 : (Jvm.Cond.instanceMethod ({ cls := "UnreadSignsModel", name := "doClash", desc := "(II)Z" } : Jvm.MethodName)) ∈ lw_all := lw_g (lw_at lw_m11 90 rfl) rfl
theorem q2633 : (Jvm.Cond.code ({ cls := "UnreadSignsModel", name := "doClash", desc := "(II)Z" } : Jvm.MethodName) prog_16_method_89_code (3 : Nat) (Option.some Jvm.ClassFile.FieldType.boolean)) ∈ lw_all := lw_g (lw_at lw_m11 91 rfl) rfl
theorem q2634 : (Jvm.Cond.methodLink "UnreadSignsModel" (362 : Nat) ({ cls := "UnreadSignsModel", name := "fewest", desc := "(III)I" } : Jvm.MethodName)) ∈ lw_all := lw_g (lw_at lw_m11 92 rfl) rfl
theorem q2635 : (Jvm.Cond.privateMethod ({ cls := "UnreadSignsModel", name := "fewest", desc := "(III)I" } : Jvm.MethodName)) ∈ lw_tbl := lw_at lw_m11 93 rfl
theorem q2636 : (Jvm.Cond.instanceMethod ({ cls := "UnreadSignsModel", name := "fewest", desc := "(III)I" } : Jvm.MethodName)) ∈ lw_all := lw_g (lw_at lw_m11 94 rfl) rfl
theorem q2637 : (Jvm.Cond.code ({ cls := "UnreadSignsModel", name := "fewest", desc := "(III)I" } : Jvm.MethodName) prog_16_method_90_code (7 : Nat) (Option.some Jvm.ClassFile.FieldType.int)) ∈ lw_all := lw_g (lw_at lw_m11 95 rfl) rfl
theorem q2639 : (Jvm.Cond.instanceMethod ({ cls := "UnreadSignsModel", name := "clashes", desc := "()I" } : Jvm.MethodName)) ∈ lw_all := lw_g (lw_at lw_m11 97 rfl) rfl
theorem q2640 : (Jvm.Cond.selects "UnreadSignsModel" ({ cls := "UnreadSignsModel", name := "clashes", desc := "()I" } : Jvm.MethodName) ({ cls := "UnreadSignsModel", name := "clashes", desc := "()I" } : Jvm.MethodName)) ∈ lw_all := lw_g (lw_at lw_m11 98 rfl) rfl
theorem q2641 : (Jvm.Cond.code ({ cls := "UnreadSignsModel", name := "clashes", desc := "()I" } : Jvm.MethodName) prog_16_method_92_code (4 : Nat) (Option.some Jvm.ClassFile.FieldType.int)) ∈ lw_all := lw_g (lw_at lw_m11 99 rfl) rfl
theorem q2643 : (Jvm.Cond.instanceMethod ({ cls := "UnreadSignsModel", name := "known", desc := "(II)I" } : Jvm.MethodName)) ∈ lw_all := lw_g (lw_at lw_m11 101 rfl) rfl
theorem q2644 : (Jvm.Cond.selects "UnreadSignsModel" ({ cls := "UnreadSignsModel", name := "known", desc := "(II)I" } : Jvm.MethodName) ({ cls := "UnreadSignsModel", name := "known", desc := "(II)I" } : Jvm.MethodName)) ∈ lw_all := lw_g (lw_at lw_m11 102 rfl) rfl
theorem q2645 : (Jvm.Cond.code ({ cls := "UnreadSignsModel", name := "known", desc := "(II)I" } : Jvm.MethodName) prog_16_method_98_code (3 : Nat) (Option.some Jvm.ClassFile.FieldType.int)) ∈ lw_all := lw_g (lw_at lw_m11 103 rfl) rfl
theorem q2647 : (Jvm.Cond.instanceMethod ({ cls := "UnreadSignsModel", name := "fits", desc := "(II)I" } : Jvm.MethodName)) ∈ lw_all := lw_g (lw_at lw_m11 105 rfl) rfl
theorem q2648 : (Jvm.Cond.selects "UnreadSignsModel" ({ cls := "UnreadSignsModel", name := "fits", desc := "(II)I" } : Jvm.MethodName) ({ cls := "UnreadSignsModel", name := "fits", desc := "(II)I" } : Jvm.MethodName)) ∈ lw_all := lw_g (lw_at lw_m11 106 rfl) rfl
theorem q2649 : (Jvm.Cond.code ({ cls := "UnreadSignsModel", name := "fits", desc := "(II)I" } : Jvm.MethodName) prog_16_method_101_code (5 : Nat) (Option.some Jvm.ClassFile.FieldType.int)) ∈ lw_all := lw_g (lw_at lw_m11 107 rfl) rfl
theorem q2650 : (Jvm.Cond.methodLink "UnreadSignsModel" (377 : Nat) ({ cls := "UnreadSignsModel", name := "fitsName", desc := "(II)Z" } : Jvm.MethodName)) ∈ lw_all := lw_g (lw_at lw_m11 108 rfl) rfl
theorem q2651 : (Jvm.Cond.privateMethod ({ cls := "UnreadSignsModel", name := "fitsName", desc := "(II)Z" } : Jvm.MethodName)) ∈ lw_tbl := lw_at lw_m11 109 rfl
theorem q2652 : (Jvm.Cond.instanceMethod ({ cls := "UnreadSignsModel", name := "fitsName", desc := "(II)Z" } : Jvm.MethodName)) ∈ lw_all := lw_g (lw_at lw_m11 110 rfl) rfl
theorem q2653 : (Jvm.Cond.code ({ cls := "UnreadSignsModel", name := "fitsName", desc := "(II)Z" } : Jvm.MethodName) prog_16_method_100_code (7 : Nat) (Option.some Jvm.ClassFile.FieldType.boolean)) ∈ lw_all := lw_g (lw_at lw_m11 111 rfl) rfl
theorem q2654 : (Jvm.Cond.methodLink "UnreadSignsModel" (374 : Nat) ({ cls := "UnreadSignsModel", name := "wordSign", desc := "(II)I" } : Jvm.MethodName)) ∈ lw_all := lw_g (lw_at lw_m11 112 rfl) rfl
theorem q2655 : (Jvm.Cond.privateMethod ({ cls := "UnreadSignsModel", name := "wordSign", desc := "(II)I" } : Jvm.MethodName)) ∈ lw_tbl := lw_at lw_m11 113 rfl
theorem q2656 : (Jvm.Cond.instanceMethod ({ cls := "UnreadSignsModel", name := "wordSign", desc := "(II)I" } : Jvm.MethodName)) ∈ lw_all := lw_g (lw_at lw_m11 114 rfl) rfl
theorem q2657 : (Jvm.Cond.code ({ cls := "UnreadSignsModel", name := "wordSign", desc := "(II)I" } : Jvm.MethodName) prog_16_method_99_code (3 : Nat) (Option.some Jvm.ClassFile.FieldType.int)) ∈ lw_all := lw_g (lw_at lw_m11 115 rfl) rfl
theorem q2659 : (Jvm.Cond.instanceMethod ({ cls := "UnreadSignsModel", name := "hits", desc := "()I" } : Jvm.MethodName)) ∈ lw_all := lw_g (lw_at lw_m11 117 rfl) rfl
theorem q2660 : (Jvm.Cond.selects "UnreadSignsModel" ({ cls := "UnreadSignsModel", name := "hits", desc := "()I" } : Jvm.MethodName) ({ cls := "UnreadSignsModel", name := "hits", desc := "()I" } : Jvm.MethodName)) ∈ lw_all := lw_g (lw_at lw_m11 118 rfl) rfl
theorem q2661 : (Jvm.Cond.code ({ cls := "UnreadSignsModel", name := "hits", desc := "()I" } : Jvm.MethodName) prog_16_method_103_code (1 : Nat) (Option.some Jvm.ClassFile.FieldType.int)) ∈ lw_all := lw_g (lw_at lw_m11 119 rfl) rfl
theorem q2662 : (Jvm.Cond.methodLink "UnreadSignsModel" (380 : Nat) ({ cls := "UnreadSignsModel", name := "hitsNow", desc := "()I" } : Jvm.MethodName)) ∈ lw_all := lw_g (lw_at lw_m11 120 rfl) rfl
theorem q2663 : (Jvm.Cond.privateMethod ({ cls := "UnreadSignsModel", name := "hitsNow", desc := "()I" } : Jvm.MethodName)) ∈ lw_tbl := lw_at lw_m11 121 rfl
theorem q2664 : (Jvm.Cond.instanceMethod ({ cls := "UnreadSignsModel", name := "hitsNow", desc := "()I" } : Jvm.MethodName)) ∈ lw_all := lw_g (lw_at lw_m11 122 rfl) rfl
theorem q2665 : (Jvm.Cond.code ({ cls := "UnreadSignsModel", name := "hitsNow", desc := "()I" } : Jvm.MethodName) prog_16_method_102_code (5 : Nat) (Option.some Jvm.ClassFile.FieldType.int)) ∈ lw_all := lw_g (lw_at lw_m11 123 rfl) rfl
theorem q2667 : (Jvm.Cond.instanceMethod ({ cls := "UnreadSignsModel", name := "ways", desc := "(I)I" } : Jvm.MethodName)) ∈ lw_all := lw_g (lw_at lw_m11 125 rfl) rfl
theorem q2668 : (Jvm.Cond.selects "UnreadSignsModel" ({ cls := "UnreadSignsModel", name := "ways", desc := "(I)I" } : Jvm.MethodName) ({ cls := "UnreadSignsModel", name := "ways", desc := "(I)I" } : Jvm.MethodName)) ∈ lw_all := lw_g (lw_at lw_m11 126 rfl) rfl
theorem q2669 : (Jvm.Cond.code ({ cls := "UnreadSignsModel", name := "ways", desc := "(I)I" } : Jvm.MethodName) prog_16_method_108_code (2 : Nat) (Option.some Jvm.ClassFile.FieldType.int)) ∈ lw_all := lw_g (lw_at lw_m11 127 rfl) rfl
theorem q2670 : (Jvm.Cond.methodLink "UnreadSignsModel" (395 : Nat) ({ cls := "UnreadSignsModel", name := "laysWays", desc := "()V" } : Jvm.MethodName)) ∈ lw_all := lw_g (lw_at lw_m11 128 rfl) rfl
theorem q2671 : (Jvm.Cond.privateMethod ({ cls := "UnreadSignsModel", name := "laysWays", desc := "()V" } : Jvm.MethodName)) ∈ lw_tbl := lw_at lw_m11 129 rfl
theorem q2672 : (Jvm.Cond.instanceMethod ({ cls := "UnreadSignsModel", name := "laysWays", desc := "()V" } : Jvm.MethodName)) ∈ lw_all := lw_g (lw_at lw_m11 130 rfl) rfl
theorem q2673 : (Jvm.Cond.code ({ cls := "UnreadSignsModel", name := "laysWays", desc := "()V" } : Jvm.MethodName) prog_16_method_107_code (2 : Nat) (Option.none : Option Jvm.ClassFile.FieldType)) ∈ lw_all := lw_g (lw_at lw_m11 131 rfl) rfl
theorem q2674 : (Jvm.Cond.methodLink "UnreadSignsModel" (389 : Nat) ({ cls := "UnreadSignsModel", name := "canBe", desc := "(I)Z" } : Jvm.MethodName)) ∈ lw_all := lw_g (lw_at lw_m11 132 rfl) rfl
theorem q2675 : (Jvm.Cond.privateMethod ({ cls := "UnreadSignsModel", name := "canBe", desc := "(I)Z" } : Jvm.MethodName)) ∈ lw_tbl := lw_at lw_m11 133 rfl
theorem q2676 : (Jvm.Cond.instanceMethod ({ cls := "UnreadSignsModel", name := "canBe", desc := "(I)Z" } : Jvm.MethodName)) ∈ lw_all := lw_g (lw_at lw_m11 134 rfl) rfl
theorem q2677 : (Jvm.Cond.code ({ cls := "UnreadSignsModel", name := "canBe", desc := "(I)Z" } : Jvm.MethodName) prog_16_method_105_code (3 : Nat) (Option.some Jvm.ClassFile.FieldType.boolean)) ∈ lw_all := lw_g (lw_at lw_m11 135 rfl) rfl
theorem q2678 : (Jvm.Cond.methodLink "UnreadSignsModel" (383 : Nat) ({ cls := "UnreadSignsModel", name := "agree", desc := "(II)Z" } : Jvm.MethodName)) ∈ lw_all := lw_g (lw_at lw_m11 136 rfl) rfl
theorem q2679 : (Jvm.Cond.privateMethod ({ cls := "UnreadSignsModel", name := "agree", desc := "(II)Z" } : Jvm.MethodName)) ∈ lw_tbl := lw_at lw_m11 137 rfl
theorem q2680 : (Jvm.Cond.instanceMethod ({ cls := "UnreadSignsModel", name := "agree", desc := "(II)Z" } : Jvm.MethodName)) ∈ lw_all := lw_g (lw_at lw_m11 138 rfl) rfl
theorem q2681 : (Jvm.Cond.code ({ cls := "UnreadSignsModel", name := "agree", desc := "(II)Z" } : Jvm.MethodName) prog_16_method_104_code (9 : Nat) (Option.some Jvm.ClassFile.FieldType.boolean)) ∈ lw_all := lw_g (lw_at lw_m11 139 rfl) rfl
theorem q2682 : (Jvm.Cond.methodLink "UnreadSignsModel" (392 : Nat) ({ cls := "UnreadSignsModel", name := "takesWay", desc := "()V" } : Jvm.MethodName)) ∈ lw_all := lw_g (lw_at lw_m11 140 rfl) rfl
theorem q2683 : (Jvm.Cond.privateMethod ({ cls := "UnreadSignsModel", name := "takesWay", desc := "()V" } : Jvm.MethodName)) ∈ lw_tbl := lw_at lw_m11 141 rfl
theorem q2684 : (Jvm.Cond.instanceMethod ({ cls := "UnreadSignsModel", name := "takesWay", desc := "()V" } : Jvm.MethodName)) ∈ lw_all := lw_g (lw_at lw_m11 142 rfl) rfl
theorem q2685 : (Jvm.Cond.code ({ cls := "UnreadSignsModel", name := "takesWay", desc := "()V" } : Jvm.MethodName) prog_16_method_106_code (2 : Nat) (Option.none : Option Jvm.ClassFile.FieldType)) ∈ lw_all := lw_g (lw_at lw_m11 143 rfl) rfl
theorem q2687 : (Jvm.Cond.instanceMethod ({ cls := "UnreadSignsModel", name := "draws", desc := "(I)I" } : Jvm.MethodName)) ∈ lw_all := lw_g (lw_at lw_m11 145 rfl) rfl
theorem q2688 : (Jvm.Cond.selects "UnreadSignsModel" ({ cls := "UnreadSignsModel", name := "draws", desc := "(I)I" } : Jvm.MethodName) ({ cls := "UnreadSignsModel", name := "draws", desc := "(I)I" } : Jvm.MethodName)) ∈ lw_all := lw_g (lw_at lw_m11 146 rfl) rfl
theorem q2689 : (Jvm.Cond.code ({ cls := "UnreadSignsModel", name := "draws", desc := "(I)I" } : Jvm.MethodName) prog_16_method_109_code (3 : Nat) (Option.some Jvm.ClassFile.FieldType.int)) ∈ lw_all := lw_g (lw_at lw_m11 147 rfl) rfl
theorem q2691 : (Jvm.Cond.instanceMethod ({ cls := "UnreadSignsModel", name := "test", desc := "(I)I" } : Jvm.MethodName)) ∈ lw_all := lw_g (lw_at lw_m11 149 rfl) rfl
theorem q2692 : (Jvm.Cond.selects "UnreadSignsModel" ({ cls := "UnreadSignsModel", name := "test", desc := "(I)I" } : Jvm.MethodName) ({ cls := "UnreadSignsModel", name := "test", desc := "(I)I" } : Jvm.MethodName)) ∈ lw_all := lw_g (lw_at lw_m11 150 rfl) rfl
theorem q2693 : (Jvm.Cond.code ({ cls := "UnreadSignsModel", name := "test", desc := "(I)I" } : Jvm.MethodName) prog_16_method_113_code (7 : Nat) (Option.some Jvm.ClassFile.FieldType.int)) ∈ lw_all := lw_g (lw_at lw_m11 151 rfl) rfl
theorem q2694 : (Jvm.Cond.methodLink "UnreadSignsModel" (411 : Nat) ({ cls := "UnreadSignsModel", name := "laysWhole", desc := "()I" } : Jvm.MethodName)) ∈ lw_all := lw_g (lw_at lw_m11 152 rfl) rfl
theorem q2695 : (Jvm.Cond.privateMethod ({ cls := "UnreadSignsModel", name := "laysWhole", desc := "()I" } : Jvm.MethodName)) ∈ lw_tbl := lw_at lw_m11 153 rfl
theorem q2696 : (Jvm.Cond.instanceMethod ({ cls := "UnreadSignsModel", name := "laysWhole", desc := "()I" } : Jvm.MethodName)) ∈ lw_all := lw_g (lw_at lw_m11 154 rfl) rfl
theorem q2697 : (Jvm.Cond.code ({ cls := "UnreadSignsModel", name := "laysWhole", desc := "()I" } : Jvm.MethodName) prog_16_method_111_code (3 : Nat) (Option.some Jvm.ClassFile.FieldType.int)) ∈ lw_all := lw_g (lw_at lw_m11 155 rfl) rfl
theorem q2698 : (Jvm.Cond.methodLink "UnreadSignsModel" (414 : Nat) ({ cls := "UnreadSignsModel", name := "mixes", desc := "(I)V" } : Jvm.MethodName)) ∈ lw_all := lw_g (lw_at lw_m11 156 rfl) rfl
theorem q2699 : (Jvm.Cond.privateMethod ({ cls := "UnreadSignsModel", name := "mixes", desc := "(I)V" } : Jvm.MethodName)) ∈ lw_tbl := lw_at lw_m11 157 rfl
theorem q2700 : (Jvm.Cond.instanceMethod ({ cls := "UnreadSignsModel", name := "mixes", desc := "(I)V" } : Jvm.MethodName)) ∈ lw_all := lw_g (lw_at lw_m11 158 rfl) rfl
theorem q2701 : (Jvm.Cond.code ({ cls := "UnreadSignsModel", name := "mixes", desc := "(I)V" } : Jvm.MethodName) prog_16_method_112_code (5 : Nat) (Option.none : Option Jvm.ClassFile.FieldType)) ∈ lw_all := lw_g (lw_at lw_m11 159 rfl) rfl
theorem q2702 : (Jvm.Cond.methodLink "UnreadSignsModel" (408 : Nat) ({ cls := "UnreadSignsModel", name := "drawn", desc := "(I)I" } : Jvm.MethodName)) ∈ lw_all := lw_g (lw_at lw_m11 160 rfl) rfl
theorem q2703 : (Jvm.Cond.privateMethod ({ cls := "UnreadSignsModel", name := "drawn", desc := "(I)I" } : Jvm.MethodName)) ∈ lw_tbl := lw_at lw_m11 161 rfl
theorem q2704 : (Jvm.Cond.instanceMethod ({ cls := "UnreadSignsModel", name := "drawn", desc := "(I)I" } : Jvm.MethodName)) ∈ lw_all := lw_g (lw_at lw_m11 162 rfl) rfl
theorem q2705 : (Jvm.Cond.code ({ cls := "UnreadSignsModel", name := "drawn", desc := "(I)I" } : Jvm.MethodName) prog_16_method_110_code (2 : Nat) (Option.some Jvm.ClassFile.FieldType.int)) ∈ lw_all := lw_g (lw_at lw_m11 163 rfl) rfl
theorem q2706 : (Jvm.Cond.constantLong "UnreadSignsModel" (401 : Nat) (1103515245 : Int64)) ∈ lw_all := lw_g (lw_at lw_m11 164 rfl) rfl
theorem q2707 : (Jvm.Cond.constantLong "UnreadSignsModel" (403 : Nat) (12345 : Int64)) ∈ lw_all := lw_g (lw_at lw_m11 165 rfl) rfl
theorem q2708 : (Jvm.Cond.constantLong "UnreadSignsModel" (405 : Nat) (2147483648 : Int64)) ∈ lw_all := lw_g (lw_at lw_m11 166 rfl) rfl
theorem q2709 : (Jvm.Cond.constant "UnreadSignsModel" (407 : Nat) (65536 : Int32)) ∈ lw_all := lw_g (lw_at lw_m11 167 rfl) rfl
theorem q2711 : (Jvm.Cond.instanceMethod ({ cls := "UnreadSignsModel", name := "count", desc := "(I)I" } : Jvm.MethodName)) ∈ lw_all := lw_g (lw_at lw_m11 169 rfl) rfl
theorem q2712 : (Jvm.Cond.selects "UnreadSignsModel" ({ cls := "UnreadSignsModel", name := "count", desc := "(I)I" } : Jvm.MethodName) ({ cls := "UnreadSignsModel", name := "count", desc := "(I)I" } : Jvm.MethodName)) ∈ lw_all := lw_g (lw_at lw_m11 170 rfl) rfl
theorem q2713 : (Jvm.Cond.code ({ cls := "UnreadSignsModel", name := "count", desc := "(I)I" } : Jvm.MethodName) prog_16_method_117_code (2 : Nat) (Option.some Jvm.ClassFile.FieldType.int)) ∈ lw_all := lw_g (lw_at lw_m11 171 rfl) rfl
theorem q2714 : (Jvm.Cond.methodLink "UnreadSignsModel" (432 : Nat) ({ cls := "UnreadSignsModel", name := "groups", desc := "(I)I" } : Jvm.MethodName)) ∈ lw_all := lw_g (lw_at lw_m11 172 rfl) rfl
theorem q2715 : (Jvm.Cond.privateMethod ({ cls := "UnreadSignsModel", name := "groups", desc := "(I)I" } : Jvm.MethodName)) ∈ lw_tbl := lw_at lw_m11 173 rfl
theorem q2716 : (Jvm.Cond.instanceMethod ({ cls := "UnreadSignsModel", name := "groups", desc := "(I)I" } : Jvm.MethodName)) ∈ lw_all := lw_g (lw_at lw_m11 174 rfl) rfl
theorem q2717 : (Jvm.Cond.code ({ cls := "UnreadSignsModel", name := "groups", desc := "(I)I" } : Jvm.MethodName) prog_16_method_115_code (4 : Nat) (Option.some Jvm.ClassFile.FieldType.int)) ∈ lw_all := lw_g (lw_at lw_m11 175 rfl) rfl
theorem q2718 : (Jvm.Cond.methodLink "UnreadSignsModel" (435 : Nat) ({ cls := "UnreadSignsModel", name := "guesses", desc := "()I" } : Jvm.MethodName)) ∈ lw_all := lw_g (lw_at lw_m11 176 rfl) rfl
theorem q2719 : (Jvm.Cond.privateMethod ({ cls := "UnreadSignsModel", name := "guesses", desc := "()I" } : Jvm.MethodName)) ∈ lw_tbl := lw_at lw_m11 177 rfl
theorem q2720 : (Jvm.Cond.instanceMethod ({ cls := "UnreadSignsModel", name := "guesses", desc := "()I" } : Jvm.MethodName)) ∈ lw_all := lw_g (lw_at lw_m11 178 rfl) rfl
theorem q2721 : (Jvm.Cond.code ({ cls := "UnreadSignsModel", name := "guesses", desc := "()I" } : Jvm.MethodName) prog_16_method_116_code (3 : Nat) (Option.some Jvm.ClassFile.FieldType.int)) ∈ lw_all := lw_g (lw_at lw_m11 179 rfl) rfl
theorem q2748 : (Jvm.Cond.castable "UnreadSignsModel" "java/lang/Object") ∈ lw_tbl := lw_at lw_m11 206 rfl
theorem q178 : (Jvm.Cond.initialized "UnreadSigns$Reader") ∈ lw_all := lw_g (lw_at lw_m1 36 rfl) rfl
theorem q209 : (Jvm.Cond.fieldLinkNest "UnreadSigns$Reader" (59 : Nat) "UnreadSigns$Told" "forms" "I" "UnreadSigns") ∈ lw_tbl := lw_at lw_m1 67 rfl
theorem q220 : (Jvm.Cond.fieldLinkNest "UnreadSigns$Reader" (64 : Nat) "UnreadSigns$Told" "form" "[I" "UnreadSigns") ∈ lw_tbl := lw_at lw_m1 78 rfl
theorem q1304 : (Jvm.Cond.fieldLinkNest "UnreadSigns$Reader" (27 : Nat) "UnreadSigns" "tape" "[B" "UnreadSigns") ∈ lw_tbl := lw_at lw_m5 202 rfl
theorem q1305 : (Jvm.Cond.fieldLinkNest "UnreadSigns$Reader" (24 : Nat) "UnreadSigns" "taped" "I" "UnreadSigns") ∈ lw_tbl := lw_at lw_m5 203 rfl
theorem q1308 : (Jvm.Cond.fieldLinkNest "UnreadSigns$Reader" (77 : Nat) "UnreadSigns" "told" "LUnreadSigns$Told;" "UnreadSigns") ∈ lw_tbl := lw_at lw_m5 206 rfl
theorem q1310 : (Jvm.Cond.fieldLinkNest "UnreadSigns$Reader" (122 : Nat) "UnreadSigns" "name" "[[I" "UnreadSigns") ∈ lw_tbl := lw_at lw_m5 208 rfl
theorem q1312 : (Jvm.Cond.fieldLinkNest "UnreadSigns$Reader" (119 : Nat) "UnreadSigns" "names" "I" "UnreadSigns") ∈ lw_tbl := lw_at lw_m5 210 rfl
theorem q1420 : (Jvm.Cond.instantiable "UnreadSigns$Reader" (2 : Nat)) ∈ lw_all := lw_g (lw_at lw_m6 78 rfl) rfl
theorem q1422 : (Jvm.Cond.instanceMethod ({ cls := "UnreadSigns$Reader", name := "<init>", desc := "(LUnreadSigns;)V" } : Jvm.MethodName)) ∈ lw_all := lw_g (lw_at lw_m6 80 rfl) rfl
theorem q1423 : (Jvm.Cond.code ({ cls := "UnreadSigns$Reader", name := "<init>", desc := "(LUnreadSigns;)V" } : Jvm.MethodName) prog_7_method_1_code (2 : Nat) (Option.none : Option Jvm.ClassFile.FieldType)) ∈ lw_all := lw_g (lw_at lw_m6 81 rfl) rfl
theorem q1424 : (Jvm.Cond.methodLink "UnreadSigns$Reader" (9 : Nat) ({ cls := "java/lang/Object", name := "<init>", desc := "()V" } : Jvm.MethodName)) ∈ lw_all := lw_g (lw_at lw_m6 82 rfl) rfl
theorem q1425 : (Jvm.Cond.fieldLink "UnreadSigns$Reader" (20 : Nat) "UnreadSigns$Reader" "at" "I") ∈ lw_all := lw_g (lw_at lw_m6 83 rfl) rfl
theorem q1426 : (Jvm.Cond.fieldLink "UnreadSigns$Reader" (3 : Nat) "UnreadSigns$Reader" "this$0" "LUnreadSigns;") ∈ lw_all := lw_g (lw_at lw_m6 84 rfl) rfl
theorem q1427 : (Jvm.Cond.lays "UnreadSigns$Reader" "UnreadSigns$Reader" "at" "I") ∈ lw_all := lw_g (lw_at lw_m6 85 rfl) rfl
theorem q1428 : (Jvm.Cond.soleField "UnreadSigns$Reader" "at") ∈ lw_all := lw_g (lw_at lw_m6 86 rfl) rfl
theorem q1429 : (Jvm.Cond.laysFinal "UnreadSigns$Reader" "UnreadSigns$Reader" "this$0" "LUnreadSigns;") ∈ lw_all := lw_g (lw_at lw_m6 87 rfl) rfl
theorem q1430 : (Jvm.Cond.soleField "UnreadSigns$Reader" "this$0") ∈ lw_all := lw_g (lw_at lw_m6 88 rfl) rfl
theorem q1431 : (Jvm.Cond.superclass "UnreadSigns$Reader" "java/lang/Object") ∈ lw_all := lw_g (lw_at lw_m6 89 rfl) rfl
theorem q1433 : (Jvm.Cond.instanceMethod ({ cls := "UnreadSigns$Reader", name := "forms", desc := "()LUnreadSigns$Told;" } : Jvm.MethodName)) ∈ lw_all := lw_g (lw_at lw_m6 91 rfl) rfl
theorem q1434 : (Jvm.Cond.selects "UnreadSigns$Reader" ({ cls := "UnreadSigns$Reader", name := "forms", desc := "()LUnreadSigns$Told;" } : Jvm.MethodName) ({ cls := "UnreadSigns$Reader", name := "forms", desc := "()LUnreadSigns$Told;" } : Jvm.MethodName)) ∈ lw_all := lw_g (lw_at lw_m6 92 rfl) rfl
theorem q1435 : (Jvm.Cond.code ({ cls := "UnreadSigns$Reader", name := "forms", desc := "()LUnreadSigns$Told;" } : Jvm.MethodName) prog_7_method_7_code (2 : Nat) (Option.some (Jvm.ClassFile.FieldType.object "UnreadSigns$Told"))) ∈ lw_all := lw_g (lw_at lw_m6 93 rfl) rfl
theorem q1436 : (Jvm.Cond.classLink "UnreadSigns$Reader" (60 : Nat) "UnreadSigns$Told") ∈ lw_all := lw_g (lw_at lw_m6 94 rfl) rfl
theorem q1437 : (Jvm.Cond.methodLink "UnreadSigns$Reader" (68 : Nat) ({ cls := "UnreadSigns$Told", name := "<init>", desc := "()V" } : Jvm.MethodName)) ∈ lw_all := lw_g (lw_at lw_m6 95 rfl) rfl
theorem q1438 : (Jvm.Cond.methodLink "UnreadSigns$Reader" (35 : Nat) ({ cls := "UnreadSigns$Reader", name := "sees", desc := "()I" } : Jvm.MethodName)) ∈ lw_all := lw_g (lw_at lw_m6 96 rfl) rfl
theorem q1439 : (Jvm.Cond.privateMethod ({ cls := "UnreadSigns$Reader", name := "sees", desc := "()I" } : Jvm.MethodName)) ∈ lw_tbl := lw_at lw_m6 97 rfl
theorem q1440 : (Jvm.Cond.instanceMethod ({ cls := "UnreadSigns$Reader", name := "sees", desc := "()I" } : Jvm.MethodName)) ∈ lw_all := lw_g (lw_at lw_m6 98 rfl) rfl
theorem q1441 : (Jvm.Cond.code ({ cls := "UnreadSigns$Reader", name := "sees", desc := "()I" } : Jvm.MethodName) prog_7_method_4_code (1 : Nat) (Option.some Jvm.ClassFile.FieldType.int)) ∈ lw_all := lw_g (lw_at lw_m6 99 rfl) rfl
theorem q1442 : (Jvm.Cond.methodLink "UnreadSigns$Reader" (31 : Nat) ({ cls := "UnreadSigns$Reader", name := "here", desc := "()I" } : Jvm.MethodName)) ∈ lw_all := lw_g (lw_at lw_m6 100 rfl) rfl
theorem q1443 : (Jvm.Cond.privateMethod ({ cls := "UnreadSigns$Reader", name := "here", desc := "()I" } : Jvm.MethodName)) ∈ lw_tbl := lw_at lw_m6 101 rfl
theorem q1444 : (Jvm.Cond.instanceMethod ({ cls := "UnreadSigns$Reader", name := "here", desc := "()I" } : Jvm.MethodName)) ∈ lw_all := lw_g (lw_at lw_m6 102 rfl) rfl
theorem q1445 : (Jvm.Cond.code ({ cls := "UnreadSigns$Reader", name := "here", desc := "()I" } : Jvm.MethodName) prog_7_method_3_code (1 : Nat) (Option.some Jvm.ClassFile.FieldType.int)) ∈ lw_all := lw_g (lw_at lw_m6 103 rfl) rfl
theorem q1446 : (Jvm.Cond.methodLink "UnreadSigns$Reader" (69 : Nat) ({ cls := "UnreadSigns$Reader", name := "formHere", desc := "(LUnreadSigns$Told;)V" } : Jvm.MethodName)) ∈ lw_all := lw_g (lw_at lw_m6 104 rfl) rfl
theorem q1447 : (Jvm.Cond.privateMethod ({ cls := "UnreadSigns$Reader", name := "formHere", desc := "(LUnreadSigns$Told;)V" } : Jvm.MethodName)) ∈ lw_tbl := lw_at lw_m6 105 rfl
theorem q1448 : (Jvm.Cond.instanceMethod ({ cls := "UnreadSigns$Reader", name := "formHere", desc := "(LUnreadSigns$Told;)V" } : Jvm.MethodName)) ∈ lw_all := lw_g (lw_at lw_m6 106 rfl) rfl
theorem q1449 : (Jvm.Cond.code ({ cls := "UnreadSigns$Reader", name := "formHere", desc := "(LUnreadSigns$Told;)V" } : Jvm.MethodName) prog_7_method_6_code (5 : Nat) (Option.none : Option Jvm.ClassFile.FieldType)) ∈ lw_all := lw_g (lw_at lw_m6 107 rfl) rfl
theorem q1450 : (Jvm.Cond.constantLong "UnreadSigns$Reader" (38 : Nat) (48 : Int64)) ∈ lw_all := lw_g (lw_at lw_m6 108 rfl) rfl
theorem q1451 : (Jvm.Cond.constantLong "UnreadSigns$Reader" (40 : Nat) (57 : Int64)) ∈ lw_all := lw_g (lw_at lw_m6 109 rfl) rfl
theorem q1452 : (Jvm.Cond.methodLinkNest "UnreadSigns$Reader" (42 : Nat) ({ cls := "UnreadSigns", name := "in", desc := "(JJJ)Z" } : Jvm.MethodName) "UnreadSigns") ∈ lw_tbl := lw_at lw_m6 110 rfl
theorem q1453 : (Jvm.Cond.methodLink "UnreadSigns$Reader" (46 : Nat) ({ cls := "UnreadSigns$Reader", name := "demands", desc := "(ZII)V" } : Jvm.MethodName)) ∈ lw_all := lw_g (lw_at lw_m6 111 rfl) rfl
theorem q1454 : (Jvm.Cond.privateMethod ({ cls := "UnreadSigns$Reader", name := "demands", desc := "(ZII)V" } : Jvm.MethodName)) ∈ lw_tbl := lw_at lw_m6 112 rfl
theorem q1455 : (Jvm.Cond.instanceMethod ({ cls := "UnreadSigns$Reader", name := "demands", desc := "(ZII)V" } : Jvm.MethodName)) ∈ lw_all := lw_g (lw_at lw_m6 113 rfl) rfl
theorem q1456 : (Jvm.Cond.code ({ cls := "UnreadSigns$Reader", name := "demands", desc := "(ZII)V" } : Jvm.MethodName) prog_7_method_2_code (4 : Nat) (Option.none : Option Jvm.ClassFile.FieldType)) ∈ lw_all := lw_g (lw_at lw_m6 114 rfl) rfl
theorem q1457 : (Jvm.Cond.classLink "UnreadSigns$Reader" (15 : Nat) "UnreadSigns$Wrong") ∈ lw_all := lw_g (lw_at lw_m6 115 rfl) rfl
theorem q1494 : (Jvm.Cond.methodLink "UnreadSigns$Reader" (17 : Nat) ({ cls := "UnreadSigns$Wrong", name := "<init>", desc := "(II)V" } : Jvm.MethodName)) ∈ lw_all := lw_g (lw_at lw_m6 152 rfl) rfl
theorem q1517 : (Jvm.Cond.methodLink "UnreadSigns$Reader" (56 : Nat) ({ cls := "UnreadSigns$Reader", name := "numberHere", desc := "()I" } : Jvm.MethodName)) ∈ lw_all := lw_g (lw_at lw_m6 175 rfl) rfl
theorem q1518 : (Jvm.Cond.privateMethod ({ cls := "UnreadSigns$Reader", name := "numberHere", desc := "()I" } : Jvm.MethodName)) ∈ lw_tbl := lw_at lw_m6 176 rfl
theorem q1519 : (Jvm.Cond.instanceMethod ({ cls := "UnreadSigns$Reader", name := "numberHere", desc := "()I" } : Jvm.MethodName)) ∈ lw_all := lw_g (lw_at lw_m6 177 rfl) rfl
theorem q1520 : (Jvm.Cond.code ({ cls := "UnreadSigns$Reader", name := "numberHere", desc := "()I" } : Jvm.MethodName) prog_7_method_5_code (3 : Nat) (Option.some Jvm.ClassFile.FieldType.int)) ∈ lw_all := lw_g (lw_at lw_m6 178 rfl) rfl
theorem q1521 : (Jvm.Cond.methodLink "UnreadSigns$Reader" (50 : Nat) ({ cls := "java/lang/Math", name := "min", desc := "(II)I" } : Jvm.MethodName)) ∈ lw_all := lw_g (lw_at lw_m6 179 rfl) rfl
theorem q1613 : (Jvm.Cond.selects "UnreadSigns$Reader" ({ cls := "java/lang/Object", name := "getClass", desc := "()Ljava/lang/Class;" } : Jvm.MethodName) ({ cls := "java/lang/Object", name := "getClass", desc := "()Ljava/lang/Class;" } : Jvm.MethodName)) ∈ lw_all := lw_g (lw_at lw_m7 31 rfl) rfl
theorem q1670 : (Jvm.Cond.instanceMethod ({ cls := "UnreadSigns$Reader", name := "stone", desc := "()LUnreadSigns$Stone;" } : Jvm.MethodName)) ∈ lw_all := lw_g (lw_at lw_m7 88 rfl) rfl
theorem q1671 : (Jvm.Cond.selects "UnreadSigns$Reader" ({ cls := "UnreadSigns$Reader", name := "stone", desc := "()LUnreadSigns$Stone;" } : Jvm.MethodName) ({ cls := "UnreadSigns$Reader", name := "stone", desc := "()LUnreadSigns$Stone;" } : Jvm.MethodName)) ∈ lw_all := lw_g (lw_at lw_m7 89 rfl) rfl
theorem q1672 : (Jvm.Cond.code ({ cls := "UnreadSigns$Reader", name := "stone", desc := "()LUnreadSigns$Stone;" } : Jvm.MethodName) prog_7_method_9_code (2 : Nat) (Option.some (Jvm.ClassFile.FieldType.object "UnreadSigns$Stone"))) ∈ lw_all := lw_g (lw_at lw_m7 90 rfl) rfl
theorem q1673 : (Jvm.Cond.classLink "UnreadSigns$Reader" (87 : Nat) "UnreadSigns$Stone") ∈ lw_all := lw_g (lw_at lw_m7 91 rfl) rfl
theorem q1675 : (Jvm.Cond.methodLinkNest "UnreadSigns$Reader" (89 : Nat) ({ cls := "UnreadSigns$Stone", name := "<init>", desc := "()V" } : Jvm.MethodName) "UnreadSigns") ∈ lw_tbl := lw_at lw_m7 93 rfl
theorem q1681 : (Jvm.Cond.fieldLinkNest "UnreadSigns$Reader" (90 : Nat) "UnreadSigns$Stone" "row" "[[I" "UnreadSigns") ∈ lw_tbl := lw_at lw_m7 99 rfl
theorem q1683 : (Jvm.Cond.fieldLinkNest "UnreadSigns$Reader" (94 : Nat) "UnreadSigns$Stone" "rows" "I" "UnreadSigns") ∈ lw_tbl := lw_at lw_m7 101 rfl
theorem q1690 : (Jvm.Cond.methodLink "UnreadSigns$Reader" (97 : Nat) ({ cls := "UnreadSigns$Reader", name := "rowHere", desc := "(I)[I" } : Jvm.MethodName)) ∈ lw_all := lw_g (lw_at lw_m7 108 rfl) rfl
theorem q1691 : (Jvm.Cond.privateMethod ({ cls := "UnreadSigns$Reader", name := "rowHere", desc := "(I)[I" } : Jvm.MethodName)) ∈ lw_tbl := lw_at lw_m7 109 rfl
theorem q1692 : (Jvm.Cond.instanceMethod ({ cls := "UnreadSigns$Reader", name := "rowHere", desc := "(I)[I" } : Jvm.MethodName)) ∈ lw_all := lw_g (lw_at lw_m7 110 rfl) rfl
theorem q1693 : (Jvm.Cond.code ({ cls := "UnreadSigns$Reader", name := "rowHere", desc := "(I)[I" } : Jvm.MethodName) prog_7_method_8_code (8 : Nat) (Option.some (Jvm.ClassFile.FieldType.array Jvm.ClassFile.FieldType.int))) ∈ lw_all := lw_g (lw_at lw_m7 111 rfl) rfl
theorem q1694 : (Jvm.Cond.constantLong "UnreadSigns$Reader" (73 : Nat) (97 : Int64)) ∈ lw_all := lw_g (lw_at lw_m7 112 rfl) rfl
theorem q1695 : (Jvm.Cond.constantLong "UnreadSigns$Reader" (75 : Nat) (122 : Int64)) ∈ lw_all := lw_g (lw_at lw_m7 113 rfl) rfl
theorem q1696 : (Jvm.Cond.methodLink "UnreadSigns$Reader" (81 : Nat) ({ cls := "java/lang/System", name := "arraycopy", desc := "(Ljava/lang/Object;ILjava/lang/Object;II)V" } : Jvm.MethodName)) ∈ lw_all := lw_g (lw_at lw_m7 114 rfl) rfl
theorem q1697 : (Jvm.Cond.methodLink "UnreadSigns$Reader" (101 : Nat) ({ cls := "UnreadSigns$Reader", name := "goesOn", desc := "()Z" } : Jvm.MethodName)) ∈ lw_all := lw_g (lw_at lw_m7 115 rfl) rfl
theorem q1698 : (Jvm.Cond.privateMethod ({ cls := "UnreadSigns$Reader", name := "goesOn", desc := "()Z" } : Jvm.MethodName)) ∈ lw_tbl := lw_at lw_m7 116 rfl
theorem q1699 : (Jvm.Cond.instanceMethod ({ cls := "UnreadSigns$Reader", name := "goesOn", desc := "()Z" } : Jvm.MethodName)) ∈ lw_all := lw_g (lw_at lw_m7 117 rfl) rfl
theorem q1700 : (Jvm.Cond.code ({ cls := "UnreadSigns$Reader", name := "goesOn", desc := "()Z" } : Jvm.MethodName) prog_7_method_10_code (2 : Nat) (Option.some Jvm.ClassFile.FieldType.boolean)) ∈ lw_all := lw_g (lw_at lw_m7 118 rfl) rfl
theorem q1706 : (Jvm.Cond.instanceMethod ({ cls := "UnreadSigns$Reader", name := "name", desc := "()[I" } : Jvm.MethodName)) ∈ lw_all := lw_g (lw_at lw_m7 124 rfl) rfl
theorem q1707 : (Jvm.Cond.selects "UnreadSigns$Reader" ({ cls := "UnreadSigns$Reader", name := "name", desc := "()[I" } : Jvm.MethodName) ({ cls := "UnreadSigns$Reader", name := "name", desc := "()[I" } : Jvm.MethodName)) ∈ lw_all := lw_g (lw_at lw_m7 125 rfl) rfl
theorem q1708 : (Jvm.Cond.code ({ cls := "UnreadSigns$Reader", name := "name", desc := "()[I" } : Jvm.MethodName) prog_7_method_12_code (5 : Nat) (Option.some (Jvm.ClassFile.FieldType.array Jvm.ClassFile.FieldType.int))) ∈ lw_all := lw_g (lw_at lw_m7 126 rfl) rfl
theorem q1709 : (Jvm.Cond.stringRef "UnreadSigns$Reader" (111 : Nat) "ptkmnrlswj") ∈ lw_tbl := lw_at lw_m7 127 rfl
theorem q1710 : (Jvm.Cond.methodLink "UnreadSigns$Reader" (113 : Nat) ({ cls := "UnreadSigns$Reader", name := "oneOf", desc := "(Ljava/lang/String;)I" } : Jvm.MethodName)) ∈ lw_all := lw_g (lw_at lw_m7 128 rfl) rfl
theorem q1711 : (Jvm.Cond.privateMethod ({ cls := "UnreadSigns$Reader", name := "oneOf", desc := "(Ljava/lang/String;)I" } : Jvm.MethodName)) ∈ lw_tbl := lw_at lw_m7 129 rfl
theorem q1712 : (Jvm.Cond.instanceMethod ({ cls := "UnreadSigns$Reader", name := "oneOf", desc := "(Ljava/lang/String;)I" } : Jvm.MethodName)) ∈ lw_all := lw_g (lw_at lw_m7 130 rfl) rfl
theorem q1713 : (Jvm.Cond.code ({ cls := "UnreadSigns$Reader", name := "oneOf", desc := "(Ljava/lang/String;)I" } : Jvm.MethodName) prog_7_method_11_code (3 : Nat) (Option.some Jvm.ClassFile.FieldType.int)) ∈ lw_all := lw_g (lw_at lw_m7 131 rfl) rfl
theorem q1714 : (Jvm.Cond.methodLink "UnreadSigns$Reader" (105 : Nat) ({ cls := "java/lang/String", name := "indexOf", desc := "(I)I" } : Jvm.MethodName)) ∈ lw_all := lw_g (lw_at lw_m7 132 rfl) rfl
theorem q1761 : (Jvm.Cond.stringRef "UnreadSigns$Reader" (117 : Nat) "aeiou") ∈ lw_tbl := lw_at lw_m7 179 rfl
theorem q1762 : (Jvm.Cond.methodLinkNest "UnreadSigns$Reader" (125 : Nat) ({ cls := "UnreadSigns", name := "isLike", desc := "([I[I)Z" } : Jvm.MethodName) "UnreadSigns") ∈ lw_tbl := lw_at lw_m7 180 rfl
theorem q2749 : (Jvm.Cond.castable "UnreadSigns$Reader" "java/lang/Object") ∈ lw_tbl := lw_at lw_m11 207 rfl
theorem q181 : (Jvm.Cond.initialized "UnreadSigns$Wrong") ∈ lw_all := lw_g (lw_at lw_m1 39 rfl) rfl
theorem q1458 : (Jvm.Cond.instantiable "UnreadSigns$Wrong" (7 : Nat)) ∈ lw_all := lw_g (lw_at lw_m6 116 rfl) rfl
theorem q1459 : (Jvm.Cond.castable "UnreadSigns$Wrong" "UnreadSigns$Wrong") ∈ lw_tbl := lw_at lw_m6 117 rfl
theorem q1464 : (Jvm.Cond.selects "UnreadSigns$Wrong" ({ cls := "java/lang/Throwable", name := "fillInStackTrace", desc := "(I)Ljava/lang/Throwable;" } : Jvm.MethodName) ({ cls := "java/lang/Throwable", name := "fillInStackTrace", desc := "(I)Ljava/lang/Throwable;" } : Jvm.MethodName)) ∈ lw_all := lw_g (lw_at lw_m6 122 rfl) rfl
theorem q1465 : (Jvm.Cond.selects "UnreadSigns$Wrong" ({ cls := "java/lang/Throwable", name := "fillInStackTrace", desc := "()Ljava/lang/Throwable;" } : Jvm.MethodName) ({ cls := "java/lang/Throwable", name := "fillInStackTrace", desc := "()Ljava/lang/Throwable;" } : Jvm.MethodName)) ∈ lw_all := lw_g (lw_at lw_m6 123 rfl) rfl
theorem q1466 : (Jvm.Cond.lays "UnreadSigns$Wrong" "java/lang/Throwable" "cause" "Ljava/lang/Throwable;") ∈ lw_all := lw_g (lw_at lw_m6 124 rfl) rfl
theorem q1468 : (Jvm.Cond.lays "UnreadSigns$Wrong" "java/lang/Throwable" "stackTrace" "[Ljava/lang/StackTraceElement;") ∈ lw_all := lw_g (lw_at lw_m6 126 rfl) rfl
theorem q1470 : (Jvm.Cond.lays "UnreadSigns$Wrong" "java/lang/Throwable" "suppressedExceptions" "Ljava/util/List;") ∈ lw_all := lw_g (lw_at lw_m6 128 rfl) rfl
theorem q1472 : (Jvm.Cond.lays "UnreadSigns$Wrong" "java/lang/Throwable" "detailMessage" "Ljava/lang/String;") ∈ lw_all := lw_g (lw_at lw_m6 130 rfl) rfl
theorem q1474 : (Jvm.Cond.lays "UnreadSigns$Wrong" "java/lang/Throwable" "backtrace" "Ljava/lang/Object;") ∈ lw_all := lw_g (lw_at lw_m6 132 rfl) rfl
theorem q1495 : (Jvm.Cond.instanceMethod ({ cls := "UnreadSigns$Wrong", name := "<init>", desc := "(II)V" } : Jvm.MethodName)) ∈ lw_all := lw_g (lw_at lw_m6 153 rfl) rfl
theorem q1496 : (Jvm.Cond.code ({ cls := "UnreadSigns$Wrong", name := "<init>", desc := "(II)V" } : Jvm.MethodName) prog_14_method_1_code (3 : Nat) (Option.none : Option Jvm.ClassFile.FieldType)) ∈ lw_all := lw_g (lw_at lw_m6 154 rfl) rfl
theorem q1497 : (Jvm.Cond.methodLink "UnreadSigns$Wrong" (1 : Nat) ({ cls := "java/lang/Exception", name := "<init>", desc := "()V" } : Jvm.MethodName)) ∈ lw_all := lw_g (lw_at lw_m6 155 rfl) rfl
theorem q1501 : (Jvm.Cond.fieldLink "UnreadSigns$Wrong" (7 : Nat) "UnreadSigns$Wrong" "fault" "I") ∈ lw_all := lw_g (lw_at lw_m6 159 rfl) rfl
theorem q1507 : (Jvm.Cond.laysFinal "UnreadSigns$Wrong" "UnreadSigns$Wrong" "fault" "I") ∈ lw_all := lw_g (lw_at lw_m6 165 rfl) rfl
theorem q1508 : (Jvm.Cond.soleField "UnreadSigns$Wrong" "fault") ∈ lw_all := lw_g (lw_at lw_m6 166 rfl) rfl
theorem q1513 : (Jvm.Cond.lays "UnreadSigns$Wrong" "java/lang/Throwable" "depth" "I") ∈ lw_all := lw_g (lw_at lw_m6 171 rfl) rfl
theorem q1516 : (Jvm.Cond.superclass "UnreadSigns$Wrong" "java/lang/Exception") ∈ lw_all := lw_g (lw_at lw_m6 174 rfl) rfl
theorem q1619 : (Jvm.Cond.selects "UnreadSigns$Wrong" ({ cls := "java/lang/Object", name := "getClass", desc := "()Ljava/lang/Class;" } : Jvm.MethodName) ({ cls := "java/lang/Object", name := "getClass", desc := "()Ljava/lang/Class;" } : Jvm.MethodName)) ∈ lw_all := lw_g (lw_at lw_m7 37 rfl) rfl
theorem q2750 : (Jvm.Cond.castable "UnreadSigns$Wrong" "java/lang/Object") ∈ lw_tbl := lw_at lw_m11 208 rfl
theorem q184 : (Jvm.Cond.initialized "UnreadSigns$Two") ∈ lw_all := lw_g (lw_at lw_m1 42 rfl) rfl
theorem q627 : (Jvm.Cond.castable "UnreadSigns$Two" "java/lang/Comparable") ∈ lw_tbl := lw_at lw_m3 5 rfl
theorem q628 : (Jvm.Cond.selects "UnreadSigns$Two" ({ cls := "java/lang/Comparable", name := "compareTo", desc := "(Ljava/lang/Object;)I" } : Jvm.MethodName) ({ cls := "UnreadSigns$Two", name := "compareTo", desc := "(Ljava/lang/Object;)I" } : Jvm.MethodName)) ∈ lw_all := lw_g (lw_at lw_m3 6 rfl) rfl
theorem q629 : (Jvm.Cond.unhidden "UnreadSigns$Two" "compareTo" "(Ljava/lang/Object;)I") ∈ lw_tbl := lw_at lw_m3 7 rfl
theorem q630 : (Jvm.Cond.instanceMethod ({ cls := "UnreadSigns$Two", name := "compareTo", desc := "(Ljava/lang/Object;)I" } : Jvm.MethodName)) ∈ lw_all := lw_g (lw_at lw_m3 8 rfl) rfl
theorem q631 : (Jvm.Cond.publicMethod ({ cls := "UnreadSigns$Two", name := "compareTo", desc := "(Ljava/lang/Object;)I" } : Jvm.MethodName)) ∈ lw_tbl := lw_at lw_m3 9 rfl
theorem q632 : (Jvm.Cond.code ({ cls := "UnreadSigns$Two", name := "compareTo", desc := "(Ljava/lang/Object;)I" } : Jvm.MethodName) prog_12_method_3_code (2 : Nat) (Option.some Jvm.ClassFile.FieldType.int)) ∈ lw_all := lw_g (lw_at lw_m3 10 rfl) rfl
theorem q633 : (Jvm.Cond.classLink "UnreadSigns$Two" (8 : Nat) "UnreadSigns$Two") ∈ lw_all := lw_g (lw_at lw_m3 11 rfl) rfl
theorem q634 : (Jvm.Cond.methodLink "UnreadSigns$Two" (19 : Nat) ({ cls := "UnreadSigns$Two", name := "compareTo", desc := "(LUnreadSigns$Two;)I" } : Jvm.MethodName)) ∈ lw_all := lw_g (lw_at lw_m3 12 rfl) rfl
theorem q635 : (Jvm.Cond.instanceMethod ({ cls := "UnreadSigns$Two", name := "compareTo", desc := "(LUnreadSigns$Two;)I" } : Jvm.MethodName)) ∈ lw_all := lw_g (lw_at lw_m3 13 rfl) rfl
theorem q636 : (Jvm.Cond.selects "UnreadSigns$Two" ({ cls := "UnreadSigns$Two", name := "compareTo", desc := "(LUnreadSigns$Two;)I" } : Jvm.MethodName) ({ cls := "UnreadSigns$Two", name := "compareTo", desc := "(LUnreadSigns$Two;)I" } : Jvm.MethodName)) ∈ lw_all := lw_g (lw_at lw_m3 14 rfl) rfl
theorem q637 : (Jvm.Cond.code ({ cls := "UnreadSigns$Two", name := "compareTo", desc := "(LUnreadSigns$Two;)I" } : Jvm.MethodName) prog_12_method_2_code (2 : Nat) (Option.some Jvm.ClassFile.FieldType.int)) ∈ lw_all := lw_g (lw_at lw_m3 15 rfl) rfl
theorem q1571 : (Jvm.Cond.instantiable "UnreadSigns$Two" (3 : Nat)) ∈ lw_all := lw_g (lw_at lw_m6 229 rfl) rfl
theorem q1573 : (Jvm.Cond.instanceMethod ({ cls := "UnreadSigns$Two", name := "<init>", desc := "(III)V" } : Jvm.MethodName)) ∈ lw_all := lw_g (lw_at lw_m6 231 rfl) rfl
theorem q1574 : (Jvm.Cond.code ({ cls := "UnreadSigns$Two", name := "<init>", desc := "(III)V" } : Jvm.MethodName) prog_12_method_1_code (4 : Nat) (Option.none : Option Jvm.ClassFile.FieldType)) ∈ lw_all := lw_g (lw_at lw_m6 232 rfl) rfl
theorem q1575 : (Jvm.Cond.methodLink "UnreadSigns$Two" (1 : Nat) ({ cls := "java/lang/Object", name := "<init>", desc := "()V" } : Jvm.MethodName)) ∈ lw_all := lw_g (lw_at lw_m6 233 rfl) rfl
theorem q1576 : (Jvm.Cond.fieldLink "UnreadSigns$Two" (7 : Nat) "UnreadSigns$Two" "one" "I") ∈ lw_all := lw_g (lw_at lw_m6 234 rfl) rfl
theorem q1578 : (Jvm.Cond.fieldLink "UnreadSigns$Two" (13 : Nat) "UnreadSigns$Two" "other" "I") ∈ lw_all := lw_g (lw_at lw_m6 236 rfl) rfl
theorem q1580 : (Jvm.Cond.fieldLink "UnreadSigns$Two" (16 : Nat) "UnreadSigns$Two" "unlike" "I") ∈ lw_all := lw_g (lw_at lw_m6 238 rfl) rfl
theorem q1582 : (Jvm.Cond.laysFinal "UnreadSigns$Two" "UnreadSigns$Two" "one" "I") ∈ lw_all := lw_g (lw_at lw_m7 0 rfl) rfl
theorem q1583 : (Jvm.Cond.soleField "UnreadSigns$Two" "one") ∈ lw_all := lw_g (lw_at lw_m7 1 rfl) rfl
theorem q1584 : (Jvm.Cond.laysFinal "UnreadSigns$Two" "UnreadSigns$Two" "other" "I") ∈ lw_all := lw_g (lw_at lw_m7 2 rfl) rfl
theorem q1585 : (Jvm.Cond.soleField "UnreadSigns$Two" "other") ∈ lw_all := lw_g (lw_at lw_m7 3 rfl) rfl
theorem q1586 : (Jvm.Cond.laysFinal "UnreadSigns$Two" "UnreadSigns$Two" "unlike" "I") ∈ lw_all := lw_g (lw_at lw_m7 4 rfl) rfl
theorem q1587 : (Jvm.Cond.soleField "UnreadSigns$Two" "unlike") ∈ lw_all := lw_g (lw_at lw_m7 5 rfl) rfl
theorem q1588 : (Jvm.Cond.superclass "UnreadSigns$Two" "java/lang/Object") ∈ lw_all := lw_g (lw_at lw_m7 6 rfl) rfl
theorem q1617 : (Jvm.Cond.selects "UnreadSigns$Two" ({ cls := "java/lang/Object", name := "getClass", desc := "()Ljava/lang/Class;" } : Jvm.MethodName) ({ cls := "java/lang/Object", name := "getClass", desc := "()Ljava/lang/Class;" } : Jvm.MethodName)) ∈ lw_all := lw_g (lw_at lw_m7 35 rfl) rfl
theorem q2731 : (Jvm.Cond.castable "UnreadSigns$Two" "java/lang/Object") ∈ lw_tbl := lw_at lw_m11 189 rfl
theorem q185 : (Jvm.Cond.initialized "UnreadSigns$Stone") ∈ lw_all := lw_g (lw_at lw_m1 43 rfl) rfl
theorem q338 : (Jvm.Cond.instanceMethod ({ cls := "UnreadSigns$Stone", name := "end", desc := "(IZ)I" } : Jvm.MethodName)) ∈ lw_all := lw_g (lw_at lw_m1 196 rfl) rfl
theorem q339 : (Jvm.Cond.selects "UnreadSigns$Stone" ({ cls := "UnreadSigns$Stone", name := "end", desc := "(IZ)I" } : Jvm.MethodName) ({ cls := "UnreadSigns$Stone", name := "end", desc := "(IZ)I" } : Jvm.MethodName)) ∈ lw_all := lw_g (lw_at lw_m1 197 rfl) rfl
theorem q340 : (Jvm.Cond.code ({ cls := "UnreadSigns$Stone", name := "end", desc := "(IZ)I" } : Jvm.MethodName) prog_10_method_3_code (3 : Nat) (Option.some Jvm.ClassFile.FieldType.int)) ∈ lw_all := lw_g (lw_at lw_m1 198 rfl) rfl
theorem q341 : (Jvm.Cond.methodLink "UnreadSigns$Stone" (17 : Nat) ({ cls := "UnreadSigns$Stone", name := "empty", desc := "(IZ)I" } : Jvm.MethodName)) ∈ lw_all := lw_g (lw_at lw_m1 199 rfl) rfl
theorem q342 : (Jvm.Cond.instanceMethod ({ cls := "UnreadSigns$Stone", name := "empty", desc := "(IZ)I" } : Jvm.MethodName)) ∈ lw_all := lw_g (lw_at lw_m1 200 rfl) rfl
theorem q343 : (Jvm.Cond.selects "UnreadSigns$Stone" ({ cls := "UnreadSigns$Stone", name := "empty", desc := "(IZ)I" } : Jvm.MethodName) ({ cls := "UnreadSigns$Stone", name := "empty", desc := "(IZ)I" } : Jvm.MethodName)) ∈ lw_all := lw_g (lw_at lw_m1 201 rfl) rfl
theorem q344 : (Jvm.Cond.code ({ cls := "UnreadSigns$Stone", name := "empty", desc := "(IZ)I" } : Jvm.MethodName) prog_10_method_2_code (4 : Nat) (Option.some Jvm.ClassFile.FieldType.int)) ∈ lw_all := lw_g (lw_at lw_m1 202 rfl) rfl
theorem q1615 : (Jvm.Cond.selects "UnreadSigns$Stone" ({ cls := "java/lang/Object", name := "getClass", desc := "()Ljava/lang/Class;" } : Jvm.MethodName) ({ cls := "java/lang/Object", name := "getClass", desc := "()Ljava/lang/Class;" } : Jvm.MethodName)) ∈ lw_all := lw_g (lw_at lw_m7 33 rfl) rfl
theorem q1674 : (Jvm.Cond.instantiable "UnreadSigns$Stone" (2 : Nat)) ∈ lw_all := lw_g (lw_at lw_m7 92 rfl) rfl
theorem q1676 : (Jvm.Cond.instanceMethod ({ cls := "UnreadSigns$Stone", name := "<init>", desc := "()V" } : Jvm.MethodName)) ∈ lw_all := lw_g (lw_at lw_m7 94 rfl) rfl
theorem q1677 : (Jvm.Cond.code ({ cls := "UnreadSigns$Stone", name := "<init>", desc := "()V" } : Jvm.MethodName) prog_10_method_1_code (1 : Nat) (Option.none : Option Jvm.ClassFile.FieldType)) ∈ lw_all := lw_g (lw_at lw_m7 95 rfl) rfl
theorem q1678 : (Jvm.Cond.methodLink "UnreadSigns$Stone" (3 : Nat) ({ cls := "java/lang/Object", name := "<init>", desc := "()V" } : Jvm.MethodName)) ∈ lw_all := lw_g (lw_at lw_m7 96 rfl) rfl
theorem q1679 : (Jvm.Cond.classLink "UnreadSigns$Stone" (9 : Nat) "[I") ∈ lw_all := lw_g (lw_at lw_m7 97 rfl) rfl
theorem q1680 : (Jvm.Cond.fieldLink "UnreadSigns$Stone" (11 : Nat) "UnreadSigns$Stone" "row" "[[I") ∈ lw_all := lw_g (lw_at lw_m7 98 rfl) rfl
theorem q1685 : (Jvm.Cond.laysFinal "UnreadSigns$Stone" "UnreadSigns$Stone" "row" "[[I") ∈ lw_all := lw_g (lw_at lw_m7 103 rfl) rfl
theorem q1686 : (Jvm.Cond.soleField "UnreadSigns$Stone" "row") ∈ lw_all := lw_g (lw_at lw_m7 104 rfl) rfl
theorem q1687 : (Jvm.Cond.lays "UnreadSigns$Stone" "UnreadSigns$Stone" "rows" "I") ∈ lw_all := lw_g (lw_at lw_m7 105 rfl) rfl
theorem q1688 : (Jvm.Cond.soleField "UnreadSigns$Stone" "rows") ∈ lw_all := lw_g (lw_at lw_m7 106 rfl) rfl
theorem q1689 : (Jvm.Cond.superclass "UnreadSigns$Stone" "java/lang/Object") ∈ lw_all := lw_g (lw_at lw_m7 107 rfl) rfl
theorem q2729 : (Jvm.Cond.castable "UnreadSigns$Stone" "java/lang/Object") ∈ lw_tbl := lw_at lw_m11 187 rfl
theorem q187 : (Jvm.Cond.initialized "UnreadSigns$Act") ∈ lw_all := lw_g (lw_at lw_m1 45 rfl) rfl
theorem q1609 : (Jvm.Cond.selects "UnreadSigns$Act" ({ cls := "java/lang/Object", name := "getClass", desc := "()Ljava/lang/Class;" } : Jvm.MethodName) ({ cls := "java/lang/Object", name := "getClass", desc := "()Ljava/lang/Class;" } : Jvm.MethodName)) ∈ lw_all := lw_g (lw_at lw_m7 27 rfl) rfl
theorem q1916 : (Jvm.Cond.instantiable "UnreadSigns$Act" (2 : Nat)) ∈ lw_all := lw_g (lw_at lw_m8 94 rfl) rfl
theorem q1918 : (Jvm.Cond.instanceMethod ({ cls := "UnreadSigns$Act", name := "<init>", desc := "(LUnreadSigns$Back;I)V" } : Jvm.MethodName)) ∈ lw_all := lw_g (lw_at lw_m8 96 rfl) rfl
theorem q1919 : (Jvm.Cond.code ({ cls := "UnreadSigns$Act", name := "<init>", desc := "(LUnreadSigns$Back;I)V" } : Jvm.MethodName) prog_2_method_1_code (3 : Nat) (Option.none : Option Jvm.ClassFile.FieldType)) ∈ lw_all := lw_g (lw_at lw_m8 97 rfl) rfl
theorem q1920 : (Jvm.Cond.methodLink "UnreadSigns$Act" (1 : Nat) ({ cls := "java/lang/Object", name := "<init>", desc := "()V" } : Jvm.MethodName)) ∈ lw_all := lw_g (lw_at lw_m8 98 rfl) rfl
theorem q1921 : (Jvm.Cond.fieldLink "UnreadSigns$Act" (7 : Nat) "UnreadSigns$Act" "back" "LUnreadSigns$Back;") ∈ lw_all := lw_g (lw_at lw_m8 99 rfl) rfl
theorem q1923 : (Jvm.Cond.fieldLink "UnreadSigns$Act" (13 : Nat) "UnreadSigns$Act" "from" "I") ∈ lw_all := lw_g (lw_at lw_m8 101 rfl) rfl
theorem q1925 : (Jvm.Cond.laysFinal "UnreadSigns$Act" "UnreadSigns$Act" "back" "LUnreadSigns$Back;") ∈ lw_all := lw_g (lw_at lw_m8 103 rfl) rfl
theorem q1926 : (Jvm.Cond.soleField "UnreadSigns$Act" "back") ∈ lw_all := lw_g (lw_at lw_m8 104 rfl) rfl
theorem q1927 : (Jvm.Cond.laysFinal "UnreadSigns$Act" "UnreadSigns$Act" "from" "I") ∈ lw_all := lw_g (lw_at lw_m8 105 rfl) rfl
theorem q1928 : (Jvm.Cond.soleField "UnreadSigns$Act" "from") ∈ lw_all := lw_g (lw_at lw_m8 106 rfl) rfl
theorem q1929 : (Jvm.Cond.superclass "UnreadSigns$Act" "java/lang/Object") ∈ lw_all := lw_g (lw_at lw_m8 107 rfl) rfl
theorem q2734 : (Jvm.Cond.castable "UnreadSigns$Act" "java/lang/Object") ∈ lw_tbl := lw_at lw_m11 192 rfl
theorem q142 : (Jvm.Cond.initialized "UnreadSignsLaw") ∈ lw_all := lw_g (lw_at lw_m1 0 rfl) rfl
theorem q191 : (Jvm.Cond.classLink "UnreadSignsLaw" (7 : Nat) "UnreadSigns") ∈ lw_all := lw_g (lw_at lw_m1 49 rfl) rfl
theorem q193 : (Jvm.Cond.methodLink "UnreadSignsLaw" (9 : Nat) ({ cls := "UnreadSigns", name := "<init>", desc := "()V" } : Jvm.MethodName)) ∈ lw_all := lw_g (lw_at lw_m1 51 rfl) rfl
theorem q1402 : (Jvm.Cond.methodLink "UnreadSignsLaw" (13 : Nat) ({ cls := "UnreadSigns", name := "feed", desc := "(IIIII)I" } : Jvm.MethodName)) ∈ lw_all := lw_g (lw_at lw_m6 60 rfl) rfl
theorem q1410 : (Jvm.Cond.methodLink "UnreadSignsLaw" (18 : Nat) ({ cls := "UnreadSigns", name := "end", desc := "(I)I" } : Jvm.MethodName)) ∈ lw_all := lw_g (lw_at lw_m6 68 rfl) rfl
theorem q1414 : (Jvm.Cond.methodLink "UnreadSignsLaw" (23 : Nat) ({ cls := "UnreadSigns", name := "forms", desc := "()I" } : Jvm.MethodName)) ∈ lw_all := lw_g (lw_at lw_m6 72 rfl) rfl
theorem q1665 : (Jvm.Cond.methodLink "UnreadSignsLaw" (28 : Nat) ({ cls := "UnreadSigns", name := "stone", desc := "()I" } : Jvm.MethodName)) ∈ lw_all := lw_g (lw_at lw_m7 83 rfl) rfl
theorem q1701 : (Jvm.Cond.methodLink "UnreadSignsLaw" (32 : Nat) ({ cls := "UnreadSigns", name := "name", desc := "()I" } : Jvm.MethodName)) ∈ lw_all := lw_g (lw_at lw_m7 119 rfl) rfl
theorem q1765 : (Jvm.Cond.methodLink "UnreadSignsLaw" (36 : Nat) ({ cls := "UnreadSigns", name := "unlike", desc := "(II)I" } : Jvm.MethodName)) ∈ lw_all := lw_g (lw_at lw_m7 183 rfl) rfl
theorem q1769 : (Jvm.Cond.methodLink "UnreadSignsLaw" (41 : Nat) ({ cls := "UnreadSigns", name := "sign", desc := "(I)I" } : Jvm.MethodName)) ∈ lw_all := lw_g (lw_at lw_m7 187 rfl) rfl
theorem q1773 : (Jvm.Cond.methodLink "UnreadSignsLaw" (45 : Nat) ({ cls := "UnreadSigns", name := "size", desc := "(I)I" } : Jvm.MethodName)) ∈ lw_all := lw_g (lw_at lw_m7 191 rfl) rfl
theorem q1777 : (Jvm.Cond.methodLink "UnreadSignsLaw" (49 : Nat) ({ cls := "UnreadSigns", name := "tree", desc := "(II)I" } : Jvm.MethodName)) ∈ lw_all := lw_g (lw_at lw_m7 195 rfl) rfl
theorem q1781 : (Jvm.Cond.methodLink "UnreadSignsLaw" (70 : Nat) ({ cls := "UnreadSigns", name := "judged", desc := "(I)I" } : Jvm.MethodName)) ∈ lw_all := lw_g (lw_at lw_m7 199 rfl) rfl
theorem q1786 : (Jvm.Cond.methodLink "UnreadSignsLaw" (74 : Nat) ({ cls := "UnreadSigns", name := "read", desc := "(III)I" } : Jvm.MethodName)) ∈ lw_all := lw_g (lw_at lw_m7 204 rfl) rfl
theorem q1790 : (Jvm.Cond.methodLink "UnreadSignsLaw" (79 : Nat) ({ cls := "UnreadSigns", name := "comes", desc := "()I" } : Jvm.MethodName)) ∈ lw_all := lw_g (lw_at lw_m7 208 rfl) rfl
theorem q1799 : (Jvm.Cond.methodLink "UnreadSignsLaw" (83 : Nat) ({ cls := "UnreadSigns", name := "next", desc := "()I" } : Jvm.MethodName)) ∈ lw_all := lw_g (lw_at lw_m7 217 rfl) rfl
theorem q1803 : (Jvm.Cond.methodLink "UnreadSignsLaw" (91 : Nat) ({ cls := "UnreadSigns", name := "words", desc := "()I" } : Jvm.MethodName)) ∈ lw_all := lw_g (lw_at lw_m7 221 rfl) rfl
theorem q1807 : (Jvm.Cond.methodLink "UnreadSignsLaw" (95 : Nat) ({ cls := "UnreadSigns", name := "word", desc := "(II)I" } : Jvm.MethodName)) ∈ lw_all := lw_g (lw_at lw_m7 225 rfl) rfl
theorem q1816 : (Jvm.Cond.methodLink "UnreadSignsLaw" (99 : Nat) ({ cls := "UnreadSigns", name := "rank", desc := "(I)I" } : Jvm.MethodName)) ∈ lw_all := lw_g (lw_at lw_m7 234 rfl) rfl
theorem q1828 : (Jvm.Cond.methodLink "UnreadSignsLaw" (103 : Nat) ({ cls := "UnreadSigns", name := "stands", desc := "(II)I" } : Jvm.MethodName)) ∈ lw_all := lw_g (lw_at lw_m8 6 rfl) rfl
theorem q1845 : (Jvm.Cond.methodLink "UnreadSignsLaw" (107 : Nat) ({ cls := "UnreadSigns", name := "ahead", desc := "(II)I" } : Jvm.MethodName)) ∈ lw_all := lw_g (lw_at lw_m8 23 rfl) rfl
theorem q1849 : (Jvm.Cond.methodLink "UnreadSignsLaw" (111 : Nat) ({ cls := "UnreadSigns", name := "stem", desc := "(II)I" } : Jvm.MethodName)) ∈ lw_all := lw_g (lw_at lw_m8 27 rfl) rfl
theorem q1871 : (Jvm.Cond.methodLink "UnreadSignsLaw" (120 : Nat) ({ cls := "UnreadSigns", name := "clues", desc := "(Z)I" } : Jvm.MethodName)) ∈ lw_all := lw_g (lw_at lw_m8 49 rfl) rfl
theorem q1879 : (Jvm.Cond.methodLink "UnreadSignsLaw" (125 : Nat) ({ cls := "UnreadSigns", name := "place", desc := "(IZ)I" } : Jvm.MethodName)) ∈ lw_all := lw_g (lw_at lw_m8 57 rfl) rfl
theorem q1883 : (Jvm.Cond.methodLink "UnreadSignsLaw" (130 : Nat) ({ cls := "UnreadSigns", name := "clash", desc := "(I)I" } : Jvm.MethodName)) ∈ lw_all := lw_g (lw_at lw_m8 61 rfl) rfl
theorem q1895 : (Jvm.Cond.methodLink "UnreadSignsLaw" (134 : Nat) ({ cls := "UnreadSigns", name := "clashes", desc := "()I" } : Jvm.MethodName)) ∈ lw_all := lw_g (lw_at lw_m8 73 rfl) rfl
theorem q1899 : (Jvm.Cond.methodLink "UnreadSignsLaw" (142 : Nat) ({ cls := "UnreadSigns", name := "known", desc := "(II)I" } : Jvm.MethodName)) ∈ lw_all := lw_g (lw_at lw_m8 77 rfl) rfl
theorem q1903 : (Jvm.Cond.methodLink "UnreadSignsLaw" (53 : Nat) ({ cls := "UnreadSigns", name := "loose", desc := "(I)I" } : Jvm.MethodName)) ∈ lw_all := lw_g (lw_at lw_m8 81 rfl) rfl
theorem q1930 : (Jvm.Cond.methodLink "UnreadSignsLaw" (57 : Nat) ({ cls := "UnreadSigns", name := "alike", desc := "(IIZ)Z" } : Jvm.MethodName)) ∈ lw_all := lw_g (lw_at lw_m8 108 rfl) rfl
theorem q1947 : (Jvm.Cond.methodLink "UnreadSignsLaw" (62 : Nat) ({ cls := "UnreadSigns", name := "apart", desc := "(IIZ)Z" } : Jvm.MethodName)) ∈ lw_all := lw_g (lw_at lw_m8 125 rfl) rfl
theorem q1951 : (Jvm.Cond.methodLink "UnreadSignsLaw" (66 : Nat) ({ cls := "UnreadSigns", name := "way", desc := "(I)I" } : Jvm.MethodName)) ∈ lw_all := lw_g (lw_at lw_m8 129 rfl) rfl
theorem q1959 : (Jvm.Cond.methodLink "UnreadSignsLaw" (87 : Nat) ({ cls := "UnreadSigns", name := "rise", desc := "(I)I" } : Jvm.MethodName)) ∈ lw_all := lw_g (lw_at lw_m8 137 rfl) rfl
theorem q1967 : (Jvm.Cond.methodLink "UnreadSignsLaw" (115 : Nat) ({ cls := "UnreadSigns", name := "clue", desc := "(IIZ)I" } : Jvm.MethodName)) ∈ lw_all := lw_g (lw_at lw_m8 145 rfl) rfl
theorem q1997 : (Jvm.Cond.methodLink "UnreadSignsLaw" (138 : Nat) ({ cls := "UnreadSigns", name := "guess", desc := "(III)I" } : Jvm.MethodName)) ∈ lw_all := lw_g (lw_at lw_m8 175 rfl) rfl
theorem q2008 : (Jvm.Cond.methodLink "UnreadSignsLaw" (166 : Nat) ({ cls := "UnreadSigns", name := "undo", desc := "()I" } : Jvm.MethodName)) ∈ lw_all := lw_g (lw_at lw_m8 186 rfl) rfl
theorem q2016 : (Jvm.Cond.methodLink "UnreadSignsLaw" (146 : Nat) ({ cls := "UnreadSigns", name := "fits", desc := "(II)I" } : Jvm.MethodName)) ∈ lw_all := lw_g (lw_at lw_m8 194 rfl) rfl
theorem q2028 : (Jvm.Cond.methodLink "UnreadSignsLaw" (150 : Nat) ({ cls := "UnreadSigns", name := "hits", desc := "()I" } : Jvm.MethodName)) ∈ lw_all := lw_g (lw_at lw_m8 206 rfl) rfl
theorem q2040 : (Jvm.Cond.methodLink "UnreadSignsLaw" (154 : Nat) ({ cls := "UnreadSigns", name := "ways", desc := "(I)I" } : Jvm.MethodName)) ∈ lw_all := lw_g (lw_at lw_m8 218 rfl) rfl
theorem q2065 : (Jvm.Cond.methodLink "UnreadSignsLaw" (158 : Nat) ({ cls := "UnreadSigns", name := "draws", desc := "(I)I" } : Jvm.MethodName)) ∈ lw_all := lw_g (lw_at lw_m9 3 rfl) rfl
theorem q2069 : (Jvm.Cond.methodLink "UnreadSignsLaw" (162 : Nat) ({ cls := "UnreadSigns", name := "test", desc := "(I)I" } : Jvm.MethodName)) ∈ lw_all := lw_g (lw_at lw_m9 7 rfl) rfl
theorem q2089 : (Jvm.Cond.methodLink "UnreadSignsLaw" (170 : Nat) ({ cls := "UnreadSigns", name := "count", desc := "(I)I" } : Jvm.MethodName)) ∈ lw_all := lw_g (lw_at lw_m9 27 rfl) rfl
theorem q2105 : (Jvm.Cond.classLink "UnreadSignsLaw" (10 : Nat) "UnreadSignsModel") ∈ lw_all := lw_g (lw_at lw_m9 43 rfl) rfl
theorem q2107 : (Jvm.Cond.methodLink "UnreadSignsLaw" (12 : Nat) ({ cls := "UnreadSignsModel", name := "<init>", desc := "()V" } : Jvm.MethodName)) ∈ lw_all := lw_g (lw_at lw_m9 45 rfl) rfl
theorem q2255 : (Jvm.Cond.methodLink "UnreadSignsLaw" (17 : Nat) ({ cls := "UnreadSignsModel", name := "feed", desc := "(IIIII)I" } : Jvm.MethodName)) ∈ lw_all := lw_g (lw_at lw_m9 193 rfl) rfl
theorem q2263 : (Jvm.Cond.methodLink "UnreadSignsLaw" (22 : Nat) ({ cls := "UnreadSignsModel", name := "end", desc := "(I)I" } : Jvm.MethodName)) ∈ lw_all := lw_g (lw_at lw_m9 201 rfl) rfl
theorem q2267 : (Jvm.Cond.methodLink "UnreadSignsLaw" (27 : Nat) ({ cls := "UnreadSignsModel", name := "forms", desc := "()I" } : Jvm.MethodName)) ∈ lw_all := lw_g (lw_at lw_m9 205 rfl) rfl
theorem q2311 : (Jvm.Cond.methodLink "UnreadSignsLaw" (31 : Nat) ({ cls := "UnreadSignsModel", name := "stone", desc := "()I" } : Jvm.MethodName)) ∈ lw_all := lw_g (lw_at lw_m10 9 rfl) rfl
theorem q2330 : (Jvm.Cond.methodLink "UnreadSignsLaw" (35 : Nat) ({ cls := "UnreadSignsModel", name := "name", desc := "()I" } : Jvm.MethodName)) ∈ lw_all := lw_g (lw_at lw_m10 28 rfl) rfl
theorem q2350 : (Jvm.Cond.methodLink "UnreadSignsLaw" (169 : Nat) ({ cls := "UnreadSignsModel", name := "undo", desc := "()I" } : Jvm.MethodName)) ∈ lw_all := lw_g (lw_at lw_m10 48 rfl) rfl
theorem q2354 : (Jvm.Cond.methodLink "UnreadSignsLaw" (56 : Nat) ({ cls := "UnreadSignsModel", name := "loose", desc := "(I)I" } : Jvm.MethodName)) ∈ lw_all := lw_g (lw_at lw_m10 52 rfl) rfl
theorem q2366 : (Jvm.Cond.methodLink "UnreadSignsLaw" (69 : Nat) ({ cls := "UnreadSignsModel", name := "way", desc := "(I)I" } : Jvm.MethodName)) ∈ lw_all := lw_g (lw_at lw_m10 64 rfl) rfl
theorem q2370 : (Jvm.Cond.methodLink "UnreadSignsLaw" (90 : Nat) ({ cls := "UnreadSignsModel", name := "rise", desc := "(I)I" } : Jvm.MethodName)) ∈ lw_all := lw_g (lw_at lw_m10 68 rfl) rfl
theorem q2374 : (Jvm.Cond.methodLink "UnreadSignsLaw" (61 : Nat) ({ cls := "UnreadSignsModel", name := "alike", desc := "(IIZ)Z" } : Jvm.MethodName)) ∈ lw_all := lw_g (lw_at lw_m10 72 rfl) rfl
theorem q2390 : (Jvm.Cond.methodLink "UnreadSignsLaw" (65 : Nat) ({ cls := "UnreadSignsModel", name := "apart", desc := "(IIZ)Z" } : Jvm.MethodName)) ∈ lw_all := lw_g (lw_at lw_m10 88 rfl) rfl
theorem q2394 : (Jvm.Cond.methodLink "UnreadSignsLaw" (119 : Nat) ({ cls := "UnreadSignsModel", name := "clue", desc := "(IIZ)I" } : Jvm.MethodName)) ∈ lw_all := lw_g (lw_at lw_m10 92 rfl) rfl
theorem q2509 : (Jvm.Cond.methodLink "UnreadSignsLaw" (141 : Nat) ({ cls := "UnreadSignsModel", name := "guess", desc := "(III)I" } : Jvm.MethodName)) ∈ lw_all := lw_g (lw_at lw_m10 207 rfl) rfl
theorem q2529 : (Jvm.Cond.methodLink "UnreadSignsLaw" (40 : Nat) ({ cls := "UnreadSignsModel", name := "unlike", desc := "(II)I" } : Jvm.MethodName)) ∈ lw_all := lw_g (lw_at lw_m10 227 rfl) rfl
theorem q2533 : (Jvm.Cond.methodLink "UnreadSignsLaw" (44 : Nat) ({ cls := "UnreadSignsModel", name := "sign", desc := "(I)I" } : Jvm.MethodName)) ∈ lw_all := lw_g (lw_at lw_m10 231 rfl) rfl
theorem q2537 : (Jvm.Cond.methodLink "UnreadSignsLaw" (48 : Nat) ({ cls := "UnreadSignsModel", name := "size", desc := "(I)I" } : Jvm.MethodName)) ∈ lw_all := lw_g (lw_at lw_m10 235 rfl) rfl
theorem q2541 : (Jvm.Cond.methodLink "UnreadSignsLaw" (52 : Nat) ({ cls := "UnreadSignsModel", name := "tree", desc := "(II)I" } : Jvm.MethodName)) ∈ lw_all := lw_g (lw_at lw_m10 239 rfl) rfl
theorem q2549 : (Jvm.Cond.methodLink "UnreadSignsLaw" (73 : Nat) ({ cls := "UnreadSignsModel", name := "judged", desc := "(I)I" } : Jvm.MethodName)) ∈ lw_all := lw_g (lw_at lw_m11 7 rfl) rfl
theorem q2553 : (Jvm.Cond.methodLink "UnreadSignsLaw" (78 : Nat) ({ cls := "UnreadSignsModel", name := "read", desc := "(III)I" } : Jvm.MethodName)) ∈ lw_all := lw_g (lw_at lw_m11 11 rfl) rfl
theorem q2557 : (Jvm.Cond.methodLink "UnreadSignsLaw" (82 : Nat) ({ cls := "UnreadSignsModel", name := "comes", desc := "()I" } : Jvm.MethodName)) ∈ lw_all := lw_g (lw_at lw_m11 15 rfl) rfl
theorem q2569 : (Jvm.Cond.methodLink "UnreadSignsLaw" (86 : Nat) ({ cls := "UnreadSignsModel", name := "next", desc := "()I" } : Jvm.MethodName)) ∈ lw_all := lw_g (lw_at lw_m11 27 rfl) rfl
theorem q2573 : (Jvm.Cond.methodLink "UnreadSignsLaw" (94 : Nat) ({ cls := "UnreadSignsModel", name := "words", desc := "()I" } : Jvm.MethodName)) ∈ lw_all := lw_g (lw_at lw_m11 31 rfl) rfl
theorem q2577 : (Jvm.Cond.methodLink "UnreadSignsLaw" (98 : Nat) ({ cls := "UnreadSignsModel", name := "word", desc := "(II)I" } : Jvm.MethodName)) ∈ lw_all := lw_g (lw_at lw_m11 35 rfl) rfl
theorem q2581 : (Jvm.Cond.methodLink "UnreadSignsLaw" (102 : Nat) ({ cls := "UnreadSignsModel", name := "rank", desc := "(I)I" } : Jvm.MethodName)) ∈ lw_all := lw_g (lw_at lw_m11 39 rfl) rfl
theorem q2585 : (Jvm.Cond.methodLink "UnreadSignsLaw" (106 : Nat) ({ cls := "UnreadSignsModel", name := "stands", desc := "(II)I" } : Jvm.MethodName)) ∈ lw_all := lw_g (lw_at lw_m11 43 rfl) rfl
theorem q2593 : (Jvm.Cond.methodLink "UnreadSignsLaw" (110 : Nat) ({ cls := "UnreadSignsModel", name := "ahead", desc := "(II)I" } : Jvm.MethodName)) ∈ lw_all := lw_g (lw_at lw_m11 51 rfl) rfl
theorem q2597 : (Jvm.Cond.methodLink "UnreadSignsLaw" (114 : Nat) ({ cls := "UnreadSignsModel", name := "stem", desc := "(II)I" } : Jvm.MethodName)) ∈ lw_all := lw_g (lw_at lw_m11 55 rfl) rfl
theorem q2618 : (Jvm.Cond.methodLink "UnreadSignsLaw" (124 : Nat) ({ cls := "UnreadSignsModel", name := "clues", desc := "(Z)I" } : Jvm.MethodName)) ∈ lw_all := lw_g (lw_at lw_m11 76 rfl) rfl
theorem q2622 : (Jvm.Cond.methodLink "UnreadSignsLaw" (129 : Nat) ({ cls := "UnreadSignsModel", name := "place", desc := "(IZ)I" } : Jvm.MethodName)) ∈ lw_all := lw_g (lw_at lw_m11 80 rfl) rfl
theorem q2626 : (Jvm.Cond.methodLink "UnreadSignsLaw" (133 : Nat) ({ cls := "UnreadSignsModel", name := "clash", desc := "(I)I" } : Jvm.MethodName)) ∈ lw_all := lw_g (lw_at lw_m11 84 rfl) rfl
theorem q2638 : (Jvm.Cond.methodLink "UnreadSignsLaw" (137 : Nat) ({ cls := "UnreadSignsModel", name := "clashes", desc := "()I" } : Jvm.MethodName)) ∈ lw_all := lw_g (lw_at lw_m11 96 rfl) rfl
theorem q2642 : (Jvm.Cond.methodLink "UnreadSignsLaw" (145 : Nat) ({ cls := "UnreadSignsModel", name := "known", desc := "(II)I" } : Jvm.MethodName)) ∈ lw_all := lw_g (lw_at lw_m11 100 rfl) rfl
theorem q2646 : (Jvm.Cond.methodLink "UnreadSignsLaw" (149 : Nat) ({ cls := "UnreadSignsModel", name := "fits", desc := "(II)I" } : Jvm.MethodName)) ∈ lw_all := lw_g (lw_at lw_m11 104 rfl) rfl
theorem q2658 : (Jvm.Cond.methodLink "UnreadSignsLaw" (153 : Nat) ({ cls := "UnreadSignsModel", name := "hits", desc := "()I" } : Jvm.MethodName)) ∈ lw_all := lw_g (lw_at lw_m11 116 rfl) rfl
theorem q2666 : (Jvm.Cond.methodLink "UnreadSignsLaw" (157 : Nat) ({ cls := "UnreadSignsModel", name := "ways", desc := "(I)I" } : Jvm.MethodName)) ∈ lw_all := lw_g (lw_at lw_m11 124 rfl) rfl
theorem q2686 : (Jvm.Cond.methodLink "UnreadSignsLaw" (161 : Nat) ({ cls := "UnreadSignsModel", name := "draws", desc := "(I)I" } : Jvm.MethodName)) ∈ lw_all := lw_g (lw_at lw_m11 144 rfl) rfl
theorem q2690 : (Jvm.Cond.methodLink "UnreadSignsLaw" (165 : Nat) ({ cls := "UnreadSignsModel", name := "test", desc := "(I)I" } : Jvm.MethodName)) ∈ lw_all := lw_g (lw_at lw_m11 148 rfl) rfl
theorem q2710 : (Jvm.Cond.methodLink "UnreadSignsLaw" (173 : Nat) ({ cls := "UnreadSignsModel", name := "count", desc := "(I)I" } : Jvm.MethodName)) ∈ lw_all := lw_g (lw_at lw_m11 168 rfl) rfl
theorem q2014 : (Jvm.Cond.interfaceMethod "UnreadSigns$Back" "UnreadSigns$Back" "goes" "()V") ∈ lw_tbl := lw_at lw_m8 192 rfl
theorem q2015 : (Jvm.Cond.declares ({ cls := "UnreadSigns$Back", name := "goes", desc := "()V" } : Jvm.MethodName)) ∈ lw_tbl := lw_at lw_m8 193 rfl
theorem q1569 : (Jvm.Cond.interfaceMethod "UnreadSigns$Shift" "UnreadSigns$Shift" "of" "(I)I") ∈ lw_tbl := lw_at lw_m6 227 rfl
theorem q1570 : (Jvm.Cond.declares ({ cls := "UnreadSigns$Shift", name := "of", desc := "(I)I" } : Jvm.MethodName)) ∈ lw_tbl := lw_at lw_m6 228 rfl
theorem q423 : (Jvm.Cond.sameMethod "[B" "java/lang/Object" "clone" "()Ljava/lang/Object;") ∈ lw_all := lw_g (lw_at lw_m2 41 rfl) rfl
theorem q426 : (Jvm.Cond.selects "[B" ({ cls := "[B", name := "clone", desc := "()Ljava/lang/Object;" } : Jvm.MethodName) ({ cls := "java/lang/Object", name := "clone", desc := "()Ljava/lang/Object;" } : Jvm.MethodName)) ∈ lw_all := lw_g (lw_at lw_m2 44 rfl) rfl
theorem q427 : (Jvm.Cond.castable "[B" "java/lang/Cloneable") ∈ lw_tbl := lw_at lw_m2 45 rfl
theorem q2761 : (Jvm.Cond.castable "[B" "java/lang/Object") ∈ lw_tbl := lw_at lw_m11 219 rfl
theorem q2075 : (Jvm.Cond.sameMethod "[I" "java/lang/Object" "clone" "()Ljava/lang/Object;") ∈ lw_all := lw_g (lw_at lw_m9 13 rfl) rfl
theorem q2076 : (Jvm.Cond.selects "[I" ({ cls := "[I", name := "clone", desc := "()Ljava/lang/Object;" } : Jvm.MethodName) ({ cls := "java/lang/Object", name := "clone", desc := "()Ljava/lang/Object;" } : Jvm.MethodName)) ∈ lw_all := lw_g (lw_at lw_m9 14 rfl) rfl
theorem q2077 : (Jvm.Cond.castable "[I" "java/lang/Cloneable") ∈ lw_tbl := lw_at lw_m9 15 rfl
theorem q2762 : (Jvm.Cond.castable "[I" "java/lang/Object") ∈ lw_tbl := lw_at lw_m11 220 rfl
theorem q2768 : (Jvm.Cond.castable "[LUnreadSigns$Act;" "java/lang/Object") ∈ lw_tbl := lw_at lw_m11 226 rfl
theorem q2760 : (Jvm.Cond.castable "[LUnreadSigns$Clue;" "java/lang/Object") ∈ lw_tbl := lw_at lw_m11 218 rfl
theorem q2759 : (Jvm.Cond.castable "[LUnreadSigns$Stone;" "java/lang/Object") ∈ lw_tbl := lw_at lw_m11 217 rfl
theorem q2764 : (Jvm.Cond.castable "[LUnreadSigns$Two;" "java/lang/Object") ∈ lw_tbl := lw_at lw_m11 222 rfl
theorem q2767 : (Jvm.Cond.castable "[LUnreadSigns$Word;" "java/lang/Object") ∈ lw_tbl := lw_at lw_m11 225 rfl
theorem q2756 : (Jvm.Cond.sameMethod "[Ljava/lang/Object;" "java/lang/Object" "getClass" "()Ljava/lang/Class;") ∈ lw_all := lw_g (lw_at lw_m11 214 rfl) rfl
theorem q2757 : (Jvm.Cond.selects "[Ljava/lang/Object;" ({ cls := "java/lang/Object", name := "getClass", desc := "()Ljava/lang/Class;" } : Jvm.MethodName) ({ cls := "java/lang/Object", name := "getClass", desc := "()Ljava/lang/Class;" } : Jvm.MethodName)) ∈ lw_all := lw_g (lw_at lw_m11 215 rfl) rfl
theorem q2769 : (Jvm.Cond.castable "[Ljava/lang/Object;" "java/lang/Object") ∈ lw_tbl := lw_at lw_m11 227 rfl
theorem q2766 : (Jvm.Cond.castable "[Ljava/lang/String;" "java/lang/Object") ∈ lw_tbl := lw_at lw_m11 224 rfl
theorem q2770 : (Jvm.Cond.castable "[Z" "java/lang/Object") ∈ lw_tbl := lw_at lw_m11 228 rfl
theorem q2763 : (Jvm.Cond.castable "[[I" "java/lang/Object") ∈ lw_tbl := lw_at lw_m11 221 rfl
theorem q2765 : (Jvm.Cond.castable "[[Ljava/lang/String;" "java/lang/Object") ∈ lw_tbl := lw_at lw_m11 223 rfl
theorem q625 : (Jvm.Cond.interfaceMethod "java/lang/Comparable" "java/lang/Comparable" "compareTo" "(Ljava/lang/Object;)I") ∈ lw_tbl := lw_at lw_m3 3 rfl
theorem q626 : (Jvm.Cond.declares ({ cls := "java/lang/Comparable", name := "compareTo", desc := "(Ljava/lang/Object;)I" } : Jvm.MethodName)) ∈ lw_tbl := lw_at lw_m3 4 rfl
theorem q168 : (Jvm.Cond.initialized "java/lang/Integer$IntegerCache") ∈ lw_all := lw_g (lw_at lw_m1 26 rfl) rfl
theorem q967 : (Jvm.Cond.laysStatic "java/lang/Integer$IntegerCache" "high" "I") ∈ lw_tbl := lw_at lw_m4 105 rfl
theorem q969 : (Jvm.Cond.laysStatic "java/lang/Integer$IntegerCache" "cache" "[Ljava/lang/Integer;") ∈ lw_tbl := lw_at lw_m4 107 rfl
theorem q156 : (Jvm.Cond.initialized "java/lang/System") ∈ lw_all := lw_g (lw_at lw_m1 14 rfl) rfl
theorem q431 : (Jvm.Cond.static ({ cls := "java/lang/System", name := "arraycopy", desc := "(Ljava/lang/Object;ILjava/lang/Object;II)V" } : Jvm.MethodName)) ∈ lw_all := lw_g (lw_at lw_m2 49 rfl) rfl
theorem q432 : (Jvm.Cond.native ({ cls := "java/lang/System", name := "arraycopy", desc := "(Ljava/lang/Object;ILjava/lang/Object;II)V" } : Jvm.MethodName)) ∈ lw_all := lw_g (lw_at lw_m2 50 rfl) rfl
theorem q1060 : (Jvm.Cond.interfaceMethod "java/util/Collection" "java/util/Collection" "iterator" "()Ljava/util/Iterator;") ∈ lw_tbl := lw_at lw_m4 198 rfl
theorem q1061 : (Jvm.Cond.declares ({ cls := "java/util/Collection", name := "iterator", desc := "()Ljava/util/Iterator;" } : Jvm.MethodName)) ∈ lw_tbl := lw_at lw_m4 199 rfl
theorem q606 : (Jvm.Cond.interfaceMethod "java/util/Comparator" "java/util/Comparator" "compare" "(Ljava/lang/Object;Ljava/lang/Object;)I") ∈ lw_tbl := lw_at lw_m2 224 rfl
theorem q607 : (Jvm.Cond.declares ({ cls := "java/util/Comparator", name := "compare", desc := "(Ljava/lang/Object;Ljava/lang/Object;)I" } : Jvm.MethodName)) ∈ lw_tbl := lw_at lw_m2 225 rfl
theorem q1187 : (Jvm.Cond.interfaceMethod "java/util/Iterator" "java/util/Iterator" "hasNext" "()Z") ∈ lw_tbl := lw_at lw_m5 85 rfl
theorem q1188 : (Jvm.Cond.declares ({ cls := "java/util/Iterator", name := "hasNext", desc := "()Z" } : Jvm.MethodName)) ∈ lw_tbl := lw_at lw_m5 86 rfl
theorem q1210 : (Jvm.Cond.interfaceMethod "java/util/Iterator" "java/util/Iterator" "next" "()Ljava/lang/Object;") ∈ lw_tbl := lw_at lw_m5 108 rfl
theorem q1211 : (Jvm.Cond.declares ({ cls := "java/util/Iterator", name := "next", desc := "()Ljava/lang/Object;" } : Jvm.MethodName)) ∈ lw_tbl := lw_at lw_m5 109 rfl
theorem q989 : (Jvm.Cond.declares ({ cls := "java/util/Map", name := "put", desc := "(Ljava/lang/Object;Ljava/lang/Object;)Ljava/lang/Object;" } : Jvm.MethodName)) ∈ lw_tbl := lw_at lw_m4 127 rfl
theorem q1019 : (Jvm.Cond.declares ({ cls := "java/util/Map", name := "size", desc := "()I" } : Jvm.MethodName)) ∈ lw_tbl := lw_at lw_m4 157 rfl
theorem q1160 : (Jvm.Cond.interfaceMethod "java/util/NavigableMap" "java/util/NavigableMap" "navigableKeySet" "()Ljava/util/NavigableSet;") ∈ lw_tbl := lw_at lw_m5 58 rfl
theorem q1161 : (Jvm.Cond.declares ({ cls := "java/util/NavigableMap", name := "navigableKeySet", desc := "()Ljava/util/NavigableSet;" } : Jvm.MethodName)) ∈ lw_tbl := lw_at lw_m5 59 rfl
theorem q1179 : (Jvm.Cond.interfaceMethod "java/util/NavigableSet" "java/util/NavigableSet" "iterator" "()Ljava/util/Iterator;") ∈ lw_tbl := lw_at lw_m5 77 rfl
theorem q1180 : (Jvm.Cond.declares ({ cls := "java/util/NavigableSet", name := "iterator", desc := "()Ljava/util/Iterator;" } : Jvm.MethodName)) ∈ lw_tbl := lw_at lw_m5 78 rfl
theorem q1132 : (Jvm.Cond.declares ({ cls := "java/util/TreeMap$NavigableSubMap", name := "keyIterator", desc := "()Ljava/util/Iterator;" } : Jvm.MethodName)) ∈ lw_tbl := lw_at lw_m5 30 rfl
theorem q1133 : (Jvm.Cond.selects "java/util/TreeMap$NavigableSubMap" ({ cls := "java/util/TreeMap$NavigableSubMap", name := "keyIterator", desc := "()Ljava/util/Iterator;" } : Jvm.MethodName) ({ cls := "java/util/TreeMap$NavigableSubMap", name := "keyIterator", desc := "()Ljava/util/Iterator;" } : Jvm.MethodName)) ∈ lw_all := lw_g (lw_at lw_m5 31 rfl) rfl
theorem q161 : (Jvm.Cond.initialized "jdk/internal/misc/UnsafeConstants") ∈ lw_all := lw_g (lw_at lw_m1 19 rfl) rfl
theorem q710 : (Jvm.Cond.laysStatic "jdk/internal/misc/UnsafeConstants" "BIG_ENDIAN" "Z") ∈ lw_tbl := lw_at lw_m3 88 rfl
theorem q206 : (Jvm.Cond.arrayOver (Jvm.ClassFile.FieldType.object "UnreadSigns$Stone")) ∈ lw_tbl := lw_at lw_m1 64 rfl
theorem q208 : (Jvm.Cond.arrayOver (Jvm.ClassFile.FieldType.object "UnreadSigns$Clue")) ∈ lw_tbl := lw_at lw_m1 66 rfl
theorem q257 : (Jvm.Cond.arrayClass Jvm.ClassFile.FieldType.byte) ∈ lw_all := lw_g (lw_at lw_m1 115 rfl) rfl
theorem q258 : (Jvm.Cond.arrayClass Jvm.ClassFile.FieldType.int) ∈ lw_all := lw_g (lw_at lw_m1 116 rfl) rfl
theorem q260 : (Jvm.Cond.arrayOver (Jvm.ClassFile.FieldType.array Jvm.ClassFile.FieldType.int)) ∈ lw_tbl := lw_at lw_m1 118 rfl
theorem q263 : (Jvm.Cond.arrayOver (Jvm.ClassFile.FieldType.object "UnreadSigns$Two")) ∈ lw_tbl := lw_at lw_m1 121 rfl
theorem q265 : (Jvm.Cond.arrayOver (Jvm.ClassFile.FieldType.array (Jvm.ClassFile.FieldType.object "java/lang/String"))) ∈ lw_tbl := lw_at lw_m1 123 rfl
theorem q266 : (Jvm.Cond.arrayOver (Jvm.ClassFile.FieldType.object "java/lang/String")) ∈ lw_tbl := lw_at lw_m1 124 rfl
theorem q304 : (Jvm.Cond.arrayOver (Jvm.ClassFile.FieldType.object "UnreadSigns$Word")) ∈ lw_tbl := lw_at lw_m1 162 rfl
theorem q306 : (Jvm.Cond.arrayOver (Jvm.ClassFile.FieldType.object "UnreadSigns$Act")) ∈ lw_tbl := lw_at lw_m1 164 rfl
theorem q1539 : (Jvm.Cond.arrayOver (Jvm.ClassFile.FieldType.object "java/lang/Object")) ∈ lw_tbl := lw_at lw_m6 197 rfl
theorem q2254 : (Jvm.Cond.arrayClass Jvm.ClassFile.FieldType.boolean) ∈ lw_all := lw_g (lw_at lw_m9 192 rfl) rfl
theorem in_J1 : ∀ w ∈ wsJ10, w ∈ lw_all := lw_in wsJ10 [298, 300, 284, 286, 288, 290, 292, 294, 296] (by decide +kernel) (by decide +kernel)
theorem in_J18 : ∀ w ∈ wsJ180, w ∈ lw_all := lw_in wsJ180 [855] (by decide +kernel) (by decide +kernel)
theorem in_J19 : ∀ w ∈ wsJ190, w ∈ lw_all := lw_in wsJ190 [904, 906, 908, 910, 912, 914] (by decide +kernel) (by decide +kernel)
theorem in_J20 : ∀ w ∈ wsJ200, w ∈ lw_all := lw_in wsJ200 [1055] (by decide +kernel) (by decide +kernel)
theorem in_J21 : ∀ w ∈ wsJ210, w ∈ lw_all := lw_in wsJ210 [1080, 1082, 1084, 1086, 1088, 1090] (by decide +kernel) (by decide +kernel)
theorem in_J23 : ∀ w ∈ wsJ230, w ∈ lw_all := lw_in wsJ230 [1121, 1123, 1125, 1127] (by decide +kernel) (by decide +kernel)
theorem in_J24 : ∀ w ∈ wsJ240, w ∈ lw_all := lw_in wsJ240 [1147, 1148, 1149, 1150] (by decide +kernel) (by decide +kernel)
theorem in_J25 : ∀ w ∈ wsJ250, w ∈ lw_all := lw_in wsJ250 [1174] (by decide +kernel) (by decide +kernel)
theorem in_J27 : ∀ w ∈ wsJ270, w ∈ lw_all := lw_in wsJ270 [1467, 1469, 1471, 1473, 1475] (by decide +kernel) (by decide +kernel)
theorem in_J30 : ∀ w ∈ wsJ300, w ∈ lw_all := lw_in wsJ300 [1547, 1549, 1551, 1553] (by decide +kernel) (by decide +kernel)
theorem in_J4 : ∀ w ∈ wsJ40, w ∈ lw_all := lw_in wsJ40 [979] (by decide +kernel) (by decide +kernel)
theorem in_J6 : ∀ w ∈ wsJ60, w ∈ lw_all := lw_in wsJ60 [386, 388, 390, 392] (by decide +kernel) (by decide +kernel)
theorem in_J7 : ∀ w ∈ wsJ70, w ∈ lw_all := lw_in wsJ70 [538, 540, 542, 544] (by decide +kernel) (by decide +kernel)
theorem in_X0 : ∀ w ∈ wsX00, w ∈ lw_all := lw_in wsX00 [1339, 1341, 1343, 1345, 1347, 1349, 1351, 1353, 1355, 1357, 1359, 1361, 1363, 1365, 1367, 1369, 1371, 1373, 1375, 1377, 1379, 1381, 1383, 1385, 1387, 1389, 1391, 1393, 1395, 1397, 1399] (by decide +kernel) (by decide +kernel)
theorem in_X1 : ∀ w ∈ wsX10, w ∈ lw_all := lw_in wsX10 [232, 234, 236, 238, 240, 242, 244, 246, 248, 250, 252, 254] (by decide +kernel) (by decide +kernel)
theorem in_X11 : ∀ w ∈ wsX110, w ∈ lw_all := lw_in wsX110 [1866, 1868] (by decide +kernel) (by decide +kernel)
theorem in_X12 : ∀ w ∈ wsX120, w ∈ lw_all := lw_in wsX120 [1987, 1989, 1991] (by decide +kernel) (by decide +kernel)
theorem in_X2 : ∀ w ∈ wsX20, w ∈ lw_all := lw_in wsX20 [863, 865, 867] (by decide +kernel) (by decide +kernel)
theorem in_X3 : ∀ w ∈ wsX30, w ∈ lw_all := lw_in wsX30 [1036, 1038, 1040] (by decide +kernel) (by decide +kernel)
theorem in_X4 : ∀ w ∈ wsX40, w ∈ lw_all := lw_in wsX40 [2161, 2163, 2165, 2167, 2169, 2171, 2173, 2175, 2177, 2179, 2181, 2183, 2185, 2187, 2189, 2191, 2193, 2195, 2197, 2199, 2201, 2203, 2205, 2207, 2209, 2211, 2213, 2215, 2217, 2219, 2221, 2223, 2225, 2227, 2229, 2231, 2233, 2235, 2237, 2239, 2241, 2243, 2245, 2247, 2249, 2251] (by decide +kernel) (by decide +kernel)
theorem in_X5 : ∀ w ∈ wsX50, w ∈ lw_all := lw_in wsX50 [1427, 1429] (by decide +kernel) (by decide +kernel)
theorem in_X6 : ∀ w ∈ wsX60, w ∈ lw_all := lw_in wsX60 [1466, 1468, 1470, 1472, 1474, 1513, 1507] (by decide +kernel) (by decide +kernel)
theorem in_X7 : ∀ w ∈ wsX70, w ∈ lw_all := lw_in wsX70 [1582, 1584, 1586] (by decide +kernel) (by decide +kernel)
theorem in_X8 : ∀ w ∈ wsX80, w ∈ lw_all := lw_in wsX80 [1685, 1687] (by decide +kernel) (by decide +kernel)
theorem in_X9 : ∀ w ∈ wsX90, w ∈ lw_all := lw_in wsX90 [1925, 1927] (by decide +kernel) (by decide +kernel)
