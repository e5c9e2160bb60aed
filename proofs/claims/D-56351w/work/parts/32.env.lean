set_option maxRecDepth 100000
/-! class facts; what is known outside the world -/
theorem fcX1 : FC 0 RX1 TX1 tyX1 7 := ⟨rfl, in_X1, tyX1_ok, nmX1⟩
theorem fcX2 : FC 1 RX2 TX2 tyX2 8 := ⟨rfl, in_X2, tyX2_ok, nmX2⟩
theorem fcX3 : FC 2 RX3 TX3 (fun _ => .int) 0 := ⟨rfl, fun w h => absurd h (by simp [u_ws]), fun k h => absurd h (Nat.not_lt_zero _), fun a h => absurd h (Nat.not_lt_zero _)⟩
theorem fcX4 : FC 3 RX4 TX4 tyX4 7 := ⟨rfl, in_X4, tyX4_ok, nmX4⟩
theorem fcX5 : FC 4 RX5 TX5 tyX5 10 := ⟨rfl, in_X5, tyX5_ok, nmX5⟩
theorem fcX7 : FC 6 RX7 TX7 tyX7 5 := ⟨rfl, in_X7, tyX7_ok, nmX7⟩
theorem fcX8 : FC 7 RX8 TX8 tyX8 8 := ⟨rfl, in_X8, tyX8_ok, nmX8⟩
theorem fcX9 : FC 8 RX9 TX9 tyX9 4 := ⟨rfl, in_X9, tyX9_ok, nmX9⟩
theorem fcX10 : FC 9 RX10 TX10 tyX10 1 := ⟨rfl, in_X10, tyX10_ok, nmX10⟩
theorem fcX11 : FC 10 RX11 TX11 tyX11 4 := ⟨rfl, in_X11, tyX11_ok, nmX11⟩
theorem fcX12 : FC 11 RX12 TX12 tyX12 2 := ⟨rfl, in_X12, tyX12_ok, nmX12⟩
theorem fcX13 : FC 12 RX13 TX13 tyX13 7 := ⟨rfl, in_X13, tyX13_ok, nmX13⟩
theorem fcJ2 : FC 13 RJ2 TJ2 tyJ2 1 := ⟨rfl, in_J2, tyJ2_ok, nmJ2⟩
theorem fcJ4 : FC 14 RJ4 TJ4 tyJ4 9 := ⟨rfl, in_J4, tyJ4_ok, nmJ4⟩
theorem fcJ6 : FC 15 RJ6 TJ6 tyJ6 4 := ⟨rfl, in_J6, tyJ6_ok, nmJ6⟩
theorem fcJ7 : FC 16 RJ7 TJ7 tyJ7 4 := ⟨rfl, in_J7, tyJ7_ok, nmJ7⟩
theorem fcJ9 : FC 17 RJ9 TJ9 tyJ9 3 := ⟨rfl, in_J9, tyJ9_ok, nmJ9⟩
theorem fcJ10 : FC 18 RJ10 TJ10 tyJ10 1 := ⟨rfl, in_J10, tyJ10_ok, nmJ10⟩
theorem fcJ12 : FC 19 RJ12 TJ12 tyJ12 4 := ⟨rfl, in_J12, tyJ12_ok, nmJ12⟩
theorem fcJ18 : FC 20 RJ18 TJ18 tyJ18 1 := ⟨rfl, in_J18, tyJ18_ok, nmJ18⟩
theorem fcJ25 : FC 21 RJ25 TJ25 tyJ25 6 := ⟨rfl, in_J25, tyJ25_ok, nmJ25⟩
theorem fcJ32 : FC 22 RJ32 TJ32 tyJ32 3 := ⟨rfl, in_J32, tyJ32_ok, nmJ32⟩
theorem fcJ33 : FC 23 RJ33 TJ33 tyJ33 4 := ⟨rfl, in_J33, tyJ33_ok, nmJ33⟩
theorem fcJ40 : FC 24 RJ40 TJ40 tyJ40 1 := ⟨rfl, in_J40, tyJ40_ok, nmJ40⟩
theorem fcJ16 : FC 25 RJ16 TJ16 tyJ16 6 := ⟨rfl, in_J16, tyJ16_ok, nmJ16⟩
theorem fcJ28 : FC 26 RJ28 TJ28 tyJ28 6 := ⟨rfl, in_J28, tyJ28_ok, nmJ28⟩
theorem fcJ30 : FC 27 RJ30 TJ30 tyJ30 6 := ⟨rfl, in_J30, tyJ30_ok, nmJ30⟩
theorem fcJ36 : FC 28 RJ36 TJ36 tyJ36 6 := ⟨rfl, in_J36, tyJ36_ok, nmJ36⟩
theorem fcJ37 : FC 29 RJ37 TJ37 tyJ37 6 := ⟨rfl, in_J37, tyJ37_ok, nmJ37⟩
theorem fcJ39 : FC 30 RJ39 TJ39 tyJ39 6 := ⟨rfl, in_J39, tyJ39_ok, nmJ39⟩
theorem fcJ38 : FC 31 RJ38 TJ38 tyJ38 2 := ⟨rfl, in_J38, tyJ38_ok, nmJ38⟩
def stI : List (String × String × String × Int32) := [("java/lang/String", "COMPACT_STRINGS", "Z", 1), ("java/lang/StringUTF16", "$assertionsDisabled", "Z", 1), ("java/lang/StringUTF16", "HI_BYTE_SHIFT", "I", 0), ("java/lang/StringUTF16", "LO_BYTE_SHIFT", "I", 8), ("jdk/internal/misc/Unsafe", "ARRAY_BYTE_BASE_OFFSET", "I", 16), ("jdk/internal/util/ArraysSupport", "LOG2_ARRAY_BYTE_INDEX_SCALE", "I", 0), ("jdk/internal/util/ArraysSupport", "LOG2_ARRAY_LONG_INDEX_SCALE", "I", 3), ("jdk/internal/misc/UnsafeConstants", "BIG_ENDIAN", "Z", 0), ("jdk/internal/util/ArraysSupport", "BIG_ENDIAN", "Z", 0), ("jdk/internal/util/ArraysSupport", "LOG2_BYTE_BIT_SIZE", "I", 3), ("jdk/internal/util/ArraysSupport", "LOG2_ARRAY_INT_INDEX_SCALE", "I", 2), ("java/lang/Integer$IntegerCache", "high", "I", 127)]
def stR : List (String × String × String × Nat) := [("java/lang/Integer", "DigitOnes", "[B", 0), ("java/lang/Integer", "DigitTens", "[B", 1), ("java/lang/Integer$IntegerCache", "cache", "[Ljava/lang/Integer;", 2), ("java/util/ArrayList", "DEFAULTCAPACITY_EMPTY_ELEMENTDATA", "[Ljava/lang/Object;", 3), ("java/util/Optional", "EMPTY", "Ljava/util/Optional;", 4), ("java/util/TreeSet", "PRESENT", "Ljava/lang/Object;", 5), ("jdk/internal/util/ArraysSupport", "U", "Ljdk/internal/misc/Unsafe;", 6)]
def stQ : List (String × String × String) := [("java/lang/Throwable", "UNASSIGNED_STACK", "[Ljava/lang/StackTraceElement;"), ("java/lang/Throwable", "SUPPRESSED_SENTINEL", "Ljava/util/List;"), ("jdk/internal/util/Preconditions", "SIOOBE_FORMATTER", "Ljava/util/function/BiFunction;"), ("jdk/internal/util/Preconditions", "IOOBE_FORMATTER", "Ljava/util/function/BiFunction;")]
def stS : List (String × Nat × String × List Int32 × Int32 × Int32) := [
  ("SpindleActors", 61, "", [], 0, 1),
  ("SpindleActors", 116, "actor", [97, 99, 116, 111, 114], 92645877, 0),
  ("SpindleActors", 118, "target", [116, 97, 114, 103, 101, 116], (-880905839), 0),
  ("SpindleActors", 123, "under", [117, 110, 100, 101, 114], 111428312, 0),
  ("SpindleActors", 125, "strategy", [115, 116, 114, 97, 116, 101, 103, 121], 1787798387, 0),
  ("SpindleActors", 127, "priority", [112, 114, 105, 111, 114, 105, 116, 121], (-1165461084), 0),
  ("SpindleActors", 129, "start", [115, 116, 97, 114, 116], 109757538, 0),
  ("SpindleActors", 131, "stop", [115, 116, 111, 112], 3540994, 0),
  ("SpindleActors", 210, "send", [115, 101, 110, 100], 3526536, 0),
  ("SpindleActors", 212, "timer", [116, 105, 109, 101, 114], 110364485, 0),
  ("SpindleActors", 214, "schedule", [115, 99, 104, 101, 100, 117, 108, 101], (-697920873), 0),
  ("SpindleActors", 216, "seed", [115, 101, 101, 100], 3526257, 0),
  ("SpindleActors", 218, "step", [115, 116, 101, 112], 3540684, 0),
  ("SpindleActors", 397, "'", [39], 39, 0),
  ("SpindleActors", 399, "''", [39, 39], 1248, 0),
  ("SpindleActors", 408, "=", [61], 61, 0),
  ("SpindleActors", 419, ">", [62], 62, 0),
  ("SpindleActors", 428, "^", [94], 94, 0),
  ("SpindleActors", 432, "!", [33], 33, 0),
  ("SpindleActors", 434, " ", [32], 32, 0),
  ("SpindleActors$Cast", 45, "fd", [102, 100], 3262, 0),
  ("SpindleActors$Change", 33, "actor", [97, 99, 116, 111, 114], 92645877, 0),
  ("SpindleActors$Change", 39, "target", [116, 97, 114, 103, 101, 116], (-880905839), 0),
  ("SpindleActors$Change", 41, "under", [117, 110, 100, 101, 114], 111428312, 0),
  ("SpindleActors$Change", 43, "strategy", [115, 116, 114, 97, 116, 101, 103, 121], 1787798387, 0),
  ("SpindleActors$Change", 45, "priority", [112, 114, 105, 111, 114, 105, 116, 121], (-1165461084), 0),
  ("SpindleActors$Change", 47, "send", [115, 101, 110, 100], 3526536, 0),
  ("SpindleActors$Change", 49, "timer", [116, 105, 109, 101, 114], 110364485, 0),
  ("SpindleActors$Change", 51, "start", [115, 116, 97, 114, 116], 109757538, 0),
  ("SpindleActors$Change", 53, "stop", [115, 116, 111, 112], 3540994, 0),
  ("SpindleActors$Change", 55, "schedule", [115, 99, 104, 101, 100, 117, 108, 101], (-697920873), 0),
  ("SpindleActors$Change", 57, "seed", [115, 101, 101, 100], 3526257, 0),
  ("SpindleActors$Parser", 48, "0123456789", [48, 49, 50, 51, 52, 53, 54, 55, 56, 57], 1584875013, 0),
  ("SpindleActors$Parser", 60, " actor target under strategy priority send timer start stop schedule seed step ", [32, 97, 99, 116, 111, 114, 32, 116, 97, 114, 103, 101, 116, 32, 117, 110, 100, 101, 114, 32, 115, 116, 114, 97, 116, 101, 103, 121, 32, 112, 114, 105, 111, 114, 105, 116, 121, 32, 115, 101, 110, 100, 32, 116, 105, 109, 101, 114, 32, 115, 116, 97, 114, 116, 32, 115, 116, 111, 112, 32, 115, 99, 104, 101, 100, 117, 108, 101, 32, 115, 101, 101, 100, 32, 115, 116, 101, 112, 32], 791984230, 0),
  ("SpindleActors$Parser", 62, "abcdefghijklmnopqrstuvwxyz", [97, 98, 99, 100, 101, 102, 103, 104, 105, 106, 107, 108, 109, 110, 111, 112, 113, 114, 115, 116, 117, 118, 119, 120, 121, 122], 958031277, 0),
  ("SpindleActors$Parser", 64, " ", [32], 32, 0),
  ("SpindleActors$Parser", 88, "step", [115, 116, 101, 112], 3540684, 0),
  ("SpindleActors$Parser", 105, "actor", [97, 99, 116, 111, 114], 92645877, 0),
  ("SpindleActors$Parser", 107, "strategy", [115, 116, 114, 97, 116, 101, 103, 121], 1787798387, 0),
  ("SpindleActors$Parser", 109, "target", [116, 97, 114, 103, 101, 116], (-880905839), 0),
  ("SpindleActors$Parser", 111, "under", [117, 110, 100, 101, 114], 111428312, 0),
  ("SpindleActors$Parser", 113, "priority", [112, 114, 105, 111, 114, 105, 116, 121], (-1165461084), 0),
  ("SpindleActors$Parser", 115, "send", [115, 101, 110, 100], 3526536, 0),
  ("SpindleActors$Parser", 117, "timer", [116, 105, 109, 101, 114], 110364485, 0),
  ("SpindleActors$Parser", 119, "schedule", [115, 99, 104, 101, 100, 117, 108, 101], (-697920873), 0),
  ("SpindleActors$Parser", 121, "seed", [115, 101, 101, 100], 3526257, 0),
  ("SpindleActors$Parser", 123, "akxfd", [97, 107, 120, 102, 100], 92887756, 0),
  ("SpindleActors$Parser", 125, "rse", [114, 115, 101], 113220, 0),
  ("SpindleActors$Parser", 127, "+", [43], 43, 0),
  ("SpindleActors$Parser", 129, "ps", [112, 115], 3587, 0),
  ("SpindleActors$Parser", 143, ";", [59], 59, 0),
  ("SpindleActors$Scene", 138, "!", [33], 33, 0),
  ("SpindleActors$Scene", 140, ",", [44], 44, 0),
  ("SpindleActors$Scene", 155, "/", [47], 47, 0),
  ("SpindleActors$Scene", 157, "'", [39], 39, 0),
  ("SpindleActors$Stage", 177, "-", [45], 45, 0),
  ("SpindleActors$Stage", 186, "", [], 0, 1),
  ("SpindleActors$Stage", 200, "akxfd", [97, 107, 120, 102, 100], 92887756, 0),
  ("SpindleActors$Stage", 243, "rse", [114, 115, 101], 113220, 0),
  ("SpindleActors$Stage", 265, "ps", [112, 115], 3587, 0),
  ("java/lang/AbstractStringBuilder", 230, "null", [110, 117, 108, 108], 3392903, 0),
  ("java/lang/ArrayIndexOutOfBoundsException", 13, "Array index out of range: ", [65, 114, 114, 97, 121, 32, 105, 110, 100, 101, 120, 32, 111, 117, 116, 32, 111, 102, 32, 114, 97, 110, 103, 101, 58, 32], 127176833, 0),
  ("java/lang/StringIndexOutOfBoundsException", 13, "String index out of range: ", [83, 116, 114, 105, 110, 103, 32, 105, 110, 100, 101, 120, 32, 111, 117, 116, 32, 111, 102, 32, 114, 97, 110, 103, 101, 58, 32], 1849176457, 0),
  ("java/lang/StringLatin1", 151, "", [], 0, 1),
  ("java/lang/StringUTF16", 295, "", [], 0, 1),
  ("java/util/ArrayDeque", 35, "Sorry, deque too big", [83, 111, 114, 114, 121, 44, 32, 100, 101, 113, 117, 101, 32, 116, 111, 111, 32, 98, 105, 103], (-802385437), 0),
  ("java/util/Arrays", 48, "fromIndex(", [102, 114, 111, 109, 73, 110, 100, 101, 120, 40], 1865747936, 0),
  ("java/util/Arrays", 57, ") > toIndex(", [41, 32, 62, 32, 116, 111, 73, 110, 100, 101, 120, 40], 252444138, 0),
  ("java/util/Arrays", 59, ")", [41], 41, 0),
  ("java/util/Arrays", 337, " > ", [32, 62, 32], 32706, 0),
  ("java/util/Optional", 28, "No value present", [78, 111, 32, 118, 97, 108, 117, 101, 32, 112, 114, 101, 115, 101, 110, 116], (-1522825971), 0),
  ("jdk/internal/util/ArraysSupport", 92, "unrecognized basic type: ", [117, 110, 114, 101, 99, 111, 103, 110, 105, 122, 101, 100, 32, 98, 97, 115, 105, 99, 32, 116, 121, 112, 101, 58, 32], (-414256221), 0)]
def stD (k : Nat) : Nat → Int32 := fun j => if k = 0 then nI (48 + j % 10) else nI (48 + j / 10)
def fwL : List (String × MethodName × MethodName) := [("java/util/TreeMap", ⟨"java/util/NavigableMap", "navigableKeySet", "()Ljava/util/NavigableSet;"⟩, ⟨"java/util/TreeMap", "navigableKeySet", "()Ljava/util/NavigableSet;"⟩),
  ("java/util/TreeMap$KeySet", ⟨"java/util/NavigableSet", "iterator", "()Ljava/util/Iterator;"⟩, ⟨"java/util/TreeMap$KeySet", "iterator", "()Ljava/util/Iterator;"⟩),
  ("java/util/TreeSet", ⟨"java/util/NavigableSet", "iterator", "()Ljava/util/Iterator;"⟩, ⟨"java/util/TreeSet", "iterator", "()Ljava/util/Iterator;"⟩),
  ("java/util/ArrayList$Itr", ⟨"java/util/Iterator", "hasNext", "()Z"⟩, ⟨"java/util/ArrayList$Itr", "hasNext", "()Z"⟩),
  ("java/util/TreeMap$KeyIterator", ⟨"java/util/Iterator", "hasNext", "()Z"⟩, ⟨"java/util/TreeMap$PrivateEntryIterator", "hasNext", "()Z"⟩),
  ("java/util/ArrayList$Itr", ⟨"java/util/Iterator", "next", "()Ljava/lang/Object;"⟩, ⟨"java/util/ArrayList$Itr", "next", "()Ljava/lang/Object;"⟩),
  ("java/util/TreeMap$KeyIterator", ⟨"java/util/Iterator", "next", "()Ljava/lang/Object;"⟩, ⟨"java/util/TreeMap$KeyIterator", "next", "()Ljava/lang/Object;"⟩),
  ("java/lang/Integer", ⟨"java/lang/Comparable", "compareTo", "(Ljava/lang/Object;)I"⟩, ⟨"java/lang/Integer", "compareTo", "(Ljava/lang/Object;)I"⟩),
  ("java/lang/String", ⟨"java/lang/Comparable", "compareTo", "(Ljava/lang/Object;)I"⟩, ⟨"java/lang/String", "compareTo", "(Ljava/lang/Object;)I"⟩),
  ("java/lang/StringBuilder", ⟨"java/lang/Comparable", "compareTo", "(Ljava/lang/Object;)I"⟩, ⟨"java/lang/StringBuilder", "compareTo", "(Ljava/lang/Object;)I"⟩),
  ("SpindleActors$ByDue", ⟨"java/util/Comparator", "compare", "(Ljava/lang/Object;Ljava/lang/Object;)I"⟩, ⟨"SpindleActors$ByDue", "compare", "(Ljava/lang/Object;Ljava/lang/Object;)I"⟩),
  ("SpindleActors$BySum", ⟨"java/util/Comparator", "compare", "(Ljava/lang/Object;Ljava/lang/Object;)I"⟩, ⟨"SpindleActors$BySum", "compare", "(Ljava/lang/Object;Ljava/lang/Object;)I"⟩),
  ("java/lang/String", ⟨"java/lang/CharSequence", "length", "()I"⟩, ⟨"java/lang/String", "length", "()I"⟩),
  ("java/lang/StringBuilder", ⟨"java/lang/CharSequence", "length", "()I"⟩, ⟨"java/lang/StringBuilder", "length", "()I"⟩),
  ("java/lang/String", ⟨"java/lang/CharSequence", "charAt", "(I)C"⟩, ⟨"java/lang/String", "charAt", "(I)C"⟩),
  ("java/lang/StringBuilder", ⟨"java/lang/CharSequence", "charAt", "(I)C"⟩, ⟨"java/lang/StringBuilder", "charAt", "(I)C"⟩),
  ("java/lang/System$2", ⟨"jdk/internal/access/JavaLangAccess", "getUTF16Char", "([BI)C"⟩, ⟨"java/lang/System$2", "getUTF16Char", "([BI)C"⟩),
  ("java/util/ArrayList", ⟨"java/util/List", "add", "(Ljava/lang/Object;)Z"⟩, ⟨"java/util/ArrayList", "add", "(Ljava/lang/Object;)Z"⟩),
  ("java/util/ArrayList", ⟨"java/util/List", "iterator", "()Ljava/util/Iterator;"⟩, ⟨"java/util/ArrayList", "iterator", "()Ljava/util/Iterator;"⟩),
  ("java/util/TreeMap", ⟨"java/util/NavigableMap", "pollFirstEntry", "()Ljava/util/Map$Entry;"⟩, ⟨"java/util/TreeMap", "pollFirstEntry", "()Ljava/util/Map$Entry;"⟩),
  ("java/util/AbstractMap$SimpleImmutableEntry", ⟨"java/util/Map$Entry", "getKey", "()Ljava/lang/Object;"⟩, ⟨"java/util/AbstractMap$SimpleImmutableEntry", "getKey", "()Ljava/lang/Object;"⟩),
  ("java/util/TreeMap$Entry", ⟨"java/util/Map$Entry", "getKey", "()Ljava/lang/Object;"⟩, ⟨"java/util/TreeMap$Entry", "getKey", "()Ljava/lang/Object;"⟩),
  ("java/util/AbstractMap$SimpleImmutableEntry", ⟨"java/util/Map$Entry", "getValue", "()Ljava/lang/Object;"⟩, ⟨"java/util/AbstractMap$SimpleImmutableEntry", "getValue", "()Ljava/lang/Object;"⟩),
  ("java/util/TreeMap$Entry", ⟨"java/util/Map$Entry", "getValue", "()Ljava/lang/Object;"⟩, ⟨"java/util/TreeMap$Entry", "getValue", "()Ljava/lang/Object;"⟩),
  ("java/util/ArrayList", ⟨"java/util/List", "get", "(I)Ljava/lang/Object;"⟩, ⟨"java/util/ArrayList", "get", "(I)Ljava/lang/Object;"⟩),
  ("java/util/ArrayList", ⟨"java/util/List", "size", "()I"⟩, ⟨"java/util/ArrayList", "size", "()I"⟩)]
def spL : List MethodName := [⟨"java/lang/AbstractStringBuilder", "appendChars", "(Ljava/lang/CharSequence;II)V"⟩, ⟨"java/lang/AbstractStringBuilder", "appendChars", "(Ljava/lang/String;II)V"⟩, ⟨"java/lang/AbstractStringBuilder", "appendNull", "()Ljava/lang/AbstractStringBuilder;"⟩, ⟨"java/lang/AbstractStringBuilder", "ensureCapacityInternal", "(I)V"⟩, ⟨"java/lang/AbstractStringBuilder", "inflate", "()V"⟩, ⟨"java/lang/AbstractStringBuilder", "inflateIfNeededFor", "(Ljava/lang/AbstractStringBuilder;)V"⟩, ⟨"java/lang/AbstractStringBuilder", "inflateIfNeededFor", "(Ljava/lang/String;)V"⟩, ⟨"java/lang/AbstractStringBuilder", "newCapacity", "(I)I"⟩, ⟨"java/lang/AbstractStringBuilder", "putStringAt", "(ILjava/lang/String;)V"⟩]
def ncL : List (String × String) := [("java/lang/IllegalArgumentException", "java/lang/IndexOutOfBoundsException"), ("java/lang/IllegalArgumentException", "java/util/NoSuchElementException"), ("java/lang/IllegalArgumentException", "java/lang/IllegalStateException"), ("java/lang/IllegalArgumentException", "java/lang/ArithmeticException"), ("java/lang/IllegalArgumentException", "java/lang/UnsupportedOperationException"), ("java/lang/IllegalArgumentException", "SpindleActors$Denial"), ("java/lang/IllegalArgumentException", "SpindleActors$SyntaxFault"), ("java/lang/IndexOutOfBoundsException", "java/lang/IllegalArgumentException"), ("java/lang/IndexOutOfBoundsException", "java/util/NoSuchElementException"), ("java/lang/IndexOutOfBoundsException", "java/lang/IllegalStateException"), ("java/lang/IndexOutOfBoundsException", "java/lang/ArithmeticException"), ("java/lang/IndexOutOfBoundsException", "java/lang/UnsupportedOperationException"), ("java/lang/IndexOutOfBoundsException", "SpindleActors$Denial"), ("java/lang/IndexOutOfBoundsException", "SpindleActors$SyntaxFault"), ("java/util/NoSuchElementException", "java/lang/IllegalArgumentException"), ("java/util/NoSuchElementException", "java/lang/IndexOutOfBoundsException"), ("java/util/NoSuchElementException", "java/lang/IllegalStateException"), ("java/util/NoSuchElementException", "java/lang/ArithmeticException"), ("java/util/NoSuchElementException", "java/lang/UnsupportedOperationException"), ("java/util/NoSuchElementException", "SpindleActors$Denial"), ("java/util/NoSuchElementException", "SpindleActors$SyntaxFault"), ("java/lang/IllegalStateException", "java/lang/IllegalArgumentException"), ("java/lang/IllegalStateException", "java/lang/IndexOutOfBoundsException"), ("java/lang/IllegalStateException", "java/util/NoSuchElementException"), ("java/lang/IllegalStateException", "java/lang/ArithmeticException"), ("java/lang/IllegalStateException", "java/lang/UnsupportedOperationException"), ("java/lang/IllegalStateException", "SpindleActors$Denial"), ("java/lang/IllegalStateException", "SpindleActors$SyntaxFault"), ("java/lang/ArithmeticException", "java/lang/IllegalArgumentException"), ("java/lang/ArithmeticException", "java/lang/IndexOutOfBoundsException"), ("java/lang/ArithmeticException", "java/util/NoSuchElementException"), ("java/lang/ArithmeticException", "java/lang/IllegalStateException"), ("java/lang/ArithmeticException", "java/lang/UnsupportedOperationException"), ("java/lang/ArithmeticException", "SpindleActors$Denial"), ("java/lang/ArithmeticException", "SpindleActors$SyntaxFault"), ("java/lang/UnsupportedOperationException", "java/lang/IllegalArgumentException"), ("java/lang/UnsupportedOperationException", "java/lang/IndexOutOfBoundsException"), ("java/lang/UnsupportedOperationException", "java/util/NoSuchElementException"), ("java/lang/UnsupportedOperationException", "java/lang/IllegalStateException"), ("java/lang/UnsupportedOperationException", "java/lang/ArithmeticException"), ("java/lang/UnsupportedOperationException", "SpindleActors$Denial"), ("java/lang/UnsupportedOperationException", "SpindleActors$SyntaxFault"), ("SpindleActors$Denial", "java/lang/IllegalArgumentException"), ("SpindleActors$Denial", "java/lang/IndexOutOfBoundsException"), ("SpindleActors$Denial", "java/util/NoSuchElementException"), ("SpindleActors$Denial", "java/lang/IllegalStateException"), ("SpindleActors$Denial", "java/lang/ArithmeticException"), ("SpindleActors$Denial", "java/lang/UnsupportedOperationException"), ("SpindleActors$Denial", "SpindleActors$SyntaxFault"), ("SpindleActors$SyntaxFault", "java/lang/IllegalArgumentException"), ("SpindleActors$SyntaxFault", "java/lang/IndexOutOfBoundsException"), ("SpindleActors$SyntaxFault", "java/util/NoSuchElementException"), ("SpindleActors$SyntaxFault", "java/lang/IllegalStateException"), ("SpindleActors$SyntaxFault", "java/lang/ArithmeticException"), ("SpindleActors$SyntaxFault", "java/lang/UnsupportedOperationException"), ("SpindleActors$SyntaxFault", "SpindleActors$Denial")]
theorem sel_warm {C : String} {x y : MethodName} {s U : State} (hW : s.WarmedH U.vm) (h : va_Nw (.selects C x y) s) : va_Nw (.selects C x y) U :=
  word_at (args := #[]) hW (Or.inl rfl) h
theorem fwL_ok : ∀ q ∈ fwL, q.2.1.cls ≠ "java/lang/invoke/MethodHandle" ∧ q.2.1.cls ≠ "java/lang/invoke/VarHandle" := by
  have h : fwL.all (fun q => decide (q.2.1.cls ≠ "java/lang/invoke/MethodHandle") && decide (q.2.1.cls ≠ "java/lang/invoke/VarHandle")) = true := by decide +kernel
  intro q hq
  have h2 := List.all_eq_true.mp h q hq
  rw [Bool.and_eq_true] at h2
  exact ⟨of_decide_eq_true h2.1, of_decide_eq_true h2.2⟩
def eN (Γ : gT) : eT := fun A U =>
  (∀ x ∈ stI, va_Z x.1 x.2.1 x.2.2.1 (.int x.2.2.2) A U U.heap) ∧
  (∀ x ∈ stR, va_Z x.1 x.2.1 x.2.2.1 (.ref (Γ.2.2 x.2.2.2)) A U U.heap) ∧
  (∀ x ∈ stQ, vx_Zq x.1 x.2.1 x.2.2 A U U.heap) ∧
  (∀ k : Nat, k < 2 → va_T .byte (Γ.2.2 k) 100 (fun j => .int (stD k j)) A U U.heap) ∧
  (∀ (i : Nat) (x : String × Nat × String × List Int32 × Int32 × Int32), stS[i]? = some x → vk_R x.1 x.2.1 x.2.2.1 (Γ.2.2 (100 + i)) U ∧ eR (Γ.2.2 (100 + i)) (Γ.2.2 (200 + i)) x.2.2.2.1.length (fun j => x.2.2.2.1.getD j 0) A U ∧ va_OF "java/lang/String" "hash" "I" (.int x.2.2.2.2.1) (Γ.2.2 (100 + i)) A U U.heap ∧ va_OF "java/lang/String" "hashIsZero" "Z" (.int x.2.2.2.2.2) (Γ.2.2 (100 + i)) A U U.heap) ∧
  vb_C (fun k => Γ.2.2 (300 + k)) A U U.heap ∧ va_T (.object "java/lang/Integer") (Γ.2.2 2) 256 (fun j => .ref (Γ.2.2 (300 + j))) A U U.heap ∧
  va_T (.object "java/lang/Object") (Γ.2.2 3) 0 (fun _ => .null) A U U.heap ∧
  (va_O "java/util/Optional" (Γ.2.2 4) A U U.heap ∧ va_OF "java/util/Optional" "value" "Ljava/lang/Object;" .null (Γ.2.2 4) A U U.heap) ∧
  va_O "java/lang/Object" (Γ.2.2 5) A U U.heap ∧ va_O "jdk/internal/misc/Unsafe" (Γ.2.2 6) A U U.heap ∧
  va_Mi "[Ljava/lang/Object;" (Γ.2.2 8) U ∧ va_Dc U ∧ (∀ q ∈ fwL, va_Fw q.1 q.2.1 q.2.2 U) ∧ (∀ y ∈ spL, va_Nw (.selects "java/lang/StringBuilder" y y) U) ∧ (∀ q ∈ ncL, va_Nc q.1 q.2 U)
theorem eN_bl {Γ : gT} : EBl (eN Γ) := fun A U V h1 h2 x => by
  obtain ⟨x1, x2, x3, x4, x5, x6, x7, x8, x9, x10, x11, x12, x13, x14, x15, x16⟩ := x
  have hv := va_alike h2
  rw [h1] at x1 x2 x3 x4 x5 x6 x7 x8 x9 x10 x11
  refine ⟨fun y hy => (x1 y hy).moved hv, fun y hy => (x2 y hy).moved hv, fun y hy => (x3 y hy).moved hv, fun k hk => (x4 k hk).moved hv, fun i y hy => ?_, x6.moved hv, x7.moved hv, x8.moved hv, ⟨x9.1.moved hv, x9.2.moved hv⟩, x10.moved hv, x11.moved hv, x12.moved hv, x13.moved hv, fun q hq => (x14 q hq).moved ?_ hv, fun y hy => (x15 y hy).same rfl h2, fun q hq => (x16 q hq).moved hv⟩
  · obtain ⟨y1, y2, y3, y4⟩ := x5 i y hy
    exact ⟨y1.same h2.symm, eR_bl A U V h1 h2 y2, y3.moved hv, y4.moved hv⟩
  · exact fwL_ok q hq
theorem eN_tr {Γ : gT} : ETr (eN Γ) := fun A A1 s U H locs x hS hA hU hW => by
  obtain ⟨x1, x2, x3, x4, x5, x6, x7, x8, x9, x10, x11, x12, x13, x14, x15, x16⟩ := x
  subst hU
  have hv := hW.alike
  have hq := hS.2.1
  refine ⟨fun y hy => (((x1 y hy).kept hq).narrow hA).moved hv, fun y hy => (((x2 y hy).kept hq).narrow hA).moved hv, fun y hy => (((x3 y hy).kept hq).narrow hA).moved hv, fun k hk => (((x4 k hk).kept hq).narrow hA).moved hv, fun i y hy => ?_, ((x6.kept hq).narrow hA).moved hv, ((x7.kept hq).narrow hA).moved hv, ((x8.kept hq).narrow hA).moved hv, ⟨((x9.1.kept hq).narrow hA).moved hv, ((x9.2.kept hq).narrow hA).moved hv⟩, ((x10.kept hq).narrow hA).moved hv, ((x11.kept hq).narrow hA).moved hv, x12.moved hv, x13.moved hv, fun q hq => (x14 q hq).moved ?_ hv, fun y hy => sel_warm hW (x15 y hy), fun q hq => (x16 q hq).moved hv⟩
  · obtain ⟨y1, y2, y3, y4⟩ := x5 i y hy
    exact ⟨y1.warm hW, eR_tr A A1 s U _ locs y2 hS hA rfl hW, ((y3.kept hq).narrow hA).moved hv, ((y4.kept hq).narrow hA).moved hv⟩
  · exact fwL_ok q hq
/-- an array of bytes known outside the world -/
def eT3 (v n : Nat) (f : Nat → Int32) : eT := fun A U => va_T .byte v n (fun j => .int (f j)) A U U.heap
theorem eT3_bl {v n : Nat} {f : Nat → Int32} : EBl (eT3 v n f) := fun A U V h1 h2 x => by
  have x : va_T .byte v n (fun j => .int (f j)) A U U.heap := x
  rw [h1] at x
  exact x.moved (va_alike h2)
theorem eT3_tr {v n : Nat} {f : Nat → Int32} : ETr (eT3 v n f) := fun A A1 s U H locs x hS hA hU hW => by
  have x : va_T .byte v n (fun j => .int (f j)) A s s.heap := x
  subst hU
  exact ((x.kept hS.2.1).narrow hA).moved hW.alike
theorem eR_arr {a v n : Nat} {f : Nat → Int32} {A : Nat → Prop} {s : State} (h : eR a v n f A s) : eT3 v n f A s := h.2.2.2
theorem eN_str {Γ : gT} {A : Nat → Prop} {s : State} (h : eN Γ A s) (i : Nat) {x : String × Nat × String × List Int32 × Int32 × Int32} (hx : stS[i]? = some x) : eR (Γ.2.2 (100 + i)) (Γ.2.2 (200 + i)) x.2.2.2.1.length (fun j => x.2.2.2.1.getD j 0) A s := (h.2.2.2.2.1 i x hx).2.1
theorem eN_lit {Γ : gT} {A : Nat → Prop} {s : State} (h : eN Γ A s) (i : Nat) {x : String × Nat × String × List Int32 × Int32 × Int32} (hx : stS[i]? = some x) : vk_R x.1 x.2.1 x.2.2.1 (Γ.2.2 (100 + i)) s := (h.2.2.2.2.1 i x hx).1
theorem eN_fw {Γ : gT} {A : Nat → Prop} {s : State} (h : eN Γ A s) (k : Nat) {q : String × MethodName × MethodName} (hk : fwL[k]? = some q) : va_Fw q.1 q.2.1 q.2.2 s := h.2.2.2.2.2.2.2.2.2.2.2.2.2.1 _ (List.mem_of_getElem? hk)
theorem eN_sp {Γ : gT} {A : Nat → Prop} {s : State} (h : eN Γ A s) (k : Nat) {y : MethodName} (hk : spL[k]? = some y) : va_Nw (.selects "java/lang/StringBuilder" y y) s := h.2.2.2.2.2.2.2.2.2.2.2.2.2.2.1 _ (List.mem_of_getElem? hk)
theorem eN_nc {Γ : gT} {A : Nat → Prop} {s : State} (h : eN Γ A s) (k : Nat) {q : String × String} (hk : ncL[k]? = some q) : va_Nc q.1 q.2 s := h.2.2.2.2.2.2.2.2.2.2.2.2.2.2.2 _ (List.mem_of_getElem? hk)
section ENV
variable {Γ : gT} {p : Program} {l : Launch} {e : Env} {R : Room} {s : State} {m : MethodId} {args : Array Value} {below : List Frame} {meth : Method} {c : Code} {H : Heap} {locs : List Loc} {cells slots : Nat} {Q : State → Prop} {cc : ByteArray} {pc : Nat} {ls : Array Slot} {rest : List Value} {A : Nat → Prop} {own : String} {nL : Nat} {bs : bW}
theorem st_getI (X : Fx Γ p c cc nL s m args own A) (Y : Wo Γ A s H locs bs) (h : eN Γ A s) (k : Nat) {C n d : String} {v : Int32} (hk : stI[k]? = some (C, n, d, v)) {index : Nat} (hl : (Cond.fieldLink own index C n d).before args s = true) (dd : decode cc pc = .ok (.getstatic index, 3))
    (kk : W p l e R s m args below meth c H locs cells slots Q (F0 m (pc + 3) ls (.int v :: rest))) : W p l e R s m args below meth c H locs cells slots Q (F0 m pc ls rest) :=
  va_gets X.1 X.2.1 (h.1 (C, n, d, v) (List.mem_of_getElem? hk)) Y.2.2 X.2.2.2.1 hl (fun _ h => h) dd kk
theorem st_getIN (X : Fx Γ p c cc nL s m args own A) (Y : Wo Γ A s H locs bs) (h : eN Γ A s) (k : Nat) {C n d : String} {v : Int32} (hk : stI[k]? = some (C, n, d, v)) {index : Nat} {host : String} (hl : Cond.fieldLinkNest own index C n d host ∈ lw_tbl) (dd : decode cc pc = .ok (.getstatic index, 3))
    (kk : W p l e R s m args below meth c H locs cells slots Q (F0 m (pc + 3) ls (.int v :: rest))) : W p l e R s m args below meth c H locs cells slots Q (F0 m pc ls rest) :=
  va_getsN X.1 X.2.1 (h.1 (C, n, d, v) (List.mem_of_getElem? hk)) Y.2.2 X.2.2.2.1 (X.2.2.2.2.2.1.use hl rfl) (fun _ h => h) dd kk
theorem st_getR (X : Fx Γ p c cc nL s m args own A) (Y : Wo Γ A s H locs bs) (h : eN Γ A s) (k : Nat) {C n d : String} {i : Nat} (hk : stR[k]? = some (C, n, d, i)) {index : Nat} (hl : (Cond.fieldLink own index C n d).before args s = true) (dd : decode cc pc = .ok (.getstatic index, 3))
    (kk : W p l e R s m args below meth c H locs cells slots Q (F0 m (pc + 3) ls (.ref (Γ.2.2 i) :: rest))) : W p l e R s m args below meth c H locs cells slots Q (F0 m pc ls rest) :=
  va_gets X.1 X.2.1 (h.2.1 (C, n, d, i) (List.mem_of_getElem? hk)) Y.2.2 X.2.2.2.1 hl (fun _ h => h) dd kk
theorem st_getRN (X : Fx Γ p c cc nL s m args own A) (Y : Wo Γ A s H locs bs) (h : eN Γ A s) (k : Nat) {C n d : String} {i : Nat} (hk : stR[k]? = some (C, n, d, i)) {index : Nat} {host : String} (hl : Cond.fieldLinkNest own index C n d host ∈ lw_tbl) (dd : decode cc pc = .ok (.getstatic index, 3))
    (kk : W p l e R s m args below meth c H locs cells slots Q (F0 m (pc + 3) ls (.ref (Γ.2.2 i) :: rest))) : W p l e R s m args below meth c H locs cells slots Q (F0 m pc ls rest) :=
  va_getsN X.1 X.2.1 (h.2.1 (C, n, d, i) (List.mem_of_getElem? hk)) Y.2.2 X.2.2.2.1 (X.2.2.2.2.2.1.use hl rfl) (fun _ h => h) dd kk
theorem st_getQ (X : Fx Γ p c cc nL s m args own A) (Y : Wo Γ A s H locs bs) (h : eN Γ A s) (k : Nat) {C n d : String} (hk : stQ[k]? = some (C, n, d)) {index : Nat} (hl : (Cond.fieldLink own index C n d).before args s = true) (dd : decode cc pc = .ok (.getstatic index, 3))
    (kk : ∀ x : Option Nat, W p l e R s m args below meth c H locs cells slots Q (F0 m (pc + 3) ls (va_rf x :: rest))) : W p l e R s m args below meth c H locs cells slots Q (F0 m pc ls rest) := by
  rcases (h.2.2.1 (C, n, d) (List.mem_of_getElem? hk)).1 with g | ⟨t, g⟩
  · exact va_gets X.1 X.2.1 g Y.2.2 X.2.2.2.1 hl (fun _ h => h) dd (kk none)
  · exact va_gets X.1 X.2.1 g Y.2.2 X.2.2.2.1 hl (fun _ h => h) dd (kk (some t))
theorem st_dig (X : Fx Γ p c cc nL s m args own A) (Y : Wo Γ A s H locs bs) (h : eN Γ A s) (k : Nat) (hk : k < 2) {i : Int32} (hin : vp_in i 100) (dd : decode cc pc = .ok (.baload, 1))
    (kk : W p l e R s m args below meth c H locs cells slots Q (F0 m (pc + 1) ls (.int (stD k i.toNatClampNeg) :: rest))) : W p l e R s m args below meth c H locs cells slots Q (F0 m pc ls (.int i :: .ref (Γ.2.2 k) :: rest)) :=
  va_tb X.1 X.2.1 (h.2.2.2.1 k hk) Y.2.2 hin rfl dd kk
theorem st_ldc (X : Fx Γ p c cc nL s m args own A) (h : eN Γ A s) (i : Nat) {idx : Nat} {tx : String} {b : List Int32} {hs hz : Int32} (hi : stS[i]? = some (own, idx, tx, b, hs, hz)) (dd : decode cc pc = .ok (.ldc idx, 2))
    (kk : W p l e R s m args below meth c H locs cells slots Q (F0 m (pc + 2) ls (.ref (Γ.2.2 (100 + i)) :: rest))) : W p l e R s m args below meth c H locs cells slots Q (F0 m pc ls rest) :=
  va_ldcS X.1 X.2.1 X.2.2.2.1 (eN_lit h i hi) dd kk
end ENV
