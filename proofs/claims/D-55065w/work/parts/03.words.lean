/-! the tables' words (claim/names) -/
set_option maxRecDepth 100000
theorem q70 : (Jvm.Cond.initialized "BrassInspectorLaw") ∈ lw_all := lw_g (lw_at lw_m1 0 rfl) rfl
theorem q71 : (Jvm.Cond.initialized "BrassInspector") ∈ lw_all := lw_g (lw_at lw_m1 1 rfl) rfl
theorem q72 : (Jvm.Cond.initialized "BrassInspector$Round") ∈ lw_all := lw_g (lw_at lw_m1 2 rfl) rfl
theorem q73 : (Jvm.Cond.initialized "java/util/AbstractCollection") ∈ lw_all := lw_g (lw_at lw_m1 3 rfl) rfl
theorem q74 : (Jvm.Cond.initialized "java/util/AbstractList") ∈ lw_all := lw_g (lw_at lw_m1 4 rfl) rfl
theorem q75 : (Jvm.Cond.initialized "java/util/ArrayList") ∈ lw_all := lw_g (lw_at lw_m1 5 rfl) rfl
theorem q76 : (Jvm.Cond.initialized "java/util/AbstractSequentialList") ∈ lw_all := lw_g (lw_at lw_m1 6 rfl) rfl
theorem q77 : (Jvm.Cond.initialized "java/util/LinkedList") ∈ lw_all := lw_g (lw_at lw_m1 7 rfl) rfl
theorem q78 : (Jvm.Cond.initialized "java/lang/AbstractStringBuilder") ∈ lw_all := lw_g (lw_at lw_m1 8 rfl) rfl
theorem q79 : (Jvm.Cond.initialized "java/lang/StringBuilder") ∈ lw_all := lw_g (lw_at lw_m1 9 rfl) rfl
theorem q80 : (Jvm.Cond.initialized "java/lang/String") ∈ lw_all := lw_g (lw_at lw_m1 10 rfl) rfl
theorem q81 : (Jvm.Cond.initialized "java/lang/StringUTF16") ∈ lw_all := lw_g (lw_at lw_m1 11 rfl) rfl
theorem q82 : (Jvm.Cond.initialized "BrassInspectorModel") ∈ lw_all := lw_g (lw_at lw_m1 12 rfl) rfl
theorem q83 : (Jvm.Cond.initialized "java/lang/Throwable") ∈ lw_all := lw_g (lw_at lw_m1 13 rfl) rfl
theorem q84 : (Jvm.Cond.initialized "java/lang/Exception") ∈ lw_all := lw_g (lw_at lw_m1 14 rfl) rfl
theorem q85 : (Jvm.Cond.initialized "java/lang/RuntimeException") ∈ lw_all := lw_g (lw_at lw_m1 15 rfl) rfl
theorem q86 : (Jvm.Cond.initialized "java/lang/IndexOutOfBoundsException") ∈ lw_all := lw_g (lw_at lw_m1 16 rfl) rfl
theorem q87 : (Jvm.Cond.initialized "java/lang/ArrayIndexOutOfBoundsException") ∈ lw_all := lw_g (lw_at lw_m1 17 rfl) rfl
theorem q88 : (Jvm.Cond.initialized "java/lang/IllegalArgumentException") ∈ lw_all := lw_g (lw_at lw_m1 18 rfl) rfl
theorem q89 : (Jvm.Cond.initialized "BrassInspector$Deed") ∈ lw_all := lw_g (lw_at lw_m1 19 rfl) rfl
theorem q90 : (Jvm.Cond.initialized "BrassInspector$1") ∈ lw_all := lw_g (lw_at lw_m1 20 rfl) rfl
theorem q91 : (Jvm.Cond.initialized "java/lang/System") ∈ lw_all := lw_g (lw_at lw_m1 21 rfl) rfl
theorem q92 : (Jvm.Cond.initialized "java/util/ArrayList$Itr") ∈ lw_all := lw_g (lw_at lw_m1 22 rfl) rfl
theorem q93 : (Jvm.Cond.initialized "jdk/internal/util/ArraysSupport") ∈ lw_all := lw_g (lw_at lw_m1 23 rfl) rfl
theorem q94 : (Jvm.Cond.initialized "java/lang/Math") ∈ lw_all := lw_g (lw_at lw_m1 24 rfl) rfl
theorem q95 : (Jvm.Cond.initialized "java/util/Arrays") ∈ lw_all := lw_g (lw_at lw_m1 25 rfl) rfl
theorem q96 : (Jvm.Cond.initialized "jdk/internal/util/Preconditions") ∈ lw_all := lw_g (lw_at lw_m1 26 rfl) rfl
theorem q97 : (Jvm.Cond.initialized "java/lang/StringLatin1") ∈ lw_all := lw_g (lw_at lw_m1 27 rfl) rfl
theorem q98 : (Jvm.Cond.initialized "java/lang/Number") ∈ lw_all := lw_g (lw_at lw_m1 28 rfl) rfl
theorem q99 : (Jvm.Cond.initialized "java/lang/Integer") ∈ lw_all := lw_g (lw_at lw_m1 29 rfl) rfl
theorem q100 : (Jvm.Cond.initialized "java/util/AbstractList$Itr") ∈ lw_all := lw_g (lw_at lw_m1 30 rfl) rfl
theorem q101 : (Jvm.Cond.initialized "java/util/AbstractList$ListItr") ∈ lw_all := lw_g (lw_at lw_m1 31 rfl) rfl
theorem q102 : (Jvm.Cond.initialized "java/util/ArrayList$ListItr") ∈ lw_all := lw_g (lw_at lw_m1 32 rfl) rfl
theorem q103 : (Jvm.Cond.initialized "java/util/LinkedList$ListItr") ∈ lw_all := lw_g (lw_at lw_m1 33 rfl) rfl
theorem q104 : (Jvm.Cond.initialized "java/util/NoSuchElementException") ∈ lw_all := lw_g (lw_at lw_m1 34 rfl) rfl
theorem q105 : (Jvm.Cond.initialized "java/util/Objects") ∈ lw_all := lw_g (lw_at lw_m1 35 rfl) rfl
theorem q106 : (Jvm.Cond.initialized "BrassInspector$Round$Trader") ∈ lw_all := lw_g (lw_at lw_m1 36 rfl) rfl
theorem q107 : (Jvm.Cond.initialized "java/util/LinkedList$Node") ∈ lw_all := lw_g (lw_at lw_m1 37 rfl) rfl
theorem q108 : (Jvm.Cond.initialized "BrassInspector$Brass") ∈ lw_all := lw_g (lw_at lw_m1 38 rfl) rfl
theorem q109 : (Jvm.Cond.initialized "BrassInspector$Refusal") ∈ lw_all := lw_g (lw_at lw_m1 39 rfl) rfl
theorem q110 : (Jvm.Cond.initialized "BrassInspector$Round$OfFair") ∈ lw_all := lw_g (lw_at lw_m1 40 rfl) rfl
theorem q111 : (Jvm.Cond.initialized "BrassInspector$Round$OfFair$1") ∈ lw_all := lw_g (lw_at lw_m1 41 rfl) rfl
theorem q112 : (Jvm.Cond.initialized "java/lang/IllegalStateException") ∈ lw_all := lw_g (lw_at lw_m1 42 rfl) rfl
theorem q113 : (Jvm.Cond.initialized "java/lang/UnsupportedOperationException") ∈ lw_all := lw_g (lw_at lw_m1 43 rfl) rfl
theorem q114 : (Jvm.Cond.initialized "BrassInspector$2") ∈ lw_all := lw_g (lw_at lw_m1 44 rfl) rfl
theorem q115 : (Jvm.Cond.initialized "BrassInspector$Order") ∈ lw_all := lw_g (lw_at lw_m1 45 rfl) rfl
theorem q116 : (Jvm.Cond.initialized "BrassInspector$3") ∈ lw_all := lw_g (lw_at lw_m1 46 rfl) rfl
theorem q117 : (Jvm.Cond.initialized "BrassInspector$Round$1Rest") ∈ lw_all := lw_g (lw_at lw_m1 47 rfl) rfl
theorem q118 : (Jvm.Cond.initialized "BrassInspector$4") ∈ lw_all := lw_g (lw_at lw_m1 48 rfl) rfl
theorem q119 : (Jvm.Cond.initialized "BrassInspector$5") ∈ lw_all := lw_g (lw_at lw_m1 49 rfl) rfl
theorem q120 : (Jvm.Cond.initialized "BrassInspector$Reader") ∈ lw_all := lw_g (lw_at lw_m1 50 rfl) rfl
theorem q121 : (Jvm.Cond.initialized "BrassInspector$TextError") ∈ lw_all := lw_g (lw_at lw_m1 51 rfl) rfl
theorem q122 : (Jvm.Cond.initialized "java/lang/Character") ∈ lw_all := lw_g (lw_at lw_m1 52 rfl) rfl
theorem q123 : (Jvm.Cond.initialized "BrassInspector$6") ∈ lw_all := lw_g (lw_at lw_m1 53 rfl) rfl
theorem q124 : (Jvm.Cond.initialized "java/lang/StringIndexOutOfBoundsException") ∈ lw_all := lw_g (lw_at lw_m1 54 rfl) rfl
theorem q125 : (Jvm.Cond.initialized "java/lang/ArithmeticException") ∈ lw_all := lw_g (lw_at lw_m1 55 rfl) rfl
theorem q126 : (Jvm.Cond.classLink "BrassInspectorLaw" (8 : Nat) "BrassInspector") ∈ lw_all := lw_g (lw_at lw_m1 56 rfl) rfl
theorem q127 : (Jvm.Cond.instantiable "BrassInspector" (7 : Nat)) ∈ lw_all := lw_g (lw_at lw_m1 57 rfl) rfl
theorem q128 : (Jvm.Cond.methodLink "BrassInspectorLaw" (129 : Nat) ({ cls := "BrassInspector", name := "<init>", desc := "()V" } : Jvm.MethodName)) ∈ lw_all := lw_g (lw_at lw_m1 58 rfl) rfl
theorem q129 : (Jvm.Cond.instanceMethod ({ cls := "BrassInspector", name := "<init>", desc := "()V" } : Jvm.MethodName)) ∈ lw_all := lw_g (lw_at lw_m1 59 rfl) rfl
theorem q130 : (Jvm.Cond.code ({ cls := "BrassInspector", name := "<init>", desc := "()V" } : Jvm.MethodName) prog_1_method_5_code (1 : Nat) (Option.none : Option Jvm.ClassFile.FieldType)) ∈ lw_all := lw_g (lw_at lw_m1 60 rfl) rfl
theorem q131 : (Jvm.Cond.methodLink "BrassInspector" (13 : Nat) ({ cls := "java/lang/Object", name := "<init>", desc := "()V" } : Jvm.MethodName)) ∈ lw_all := lw_g (lw_at lw_m1 61 rfl) rfl
theorem q132 : (Jvm.Cond.instanceMethod ({ cls := "java/lang/Object", name := "<init>", desc := "()V" } : Jvm.MethodName)) ∈ lw_all := lw_g (lw_at lw_m1 62 rfl) rfl
theorem q133 : (Jvm.Cond.code ({ cls := "java/lang/Object", name := "<init>", desc := "()V" } : Jvm.MethodName) object_method_1_code (1 : Nat) (Option.none : Option Jvm.ClassFile.FieldType)) ∈ lw_all := lw_g (lw_at lw_m1 63 rfl) rfl
theorem q134 : (Jvm.Cond.classLink "BrassInspector" (18 : Nat) "BrassInspector$Round") ∈ lw_all := lw_g (lw_at lw_m1 64 rfl) rfl
theorem q135 : (Jvm.Cond.instantiable "BrassInspector$Round" (7 : Nat)) ∈ lw_all := lw_g (lw_at lw_m1 65 rfl) rfl
theorem q136 : (Jvm.Cond.methodLinkNest "BrassInspector" (20 : Nat) ({ cls := "BrassInspector$Round", name := "<init>", desc := "()V" } : Jvm.MethodName) "BrassInspector") ∈ lw_tbl := lw_at lw_m1 66 rfl
theorem q137 : (Jvm.Cond.instanceMethod ({ cls := "BrassInspector$Round", name := "<init>", desc := "()V" } : Jvm.MethodName)) ∈ lw_all := lw_g (lw_at lw_m1 67 rfl) rfl
theorem q138 : (Jvm.Cond.code ({ cls := "BrassInspector$Round", name := "<init>", desc := "()V" } : Jvm.MethodName) prog_13_method_1_code (2 : Nat) (Option.none : Option Jvm.ClassFile.FieldType)) ∈ lw_all := lw_g (lw_at lw_m1 68 rfl) rfl
theorem q139 : (Jvm.Cond.methodLink "BrassInspector$Round" (3 : Nat) ({ cls := "java/lang/Object", name := "<init>", desc := "()V" } : Jvm.MethodName)) ∈ lw_all := lw_g (lw_at lw_m1 69 rfl) rfl
theorem q140 : (Jvm.Cond.classLink "BrassInspector$Round" (18 : Nat) "java/util/ArrayList") ∈ lw_all := lw_g (lw_at lw_m1 70 rfl) rfl
theorem q141 : (Jvm.Cond.instantiable "java/util/ArrayList" (3 : Nat)) ∈ lw_all := lw_g (lw_at lw_m1 71 rfl) rfl
theorem q142 : (Jvm.Cond.methodLink "BrassInspector$Round" (20 : Nat) ({ cls := "java/util/ArrayList", name := "<init>", desc := "()V" } : Jvm.MethodName)) ∈ lw_all := lw_g (lw_at lw_m1 72 rfl) rfl
theorem q143 : (Jvm.Cond.instanceMethod ({ cls := "java/util/ArrayList", name := "<init>", desc := "()V" } : Jvm.MethodName)) ∈ lw_all := lw_g (lw_at lw_m1 73 rfl) rfl
theorem q144 : (Jvm.Cond.code ({ cls := "java/util/ArrayList", name := "<init>", desc := "()V" } : Jvm.MethodName) prog_55_method_2_code (1 : Nat) (Option.none : Option Jvm.ClassFile.FieldType)) ∈ lw_all := lw_g (lw_at lw_m1 74 rfl) rfl
theorem q145 : (Jvm.Cond.methodLink "java/util/ArrayList" (1 : Nat) ({ cls := "java/util/AbstractList", name := "<init>", desc := "()V" } : Jvm.MethodName)) ∈ lw_all := lw_g (lw_at lw_m1 75 rfl) rfl
theorem q146 : (Jvm.Cond.instanceMethod ({ cls := "java/util/AbstractList", name := "<init>", desc := "()V" } : Jvm.MethodName)) ∈ lw_all := lw_g (lw_at lw_m1 76 rfl) rfl
theorem q147 : (Jvm.Cond.code ({ cls := "java/util/AbstractList", name := "<init>", desc := "()V" } : Jvm.MethodName) prog_51_method_1_code (1 : Nat) (Option.none : Option Jvm.ClassFile.FieldType)) ∈ lw_all := lw_g (lw_at lw_m1 77 rfl) rfl
theorem q148 : (Jvm.Cond.methodLink "java/util/AbstractList" (1 : Nat) ({ cls := "java/util/AbstractCollection", name := "<init>", desc := "()V" } : Jvm.MethodName)) ∈ lw_all := lw_g (lw_at lw_m1 78 rfl) rfl
theorem q149 : (Jvm.Cond.instanceMethod ({ cls := "java/util/AbstractCollection", name := "<init>", desc := "()V" } : Jvm.MethodName)) ∈ lw_all := lw_g (lw_at lw_m1 79 rfl) rfl
theorem q150 : (Jvm.Cond.code ({ cls := "java/util/AbstractCollection", name := "<init>", desc := "()V" } : Jvm.MethodName) prog_50_method_1_code (1 : Nat) (Option.none : Option Jvm.ClassFile.FieldType)) ∈ lw_all := lw_g (lw_at lw_m1 80 rfl) rfl
theorem q151 : (Jvm.Cond.methodLink "java/util/AbstractCollection" (1 : Nat) ({ cls := "java/lang/Object", name := "<init>", desc := "()V" } : Jvm.MethodName)) ∈ lw_all := lw_g (lw_at lw_m1 81 rfl) rfl
theorem q152 : (Jvm.Cond.fieldLink "java/util/ArrayList" (39 : Nat) "java/util/ArrayList" "DEFAULTCAPACITY_EMPTY_ELEMENTDATA" "[Ljava/lang/Object;") ∈ lw_all := lw_g (lw_at lw_m1 82 rfl) rfl
theorem q153 : (Jvm.Cond.laysStatic "java/util/ArrayList" "DEFAULTCAPACITY_EMPTY_ELEMENTDATA" "[Ljava/lang/Object;") ∈ lw_tbl := lw_at lw_m1 83 rfl
theorem q154 : (Jvm.Cond.fieldLink "java/util/ArrayList" (9 : Nat) "java/util/ArrayList" "elementData" "[Ljava/lang/Object;") ∈ lw_all := lw_g (lw_at lw_m1 84 rfl) rfl
theorem q155 : (Jvm.Cond.fieldLink "java/util/ArrayList$Itr" (37 : Nat) "java/util/ArrayList" "elementData" "[Ljava/lang/Object;") ∈ lw_all := lw_g (lw_at lw_m1 85 rfl) rfl
theorem q156 : (Jvm.Cond.fieldLinkNest "java/util/ArrayList$Itr" (28 : Nat) "java/util/ArrayList" "size" "I" "java/util/ArrayList") ∈ lw_tbl := lw_at lw_m1 86 rfl
theorem q157 : (Jvm.Cond.fieldLink "java/util/ArrayList" (48 : Nat) "java/util/ArrayList" "size" "I") ∈ lw_all := lw_g (lw_at lw_m1 87 rfl) rfl
theorem q158 : (Jvm.Cond.fieldLink "java/util/AbstractList" (7 : Nat) "java/util/AbstractList" "modCount" "I") ∈ lw_all := lw_g (lw_at lw_m1 88 rfl) rfl
theorem q159 : (Jvm.Cond.fieldLink "java/util/LinkedList$ListItr" (13 : Nat) "java/util/LinkedList" "modCount" "I") ∈ lw_all := lw_g (lw_at lw_m1 89 rfl) rfl
theorem q160 : (Jvm.Cond.sameField "java/util/LinkedList" "java/util/AbstractList" "modCount" "I") ∈ lw_all := lw_g (lw_at lw_m1 90 rfl) rfl
theorem q161 : (Jvm.Cond.fieldLink "java/util/ArrayList$Itr" (17 : Nat) "java/util/ArrayList" "modCount" "I") ∈ lw_all := lw_g (lw_at lw_m1 91 rfl) rfl
theorem q162 : (Jvm.Cond.sameField "java/util/ArrayList" "java/util/AbstractList" "modCount" "I") ∈ lw_all := lw_g (lw_at lw_m1 92 rfl) rfl
theorem q163 : (Jvm.Cond.fieldLink "java/util/AbstractList$Itr" (20 : Nat) "java/util/AbstractList" "modCount" "I") ∈ lw_all := lw_g (lw_at lw_m1 93 rfl) rfl
theorem q164 : (Jvm.Cond.fieldLink "java/util/LinkedList" (33 : Nat) "java/util/LinkedList" "modCount" "I") ∈ lw_all := lw_g (lw_at lw_m1 94 rfl) rfl
theorem q165 : (Jvm.Cond.fieldLink "java/util/ArrayList" (63 : Nat) "java/util/ArrayList" "modCount" "I") ∈ lw_all := lw_g (lw_at lw_m1 95 rfl) rfl
theorem q166 : (Jvm.Cond.lays "java/util/ArrayList" "java/util/ArrayList" "elementData" "[Ljava/lang/Object;") ∈ lw_all := lw_g (lw_at lw_m1 96 rfl) rfl
theorem q167 : (Jvm.Cond.soleField "java/util/ArrayList" "elementData") ∈ lw_all := lw_g (lw_at lw_m1 97 rfl) rfl
theorem q168 : (Jvm.Cond.lays "java/util/ArrayList" "java/util/ArrayList" "size" "I") ∈ lw_all := lw_g (lw_at lw_m1 98 rfl) rfl
theorem q169 : (Jvm.Cond.soleField "java/util/ArrayList" "size") ∈ lw_all := lw_g (lw_at lw_m1 99 rfl) rfl
theorem q170 : (Jvm.Cond.lays "java/util/ArrayList" "java/util/AbstractList" "modCount" "I") ∈ lw_all := lw_g (lw_at lw_m1 100 rfl) rfl
theorem q171 : (Jvm.Cond.soleField "java/util/AbstractList" "modCount") ∈ lw_all := lw_g (lw_at lw_m1 101 rfl) rfl
theorem q172 : (Jvm.Cond.superclass "java/util/ArrayList" "java/util/AbstractList") ∈ lw_all := lw_g (lw_at lw_m1 102 rfl) rfl
theorem q173 : (Jvm.Cond.arrayClass Jvm.ClassFile.FieldType.int) ∈ lw_all := lw_g (lw_at lw_m1 103 rfl) rfl
theorem q174 : (Jvm.Cond.fieldLink "BrassInspector$Round" (9 : Nat) "BrassInspector$Round" "rates" "[I") ∈ lw_all := lw_g (lw_at lw_m1 104 rfl) rfl
theorem q175 : (Jvm.Cond.fieldLinkNest "BrassInspector$Round$Trader" (73 : Nat) "BrassInspector$Round" "rates" "[I" "BrassInspector") ∈ lw_tbl := lw_at lw_m1 105 rfl
theorem q176 : (Jvm.Cond.fieldLink "BrassInspector$Round" (15 : Nat) "BrassInspector$Round" "fines" "[I") ∈ lw_all := lw_g (lw_at lw_m1 106 rfl) rfl
theorem q177 : (Jvm.Cond.fieldLinkNest "BrassInspector$Round$Trader" (88 : Nat) "BrassInspector$Round" "fines" "[I" "BrassInspector") ∈ lw_tbl := lw_at lw_m1 107 rfl
theorem q178 : (Jvm.Cond.fieldLink "BrassInspector$Round" (21 : Nat) "BrassInspector$Round" "traders" "Ljava/util/List;") ∈ lw_all := lw_g (lw_at lw_m1 108 rfl) rfl
theorem q179 : (Jvm.Cond.fieldLinkNest "BrassInspector$Round$OfFair$1" (27 : Nat) "BrassInspector$Round" "traders" "Ljava/util/List;" "BrassInspector") ∈ lw_tbl := lw_at lw_m1 109 rfl
theorem q180 : (Jvm.Cond.fieldLink "BrassInspector$Round" (25 : Nat) "BrassInspector$Round" "weights" "Ljava/util/List;") ∈ lw_all := lw_g (lw_at lw_m1 110 rfl) rfl
theorem q181 : (Jvm.Cond.fieldLinkNest "BrassInspector$Round$1Rest" (28 : Nat) "BrassInspector$Round" "day" "I" "BrassInspector") ∈ lw_tbl := lw_at lw_m1 111 rfl
theorem q182 : (Jvm.Cond.fieldLink "BrassInspector$Round" (72 : Nat) "BrassInspector$Round" "day" "I") ∈ lw_all := lw_g (lw_at lw_m1 112 rfl) rfl
theorem q183 : (Jvm.Cond.fieldLinkNest "BrassInspector$Round$Trader" (49 : Nat) "BrassInspector$Round" "day" "I" "BrassInspector") ∈ lw_tbl := lw_at lw_m1 113 rfl
theorem q184 : (Jvm.Cond.fieldLink "BrassInspector$Round" (76 : Nat) "BrassInspector$Round" "inspections" "I") ∈ lw_all := lw_g (lw_at lw_m1 114 rfl) rfl
theorem q185 : (Jvm.Cond.fieldLink "BrassInspector$Round" (79 : Nat) "BrassInspector$Round" "lost" "I") ∈ lw_all := lw_g (lw_at lw_m1 115 rfl) rfl
theorem q186 : (Jvm.Cond.laysFinal "BrassInspector$Round" "BrassInspector$Round" "rates" "[I") ∈ lw_all := lw_g (lw_at lw_m1 116 rfl) rfl
theorem q187 : (Jvm.Cond.soleField "BrassInspector$Round" "rates") ∈ lw_all := lw_g (lw_at lw_m1 117 rfl) rfl
theorem q188 : (Jvm.Cond.laysFinal "BrassInspector$Round" "BrassInspector$Round" "fines" "[I") ∈ lw_all := lw_g (lw_at lw_m1 118 rfl) rfl
theorem q189 : (Jvm.Cond.soleField "BrassInspector$Round" "fines") ∈ lw_all := lw_g (lw_at lw_m1 119 rfl) rfl
theorem q190 : (Jvm.Cond.laysFinal "BrassInspector$Round" "BrassInspector$Round" "traders" "Ljava/util/List;") ∈ lw_all := lw_g (lw_at lw_m1 120 rfl) rfl
theorem q191 : (Jvm.Cond.soleField "BrassInspector$Round" "traders") ∈ lw_all := lw_g (lw_at lw_m1 121 rfl) rfl
theorem q192 : (Jvm.Cond.laysFinal "BrassInspector$Round" "BrassInspector$Round" "weights" "Ljava/util/List;") ∈ lw_all := lw_g (lw_at lw_m1 122 rfl) rfl
theorem q193 : (Jvm.Cond.soleField "BrassInspector$Round" "weights") ∈ lw_all := lw_g (lw_at lw_m1 123 rfl) rfl
theorem q194 : (Jvm.Cond.lays "BrassInspector$Round" "BrassInspector$Round" "day" "I") ∈ lw_all := lw_g (lw_at lw_m1 124 rfl) rfl
theorem q195 : (Jvm.Cond.soleField "BrassInspector$Round" "day") ∈ lw_all := lw_g (lw_at lw_m1 125 rfl) rfl
theorem q196 : (Jvm.Cond.lays "BrassInspector$Round" "BrassInspector$Round" "inspections" "I") ∈ lw_all := lw_g (lw_at lw_m1 126 rfl) rfl
theorem q197 : (Jvm.Cond.soleField "BrassInspector$Round" "inspections") ∈ lw_all := lw_g (lw_at lw_m1 127 rfl) rfl
theorem q198 : (Jvm.Cond.lays "BrassInspector$Round" "BrassInspector$Round" "lost" "I") ∈ lw_all := lw_g (lw_at lw_m1 128 rfl) rfl
theorem q199 : (Jvm.Cond.soleField "BrassInspector$Round" "lost") ∈ lw_all := lw_g (lw_at lw_m1 129 rfl) rfl
theorem q200 : (Jvm.Cond.superclass "BrassInspector$Round" "java/lang/Object") ∈ lw_all := lw_g (lw_at lw_m1 130 rfl) rfl
theorem q201 : (Jvm.Cond.classLink "BrassInspector" (25 : Nat) "java/util/LinkedList") ∈ lw_all := lw_g (lw_at lw_m1 131 rfl) rfl
theorem q202 : (Jvm.Cond.instantiable "java/util/LinkedList" (4 : Nat)) ∈ lw_all := lw_g (lw_at lw_m1 132 rfl) rfl
theorem q203 : (Jvm.Cond.methodLink "BrassInspector" (27 : Nat) ({ cls := "java/util/LinkedList", name := "<init>", desc := "()V" } : Jvm.MethodName)) ∈ lw_all := lw_g (lw_at lw_m1 133 rfl) rfl
theorem q204 : (Jvm.Cond.instanceMethod ({ cls := "java/util/LinkedList", name := "<init>", desc := "()V" } : Jvm.MethodName)) ∈ lw_all := lw_g (lw_at lw_m1 134 rfl) rfl
theorem q205 : (Jvm.Cond.code ({ cls := "java/util/LinkedList", name := "<init>", desc := "()V" } : Jvm.MethodName) prog_62_method_1_code (1 : Nat) (Option.none : Option Jvm.ClassFile.FieldType)) ∈ lw_all := lw_g (lw_at lw_m1 135 rfl) rfl
theorem q206 : (Jvm.Cond.methodLink "java/util/LinkedList" (1 : Nat) ({ cls := "java/util/AbstractSequentialList", name := "<init>", desc := "()V" } : Jvm.MethodName)) ∈ lw_all := lw_g (lw_at lw_m1 136 rfl) rfl
theorem q207 : (Jvm.Cond.instanceMethod ({ cls := "java/util/AbstractSequentialList", name := "<init>", desc := "()V" } : Jvm.MethodName)) ∈ lw_all := lw_g (lw_at lw_m1 137 rfl) rfl
theorem q208 : (Jvm.Cond.code ({ cls := "java/util/AbstractSequentialList", name := "<init>", desc := "()V" } : Jvm.MethodName) prog_54_method_1_code (1 : Nat) (Option.none : Option Jvm.ClassFile.FieldType)) ∈ lw_all := lw_g (lw_at lw_m1 138 rfl) rfl
theorem q209 : (Jvm.Cond.methodLink "java/util/AbstractSequentialList" (1 : Nat) ({ cls := "java/util/AbstractList", name := "<init>", desc := "()V" } : Jvm.MethodName)) ∈ lw_all := lw_g (lw_at lw_m1 139 rfl) rfl
theorem q210 : (Jvm.Cond.fieldLink "java/util/LinkedList" (7 : Nat) "java/util/LinkedList" "size" "I") ∈ lw_all := lw_g (lw_at lw_m1 140 rfl) rfl
theorem q211 : (Jvm.Cond.fieldLink "java/util/LinkedList$ListItr" (22 : Nat) "java/util/LinkedList" "size" "I") ∈ lw_all := lw_g (lw_at lw_m1 141 rfl) rfl
theorem q212 : (Jvm.Cond.fieldLink "java/util/LinkedList" (18 : Nat) "java/util/LinkedList" "first" "Ljava/util/LinkedList$Node;") ∈ lw_all := lw_g (lw_at lw_m1 142 rfl) rfl
theorem q213 : (Jvm.Cond.fieldLink "java/util/LinkedList" (27 : Nat) "java/util/LinkedList" "last" "Ljava/util/LinkedList$Node;") ∈ lw_all := lw_g (lw_at lw_m1 143 rfl) rfl
theorem q214 : (Jvm.Cond.lays "java/util/LinkedList" "java/util/LinkedList" "size" "I") ∈ lw_all := lw_g (lw_at lw_m1 144 rfl) rfl
theorem q215 : (Jvm.Cond.soleField "java/util/LinkedList" "size") ∈ lw_all := lw_g (lw_at lw_m1 145 rfl) rfl
theorem q216 : (Jvm.Cond.lays "java/util/LinkedList" "java/util/LinkedList" "first" "Ljava/util/LinkedList$Node;") ∈ lw_all := lw_g (lw_at lw_m1 146 rfl) rfl
theorem q217 : (Jvm.Cond.soleField "java/util/LinkedList" "first") ∈ lw_all := lw_g (lw_at lw_m1 147 rfl) rfl
theorem q218 : (Jvm.Cond.lays "java/util/LinkedList" "java/util/LinkedList" "last" "Ljava/util/LinkedList$Node;") ∈ lw_all := lw_g (lw_at lw_m1 148 rfl) rfl
theorem q219 : (Jvm.Cond.soleField "java/util/LinkedList" "last") ∈ lw_all := lw_g (lw_at lw_m1 149 rfl) rfl
theorem q220 : (Jvm.Cond.lays "java/util/LinkedList" "java/util/AbstractList" "modCount" "I") ∈ lw_all := lw_g (lw_at lw_m1 150 rfl) rfl
theorem q221 : (Jvm.Cond.superclass "java/util/LinkedList" "java/util/AbstractSequentialList") ∈ lw_all := lw_g (lw_at lw_m1 151 rfl) rfl
theorem q222 : (Jvm.Cond.classLink "BrassInspector" (32 : Nat) "java/lang/StringBuilder") ∈ lw_all := lw_g (lw_at lw_m1 152 rfl) rfl
theorem q223 : (Jvm.Cond.instantiable "java/lang/StringBuilder" (4 : Nat)) ∈ lw_all := lw_g (lw_at lw_m1 153 rfl) rfl
theorem q224 : (Jvm.Cond.methodLink "BrassInspector" (34 : Nat) ({ cls := "java/lang/StringBuilder", name := "<init>", desc := "()V" } : Jvm.MethodName)) ∈ lw_all := lw_g (lw_at lw_m1 154 rfl) rfl
theorem q225 : (Jvm.Cond.instanceMethod ({ cls := "java/lang/StringBuilder", name := "<init>", desc := "()V" } : Jvm.MethodName)) ∈ lw_all := lw_g (lw_at lw_m1 155 rfl) rfl
theorem q226 : (Jvm.Cond.code ({ cls := "java/lang/StringBuilder", name := "<init>", desc := "()V" } : Jvm.MethodName) prog_40_method_1_code (1 : Nat) (Option.none : Option Jvm.ClassFile.FieldType)) ∈ lw_all := lw_g (lw_at lw_m1 156 rfl) rfl
theorem q227 : (Jvm.Cond.methodLink "java/lang/StringBuilder" (1 : Nat) ({ cls := "java/lang/AbstractStringBuilder", name := "<init>", desc := "(I)V" } : Jvm.MethodName)) ∈ lw_all := lw_g (lw_at lw_m1 157 rfl) rfl
theorem q228 : (Jvm.Cond.instanceMethod ({ cls := "java/lang/AbstractStringBuilder", name := "<init>", desc := "(I)V" } : Jvm.MethodName)) ∈ lw_all := lw_g (lw_at lw_m1 158 rfl) rfl
theorem q229 : (Jvm.Cond.code ({ cls := "java/lang/AbstractStringBuilder", name := "<init>", desc := "(I)V" } : Jvm.MethodName) prog_22_method_2_code (2 : Nat) (Option.none : Option Jvm.ClassFile.FieldType)) ∈ lw_all := lw_g (lw_at lw_m1 159 rfl) rfl
theorem q230 : (Jvm.Cond.methodLink "java/lang/AbstractStringBuilder" (3 : Nat) ({ cls := "java/lang/Object", name := "<init>", desc := "()V" } : Jvm.MethodName)) ∈ lw_all := lw_g (lw_at lw_m1 160 rfl) rfl
theorem q231 : (Jvm.Cond.fieldLink "java/lang/AbstractStringBuilder" (18 : Nat) "java/lang/String" "COMPACT_STRINGS" "Z") ∈ lw_all := lw_g (lw_at lw_m1 161 rfl) rfl
theorem q232 : (Jvm.Cond.laysStatic "java/lang/String" "COMPACT_STRINGS" "Z") ∈ lw_tbl := lw_at lw_m1 162 rfl
theorem q233 : (Jvm.Cond.methodLink "java/lang/AbstractStringBuilder" (26 : Nat) ({ cls := "java/lang/StringUTF16", name := "newBytesFor", desc := "(I)[B" } : Jvm.MethodName)) ∈ lw_all := lw_g (lw_at lw_m1 163 rfl) rfl
theorem q234 : (Jvm.Cond.static ({ cls := "java/lang/StringUTF16", name := "newBytesFor", desc := "(I)[B" } : Jvm.MethodName)) ∈ lw_all := lw_g (lw_at lw_m1 164 rfl) rfl
theorem q235 : (Jvm.Cond.code ({ cls := "java/lang/StringUTF16", name := "newBytesFor", desc := "(I)[B" } : Jvm.MethodName) prog_43_method_2_code (1 : Nat) (Option.some (Jvm.ClassFile.FieldType.array Jvm.ClassFile.FieldType.byte))) ∈ lw_all := lw_g (lw_at lw_m1 165 rfl) rfl
theorem q236 : (Jvm.Cond.methodLink "java/lang/StringUTF16" (11 : Nat) ({ cls := "java/lang/StringUTF16", name := "newBytesLength", desc := "(I)I" } : Jvm.MethodName)) ∈ lw_all := lw_g (lw_at lw_m1 166 rfl) rfl
theorem q237 : (Jvm.Cond.static ({ cls := "java/lang/StringUTF16", name := "newBytesLength", desc := "(I)I" } : Jvm.MethodName)) ∈ lw_all := lw_g (lw_at lw_m1 167 rfl) rfl
theorem q238 : (Jvm.Cond.code ({ cls := "java/lang/StringUTF16", name := "newBytesLength", desc := "(I)I" } : Jvm.MethodName) prog_43_method_3_code (1 : Nat) (Option.some Jvm.ClassFile.FieldType.int)) ∈ lw_all := lw_g (lw_at lw_m1 168 rfl) rfl
theorem q239 : (Jvm.Cond.constant "java/lang/StringUTF16" (20 : Nat) (1073741823 : Int32)) ∈ lw_all := lw_g (lw_at lw_m1 169 rfl) rfl
theorem q240 : (Jvm.Cond.fieldLink "java/lang/AbstractStringBuilder" (15 : Nat) "java/lang/AbstractStringBuilder" "value" "[B") ∈ lw_all := lw_g (lw_at lw_m1 170 rfl) rfl
theorem q241 : (Jvm.Cond.fieldLink "java/lang/AbstractStringBuilder" (22 : Nat) "java/lang/AbstractStringBuilder" "coder" "B") ∈ lw_all := lw_g (lw_at lw_m1 171 rfl) rfl
theorem q242 : (Jvm.Cond.fieldLink "java/lang/AbstractStringBuilder" (73 : Nat) "java/lang/AbstractStringBuilder" "maybeLatin1" "Z") ∈ lw_all := lw_g (lw_at lw_m1 172 rfl) rfl
theorem q243 : (Jvm.Cond.fieldLink "java/lang/String" (1048 : Nat) "java/lang/AbstractStringBuilder" "maybeLatin1" "Z") ∈ lw_all := lw_g (lw_at lw_m1 173 rfl) rfl
theorem q244 : (Jvm.Cond.fieldLink "java/lang/AbstractStringBuilder" (79 : Nat) "java/lang/AbstractStringBuilder" "count" "I") ∈ lw_all := lw_g (lw_at lw_m1 174 rfl) rfl
theorem q245 : (Jvm.Cond.lays "java/lang/StringBuilder" "java/lang/AbstractStringBuilder" "value" "[B") ∈ lw_all := lw_g (lw_at lw_m1 175 rfl) rfl
theorem q246 : (Jvm.Cond.soleField "java/lang/AbstractStringBuilder" "value") ∈ lw_all := lw_g (lw_at lw_m1 176 rfl) rfl
theorem q247 : (Jvm.Cond.lays "java/lang/StringBuilder" "java/lang/AbstractStringBuilder" "coder" "B") ∈ lw_all := lw_g (lw_at lw_m1 177 rfl) rfl
theorem q248 : (Jvm.Cond.soleField "java/lang/AbstractStringBuilder" "coder") ∈ lw_all := lw_g (lw_at lw_m1 178 rfl) rfl
theorem q249 : (Jvm.Cond.lays "java/lang/StringBuilder" "java/lang/AbstractStringBuilder" "maybeLatin1" "Z") ∈ lw_all := lw_g (lw_at lw_m1 179 rfl) rfl
theorem q250 : (Jvm.Cond.soleField "java/lang/AbstractStringBuilder" "maybeLatin1") ∈ lw_all := lw_g (lw_at lw_m1 180 rfl) rfl
theorem q251 : (Jvm.Cond.lays "java/lang/StringBuilder" "java/lang/AbstractStringBuilder" "count" "I") ∈ lw_all := lw_g (lw_at lw_m1 181 rfl) rfl
theorem q252 : (Jvm.Cond.soleField "java/lang/AbstractStringBuilder" "count") ∈ lw_all := lw_g (lw_at lw_m1 182 rfl) rfl
theorem q253 : (Jvm.Cond.superclass "java/lang/StringBuilder" "java/lang/AbstractStringBuilder") ∈ lw_all := lw_g (lw_at lw_m1 183 rfl) rfl
theorem q254 : (Jvm.Cond.arrayClass Jvm.ClassFile.FieldType.byte) ∈ lw_all := lw_g (lw_at lw_m1 184 rfl) rfl
theorem q255 : (Jvm.Cond.stringRef "BrassInspector" (43 : Nat) "") ∈ lw_tbl := lw_at lw_m1 185 rfl
theorem q256 : (Jvm.Cond.fieldLink "BrassInspector" (21 : Nat) "BrassInspector" "round" "LBrassInspector$Round;") ∈ lw_all := lw_g (lw_at lw_m1 186 rfl) rfl
theorem q257 : (Jvm.Cond.fieldLink "BrassInspector" (391 : Nat) "BrassInspector" "saved" "LBrassInspector$Round;") ∈ lw_all := lw_g (lw_at lw_m1 187 rfl) rfl
theorem q258 : (Jvm.Cond.fieldLink "BrassInspector" (28 : Nat) "BrassInspector" "past" "Ljava/util/LinkedList;") ∈ lw_all := lw_g (lw_at lw_m1 188 rfl) rfl
theorem q259 : (Jvm.Cond.fieldLinkNest "BrassInspector$Reader" (17 : Nat) "BrassInspector" "buffer" "Ljava/lang/StringBuilder;" "BrassInspector") ∈ lw_tbl := lw_at lw_m1 189 rfl
theorem q260 : (Jvm.Cond.fieldLink "BrassInspector" (35 : Nat) "BrassInspector" "buffer" "Ljava/lang/StringBuilder;") ∈ lw_all := lw_g (lw_at lw_m1 190 rfl) rfl
theorem q261 : (Jvm.Cond.fieldLink "BrassInspector" (39 : Nat) "BrassInspector" "error" "I") ∈ lw_all := lw_g (lw_at lw_m1 191 rfl) rfl
theorem q262 : (Jvm.Cond.fieldLink "BrassInspector" (87 : Nat) "BrassInspector" "latest" "LBrassInspector$Refusal;") ∈ lw_all := lw_g (lw_at lw_m1 192 rfl) rfl
theorem q263 : (Jvm.Cond.fieldLink "BrassInspector" (45 : Nat) "BrassInspector" "line" "Ljava/lang/String;") ∈ lw_all := lw_g (lw_at lw_m1 193 rfl) rfl
theorem q264 : (Jvm.Cond.lays "BrassInspector" "BrassInspector" "round" "LBrassInspector$Round;") ∈ lw_all := lw_g (lw_at lw_m1 194 rfl) rfl
theorem q265 : (Jvm.Cond.soleField "BrassInspector" "round") ∈ lw_all := lw_g (lw_at lw_m1 195 rfl) rfl
theorem q266 : (Jvm.Cond.lays "BrassInspector" "BrassInspector" "saved" "LBrassInspector$Round;") ∈ lw_all := lw_g (lw_at lw_m1 196 rfl) rfl
theorem q267 : (Jvm.Cond.soleField "BrassInspector" "saved") ∈ lw_all := lw_g (lw_at lw_m1 197 rfl) rfl
theorem q268 : (Jvm.Cond.laysFinal "BrassInspector" "BrassInspector" "past" "Ljava/util/LinkedList;") ∈ lw_all := lw_g (lw_at lw_m1 198 rfl) rfl
theorem q269 : (Jvm.Cond.soleField "BrassInspector" "past") ∈ lw_all := lw_g (lw_at lw_m1 199 rfl) rfl
theorem q270 : (Jvm.Cond.laysFinal "BrassInspector" "BrassInspector" "buffer" "Ljava/lang/StringBuilder;") ∈ lw_all := lw_g (lw_at lw_m1 200 rfl) rfl
theorem q271 : (Jvm.Cond.soleField "BrassInspector" "buffer") ∈ lw_all := lw_g (lw_at lw_m1 201 rfl) rfl
theorem q272 : (Jvm.Cond.lays "BrassInspector" "BrassInspector" "error" "I") ∈ lw_all := lw_g (lw_at lw_m1 202 rfl) rfl
theorem q273 : (Jvm.Cond.soleField "BrassInspector" "error") ∈ lw_all := lw_g (lw_at lw_m1 203 rfl) rfl
theorem q274 : (Jvm.Cond.lays "BrassInspector" "BrassInspector" "latest" "LBrassInspector$Refusal;") ∈ lw_all := lw_g (lw_at lw_m1 204 rfl) rfl
theorem q275 : (Jvm.Cond.soleField "BrassInspector" "latest") ∈ lw_all := lw_g (lw_at lw_m1 205 rfl) rfl
theorem q276 : (Jvm.Cond.lays "BrassInspector" "BrassInspector" "line" "Ljava/lang/String;") ∈ lw_all := lw_g (lw_at lw_m1 206 rfl) rfl
theorem q277 : (Jvm.Cond.soleField "BrassInspector" "line") ∈ lw_all := lw_g (lw_at lw_m1 207 rfl) rfl
theorem q278 : (Jvm.Cond.superclass "BrassInspector" "java/lang/Object") ∈ lw_all := lw_g (lw_at lw_m1 208 rfl) rfl
theorem q279 : (Jvm.Cond.methodLink "BrassInspectorLaw" (231 : Nat) ({ cls := "BrassInspector", name := "finesAgain", desc := "()I" } : Jvm.MethodName)) ∈ lw_all := lw_g (lw_at lw_m1 209 rfl) rfl
theorem q280 : (Jvm.Cond.instanceMethod ({ cls := "BrassInspector", name := "finesAgain", desc := "()I" } : Jvm.MethodName)) ∈ lw_all := lw_g (lw_at lw_m1 210 rfl) rfl
theorem q281 : (Jvm.Cond.selects "BrassInspector" ({ cls := "BrassInspector", name := "finesAgain", desc := "()I" } : Jvm.MethodName) ({ cls := "BrassInspector", name := "finesAgain", desc := "()I" } : Jvm.MethodName)) ∈ lw_all := lw_g (lw_at lw_m1 211 rfl) rfl
theorem q282 : (Jvm.Cond.code ({ cls := "BrassInspector", name := "finesAgain", desc := "()I" } : Jvm.MethodName) prog_1_method_48_code (1 : Nat) (Option.some Jvm.ClassFile.FieldType.int)) ∈ lw_all := lw_g (lw_at lw_m1 212 rfl) rfl
theorem q283 : (Jvm.Cond.methodLink "BrassInspector" (376 : Nat) ({ cls := "BrassInspector$Round", name := "allFines", desc := "()I" } : Jvm.MethodName)) ∈ lw_all := lw_g (lw_at lw_m1 213 rfl) rfl
theorem q284 : (Jvm.Cond.instanceMethod ({ cls := "BrassInspector$Round", name := "allFines", desc := "()I" } : Jvm.MethodName)) ∈ lw_all := lw_g (lw_at lw_m1 214 rfl) rfl
theorem q285 : (Jvm.Cond.selects "BrassInspector$Round" ({ cls := "BrassInspector$Round", name := "allFines", desc := "()I" } : Jvm.MethodName) ({ cls := "BrassInspector$Round", name := "allFines", desc := "()I" } : Jvm.MethodName)) ∈ lw_all := lw_g (lw_at lw_m1 215 rfl) rfl
theorem q286 : (Jvm.Cond.code ({ cls := "BrassInspector$Round", name := "allFines", desc := "()I" } : Jvm.MethodName) prog_13_method_10_code (1 : Nat) (Option.some Jvm.ClassFile.FieldType.int)) ∈ lw_all := lw_g (lw_at lw_m1 216 rfl) rfl
theorem q287 : (Jvm.Cond.methodLinkNest "BrassInspector$Round" (91 : Nat) ({ cls := "BrassInspector", name := "sum", desc := "([I)I" } : Jvm.MethodName) "BrassInspector") ∈ lw_tbl := lw_at lw_m1 217 rfl
theorem q288 : (Jvm.Cond.static ({ cls := "BrassInspector", name := "sum", desc := "([I)I" } : Jvm.MethodName)) ∈ lw_all := lw_g (lw_at lw_m1 218 rfl) rfl
theorem q289 : (Jvm.Cond.code ({ cls := "BrassInspector", name := "sum", desc := "([I)I" } : Jvm.MethodName) prog_1_method_3_code (6 : Nat) (Option.some Jvm.ClassFile.FieldType.int)) ∈ lw_all := lw_g (lw_at lw_m1 219 rfl) rfl
theorem q290 : (Jvm.Cond.methodLink "BrassInspectorLaw" (245 : Nat) ({ cls := "BrassInspector", name := "save", desc := "()I" } : Jvm.MethodName)) ∈ lw_all := lw_g (lw_at lw_m1 220 rfl) rfl
theorem q291 : (Jvm.Cond.instanceMethod ({ cls := "BrassInspector", name := "save", desc := "()I" } : Jvm.MethodName)) ∈ lw_all := lw_g (lw_at lw_m1 221 rfl) rfl
theorem q292 : (Jvm.Cond.selects "BrassInspector" ({ cls := "BrassInspector", name := "save", desc := "()I" } : Jvm.MethodName) ({ cls := "BrassInspector", name := "save", desc := "()I" } : Jvm.MethodName)) ∈ lw_all := lw_g (lw_at lw_m1 222 rfl) rfl
theorem q293 : (Jvm.Cond.code ({ cls := "BrassInspector", name := "save", desc := "()I" } : Jvm.MethodName) prog_1_method_53_code (1 : Nat) (Option.some Jvm.ClassFile.FieldType.int)) ∈ lw_all := lw_g (lw_at lw_m1 223 rfl) rfl
theorem q294 : (Jvm.Cond.methodLink "BrassInspector" (354 : Nat) ({ cls := "BrassInspector$Round", name := "day", desc := "()I" } : Jvm.MethodName)) ∈ lw_all := lw_g (lw_at lw_m1 224 rfl) rfl
theorem q295 : (Jvm.Cond.instanceMethod ({ cls := "BrassInspector$Round", name := "day", desc := "()I" } : Jvm.MethodName)) ∈ lw_all := lw_g (lw_at lw_m1 225 rfl) rfl
theorem q296 : (Jvm.Cond.selects "BrassInspector$Round" ({ cls := "BrassInspector$Round", name := "day", desc := "()I" } : Jvm.MethodName) ({ cls := "BrassInspector$Round", name := "day", desc := "()I" } : Jvm.MethodName)) ∈ lw_all := lw_g (lw_at lw_m1 226 rfl) rfl
theorem q297 : (Jvm.Cond.code ({ cls := "BrassInspector$Round", name := "day", desc := "()I" } : Jvm.MethodName) prog_13_method_11_code (1 : Nat) (Option.some Jvm.ClassFile.FieldType.int)) ∈ lw_all := lw_g (lw_at lw_m1 227 rfl) rfl
theorem q298 : (Jvm.Cond.methodLink "BrassInspectorLaw" (133 : Nat) ({ cls := "BrassInspectorLaw", name := "rate", desc := "(LBrassInspector;II[J)I" } : Jvm.MethodName)) ∈ lw_all := lw_g (lw_at lw_m1 228 rfl) rfl
theorem q299 : (Jvm.Cond.static ({ cls := "BrassInspectorLaw", name := "rate", desc := "(LBrassInspector;II[J)I" } : Jvm.MethodName)) ∈ lw_all := lw_g (lw_at lw_m1 229 rfl) rfl
theorem q300 : (Jvm.Cond.codeWith ({ cls := "BrassInspectorLaw", name := "rate", desc := "(LBrassInspector;II[J)I" } : Jvm.MethodName) method_3_code (5 : Nat) (Option.some Jvm.ClassFile.FieldType.int) [((0 : Nat), (10 : Nat), (13 : Nat), (13 : Nat)), ((0 : Nat), (10 : Nat), (17 : Nat), (15 : Nat))]) ∈ lw_all := lw_g (lw_at lw_m1 230 rfl) rfl
theorem q301 : (Jvm.Cond.classLink "BrassInspectorLaw" (13 : Nat) "java/lang/IndexOutOfBoundsException") ∈ lw_all := lw_g (lw_at lw_m1 231 rfl) rfl
theorem q302 : (Jvm.Cond.instantiable "java/lang/ArrayIndexOutOfBoundsException" (6 : Nat)) ∈ lw_all := lw_g (lw_at lw_m1 232 rfl) rfl
theorem q303 : (Jvm.Cond.instanceMethod ({ cls := "java/lang/ArrayIndexOutOfBoundsException", name := "<init>", desc := "(Ljava/lang/String;)V" } : Jvm.MethodName)) ∈ lw_all := lw_g (lw_at lw_m1 233 rfl) rfl
theorem q304 : (Jvm.Cond.code ({ cls := "java/lang/ArrayIndexOutOfBoundsException", name := "<init>", desc := "(Ljava/lang/String;)V" } : Jvm.MethodName) prog_25_method_2_code (2 : Nat) (Option.none : Option Jvm.ClassFile.FieldType)) ∈ lw_all := lw_g (lw_at lw_m1 234 rfl) rfl
theorem q305 : (Jvm.Cond.methodLink "java/lang/ArrayIndexOutOfBoundsException" (7 : Nat) ({ cls := "java/lang/IndexOutOfBoundsException", name := "<init>", desc := "(Ljava/lang/String;)V" } : Jvm.MethodName)) ∈ lw_all := lw_g (lw_at lw_m1 235 rfl) rfl
theorem q306 : (Jvm.Cond.instanceMethod ({ cls := "java/lang/IndexOutOfBoundsException", name := "<init>", desc := "(Ljava/lang/String;)V" } : Jvm.MethodName)) ∈ lw_all := lw_g (lw_at lw_m1 236 rfl) rfl
theorem q307 : (Jvm.Cond.code ({ cls := "java/lang/IndexOutOfBoundsException", name := "<init>", desc := "(Ljava/lang/String;)V" } : Jvm.MethodName) prog_33_method_2_code (2 : Nat) (Option.none : Option Jvm.ClassFile.FieldType)) ∈ lw_all := lw_g (lw_at lw_m1 237 rfl) rfl
theorem q308 : (Jvm.Cond.methodLink "java/lang/IndexOutOfBoundsException" (7 : Nat) ({ cls := "java/lang/RuntimeException", name := "<init>", desc := "(Ljava/lang/String;)V" } : Jvm.MethodName)) ∈ lw_all := lw_g (lw_at lw_m1 238 rfl) rfl
theorem q309 : (Jvm.Cond.instanceMethod ({ cls := "java/lang/RuntimeException", name := "<init>", desc := "(Ljava/lang/String;)V" } : Jvm.MethodName)) ∈ lw_all := lw_g (lw_at lw_m1 239 rfl) rfl
theorem q310 : (Jvm.Cond.code ({ cls := "java/lang/RuntimeException", name := "<init>", desc := "(Ljava/lang/String;)V" } : Jvm.MethodName) prog_38_method_2_code (2 : Nat) (Option.none : Option Jvm.ClassFile.FieldType)) ∈ lw_all := lw_g (lw_at lw_m2 0 rfl) rfl
theorem q311 : (Jvm.Cond.methodLink "java/lang/RuntimeException" (7 : Nat) ({ cls := "java/lang/Exception", name := "<init>", desc := "(Ljava/lang/String;)V" } : Jvm.MethodName)) ∈ lw_all := lw_g (lw_at lw_m2 1 rfl) rfl
theorem q312 : (Jvm.Cond.instanceMethod ({ cls := "java/lang/Exception", name := "<init>", desc := "(Ljava/lang/String;)V" } : Jvm.MethodName)) ∈ lw_all := lw_g (lw_at lw_m2 2 rfl) rfl
theorem q313 : (Jvm.Cond.code ({ cls := "java/lang/Exception", name := "<init>", desc := "(Ljava/lang/String;)V" } : Jvm.MethodName) prog_30_method_2_code (2 : Nat) (Option.none : Option Jvm.ClassFile.FieldType)) ∈ lw_all := lw_g (lw_at lw_m2 3 rfl) rfl
theorem q314 : (Jvm.Cond.methodLink "java/lang/Exception" (7 : Nat) ({ cls := "java/lang/Throwable", name := "<init>", desc := "(Ljava/lang/String;)V" } : Jvm.MethodName)) ∈ lw_all := lw_g (lw_at lw_m2 4 rfl) rfl
theorem q315 : (Jvm.Cond.instanceMethod ({ cls := "java/lang/Throwable", name := "<init>", desc := "(Ljava/lang/String;)V" } : Jvm.MethodName)) ∈ lw_all := lw_g (lw_at lw_m2 5 rfl) rfl
theorem q316 : (Jvm.Cond.code ({ cls := "java/lang/Throwable", name := "<init>", desc := "(Ljava/lang/String;)V" } : Jvm.MethodName) prog_46_method_2_code (2 : Nat) (Option.none : Option Jvm.ClassFile.FieldType)) ∈ lw_all := lw_g (lw_at lw_m2 6 rfl) rfl
theorem q317 : (Jvm.Cond.methodLink "java/lang/Throwable" (1 : Nat) ({ cls := "java/lang/Object", name := "<init>", desc := "()V" } : Jvm.MethodName)) ∈ lw_all := lw_g (lw_at lw_m2 7 rfl) rfl
theorem q318 : (Jvm.Cond.fieldLink "java/lang/Throwable" (13 : Nat) "java/lang/Throwable" "UNASSIGNED_STACK" "[Ljava/lang/StackTraceElement;") ∈ lw_all := lw_g (lw_at lw_m2 8 rfl) rfl
theorem q319 : (Jvm.Cond.laysStatic "java/lang/Throwable" "UNASSIGNED_STACK" "[Ljava/lang/StackTraceElement;") ∈ lw_tbl := lw_at lw_m2 9 rfl
theorem q320 : (Jvm.Cond.fieldLink "java/lang/Throwable" (20 : Nat) "java/lang/Throwable" "SUPPRESSED_SENTINEL" "Ljava/util/List;") ∈ lw_all := lw_g (lw_at lw_m2 10 rfl) rfl
theorem q321 : (Jvm.Cond.laysStatic "java/lang/Throwable" "SUPPRESSED_SENTINEL" "Ljava/util/List;") ∈ lw_tbl := lw_at lw_m2 11 rfl
theorem q322 : (Jvm.Cond.methodLink "java/lang/Throwable" (27 : Nat) ({ cls := "java/lang/Throwable", name := "fillInStackTrace", desc := "()Ljava/lang/Throwable;" } : Jvm.MethodName)) ∈ lw_all := lw_g (lw_at lw_m2 12 rfl) rfl
theorem q323 : (Jvm.Cond.instanceMethod ({ cls := "java/lang/Throwable", name := "fillInStackTrace", desc := "()Ljava/lang/Throwable;" } : Jvm.MethodName)) ∈ lw_all := lw_g (lw_at lw_m2 13 rfl) rfl
theorem q324 : (Jvm.Cond.sameMethod "java/lang/Throwable" "java/lang/Throwable" "fillInStackTrace" "()Ljava/lang/Throwable;") ∈ lw_all := lw_g (lw_at lw_m2 14 rfl) rfl
theorem q325 : (Jvm.Cond.selects "BrassInspector$Refusal" ({ cls := "java/lang/Throwable", name := "fillInStackTrace", desc := "()Ljava/lang/Throwable;" } : Jvm.MethodName) ({ cls := "java/lang/Throwable", name := "fillInStackTrace", desc := "()Ljava/lang/Throwable;" } : Jvm.MethodName)) ∈ lw_all := lw_g (lw_at lw_m2 15 rfl) rfl
theorem q326 : (Jvm.Cond.selects "BrassInspector$TextError" ({ cls := "java/lang/Throwable", name := "fillInStackTrace", desc := "()Ljava/lang/Throwable;" } : Jvm.MethodName) ({ cls := "java/lang/Throwable", name := "fillInStackTrace", desc := "()Ljava/lang/Throwable;" } : Jvm.MethodName)) ∈ lw_all := lw_g (lw_at lw_m2 16 rfl) rfl
theorem q327 : (Jvm.Cond.selects "java/lang/ArithmeticException" ({ cls := "java/lang/Throwable", name := "fillInStackTrace", desc := "()Ljava/lang/Throwable;" } : Jvm.MethodName) ({ cls := "java/lang/Throwable", name := "fillInStackTrace", desc := "()Ljava/lang/Throwable;" } : Jvm.MethodName)) ∈ lw_all := lw_g (lw_at lw_m2 17 rfl) rfl
theorem q328 : (Jvm.Cond.selects "java/lang/ArrayIndexOutOfBoundsException" ({ cls := "java/lang/Throwable", name := "fillInStackTrace", desc := "()Ljava/lang/Throwable;" } : Jvm.MethodName) ({ cls := "java/lang/Throwable", name := "fillInStackTrace", desc := "()Ljava/lang/Throwable;" } : Jvm.MethodName)) ∈ lw_all := lw_g (lw_at lw_m2 18 rfl) rfl
theorem q329 : (Jvm.Cond.selects "java/lang/IllegalArgumentException" ({ cls := "java/lang/Throwable", name := "fillInStackTrace", desc := "()Ljava/lang/Throwable;" } : Jvm.MethodName) ({ cls := "java/lang/Throwable", name := "fillInStackTrace", desc := "()Ljava/lang/Throwable;" } : Jvm.MethodName)) ∈ lw_all := lw_g (lw_at lw_m2 19 rfl) rfl
theorem q330 : (Jvm.Cond.selects "java/lang/IllegalStateException" ({ cls := "java/lang/Throwable", name := "fillInStackTrace", desc := "()Ljava/lang/Throwable;" } : Jvm.MethodName) ({ cls := "java/lang/Throwable", name := "fillInStackTrace", desc := "()Ljava/lang/Throwable;" } : Jvm.MethodName)) ∈ lw_all := lw_g (lw_at lw_m2 20 rfl) rfl
theorem q331 : (Jvm.Cond.selects "java/lang/IndexOutOfBoundsException" ({ cls := "java/lang/Throwable", name := "fillInStackTrace", desc := "()Ljava/lang/Throwable;" } : Jvm.MethodName) ({ cls := "java/lang/Throwable", name := "fillInStackTrace", desc := "()Ljava/lang/Throwable;" } : Jvm.MethodName)) ∈ lw_all := lw_g (lw_at lw_m2 21 rfl) rfl
theorem q332 : (Jvm.Cond.selects "java/lang/StringIndexOutOfBoundsException" ({ cls := "java/lang/Throwable", name := "fillInStackTrace", desc := "()Ljava/lang/Throwable;" } : Jvm.MethodName) ({ cls := "java/lang/Throwable", name := "fillInStackTrace", desc := "()Ljava/lang/Throwable;" } : Jvm.MethodName)) ∈ lw_all := lw_g (lw_at lw_m2 22 rfl) rfl
theorem q333 : (Jvm.Cond.selects "java/lang/UnsupportedOperationException" ({ cls := "java/lang/Throwable", name := "fillInStackTrace", desc := "()Ljava/lang/Throwable;" } : Jvm.MethodName) ({ cls := "java/lang/Throwable", name := "fillInStackTrace", desc := "()Ljava/lang/Throwable;" } : Jvm.MethodName)) ∈ lw_all := lw_g (lw_at lw_m2 23 rfl) rfl
theorem q334 : (Jvm.Cond.selects "java/util/NoSuchElementException" ({ cls := "java/lang/Throwable", name := "fillInStackTrace", desc := "()Ljava/lang/Throwable;" } : Jvm.MethodName) ({ cls := "java/lang/Throwable", name := "fillInStackTrace", desc := "()Ljava/lang/Throwable;" } : Jvm.MethodName)) ∈ lw_all := lw_g (lw_at lw_m2 24 rfl) rfl
theorem q335 : (Jvm.Cond.codeSync ({ cls := "java/lang/Throwable", name := "fillInStackTrace", desc := "()Ljava/lang/Throwable;" } : Jvm.MethodName) prog_46_method_18_code (1 : Nat) (Option.some (Jvm.ClassFile.FieldType.object "java/lang/Throwable"))) ∈ lw_all := lw_g (lw_at lw_m2 25 rfl) rfl
theorem q336 : (Jvm.Cond.methodLink "java/lang/Throwable" (202 : Nat) ({ cls := "java/lang/Throwable", name := "fillInStackTrace", desc := "(I)Ljava/lang/Throwable;" } : Jvm.MethodName)) ∈ lw_all := lw_g (lw_at lw_m2 26 rfl) rfl
theorem q337 : (Jvm.Cond.privateMethod ({ cls := "java/lang/Throwable", name := "fillInStackTrace", desc := "(I)Ljava/lang/Throwable;" } : Jvm.MethodName)) ∈ lw_tbl := lw_at lw_m2 27 rfl
theorem q338 : (Jvm.Cond.instanceMethod ({ cls := "java/lang/Throwable", name := "fillInStackTrace", desc := "(I)Ljava/lang/Throwable;" } : Jvm.MethodName)) ∈ lw_all := lw_g (lw_at lw_m2 28 rfl) rfl
theorem q339 : (Jvm.Cond.instantiable "java/lang/Throwable" (6 : Nat)) ∈ lw_all := lw_g (lw_at lw_m2 29 rfl) rfl
theorem q340 : (Jvm.Cond.native ({ cls := "java/lang/Throwable", name := "fillInStackTrace", desc := "(I)Ljava/lang/Throwable;" } : Jvm.MethodName)) ∈ lw_all := lw_g (lw_at lw_m2 30 rfl) rfl
theorem q341 : (Jvm.Cond.fieldLink "java/lang/Throwable" (198 : Nat) "java/lang/Throwable" "backtrace" "Ljava/lang/Object;") ∈ lw_all := lw_g (lw_at lw_m2 31 rfl) rfl
theorem q342 : (Jvm.Cond.fieldLink "java/lang/Throwable" (31 : Nat) "java/lang/Throwable" "detailMessage" "Ljava/lang/String;") ∈ lw_all := lw_g (lw_at lw_m2 32 rfl) rfl
theorem q343 : (Jvm.Cond.fieldLink "java/lang/Throwable" (7 : Nat) "java/lang/Throwable" "cause" "Ljava/lang/Throwable;") ∈ lw_all := lw_g (lw_at lw_m2 33 rfl) rfl
theorem q344 : (Jvm.Cond.fieldLink "java/lang/Throwable" (17 : Nat) "java/lang/Throwable" "stackTrace" "[Ljava/lang/StackTraceElement;") ∈ lw_all := lw_g (lw_at lw_m2 34 rfl) rfl
theorem q345 : (Jvm.Cond.fieldLink "java/lang/Throwable" (24 : Nat) "java/lang/Throwable" "suppressedExceptions" "Ljava/util/List;") ∈ lw_all := lw_g (lw_at lw_m2 35 rfl) rfl
theorem q346 : (Jvm.Cond.lays "java/lang/ArrayIndexOutOfBoundsException" "java/lang/Throwable" "backtrace" "Ljava/lang/Object;") ∈ lw_all := lw_g (lw_at lw_m2 36 rfl) rfl
theorem q347 : (Jvm.Cond.soleField "java/lang/Throwable" "backtrace") ∈ lw_all := lw_g (lw_at lw_m2 37 rfl) rfl
theorem q348 : (Jvm.Cond.lays "java/lang/ArrayIndexOutOfBoundsException" "java/lang/Throwable" "detailMessage" "Ljava/lang/String;") ∈ lw_all := lw_g (lw_at lw_m2 38 rfl) rfl
theorem q349 : (Jvm.Cond.soleField "java/lang/Throwable" "detailMessage") ∈ lw_all := lw_g (lw_at lw_m2 39 rfl) rfl
theorem q350 : (Jvm.Cond.lays "java/lang/ArrayIndexOutOfBoundsException" "java/lang/Throwable" "cause" "Ljava/lang/Throwable;") ∈ lw_all := lw_g (lw_at lw_m2 40 rfl) rfl
theorem q351 : (Jvm.Cond.soleField "java/lang/Throwable" "cause") ∈ lw_all := lw_g (lw_at lw_m2 41 rfl) rfl
theorem q352 : (Jvm.Cond.lays "java/lang/ArrayIndexOutOfBoundsException" "java/lang/Throwable" "stackTrace" "[Ljava/lang/StackTraceElement;") ∈ lw_all := lw_g (lw_at lw_m2 42 rfl) rfl
theorem q353 : (Jvm.Cond.soleField "java/lang/Throwable" "stackTrace") ∈ lw_all := lw_g (lw_at lw_m2 43 rfl) rfl
theorem q354 : (Jvm.Cond.lays "java/lang/ArrayIndexOutOfBoundsException" "java/lang/Throwable" "depth" "I") ∈ lw_all := lw_g (lw_at lw_m2 44 rfl) rfl
theorem q355 : (Jvm.Cond.soleField "java/lang/Throwable" "depth") ∈ lw_all := lw_g (lw_at lw_m2 45 rfl) rfl
theorem q356 : (Jvm.Cond.lays "java/lang/ArrayIndexOutOfBoundsException" "java/lang/Throwable" "suppressedExceptions" "Ljava/util/List;") ∈ lw_all := lw_g (lw_at lw_m2 46 rfl) rfl
theorem q357 : (Jvm.Cond.soleField "java/lang/Throwable" "suppressedExceptions") ∈ lw_all := lw_g (lw_at lw_m2 47 rfl) rfl
theorem q358 : (Jvm.Cond.superclass "java/lang/ArrayIndexOutOfBoundsException" "java/lang/IndexOutOfBoundsException") ∈ lw_all := lw_g (lw_at lw_m2 48 rfl) rfl
theorem q359 : (Jvm.Cond.castable "java/lang/ArrayIndexOutOfBoundsException" "java/lang/ArrayIndexOutOfBoundsException") ∈ lw_tbl := lw_at lw_m2 49 rfl
theorem q360 : (Jvm.Cond.declares ({ cls := "java/lang/IndexOutOfBoundsException", name := "<init>", desc := "()V" } : Jvm.MethodName)) ∈ lw_tbl := lw_at lw_m2 50 rfl
theorem q361 : (Jvm.Cond.declares ({ cls := "java/lang/IndexOutOfBoundsException", name := "<init>", desc := "(Ljava/lang/String;)V" } : Jvm.MethodName)) ∈ lw_tbl := lw_at lw_m2 51 rfl
theorem q362 : (Jvm.Cond.declares ({ cls := "java/lang/RuntimeException", name := "<init>", desc := "()V" } : Jvm.MethodName)) ∈ lw_tbl := lw_at lw_m2 52 rfl
theorem q363 : (Jvm.Cond.declares ({ cls := "java/lang/RuntimeException", name := "<init>", desc := "(Ljava/lang/String;)V" } : Jvm.MethodName)) ∈ lw_tbl := lw_at lw_m2 53 rfl
theorem q364 : (Jvm.Cond.declares ({ cls := "java/lang/Exception", name := "<init>", desc := "()V" } : Jvm.MethodName)) ∈ lw_tbl := lw_at lw_m2 54 rfl
theorem q365 : (Jvm.Cond.declares ({ cls := "java/lang/Exception", name := "<init>", desc := "(Ljava/lang/String;)V" } : Jvm.MethodName)) ∈ lw_tbl := lw_at lw_m2 55 rfl
theorem q366 : (Jvm.Cond.declares ({ cls := "java/lang/Throwable", name := "<init>", desc := "()V" } : Jvm.MethodName)) ∈ lw_tbl := lw_at lw_m2 56 rfl
theorem q367 : (Jvm.Cond.declares ({ cls := "java/lang/Throwable", name := "<init>", desc := "(Ljava/lang/String;)V" } : Jvm.MethodName)) ∈ lw_tbl := lw_at lw_m2 57 rfl
theorem q368 : (Jvm.Cond.selects "java/lang/ArrayIndexOutOfBoundsException" ({ cls := "java/lang/Throwable", name := "fillInStackTrace", desc := "(I)Ljava/lang/Throwable;" } : Jvm.MethodName) ({ cls := "java/lang/Throwable", name := "fillInStackTrace", desc := "(I)Ljava/lang/Throwable;" } : Jvm.MethodName)) ∈ lw_all := lw_g (lw_at lw_m2 58 rfl) rfl
theorem q369 : (Jvm.Cond.lays "java/lang/Throwable" "java/lang/Throwable" "cause" "Ljava/lang/Throwable;") ∈ lw_all := lw_g (lw_at lw_m2 59 rfl) rfl
theorem q370 : (Jvm.Cond.lays "java/lang/Throwable" "java/lang/Throwable" "stackTrace" "[Ljava/lang/StackTraceElement;") ∈ lw_all := lw_g (lw_at lw_m2 60 rfl) rfl
theorem q371 : (Jvm.Cond.lays "java/lang/Throwable" "java/lang/Throwable" "suppressedExceptions" "Ljava/util/List;") ∈ lw_all := lw_g (lw_at lw_m2 61 rfl) rfl
theorem q372 : (Jvm.Cond.lays "java/lang/Throwable" "java/lang/Throwable" "detailMessage" "Ljava/lang/String;") ∈ lw_all := lw_g (lw_at lw_m2 62 rfl) rfl
theorem q373 : (Jvm.Cond.lays "java/lang/Throwable" "java/lang/Throwable" "backtrace" "Ljava/lang/Object;") ∈ lw_all := lw_g (lw_at lw_m2 63 rfl) rfl
theorem q374 : (Jvm.Cond.fieldLink "java/lang/Throwable" (198 : Nat) "java/lang/Throwable" "backtrace" "Ljava/lang/Object;") ∈ lw_all := lw_g (lw_at lw_m2 64 rfl) rfl
theorem q375 : (Jvm.Cond.superclass "java/lang/Throwable" "java/lang/Object") ∈ lw_all := lw_g (lw_at lw_m2 65 rfl) rfl
theorem q376 : (Jvm.Cond.instanceMethod ({ cls := "java/lang/Throwable", name := "<init>", desc := "()V" } : Jvm.MethodName)) ∈ lw_all := lw_g (lw_at lw_m2 66 rfl) rfl
theorem q377 : (Jvm.Cond.code ({ cls := "java/lang/Throwable", name := "<init>", desc := "()V" } : Jvm.MethodName) prog_46_method_1_code (1 : Nat) (Option.none : Option Jvm.ClassFile.FieldType)) ∈ lw_all := lw_g (lw_at lw_m2 67 rfl) rfl
theorem q378 : (Jvm.Cond.instantiable "java/lang/String" (4 : Nat)) ∈ lw_all := lw_g (lw_at lw_m2 68 rfl) rfl
theorem q379 : (Jvm.Cond.laysFinal "java/lang/String" "java/lang/String" "value" "[B") ∈ lw_all := lw_g (lw_at lw_m2 69 rfl) rfl
theorem q380 : (Jvm.Cond.soleField "java/lang/String" "value") ∈ lw_all := lw_g (lw_at lw_m2 70 rfl) rfl
theorem q381 : (Jvm.Cond.laysFinal "java/lang/String" "java/lang/String" "coder" "B") ∈ lw_all := lw_g (lw_at lw_m2 71 rfl) rfl
theorem q382 : (Jvm.Cond.soleField "java/lang/String" "coder") ∈ lw_all := lw_g (lw_at lw_m2 72 rfl) rfl
theorem q383 : (Jvm.Cond.classLink "BrassInspectorLaw" (15 : Nat) "java/lang/IllegalArgumentException") ∈ lw_all := lw_g (lw_at lw_m2 73 rfl) rfl
theorem q384 : (Jvm.Cond.methodLink "BrassInspectorLaw" (7 : Nat) ({ cls := "BrassInspector", name := "rate", desc := "(II)I" } : Jvm.MethodName)) ∈ lw_all := lw_g (lw_at lw_m2 74 rfl) rfl
theorem q385 : (Jvm.Cond.instanceMethod ({ cls := "BrassInspector", name := "rate", desc := "(II)I" } : Jvm.MethodName)) ∈ lw_all := lw_g (lw_at lw_m2 75 rfl) rfl
theorem q386 : (Jvm.Cond.selects "BrassInspector" ({ cls := "BrassInspector", name := "rate", desc := "(II)I" } : Jvm.MethodName) ({ cls := "BrassInspector", name := "rate", desc := "(II)I" } : Jvm.MethodName)) ∈ lw_all := lw_g (lw_at lw_m2 76 rfl) rfl
theorem q387 : (Jvm.Cond.code ({ cls := "BrassInspector", name := "rate", desc := "(II)I" } : Jvm.MethodName) prog_1_method_17_code (3 : Nat) (Option.some Jvm.ClassFile.FieldType.int)) ∈ lw_all := lw_g (lw_at lw_m2 77 rfl) rfl
theorem q388 : (Jvm.Cond.methodLink "BrassInspector" (133 : Nat) ({ cls := "BrassInspector", name := "requireFair", desc := "(I)V" } : Jvm.MethodName)) ∈ lw_all := lw_g (lw_at lw_m2 78 rfl) rfl
theorem q389 : (Jvm.Cond.static ({ cls := "BrassInspector", name := "requireFair", desc := "(I)V" } : Jvm.MethodName)) ∈ lw_all := lw_g (lw_at lw_m2 79 rfl) rfl
theorem q390 : (Jvm.Cond.code ({ cls := "BrassInspector", name := "requireFair", desc := "(I)V" } : Jvm.MethodName) prog_1_method_14_code (1 : Nat) (Option.none : Option Jvm.ClassFile.FieldType)) ∈ lw_all := lw_g (lw_at lw_m2 80 rfl) rfl
theorem q391 : (Jvm.Cond.methodLink "BrassInspector" (107 : Nat) ({ cls := "BrassInspector", name := "isIn", desc := "(III)Z" } : Jvm.MethodName)) ∈ lw_all := lw_g (lw_at lw_m2 81 rfl) rfl
theorem q392 : (Jvm.Cond.static ({ cls := "BrassInspector", name := "isIn", desc := "(III)Z" } : Jvm.MethodName)) ∈ lw_all := lw_g (lw_at lw_m2 82 rfl) rfl
theorem q393 : (Jvm.Cond.code ({ cls := "BrassInspector", name := "isIn", desc := "(III)Z" } : Jvm.MethodName) prog_1_method_2_code (3 : Nat) (Option.some Jvm.ClassFile.FieldType.boolean)) ∈ lw_all := lw_g (lw_at lw_m2 83 rfl) rfl
theorem q394 : (Jvm.Cond.methodLink "BrassInspector" (111 : Nat) ({ cls := "BrassInspector", name := "requireIndex", desc := "(Z)V" } : Jvm.MethodName)) ∈ lw_all := lw_g (lw_at lw_m2 84 rfl) rfl
theorem q395 : (Jvm.Cond.static ({ cls := "BrassInspector", name := "requireIndex", desc := "(Z)V" } : Jvm.MethodName)) ∈ lw_all := lw_g (lw_at lw_m2 85 rfl) rfl
theorem q396 : (Jvm.Cond.code ({ cls := "BrassInspector", name := "requireIndex", desc := "(Z)V" } : Jvm.MethodName) prog_1_method_7_code (1 : Nat) (Option.none : Option Jvm.ClassFile.FieldType)) ∈ lw_all := lw_g (lw_at lw_m2 86 rfl) rfl
theorem q397 : (Jvm.Cond.classLink "BrassInspector" (52 : Nat) "java/lang/IndexOutOfBoundsException") ∈ lw_all := lw_g (lw_at lw_m2 87 rfl) rfl
theorem q398 : (Jvm.Cond.instantiable "java/lang/IndexOutOfBoundsException" (6 : Nat)) ∈ lw_all := lw_g (lw_at lw_m2 88 rfl) rfl
theorem q399 : (Jvm.Cond.castable "java/lang/IndexOutOfBoundsException" "java/lang/IndexOutOfBoundsException") ∈ lw_tbl := lw_at lw_m2 89 rfl
theorem q400 : (Jvm.Cond.selects "java/lang/IndexOutOfBoundsException" ({ cls := "java/lang/Throwable", name := "fillInStackTrace", desc := "(I)Ljava/lang/Throwable;" } : Jvm.MethodName) ({ cls := "java/lang/Throwable", name := "fillInStackTrace", desc := "(I)Ljava/lang/Throwable;" } : Jvm.MethodName)) ∈ lw_all := lw_g (lw_at lw_m2 90 rfl) rfl
theorem q401 : (Jvm.Cond.lays "java/lang/IndexOutOfBoundsException" "java/lang/Throwable" "cause" "Ljava/lang/Throwable;") ∈ lw_all := lw_g (lw_at lw_m2 91 rfl) rfl
theorem q402 : (Jvm.Cond.lays "java/lang/IndexOutOfBoundsException" "java/lang/Throwable" "stackTrace" "[Ljava/lang/StackTraceElement;") ∈ lw_all := lw_g (lw_at lw_m2 92 rfl) rfl
theorem q403 : (Jvm.Cond.lays "java/lang/IndexOutOfBoundsException" "java/lang/Throwable" "suppressedExceptions" "Ljava/util/List;") ∈ lw_all := lw_g (lw_at lw_m2 93 rfl) rfl
theorem q404 : (Jvm.Cond.lays "java/lang/IndexOutOfBoundsException" "java/lang/Throwable" "detailMessage" "Ljava/lang/String;") ∈ lw_all := lw_g (lw_at lw_m2 94 rfl) rfl
theorem q405 : (Jvm.Cond.lays "java/lang/IndexOutOfBoundsException" "java/lang/Throwable" "backtrace" "Ljava/lang/Object;") ∈ lw_all := lw_g (lw_at lw_m2 95 rfl) rfl
theorem q406 : (Jvm.Cond.methodLink "BrassInspector" (54 : Nat) ({ cls := "java/lang/IndexOutOfBoundsException", name := "<init>", desc := "()V" } : Jvm.MethodName)) ∈ lw_all := lw_g (lw_at lw_m2 96 rfl) rfl
theorem q407 : (Jvm.Cond.instanceMethod ({ cls := "java/lang/IndexOutOfBoundsException", name := "<init>", desc := "()V" } : Jvm.MethodName)) ∈ lw_all := lw_g (lw_at lw_m2 97 rfl) rfl
theorem q408 : (Jvm.Cond.code ({ cls := "java/lang/IndexOutOfBoundsException", name := "<init>", desc := "()V" } : Jvm.MethodName) prog_33_method_1_code (1 : Nat) (Option.none : Option Jvm.ClassFile.FieldType)) ∈ lw_all := lw_g (lw_at lw_m2 98 rfl) rfl
theorem q409 : (Jvm.Cond.methodLink "java/lang/IndexOutOfBoundsException" (1 : Nat) ({ cls := "java/lang/RuntimeException", name := "<init>", desc := "()V" } : Jvm.MethodName)) ∈ lw_all := lw_g (lw_at lw_m2 99 rfl) rfl
theorem q410 : (Jvm.Cond.instanceMethod ({ cls := "java/lang/RuntimeException", name := "<init>", desc := "()V" } : Jvm.MethodName)) ∈ lw_all := lw_g (lw_at lw_m2 100 rfl) rfl
theorem q411 : (Jvm.Cond.code ({ cls := "java/lang/RuntimeException", name := "<init>", desc := "()V" } : Jvm.MethodName) prog_38_method_1_code (1 : Nat) (Option.none : Option Jvm.ClassFile.FieldType)) ∈ lw_all := lw_g (lw_at lw_m2 101 rfl) rfl
theorem q412 : (Jvm.Cond.methodLink "java/lang/RuntimeException" (1 : Nat) ({ cls := "java/lang/Exception", name := "<init>", desc := "()V" } : Jvm.MethodName)) ∈ lw_all := lw_g (lw_at lw_m2 102 rfl) rfl
theorem q413 : (Jvm.Cond.instanceMethod ({ cls := "java/lang/Exception", name := "<init>", desc := "()V" } : Jvm.MethodName)) ∈ lw_all := lw_g (lw_at lw_m2 103 rfl) rfl
theorem q414 : (Jvm.Cond.code ({ cls := "java/lang/Exception", name := "<init>", desc := "()V" } : Jvm.MethodName) prog_30_method_1_code (1 : Nat) (Option.none : Option Jvm.ClassFile.FieldType)) ∈ lw_all := lw_g (lw_at lw_m2 104 rfl) rfl
theorem q415 : (Jvm.Cond.methodLink "java/lang/Exception" (1 : Nat) ({ cls := "java/lang/Throwable", name := "<init>", desc := "()V" } : Jvm.MethodName)) ∈ lw_all := lw_g (lw_at lw_m2 105 rfl) rfl
theorem q416 : (Jvm.Cond.lays "java/lang/IndexOutOfBoundsException" "java/lang/Throwable" "depth" "I") ∈ lw_all := lw_g (lw_at lw_m2 106 rfl) rfl
theorem q417 : (Jvm.Cond.superclass "java/lang/IndexOutOfBoundsException" "java/lang/RuntimeException") ∈ lw_all := lw_g (lw_at lw_m2 107 rfl) rfl
theorem q418 : (Jvm.Cond.methodLink "BrassInspector" (137 : Nat) ({ cls := "BrassInspector", name := "require", desc := "(Z)V" } : Jvm.MethodName)) ∈ lw_all := lw_g (lw_at lw_m2 108 rfl) rfl
theorem q419 : (Jvm.Cond.static ({ cls := "BrassInspector", name := "require", desc := "(Z)V" } : Jvm.MethodName)) ∈ lw_all := lw_g (lw_at lw_m2 109 rfl) rfl
theorem q420 : (Jvm.Cond.code ({ cls := "BrassInspector", name := "require", desc := "(Z)V" } : Jvm.MethodName) prog_1_method_6_code (1 : Nat) (Option.none : Option Jvm.ClassFile.FieldType)) ∈ lw_all := lw_g (lw_at lw_m2 110 rfl) rfl
theorem q421 : (Jvm.Cond.classLink "BrassInspector" (49 : Nat) "java/lang/IllegalArgumentException") ∈ lw_all := lw_g (lw_at lw_m2 111 rfl) rfl
theorem q422 : (Jvm.Cond.instantiable "java/lang/IllegalArgumentException" (6 : Nat)) ∈ lw_all := lw_g (lw_at lw_m2 112 rfl) rfl
theorem q423 : (Jvm.Cond.castable "java/lang/IllegalArgumentException" "java/lang/IllegalArgumentException") ∈ lw_tbl := lw_at lw_m2 113 rfl
theorem q424 : (Jvm.Cond.selects "java/lang/IllegalArgumentException" ({ cls := "java/lang/Throwable", name := "fillInStackTrace", desc := "(I)Ljava/lang/Throwable;" } : Jvm.MethodName) ({ cls := "java/lang/Throwable", name := "fillInStackTrace", desc := "(I)Ljava/lang/Throwable;" } : Jvm.MethodName)) ∈ lw_all := lw_g (lw_at lw_m2 114 rfl) rfl
theorem q425 : (Jvm.Cond.lays "java/lang/IllegalArgumentException" "java/lang/Throwable" "cause" "Ljava/lang/Throwable;") ∈ lw_all := lw_g (lw_at lw_m2 115 rfl) rfl
theorem q426 : (Jvm.Cond.lays "java/lang/IllegalArgumentException" "java/lang/Throwable" "stackTrace" "[Ljava/lang/StackTraceElement;") ∈ lw_all := lw_g (lw_at lw_m2 116 rfl) rfl
theorem q427 : (Jvm.Cond.lays "java/lang/IllegalArgumentException" "java/lang/Throwable" "suppressedExceptions" "Ljava/util/List;") ∈ lw_all := lw_g (lw_at lw_m2 117 rfl) rfl
theorem q428 : (Jvm.Cond.lays "java/lang/IllegalArgumentException" "java/lang/Throwable" "detailMessage" "Ljava/lang/String;") ∈ lw_all := lw_g (lw_at lw_m2 118 rfl) rfl
theorem q429 : (Jvm.Cond.lays "java/lang/IllegalArgumentException" "java/lang/Throwable" "backtrace" "Ljava/lang/Object;") ∈ lw_all := lw_g (lw_at lw_m2 119 rfl) rfl
theorem q430 : (Jvm.Cond.methodLink "BrassInspector" (51 : Nat) ({ cls := "java/lang/IllegalArgumentException", name := "<init>", desc := "()V" } : Jvm.MethodName)) ∈ lw_all := lw_g (lw_at lw_m2 120 rfl) rfl
theorem q431 : (Jvm.Cond.instanceMethod ({ cls := "java/lang/IllegalArgumentException", name := "<init>", desc := "()V" } : Jvm.MethodName)) ∈ lw_all := lw_g (lw_at lw_m2 121 rfl) rfl
theorem q432 : (Jvm.Cond.code ({ cls := "java/lang/IllegalArgumentException", name := "<init>", desc := "()V" } : Jvm.MethodName) prog_31_method_1_code (1 : Nat) (Option.none : Option Jvm.ClassFile.FieldType)) ∈ lw_all := lw_g (lw_at lw_m2 122 rfl) rfl
theorem q433 : (Jvm.Cond.methodLink "java/lang/IllegalArgumentException" (1 : Nat) ({ cls := "java/lang/RuntimeException", name := "<init>", desc := "()V" } : Jvm.MethodName)) ∈ lw_all := lw_g (lw_at lw_m2 123 rfl) rfl
theorem q434 : (Jvm.Cond.lays "java/lang/IllegalArgumentException" "java/lang/Throwable" "depth" "I") ∈ lw_all := lw_g (lw_at lw_m2 124 rfl) rfl
theorem q435 : (Jvm.Cond.superclass "java/lang/IllegalArgumentException" "java/lang/RuntimeException") ∈ lw_all := lw_g (lw_at lw_m2 125 rfl) rfl
theorem q436 : (Jvm.Cond.classLink "BrassInspector" (140 : Nat) "BrassInspector$1") ∈ lw_all := lw_g (lw_at lw_m2 126 rfl) rfl
theorem q437 : (Jvm.Cond.instantiable "BrassInspector$1" (3 : Nat)) ∈ lw_all := lw_g (lw_at lw_m2 127 rfl) rfl
theorem q438 : (Jvm.Cond.methodLink "BrassInspector" (142 : Nat) ({ cls := "BrassInspector$1", name := "<init>", desc := "(LBrassInspector;II)V" } : Jvm.MethodName)) ∈ lw_all := lw_g (lw_at lw_m2 128 rfl) rfl
theorem q439 : (Jvm.Cond.instanceMethod ({ cls := "BrassInspector$1", name := "<init>", desc := "(LBrassInspector;II)V" } : Jvm.MethodName)) ∈ lw_all := lw_g (lw_at lw_m2 129 rfl) rfl
theorem q440 : (Jvm.Cond.code ({ cls := "BrassInspector$1", name := "<init>", desc := "(LBrassInspector;II)V" } : Jvm.MethodName) prog_2_method_1_code (4 : Nat) (Option.none : Option Jvm.ClassFile.FieldType)) ∈ lw_all := lw_g (lw_at lw_m2 130 rfl) rfl
theorem q441 : (Jvm.Cond.methodLinkNest "BrassInspector$1" (14 : Nat) ({ cls := "BrassInspector$Deed", name := "<init>", desc := "()V" } : Jvm.MethodName) "BrassInspector") ∈ lw_tbl := lw_at lw_m2 131 rfl
theorem q442 : (Jvm.Cond.instanceMethod ({ cls := "BrassInspector$Deed", name := "<init>", desc := "()V" } : Jvm.MethodName)) ∈ lw_all := lw_g (lw_at lw_m2 132 rfl) rfl
theorem q443 : (Jvm.Cond.code ({ cls := "BrassInspector$Deed", name := "<init>", desc := "()V" } : Jvm.MethodName) prog_9_method_1_code (1 : Nat) (Option.none : Option Jvm.ClassFile.FieldType)) ∈ lw_all := lw_g (lw_at lw_m2 133 rfl) rfl
theorem q444 : (Jvm.Cond.methodLink "BrassInspector$Deed" (1 : Nat) ({ cls := "java/lang/Object", name := "<init>", desc := "()V" } : Jvm.MethodName)) ∈ lw_all := lw_g (lw_at lw_m2 134 rfl) rfl
theorem q445 : (Jvm.Cond.fieldLink "BrassInspector$1" (7 : Nat) "BrassInspector$1" "val$fair" "I") ∈ lw_all := lw_g (lw_at lw_m2 135 rfl) rfl
theorem q446 : (Jvm.Cond.fieldLink "BrassInspector$1" (11 : Nat) "BrassInspector$1" "val$rate" "I") ∈ lw_all := lw_g (lw_at lw_m2 136 rfl) rfl
theorem q447 : (Jvm.Cond.fieldLink "BrassInspector$1" (1 : Nat) "BrassInspector$1" "this$0" "LBrassInspector;") ∈ lw_all := lw_g (lw_at lw_m2 137 rfl) rfl
theorem q448 : (Jvm.Cond.laysFinal "BrassInspector$1" "BrassInspector$1" "val$fair" "I") ∈ lw_all := lw_g (lw_at lw_m2 138 rfl) rfl
theorem q449 : (Jvm.Cond.soleField "BrassInspector$1" "val$fair") ∈ lw_all := lw_g (lw_at lw_m2 139 rfl) rfl
theorem q450 : (Jvm.Cond.laysFinal "BrassInspector$1" "BrassInspector$1" "val$rate" "I") ∈ lw_all := lw_g (lw_at lw_m2 140 rfl) rfl
theorem q451 : (Jvm.Cond.soleField "BrassInspector$1" "val$rate") ∈ lw_all := lw_g (lw_at lw_m2 141 rfl) rfl
theorem q452 : (Jvm.Cond.laysFinal "BrassInspector$1" "BrassInspector$1" "this$0" "LBrassInspector;") ∈ lw_all := lw_g (lw_at lw_m2 142 rfl) rfl
theorem q453 : (Jvm.Cond.soleField "BrassInspector$1" "this$0") ∈ lw_all := lw_g (lw_at lw_m2 143 rfl) rfl
theorem q454 : (Jvm.Cond.superclass "BrassInspector$1" "BrassInspector$Deed") ∈ lw_all := lw_g (lw_at lw_m2 144 rfl) rfl
theorem q455 : (Jvm.Cond.methodLink "BrassInspector" (145 : Nat) ({ cls := "BrassInspector", name := "changed", desc := "(LBrassInspector$Deed;)I" } : Jvm.MethodName)) ∈ lw_all := lw_g (lw_at lw_m2 145 rfl) rfl
theorem q456 : (Jvm.Cond.privateMethod ({ cls := "BrassInspector", name := "changed", desc := "(LBrassInspector$Deed;)I" } : Jvm.MethodName)) ∈ lw_tbl := lw_at lw_m2 146 rfl
theorem q457 : (Jvm.Cond.instanceMethod ({ cls := "BrassInspector", name := "changed", desc := "(LBrassInspector$Deed;)I" } : Jvm.MethodName)) ∈ lw_all := lw_g (lw_at lw_m2 147 rfl) rfl
theorem q458 : (Jvm.Cond.codeWith ({ cls := "BrassInspector", name := "changed", desc := "(LBrassInspector$Deed;)I" } : Jvm.MethodName) prog_1_method_12_code (3 : Nat) (Option.some Jvm.ClassFile.FieldType.int) [((0 : Nat), (5 : Nat), (6 : Nat), (1 : Nat))]) ∈ lw_all := lw_g (lw_at lw_m2 148 rfl) rfl
theorem q459 : (Jvm.Cond.classLink "BrassInspector" (1 : Nat) "BrassInspector$Refusal") ∈ lw_all := lw_g (lw_at lw_m2 149 rfl) rfl
theorem q460 : (Jvm.Cond.methodLink "BrassInspector" (91 : Nat) ({ cls := "BrassInspector", name := "tried", desc := "(LBrassInspector$Deed;)I" } : Jvm.MethodName)) ∈ lw_all := lw_g (lw_at lw_m2 150 rfl) rfl
theorem q461 : (Jvm.Cond.privateMethod ({ cls := "BrassInspector", name := "tried", desc := "(LBrassInspector$Deed;)I" } : Jvm.MethodName)) ∈ lw_tbl := lw_at lw_m2 151 rfl
theorem q462 : (Jvm.Cond.instanceMethod ({ cls := "BrassInspector", name := "tried", desc := "(LBrassInspector$Deed;)I" } : Jvm.MethodName)) ∈ lw_all := lw_g (lw_at lw_m2 152 rfl) rfl
theorem q463 : (Jvm.Cond.codeWith ({ cls := "BrassInspector", name := "tried", desc := "(LBrassInspector$Deed;)I" } : Jvm.MethodName) prog_1_method_11_code (4 : Nat) (Option.some Jvm.ClassFile.FieldType.int) [((8 : Nat), (20 : Nat), (21 : Nat), (1 : Nat))]) ∈ lw_all := lw_g (lw_at lw_m2 153 rfl) rfl
theorem q464 : (Jvm.Cond.methodLink "BrassInspector" (73 : Nat) ({ cls := "BrassInspector$Round", name := "copy", desc := "()LBrassInspector$Round;" } : Jvm.MethodName)) ∈ lw_all := lw_g (lw_at lw_m2 154 rfl) rfl
theorem q465 : (Jvm.Cond.instanceMethod ({ cls := "BrassInspector$Round", name := "copy", desc := "()LBrassInspector$Round;" } : Jvm.MethodName)) ∈ lw_all := lw_g (lw_at lw_m2 155 rfl) rfl
theorem q466 : (Jvm.Cond.selects "BrassInspector$Round" ({ cls := "BrassInspector$Round", name := "copy", desc := "()LBrassInspector$Round;" } : Jvm.MethodName) ({ cls := "BrassInspector$Round", name := "copy", desc := "()LBrassInspector$Round;" } : Jvm.MethodName)) ∈ lw_all := lw_g (lw_at lw_m2 156 rfl) rfl
theorem q467 : (Jvm.Cond.code ({ cls := "BrassInspector$Round", name := "copy", desc := "()LBrassInspector$Round;" } : Jvm.MethodName) prog_13_method_2_code (4 : Nat) (Option.some (Jvm.ClassFile.FieldType.object "BrassInspector$Round"))) ∈ lw_all := lw_g (lw_at lw_m2 157 rfl) rfl
theorem q468 : (Jvm.Cond.classLink "BrassInspector$Round" (10 : Nat) "BrassInspector$Round") ∈ lw_all := lw_g (lw_at lw_m2 158 rfl) rfl
theorem q469 : (Jvm.Cond.methodLink "BrassInspector$Round" (28 : Nat) ({ cls := "BrassInspector$Round", name := "<init>", desc := "()V" } : Jvm.MethodName)) ∈ lw_all := lw_g (lw_at lw_m2 159 rfl) rfl
theorem q470 : (Jvm.Cond.methodLink "BrassInspector$Round" (29 : Nat) ({ cls := "java/lang/System", name := "arraycopy", desc := "(Ljava/lang/Object;ILjava/lang/Object;II)V" } : Jvm.MethodName)) ∈ lw_all := lw_g (lw_at lw_m2 160 rfl) rfl
theorem q471 : (Jvm.Cond.static ({ cls := "java/lang/System", name := "arraycopy", desc := "(Ljava/lang/Object;ILjava/lang/Object;II)V" } : Jvm.MethodName)) ∈ lw_all := lw_g (lw_at lw_m2 161 rfl) rfl
theorem q472 : (Jvm.Cond.native ({ cls := "java/lang/System", name := "arraycopy", desc := "(Ljava/lang/Object;ILjava/lang/Object;II)V" } : Jvm.MethodName)) ∈ lw_all := lw_g (lw_at lw_m2 162 rfl) rfl
theorem q473 : (Jvm.Cond.interfaceEntry "BrassInspector$Round" (35 : Nat)) ∈ lw_tbl := lw_at lw_m2 163 rfl
theorem q474 : (Jvm.Cond.methodLink "BrassInspector$Round" (35 : Nat) ({ cls := "java/util/List", name := "iterator", desc := "()Ljava/util/Iterator;" } : Jvm.MethodName)) ∈ lw_all := lw_g (lw_at lw_m2 164 rfl) rfl
theorem q475 : (Jvm.Cond.interfaceMethod "java/util/List" "java/util/List" "iterator" "()Ljava/util/Iterator;") ∈ lw_tbl := lw_at lw_m2 165 rfl
theorem q476 : (Jvm.Cond.declares ({ cls := "java/util/List", name := "iterator", desc := "()Ljava/util/Iterator;" } : Jvm.MethodName)) ∈ lw_tbl := lw_at lw_m2 166 rfl
theorem q477 : (Jvm.Cond.castable "java/util/ArrayList" "java/util/List") ∈ lw_tbl := lw_at lw_m2 167 rfl
theorem q478 : (Jvm.Cond.selects "java/util/ArrayList" ({ cls := "java/util/List", name := "iterator", desc := "()Ljava/util/Iterator;" } : Jvm.MethodName) ({ cls := "java/util/ArrayList", name := "iterator", desc := "()Ljava/util/Iterator;" } : Jvm.MethodName)) ∈ lw_all := lw_g (lw_at lw_m2 168 rfl) rfl
theorem q479 : (Jvm.Cond.unhidden "java/util/ArrayList" "iterator" "()Ljava/util/Iterator;") ∈ lw_tbl := lw_at lw_m2 169 rfl
theorem q480 : (Jvm.Cond.instanceMethod ({ cls := "java/util/ArrayList", name := "iterator", desc := "()Ljava/util/Iterator;" } : Jvm.MethodName)) ∈ lw_all := lw_g (lw_at lw_m2 170 rfl) rfl
theorem q481 : (Jvm.Cond.publicMethod ({ cls := "java/util/ArrayList", name := "iterator", desc := "()Ljava/util/Iterator;" } : Jvm.MethodName)) ∈ lw_tbl := lw_at lw_m2 171 rfl
theorem q482 : (Jvm.Cond.code ({ cls := "java/util/ArrayList", name := "iterator", desc := "()Ljava/util/Iterator;" } : Jvm.MethodName) prog_55_method_55_code (1 : Nat) (Option.some (Jvm.ClassFile.FieldType.object "java/util/Iterator"))) ∈ lw_all := lw_g (lw_at lw_m2 172 rfl) rfl
theorem q483 : (Jvm.Cond.classLink "java/util/ArrayList" (267 : Nat) "java/util/ArrayList$Itr") ∈ lw_all := lw_g (lw_at lw_m2 173 rfl) rfl
theorem q484 : (Jvm.Cond.instantiable "java/util/ArrayList$Itr" (4 : Nat)) ∈ lw_all := lw_g (lw_at lw_m2 174 rfl) rfl
theorem q485 : (Jvm.Cond.methodLink "java/util/ArrayList" (269 : Nat) ({ cls := "java/util/ArrayList$Itr", name := "<init>", desc := "(Ljava/util/ArrayList;)V" } : Jvm.MethodName)) ∈ lw_all := lw_g (lw_at lw_m2 175 rfl) rfl
theorem q486 : (Jvm.Cond.instanceMethod ({ cls := "java/util/ArrayList$Itr", name := "<init>", desc := "(Ljava/util/ArrayList;)V" } : Jvm.MethodName)) ∈ lw_all := lw_g (lw_at lw_m2 176 rfl) rfl
theorem q487 : (Jvm.Cond.code ({ cls := "java/util/ArrayList$Itr", name := "<init>", desc := "(Ljava/util/ArrayList;)V" } : Jvm.MethodName) prog_56_method_1_code (2 : Nat) (Option.none : Option Jvm.ClassFile.FieldType)) ∈ lw_all := lw_g (lw_at lw_m2 177 rfl) rfl
theorem q488 : (Jvm.Cond.methodLink "java/util/ArrayList$Itr" (7 : Nat) ({ cls := "java/lang/Object", name := "<init>", desc := "()V" } : Jvm.MethodName)) ∈ lw_all := lw_g (lw_at lw_m2 178 rfl) rfl
theorem q489 : (Jvm.Cond.fieldLink "java/util/ArrayList$ListItr" (13 : Nat) "java/util/ArrayList$ListItr" "cursor" "I") ∈ lw_all := lw_g (lw_at lw_m2 179 rfl) rfl
theorem q490 : (Jvm.Cond.sameField "java/util/ArrayList$ListItr" "java/util/ArrayList$Itr" "cursor" "I") ∈ lw_all := lw_g (lw_at lw_m2 180 rfl) rfl
theorem q491 : (Jvm.Cond.fieldLink "java/util/ArrayList$Itr" (25 : Nat) "java/util/ArrayList$Itr" "cursor" "I") ∈ lw_all := lw_g (lw_at lw_m2 181 rfl) rfl
theorem q492 : (Jvm.Cond.fieldLink "java/util/ArrayList$Itr" (13 : Nat) "java/util/ArrayList$Itr" "lastRet" "I") ∈ lw_all := lw_g (lw_at lw_m2 182 rfl) rfl
theorem q493 : (Jvm.Cond.fieldLink "java/util/ArrayList$Itr" (22 : Nat) "java/util/ArrayList$Itr" "expectedModCount" "I") ∈ lw_all := lw_g (lw_at lw_m2 183 rfl) rfl
theorem q494 : (Jvm.Cond.fieldLink "java/util/ArrayList$Itr" (1 : Nat) "java/util/ArrayList$Itr" "this$0" "Ljava/util/ArrayList;") ∈ lw_all := lw_g (lw_at lw_m2 184 rfl) rfl
theorem q495 : (Jvm.Cond.lays "java/util/ArrayList$Itr" "java/util/ArrayList$Itr" "cursor" "I") ∈ lw_all := lw_g (lw_at lw_m2 185 rfl) rfl
theorem q496 : (Jvm.Cond.soleField "java/util/ArrayList$Itr" "cursor") ∈ lw_all := lw_g (lw_at lw_m2 186 rfl) rfl
theorem q497 : (Jvm.Cond.lays "java/util/ArrayList$Itr" "java/util/ArrayList$Itr" "lastRet" "I") ∈ lw_all := lw_g (lw_at lw_m2 187 rfl) rfl
theorem q498 : (Jvm.Cond.soleField "java/util/ArrayList$Itr" "lastRet") ∈ lw_all := lw_g (lw_at lw_m2 188 rfl) rfl
theorem q499 : (Jvm.Cond.lays "java/util/ArrayList$Itr" "java/util/ArrayList$Itr" "expectedModCount" "I") ∈ lw_all := lw_g (lw_at lw_m2 189 rfl) rfl
theorem q500 : (Jvm.Cond.soleField "java/util/ArrayList$Itr" "expectedModCount") ∈ lw_all := lw_g (lw_at lw_m2 190 rfl) rfl
theorem q501 : (Jvm.Cond.laysFinal "java/util/ArrayList$Itr" "java/util/ArrayList$Itr" "this$0" "Ljava/util/ArrayList;") ∈ lw_all := lw_g (lw_at lw_m2 191 rfl) rfl
theorem q502 : (Jvm.Cond.soleField "java/util/ArrayList$Itr" "this$0") ∈ lw_all := lw_g (lw_at lw_m2 192 rfl) rfl
theorem q503 : (Jvm.Cond.superclass "java/util/ArrayList$Itr" "java/lang/Object") ∈ lw_all := lw_g (lw_at lw_m2 193 rfl) rfl
theorem q504 : (Jvm.Cond.castable "java/util/LinkedList" "java/util/List") ∈ lw_tbl := lw_at lw_m2 194 rfl
theorem q505 : (Jvm.Cond.selects "java/util/LinkedList" ({ cls := "java/util/List", name := "iterator", desc := "()Ljava/util/Iterator;" } : Jvm.MethodName) ({ cls := "java/util/AbstractSequentialList", name := "iterator", desc := "()Ljava/util/Iterator;" } : Jvm.MethodName)) ∈ lw_all := lw_g (lw_at lw_m2 195 rfl) rfl
theorem q506 : (Jvm.Cond.unhidden "java/util/LinkedList" "iterator" "()Ljava/util/Iterator;") ∈ lw_tbl := lw_at lw_m2 196 rfl
theorem q507 : (Jvm.Cond.instanceMethod ({ cls := "java/util/AbstractSequentialList", name := "iterator", desc := "()Ljava/util/Iterator;" } : Jvm.MethodName)) ∈ lw_all := lw_g (lw_at lw_m2 197 rfl) rfl
theorem q508 : (Jvm.Cond.publicMethod ({ cls := "java/util/AbstractSequentialList", name := "iterator", desc := "()Ljava/util/Iterator;" } : Jvm.MethodName)) ∈ lw_tbl := lw_at lw_m2 198 rfl
theorem q509 : (Jvm.Cond.code ({ cls := "java/util/AbstractSequentialList", name := "iterator", desc := "()Ljava/util/Iterator;" } : Jvm.MethodName) prog_54_method_7_code (1 : Nat) (Option.some (Jvm.ClassFile.FieldType.object "java/util/Iterator"))) ∈ lw_all := lw_g (lw_at lw_m2 199 rfl) rfl
theorem q510 : (Jvm.Cond.methodLink "java/util/AbstractSequentialList" (65 : Nat) ({ cls := "java/util/AbstractSequentialList", name := "listIterator", desc := "()Ljava/util/ListIterator;" } : Jvm.MethodName)) ∈ lw_all := lw_g (lw_at lw_m2 200 rfl) rfl
theorem q511 : (Jvm.Cond.sameMethod "java/util/AbstractSequentialList" "java/util/AbstractList" "listIterator" "()Ljava/util/ListIterator;") ∈ lw_all := lw_g (lw_at lw_m2 201 rfl) rfl
theorem q512 : (Jvm.Cond.declares ({ cls := "java/util/AbstractList", name := "listIterator", desc := "()Ljava/util/ListIterator;" } : Jvm.MethodName)) ∈ lw_tbl := lw_at lw_m2 202 rfl
theorem q513 : (Jvm.Cond.selects "java/util/LinkedList" ({ cls := "java/util/AbstractSequentialList", name := "listIterator", desc := "()Ljava/util/ListIterator;" } : Jvm.MethodName) ({ cls := "java/util/AbstractList", name := "listIterator", desc := "()Ljava/util/ListIterator;" } : Jvm.MethodName)) ∈ lw_all := lw_g (lw_at lw_m2 203 rfl) rfl
theorem q514 : (Jvm.Cond.instanceMethod ({ cls := "java/util/AbstractList", name := "listIterator", desc := "()Ljava/util/ListIterator;" } : Jvm.MethodName)) ∈ lw_all := lw_g (lw_at lw_m2 204 rfl) rfl
theorem q515 : (Jvm.Cond.code ({ cls := "java/util/AbstractList", name := "listIterator", desc := "()Ljava/util/ListIterator;" } : Jvm.MethodName) prog_51_method_12_code (1 : Nat) (Option.some (Jvm.ClassFile.FieldType.object "java/util/ListIterator"))) ∈ lw_all := lw_g (lw_at lw_m2 205 rfl) rfl
theorem q516 : (Jvm.Cond.methodLink "java/util/AbstractList" (47 : Nat) ({ cls := "java/util/AbstractList", name := "listIterator", desc := "(I)Ljava/util/ListIterator;" } : Jvm.MethodName)) ∈ lw_all := lw_g (lw_at lw_m2 206 rfl) rfl
theorem q517 : (Jvm.Cond.instanceMethod ({ cls := "java/util/AbstractList", name := "listIterator", desc := "(I)Ljava/util/ListIterator;" } : Jvm.MethodName)) ∈ lw_all := lw_g (lw_at lw_m2 207 rfl) rfl
theorem q518 : (Jvm.Cond.sameMethod "java/util/AbstractList" "java/util/AbstractList" "listIterator" "(I)Ljava/util/ListIterator;") ∈ lw_all := lw_g (lw_at lw_m2 208 rfl) rfl
theorem q519 : (Jvm.Cond.selects "java/util/ArrayList" ({ cls := "java/util/AbstractList", name := "listIterator", desc := "(I)Ljava/util/ListIterator;" } : Jvm.MethodName) ({ cls := "java/util/ArrayList", name := "listIterator", desc := "(I)Ljava/util/ListIterator;" } : Jvm.MethodName)) ∈ lw_all := lw_g (lw_at lw_m2 209 rfl) rfl
theorem q520 : (Jvm.Cond.instanceMethod ({ cls := "java/util/ArrayList", name := "listIterator", desc := "(I)Ljava/util/ListIterator;" } : Jvm.MethodName)) ∈ lw_all := lw_g (lw_at lw_m2 210 rfl) rfl
theorem q521 : (Jvm.Cond.code ({ cls := "java/util/ArrayList", name := "listIterator", desc := "(I)Ljava/util/ListIterator;" } : Jvm.MethodName) prog_55_method_53_code (2 : Nat) (Option.some (Jvm.ClassFile.FieldType.object "java/util/ListIterator"))) ∈ lw_all := lw_g (lw_at lw_m2 211 rfl) rfl
theorem q522 : (Jvm.Cond.methodLink "java/util/ArrayList" (135 : Nat) ({ cls := "java/util/ArrayList", name := "rangeCheckForAdd", desc := "(I)V" } : Jvm.MethodName)) ∈ lw_all := lw_g (lw_at lw_m2 212 rfl) rfl
theorem q523 : (Jvm.Cond.privateMethod ({ cls := "java/util/ArrayList", name := "rangeCheckForAdd", desc := "(I)V" } : Jvm.MethodName)) ∈ lw_tbl := lw_at lw_m2 213 rfl
theorem q524 : (Jvm.Cond.instanceMethod ({ cls := "java/util/ArrayList", name := "rangeCheckForAdd", desc := "(I)V" } : Jvm.MethodName)) ∈ lw_all := lw_g (lw_at lw_m2 214 rfl) rfl
theorem q525 : (Jvm.Cond.code ({ cls := "java/util/ArrayList", name := "rangeCheckForAdd", desc := "(I)V" } : Jvm.MethodName) prog_55_method_45_code (2 : Nat) (Option.none : Option Jvm.ClassFile.FieldType)) ∈ lw_all := lw_g (lw_at lw_m2 215 rfl) rfl
theorem q526 : (Jvm.Cond.classLink "java/util/ArrayList" (187 : Nat) "java/lang/IndexOutOfBoundsException") ∈ lw_all := lw_g (lw_at lw_m2 216 rfl) rfl
theorem q527 : (Jvm.Cond.methodLink "java/util/ArrayList" (198 : Nat) ({ cls := "java/util/ArrayList", name := "outOfBoundsMsg", desc := "(I)Ljava/lang/String;" } : Jvm.MethodName)) ∈ lw_all := lw_g (lw_at lw_m2 217 rfl) rfl
theorem q528 : (Jvm.Cond.privateMethod ({ cls := "java/util/ArrayList", name := "outOfBoundsMsg", desc := "(I)Ljava/lang/String;" } : Jvm.MethodName)) ∈ lw_tbl := lw_at lw_m2 218 rfl
theorem q529 : (Jvm.Cond.instanceMethod ({ cls := "java/util/ArrayList", name := "outOfBoundsMsg", desc := "(I)Ljava/lang/String;" } : Jvm.MethodName)) ∈ lw_all := lw_g (lw_at lw_m2 219 rfl) rfl
theorem q530 : (Jvm.Cond.code ({ cls := "java/util/ArrayList", name := "outOfBoundsMsg", desc := "(I)Ljava/lang/String;" } : Jvm.MethodName) prog_55_method_46_code (2 : Nat) (Option.some (Jvm.ClassFile.FieldType.object "java/lang/String"))) ∈ lw_all := lw_g (lw_at lw_m2 220 rfl) rfl
theorem q531 : (Jvm.Cond.classLink "java/util/ArrayList" (20 : Nat) "java/lang/StringBuilder") ∈ lw_all := lw_g (lw_at lw_m2 221 rfl) rfl
theorem q532 : (Jvm.Cond.methodLink "java/util/ArrayList" (22 : Nat) ({ cls := "java/lang/StringBuilder", name := "<init>", desc := "()V" } : Jvm.MethodName)) ∈ lw_all := lw_g (lw_at lw_m2 222 rfl) rfl
theorem q533 : (Jvm.Cond.stringRef "java/util/ArrayList" (201 : Nat) "Index: ") ∈ lw_tbl := lw_at lw_m2 223 rfl
theorem q534 : (Jvm.Cond.methodLink "java/util/ArrayList" (25 : Nat) ({ cls := "java/lang/StringBuilder", name := "append", desc := "(Ljava/lang/String;)Ljava/lang/StringBuilder;" } : Jvm.MethodName)) ∈ lw_all := lw_g (lw_at lw_m2 224 rfl) rfl
theorem q535 : (Jvm.Cond.instanceMethod ({ cls := "java/lang/StringBuilder", name := "append", desc := "(Ljava/lang/String;)Ljava/lang/StringBuilder;" } : Jvm.MethodName)) ∈ lw_all := lw_g (lw_at lw_m2 225 rfl) rfl
theorem q536 : (Jvm.Cond.selects "java/lang/StringBuilder" ({ cls := "java/lang/StringBuilder", name := "append", desc := "(Ljava/lang/String;)Ljava/lang/StringBuilder;" } : Jvm.MethodName) ({ cls := "java/lang/StringBuilder", name := "append", desc := "(Ljava/lang/String;)Ljava/lang/StringBuilder;" } : Jvm.MethodName)) ∈ lw_all := lw_g (lw_at lw_m2 226 rfl) rfl
theorem q537 : (Jvm.Cond.code ({ cls := "java/lang/StringBuilder", name := "append", desc := "(Ljava/lang/String;)Ljava/lang/StringBuilder;" } : Jvm.MethodName) prog_40_method_7_code (2 : Nat) (Option.some (Jvm.ClassFile.FieldType.object "java/lang/StringBuilder"))) ∈ lw_all := lw_g (lw_at lw_m2 227 rfl) rfl
theorem q538 : (Jvm.Cond.methodLink "java/lang/StringBuilder" (29 : Nat) ({ cls := "java/lang/AbstractStringBuilder", name := "append", desc := "(Ljava/lang/String;)Ljava/lang/AbstractStringBuilder;" } : Jvm.MethodName)) ∈ lw_all := lw_g (lw_at lw_m2 228 rfl) rfl
theorem q539 : (Jvm.Cond.instanceMethod ({ cls := "java/lang/AbstractStringBuilder", name := "append", desc := "(Ljava/lang/String;)Ljava/lang/AbstractStringBuilder;" } : Jvm.MethodName)) ∈ lw_all := lw_g (lw_at lw_m2 229 rfl) rfl
theorem q540 : (Jvm.Cond.code ({ cls := "java/lang/AbstractStringBuilder", name := "append", desc := "(Ljava/lang/String;)Ljava/lang/AbstractStringBuilder;" } : Jvm.MethodName) prog_22_method_22_code (3 : Nat) (Option.some (Jvm.ClassFile.FieldType.object "java/lang/AbstractStringBuilder"))) ∈ lw_all := lw_g (lw_at lw_m2 230 rfl) rfl
theorem q541 : (Jvm.Cond.methodLink "java/lang/AbstractStringBuilder" (204 : Nat) ({ cls := "java/lang/AbstractStringBuilder", name := "appendNull", desc := "()Ljava/lang/AbstractStringBuilder;" } : Jvm.MethodName)) ∈ lw_all := lw_g (lw_at lw_m2 231 rfl) rfl
theorem q542 : (Jvm.Cond.privateMethod ({ cls := "java/lang/AbstractStringBuilder", name := "appendNull", desc := "()Ljava/lang/AbstractStringBuilder;" } : Jvm.MethodName)) ∈ lw_tbl := lw_at lw_m2 232 rfl
theorem q543 : (Jvm.Cond.instanceMethod ({ cls := "java/lang/AbstractStringBuilder", name := "appendNull", desc := "()Ljava/lang/AbstractStringBuilder;" } : Jvm.MethodName)) ∈ lw_all := lw_g (lw_at lw_m2 233 rfl) rfl
theorem q544 : (Jvm.Cond.code ({ cls := "java/lang/AbstractStringBuilder", name := "appendNull", desc := "()Ljava/lang/AbstractStringBuilder;" } : Jvm.MethodName) prog_22_method_26_code (3 : Nat) (Option.some (Jvm.ClassFile.FieldType.object "java/lang/AbstractStringBuilder"))) ∈ lw_all := lw_g (lw_at lw_m2 234 rfl) rfl
theorem q545 : (Jvm.Cond.methodLink "java/lang/AbstractStringBuilder" (100 : Nat) ({ cls := "java/lang/AbstractStringBuilder", name := "ensureCapacityInternal", desc := "(I)V" } : Jvm.MethodName)) ∈ lw_all := lw_g (lw_at lw_m2 235 rfl) rfl
theorem q546 : (Jvm.Cond.privateMethod ({ cls := "java/lang/AbstractStringBuilder", name := "ensureCapacityInternal", desc := "(I)V" } : Jvm.MethodName)) ∈ lw_tbl := lw_at lw_m2 236 rfl
theorem q547 : (Jvm.Cond.instanceMethod ({ cls := "java/lang/AbstractStringBuilder", name := "ensureCapacityInternal", desc := "(I)V" } : Jvm.MethodName)) ∈ lw_all := lw_g (lw_at lw_m2 237 rfl) rfl
theorem q548 : (Jvm.Cond.code ({ cls := "java/lang/AbstractStringBuilder", name := "ensureCapacityInternal", desc := "(I)V" } : Jvm.MethodName) prog_22_method_9_code (3 : Nat) (Option.none : Option Jvm.ClassFile.FieldType)) ∈ lw_all := lw_g (lw_at lw_m2 238 rfl) rfl
theorem q549 : (Jvm.Cond.methodLink "java/lang/AbstractStringBuilder" (104 : Nat) ({ cls := "java/lang/AbstractStringBuilder", name := "newCapacity", desc := "(I)I" } : Jvm.MethodName)) ∈ lw_all := lw_g (lw_at lw_m2 239 rfl) rfl
theorem q550 : (Jvm.Cond.privateMethod ({ cls := "java/lang/AbstractStringBuilder", name := "newCapacity", desc := "(I)I" } : Jvm.MethodName)) ∈ lw_tbl := lw_at lw_m3 0 rfl
theorem q551 : (Jvm.Cond.instanceMethod ({ cls := "java/lang/AbstractStringBuilder", name := "newCapacity", desc := "(I)I" } : Jvm.MethodName)) ∈ lw_all := lw_g (lw_at lw_m3 1 rfl) rfl
theorem q552 : (Jvm.Cond.code ({ cls := "java/lang/AbstractStringBuilder", name := "newCapacity", desc := "(I)I" } : Jvm.MethodName) prog_22_method_10_code (6 : Nat) (Option.some Jvm.ClassFile.FieldType.int)) ∈ lw_all := lw_g (lw_at lw_m3 2 rfl) rfl
theorem q553 : (Jvm.Cond.methodLink "java/lang/AbstractStringBuilder" (114 : Nat) ({ cls := "jdk/internal/util/ArraysSupport", name := "newLength", desc := "(III)I" } : Jvm.MethodName)) ∈ lw_all := lw_g (lw_at lw_m3 3 rfl) rfl
theorem q554 : (Jvm.Cond.static ({ cls := "jdk/internal/util/ArraysSupport", name := "newLength", desc := "(III)I" } : Jvm.MethodName)) ∈ lw_all := lw_g (lw_at lw_m3 4 rfl) rfl
theorem q555 : (Jvm.Cond.code ({ cls := "jdk/internal/util/ArraysSupport", name := "newLength", desc := "(III)I" } : Jvm.MethodName) prog_73_method_27_code (4 : Nat) (Option.some Jvm.ClassFile.FieldType.int)) ∈ lw_all := lw_g (lw_at lw_m3 5 rfl) rfl
theorem q556 : (Jvm.Cond.methodLink "jdk/internal/util/ArraysSupport" (194 : Nat) ({ cls := "java/lang/Math", name := "max", desc := "(II)I" } : Jvm.MethodName)) ∈ lw_all := lw_g (lw_at lw_m3 6 rfl) rfl
theorem q557 : (Jvm.Cond.static ({ cls := "java/lang/Math", name := "max", desc := "(II)I" } : Jvm.MethodName)) ∈ lw_all := lw_g (lw_at lw_m3 7 rfl) rfl
theorem q558 : (Jvm.Cond.code ({ cls := "java/lang/Math", name := "max", desc := "(II)I" } : Jvm.MethodName) prog_36_method_65_code (2 : Nat) (Option.some Jvm.ClassFile.FieldType.int)) ∈ lw_all := lw_g (lw_at lw_m3 8 rfl) rfl
theorem q559 : (Jvm.Cond.constant "jdk/internal/util/ArraysSupport" (200 : Nat) (2147483639 : Int32)) ∈ lw_all := lw_g (lw_at lw_m3 9 rfl) rfl
theorem q560 : (Jvm.Cond.methodLink "jdk/internal/util/ArraysSupport" (201 : Nat) ({ cls := "jdk/internal/util/ArraysSupport", name := "hugeLength", desc := "(II)I" } : Jvm.MethodName)) ∈ lw_all := lw_g (lw_at lw_m3 10 rfl) rfl
theorem q561 : (Jvm.Cond.static ({ cls := "jdk/internal/util/ArraysSupport", name := "hugeLength", desc := "(II)I" } : Jvm.MethodName)) ∈ lw_all := lw_g (lw_at lw_m3 11 rfl) rfl
theorem q562 : (Jvm.Cond.code ({ cls := "jdk/internal/util/ArraysSupport", name := "hugeLength", desc := "(II)I" } : Jvm.MethodName) prog_73_method_28_code (3 : Nat) (Option.some Jvm.ClassFile.FieldType.int)) ∈ lw_all := lw_g (lw_at lw_m3 12 rfl) rfl
theorem q563 : (Jvm.Cond.constant "java/lang/AbstractStringBuilder" (39 : Nat) (2147483647 : Int32)) ∈ lw_all := lw_g (lw_at lw_m3 13 rfl) rfl
theorem q564 : (Jvm.Cond.methodLink "java/lang/AbstractStringBuilder" (108 : Nat) ({ cls := "java/util/Arrays", name := "copyOf", desc := "([BI)[B" } : Jvm.MethodName)) ∈ lw_all := lw_g (lw_at lw_m3 14 rfl) rfl
theorem q565 : (Jvm.Cond.static ({ cls := "java/util/Arrays", name := "copyOf", desc := "([BI)[B" } : Jvm.MethodName)) ∈ lw_all := lw_g (lw_at lw_m3 15 rfl) rfl
theorem q566 : (Jvm.Cond.code ({ cls := "java/util/Arrays", name := "copyOf", desc := "([BI)[B" } : Jvm.MethodName) prog_58_method_121_code (3 : Nat) (Option.some (Jvm.ClassFile.FieldType.array Jvm.ClassFile.FieldType.byte))) ∈ lw_all := lw_g (lw_at lw_m3 16 rfl) rfl
theorem q567 : (Jvm.Cond.methodLink "java/util/Arrays" (310 : Nat) ({ cls := "[B", name := "clone", desc := "()Ljava/lang/Object;" } : Jvm.MethodName)) ∈ lw_all := lw_g (lw_at lw_m3 17 rfl) rfl
theorem q568 : (Jvm.Cond.sameMethod "[B" "java/lang/Object" "clone" "()Ljava/lang/Object;") ∈ lw_all := lw_g (lw_at lw_m3 18 rfl) rfl
theorem q569 : (Jvm.Cond.native ({ cls := "java/lang/Object", name := "clone", desc := "()Ljava/lang/Object;" } : Jvm.MethodName)) ∈ lw_all := lw_g (lw_at lw_m3 19 rfl) rfl
theorem q570 : (Jvm.Cond.instanceMethod ({ cls := "java/lang/Object", name := "clone", desc := "()Ljava/lang/Object;" } : Jvm.MethodName)) ∈ lw_all := lw_g (lw_at lw_m3 20 rfl) rfl
theorem q571 : (Jvm.Cond.selects "[B" ({ cls := "[B", name := "clone", desc := "()Ljava/lang/Object;" } : Jvm.MethodName) ({ cls := "java/lang/Object", name := "clone", desc := "()Ljava/lang/Object;" } : Jvm.MethodName)) ∈ lw_all := lw_g (lw_at lw_m3 21 rfl) rfl
theorem q572 : (Jvm.Cond.castable "[B" "java/lang/Cloneable") ∈ lw_tbl := lw_at lw_m3 22 rfl
theorem q573 : (Jvm.Cond.classLink "java/util/Arrays" (311 : Nat) "[B") ∈ lw_all := lw_g (lw_at lw_m3 23 rfl) rfl
theorem q574 : (Jvm.Cond.methodLink "java/util/Arrays" (304 : Nat) ({ cls := "java/lang/Math", name := "min", desc := "(II)I" } : Jvm.MethodName)) ∈ lw_all := lw_g (lw_at lw_m3 24 rfl) rfl
theorem q575 : (Jvm.Cond.static ({ cls := "java/lang/Math", name := "min", desc := "(II)I" } : Jvm.MethodName)) ∈ lw_all := lw_g (lw_at lw_m3 25 rfl) rfl
theorem q576 : (Jvm.Cond.code ({ cls := "java/lang/Math", name := "min", desc := "(II)I" } : Jvm.MethodName) prog_36_method_69_code (2 : Nat) (Option.some Jvm.ClassFile.FieldType.int)) ∈ lw_all := lw_g (lw_at lw_m3 26 rfl) rfl
theorem q577 : (Jvm.Cond.methodLink "java/util/Arrays" (150 : Nat) ({ cls := "java/lang/System", name := "arraycopy", desc := "(Ljava/lang/Object;ILjava/lang/Object;II)V" } : Jvm.MethodName)) ∈ lw_all := lw_g (lw_at lw_m3 27 rfl) rfl
theorem q578 : (Jvm.Cond.methodLink "java/lang/AbstractStringBuilder" (83 : Nat) ({ cls := "java/lang/AbstractStringBuilder", name := "isLatin1", desc := "()Z" } : Jvm.MethodName)) ∈ lw_all := lw_g (lw_at lw_m3 28 rfl) rfl
theorem q579 : (Jvm.Cond.instanceMethod ({ cls := "java/lang/AbstractStringBuilder", name := "isLatin1", desc := "()Z" } : Jvm.MethodName)) ∈ lw_all := lw_g (lw_at lw_m3 29 rfl) rfl
theorem q580 : (Jvm.Cond.sameMethod "java/lang/AbstractStringBuilder" "java/lang/AbstractStringBuilder" "isLatin1" "()Z") ∈ lw_all := lw_g (lw_at lw_m3 30 rfl) rfl
theorem q581 : (Jvm.Cond.selects "java/lang/StringBuilder" ({ cls := "java/lang/AbstractStringBuilder", name := "isLatin1", desc := "()Z" } : Jvm.MethodName) ({ cls := "java/lang/AbstractStringBuilder", name := "isLatin1", desc := "()Z" } : Jvm.MethodName)) ∈ lw_all := lw_g (lw_at lw_m3 31 rfl) rfl
theorem q582 : (Jvm.Cond.code ({ cls := "java/lang/AbstractStringBuilder", name := "isLatin1", desc := "()Z" } : Jvm.MethodName) prog_22_method_68_code (1 : Nat) (Option.some Jvm.ClassFile.FieldType.boolean)) ∈ lw_all := lw_g (lw_at lw_m3 32 rfl) rfl
theorem q583 : (Jvm.Cond.methodLink "java/lang/AbstractStringBuilder" (226 : Nat) ({ cls := "java/lang/StringUTF16", name := "putCharsAt", desc := "([BICCCC)I" } : Jvm.MethodName)) ∈ lw_all := lw_g (lw_at lw_m3 33 rfl) rfl
theorem q584 : (Jvm.Cond.static ({ cls := "java/lang/StringUTF16", name := "putCharsAt", desc := "([BICCCC)I" } : Jvm.MethodName)) ∈ lw_all := lw_g (lw_at lw_m3 34 rfl) rfl
theorem q585 : (Jvm.Cond.code ({ cls := "java/lang/StringUTF16", name := "putCharsAt", desc := "([BICCCC)I" } : Jvm.MethodName) prog_43_method_81_code (7 : Nat) (Option.some Jvm.ClassFile.FieldType.int)) ∈ lw_all := lw_g (lw_at lw_m3 35 rfl) rfl
theorem q586 : (Jvm.Cond.methodLink "java/lang/StringUTF16" (96 : Nat) ({ cls := "java/lang/StringUTF16", name := "checkBoundsBeginEnd", desc := "(II[B)V" } : Jvm.MethodName)) ∈ lw_all := lw_g (lw_at lw_m3 36 rfl) rfl
theorem q587 : (Jvm.Cond.static ({ cls := "java/lang/StringUTF16", name := "checkBoundsBeginEnd", desc := "(II[B)V" } : Jvm.MethodName)) ∈ lw_all := lw_g (lw_at lw_m3 37 rfl) rfl
theorem q588 : (Jvm.Cond.code ({ cls := "java/lang/StringUTF16", name := "checkBoundsBeginEnd", desc := "(II[B)V" } : Jvm.MethodName) prog_43_method_93_code (3 : Nat) (Option.none : Option Jvm.ClassFile.FieldType)) ∈ lw_all := lw_g (lw_at lw_m3 38 rfl) rfl
theorem q589 : (Jvm.Cond.methodLink "java/lang/StringUTF16" (48 : Nat) ({ cls := "java/lang/StringUTF16", name := "length", desc := "([B)I" } : Jvm.MethodName)) ∈ lw_all := lw_g (lw_at lw_m3 39 rfl) rfl
theorem q590 : (Jvm.Cond.static ({ cls := "java/lang/StringUTF16", name := "length", desc := "([B)I" } : Jvm.MethodName)) ∈ lw_all := lw_g (lw_at lw_m3 40 rfl) rfl
theorem q591 : (Jvm.Cond.code ({ cls := "java/lang/StringUTF16", name := "length", desc := "([B)I" } : Jvm.MethodName) prog_43_method_6_code (1 : Nat) (Option.some Jvm.ClassFile.FieldType.int)) ∈ lw_all := lw_g (lw_at lw_m3 41 rfl) rfl
theorem q592 : (Jvm.Cond.methodLink "java/lang/StringUTF16" (241 : Nat) ({ cls := "java/lang/String", name := "checkBoundsBeginEnd", desc := "(III)V" } : Jvm.MethodName)) ∈ lw_all := lw_g (lw_at lw_m3 42 rfl) rfl
theorem q593 : (Jvm.Cond.static ({ cls := "java/lang/String", name := "checkBoundsBeginEnd", desc := "(III)V" } : Jvm.MethodName)) ∈ lw_all := lw_g (lw_at lw_m3 43 rfl) rfl
theorem q594 : (Jvm.Cond.code ({ cls := "java/lang/String", name := "checkBoundsBeginEnd", desc := "(III)V" } : Jvm.MethodName) prog_39_method_158_code (3 : Nat) (Option.none : Option Jvm.ClassFile.FieldType)) ∈ lw_all := lw_g (lw_at lw_m3 44 rfl) rfl
theorem q595 : (Jvm.Cond.fieldLink "java/lang/String" (1053 : Nat) "jdk/internal/util/Preconditions" "SIOOBE_FORMATTER" "Ljava/util/function/BiFunction;") ∈ lw_all := lw_g (lw_at lw_m3 45 rfl) rfl
theorem q596 : (Jvm.Cond.laysStatic "jdk/internal/util/Preconditions" "SIOOBE_FORMATTER" "Ljava/util/function/BiFunction;") ∈ lw_tbl := lw_at lw_m3 46 rfl
theorem q597 : (Jvm.Cond.methodLink "java/lang/String" (1062 : Nat) ({ cls := "jdk/internal/util/Preconditions", name := "checkFromToIndex", desc := "(IIILjava/util/function/BiFunction;)I" } : Jvm.MethodName)) ∈ lw_all := lw_g (lw_at lw_m3 47 rfl) rfl
theorem q598 : (Jvm.Cond.static ({ cls := "jdk/internal/util/Preconditions", name := "checkFromToIndex", desc := "(IIILjava/util/function/BiFunction;)I" } : Jvm.MethodName)) ∈ lw_all := lw_g (lw_at lw_m3 48 rfl) rfl
theorem q599 : (Jvm.Cond.code ({ cls := "jdk/internal/util/Preconditions", name := "checkFromToIndex", desc := "(IIILjava/util/function/BiFunction;)I" } : Jvm.MethodName) prog_74_method_12_code (4 : Nat) (Option.some Jvm.ClassFile.FieldType.int)) ∈ lw_all := lw_g (lw_at lw_m3 49 rfl) rfl
theorem q600 : (Jvm.Cond.methodLink "java/lang/StringUTF16" (111 : Nat) ({ cls := "java/lang/StringUTF16", name := "putChar", desc := "([BII)V" } : Jvm.MethodName)) ∈ lw_all := lw_g (lw_at lw_m3 50 rfl) rfl
theorem q601 : (Jvm.Cond.static ({ cls := "java/lang/StringUTF16", name := "putChar", desc := "([BII)V" } : Jvm.MethodName)) ∈ lw_all := lw_g (lw_at lw_m3 51 rfl) rfl
theorem q602 : (Jvm.Cond.code ({ cls := "java/lang/StringUTF16", name := "putChar", desc := "([BII)V" } : Jvm.MethodName) prog_43_method_4_code (3 : Nat) (Option.none : Option Jvm.ClassFile.FieldType)) ∈ lw_all := lw_g (lw_at lw_m3 52 rfl) rfl
theorem q603 : (Jvm.Cond.fieldLink "java/lang/StringUTF16" (44 : Nat) "java/lang/StringUTF16" "$assertionsDisabled" "Z") ∈ lw_all := lw_g (lw_at lw_m3 53 rfl) rfl
theorem q604 : (Jvm.Cond.laysStatic "java/lang/StringUTF16" "$assertionsDisabled" "Z") ∈ lw_tbl := lw_at lw_m3 54 rfl
theorem q605 : (Jvm.Cond.fieldLink "java/lang/StringUTF16" (59 : Nat) "java/lang/StringUTF16" "HI_BYTE_SHIFT" "I") ∈ lw_all := lw_g (lw_at lw_m3 55 rfl) rfl
theorem q606 : (Jvm.Cond.laysStatic "java/lang/StringUTF16" "HI_BYTE_SHIFT" "I") ∈ lw_tbl := lw_at lw_m3 56 rfl
theorem q607 : (Jvm.Cond.fieldLink "java/lang/StringUTF16" (63 : Nat) "java/lang/StringUTF16" "LO_BYTE_SHIFT" "I") ∈ lw_all := lw_g (lw_at lw_m3 57 rfl) rfl
theorem q608 : (Jvm.Cond.laysStatic "java/lang/StringUTF16" "LO_BYTE_SHIFT" "I") ∈ lw_tbl := lw_at lw_m3 58 rfl
theorem q609 : (Jvm.Cond.methodLink "java/lang/AbstractStringBuilder" (32 : Nat) ({ cls := "java/lang/String", name := "length", desc := "()I" } : Jvm.MethodName)) ∈ lw_all := lw_g (lw_at lw_m3 59 rfl) rfl
theorem q610 : (Jvm.Cond.instanceMethod ({ cls := "java/lang/String", name := "length", desc := "()I" } : Jvm.MethodName)) ∈ lw_all := lw_g (lw_at lw_m3 60 rfl) rfl
theorem q611 : (Jvm.Cond.selects "java/lang/String" ({ cls := "java/lang/String", name := "length", desc := "()I" } : Jvm.MethodName) ({ cls := "java/lang/String", name := "length", desc := "()I" } : Jvm.MethodName)) ∈ lw_all := lw_g (lw_at lw_m3 61 rfl) rfl
theorem q612 : (Jvm.Cond.code ({ cls := "java/lang/String", name := "length", desc := "()I" } : Jvm.MethodName) prog_39_method_54_code (1 : Nat) (Option.some Jvm.ClassFile.FieldType.int)) ∈ lw_all := lw_g (lw_at lw_m3 62 rfl) rfl
theorem q613 : (Jvm.Cond.methodLink "java/lang/String" (335 : Nat) ({ cls := "java/lang/String", name := "coder", desc := "()B" } : Jvm.MethodName)) ∈ lw_all := lw_g (lw_at lw_m3 63 rfl) rfl
theorem q614 : (Jvm.Cond.instanceMethod ({ cls := "java/lang/String", name := "coder", desc := "()B" } : Jvm.MethodName)) ∈ lw_all := lw_g (lw_at lw_m3 64 rfl) rfl
theorem q615 : (Jvm.Cond.selects "java/lang/String" ({ cls := "java/lang/String", name := "coder", desc := "()B" } : Jvm.MethodName) ({ cls := "java/lang/String", name := "coder", desc := "()B" } : Jvm.MethodName)) ∈ lw_all := lw_g (lw_at lw_m3 65 rfl) rfl
theorem q616 : (Jvm.Cond.code ({ cls := "java/lang/String", name := "coder", desc := "()B" } : Jvm.MethodName) prog_39_method_152_code (1 : Nat) (Option.some Jvm.ClassFile.FieldType.byte)) ∈ lw_all := lw_g (lw_at lw_m3 66 rfl) rfl
theorem q617 : (Jvm.Cond.fieldLink "java/lang/String" (38 : Nat) "java/lang/String" "COMPACT_STRINGS" "Z") ∈ lw_all := lw_g (lw_at lw_m3 67 rfl) rfl
theorem q618 : (Jvm.Cond.methodLink "java/lang/AbstractStringBuilder" (208 : Nat) ({ cls := "java/lang/AbstractStringBuilder", name := "putStringAt", desc := "(ILjava/lang/String;)V" } : Jvm.MethodName)) ∈ lw_all := lw_g (lw_at lw_m3 68 rfl) rfl
theorem q619 : (Jvm.Cond.privateMethod ({ cls := "java/lang/AbstractStringBuilder", name := "putStringAt", desc := "(ILjava/lang/String;)V" } : Jvm.MethodName)) ∈ lw_tbl := lw_at lw_m3 69 rfl
theorem q620 : (Jvm.Cond.instanceMethod ({ cls := "java/lang/AbstractStringBuilder", name := "putStringAt", desc := "(ILjava/lang/String;)V" } : Jvm.MethodName)) ∈ lw_all := lw_g (lw_at lw_m3 70 rfl) rfl
theorem q621 : (Jvm.Cond.code ({ cls := "java/lang/AbstractStringBuilder", name := "putStringAt", desc := "(ILjava/lang/String;)V" } : Jvm.MethodName) prog_22_method_73_code (3 : Nat) (Option.none : Option Jvm.ClassFile.FieldType)) ∈ lw_all := lw_g (lw_at lw_m3 71 rfl) rfl
theorem q622 : (Jvm.Cond.methodLink "java/lang/AbstractStringBuilder" (397 : Nat) ({ cls := "java/lang/AbstractStringBuilder", name := "inflateIfNeededFor", desc := "(Ljava/lang/String;)V" } : Jvm.MethodName)) ∈ lw_all := lw_g (lw_at lw_m3 72 rfl) rfl
theorem q623 : (Jvm.Cond.privateMethod ({ cls := "java/lang/AbstractStringBuilder", name := "inflateIfNeededFor", desc := "(Ljava/lang/String;)V" } : Jvm.MethodName)) ∈ lw_tbl := lw_at lw_m3 73 rfl
theorem q624 : (Jvm.Cond.instanceMethod ({ cls := "java/lang/AbstractStringBuilder", name := "inflateIfNeededFor", desc := "(Ljava/lang/String;)V" } : Jvm.MethodName)) ∈ lw_all := lw_g (lw_at lw_m3 74 rfl) rfl
theorem q625 : (Jvm.Cond.code ({ cls := "java/lang/AbstractStringBuilder", name := "inflateIfNeededFor", desc := "(Ljava/lang/String;)V" } : Jvm.MethodName) prog_22_method_71_code (2 : Nat) (Option.none : Option Jvm.ClassFile.FieldType)) ∈ lw_all := lw_g (lw_at lw_m3 75 rfl) rfl
theorem q626 : (Jvm.Cond.methodLink "java/lang/AbstractStringBuilder" (40 : Nat) ({ cls := "java/lang/String", name := "coder", desc := "()B" } : Jvm.MethodName)) ∈ lw_all := lw_g (lw_at lw_m3 76 rfl) rfl
theorem q627 : (Jvm.Cond.methodLink "java/lang/AbstractStringBuilder" (195 : Nat) ({ cls := "java/lang/AbstractStringBuilder", name := "inflate", desc := "()V" } : Jvm.MethodName)) ∈ lw_all := lw_g (lw_at lw_m3 77 rfl) rfl
theorem q628 : (Jvm.Cond.privateMethod ({ cls := "java/lang/AbstractStringBuilder", name := "inflate", desc := "()V" } : Jvm.MethodName)) ∈ lw_tbl := lw_at lw_m3 78 rfl
theorem q629 : (Jvm.Cond.instanceMethod ({ cls := "java/lang/AbstractStringBuilder", name := "inflate", desc := "()V" } : Jvm.MethodName)) ∈ lw_all := lw_g (lw_at lw_m3 79 rfl) rfl
theorem q630 : (Jvm.Cond.code ({ cls := "java/lang/AbstractStringBuilder", name := "inflate", desc := "()V" } : Jvm.MethodName) prog_22_method_11_code (2 : Nat) (Option.none : Option Jvm.ClassFile.FieldType)) ∈ lw_all := lw_g (lw_at lw_m3 80 rfl) rfl
theorem q631 : (Jvm.Cond.methodLink "java/lang/AbstractStringBuilder" (125 : Nat) ({ cls := "java/lang/StringLatin1", name := "inflate", desc := "([BI[BII)V" } : Jvm.MethodName)) ∈ lw_all := lw_g (lw_at lw_m3 81 rfl) rfl
theorem q632 : (Jvm.Cond.static ({ cls := "java/lang/StringLatin1", name := "inflate", desc := "([BI[BII)V" } : Jvm.MethodName)) ∈ lw_all := lw_g (lw_at lw_m3 82 rfl) rfl
theorem q633 : (Jvm.Cond.code ({ cls := "java/lang/StringLatin1", name := "inflate", desc := "([BI[BII)V" } : Jvm.MethodName) prog_42_method_50_code (5 : Nat) (Option.none : Option Jvm.ClassFile.FieldType)) ∈ lw_all := lw_g (lw_at lw_m3 83 rfl) rfl
theorem q634 : (Jvm.Cond.methodLink "java/lang/StringLatin1" (240 : Nat) ({ cls := "java/lang/StringUTF16", name := "inflate", desc := "([BI[BII)V" } : Jvm.MethodName)) ∈ lw_all := lw_g (lw_at lw_m3 84 rfl) rfl
theorem q635 : (Jvm.Cond.static ({ cls := "java/lang/StringUTF16", name := "inflate", desc := "([BI[BII)V" } : Jvm.MethodName)) ∈ lw_all := lw_g (lw_at lw_m3 85 rfl) rfl
theorem q636 : (Jvm.Cond.code ({ cls := "java/lang/StringUTF16", name := "inflate", desc := "([BI[BII)V" } : Jvm.MethodName) prog_43_method_86_code (6 : Nat) (Option.none : Option Jvm.ClassFile.FieldType)) ∈ lw_all := lw_g (lw_at lw_m3 86 rfl) rfl
theorem q637 : (Jvm.Cond.methodLink "java/lang/StringUTF16" (173 : Nat) ({ cls := "java/lang/StringUTF16", name := "checkBoundsOffCount", desc := "(II[B)V" } : Jvm.MethodName)) ∈ lw_all := lw_g (lw_at lw_m3 87 rfl) rfl
theorem q638 : (Jvm.Cond.static ({ cls := "java/lang/StringUTF16", name := "checkBoundsOffCount", desc := "(II[B)V" } : Jvm.MethodName)) ∈ lw_all := lw_g (lw_at lw_m3 88 rfl) rfl
theorem q639 : (Jvm.Cond.code ({ cls := "java/lang/StringUTF16", name := "checkBoundsOffCount", desc := "(II[B)V" } : Jvm.MethodName) prog_43_method_94_code (3 : Nat) (Option.none : Option Jvm.ClassFile.FieldType)) ∈ lw_all := lw_g (lw_at lw_m3 89 rfl) rfl
theorem q640 : (Jvm.Cond.methodLink "java/lang/StringUTF16" (419 : Nat) ({ cls := "java/lang/String", name := "checkBoundsOffCount", desc := "(III)I" } : Jvm.MethodName)) ∈ lw_all := lw_g (lw_at lw_m3 90 rfl) rfl
theorem q641 : (Jvm.Cond.static ({ cls := "java/lang/String", name := "checkBoundsOffCount", desc := "(III)I" } : Jvm.MethodName)) ∈ lw_all := lw_g (lw_at lw_m3 91 rfl) rfl
theorem q642 : (Jvm.Cond.code ({ cls := "java/lang/String", name := "checkBoundsOffCount", desc := "(III)I" } : Jvm.MethodName) prog_39_method_157_code (3 : Nat) (Option.some Jvm.ClassFile.FieldType.int)) ∈ lw_all := lw_g (lw_at lw_m3 92 rfl) rfl
theorem q643 : (Jvm.Cond.methodLink "java/lang/String" (1065 : Nat) ({ cls := "jdk/internal/util/Preconditions", name := "checkFromIndexSize", desc := "(IIILjava/util/function/BiFunction;)I" } : Jvm.MethodName)) ∈ lw_all := lw_g (lw_at lw_m3 93 rfl) rfl
theorem q644 : (Jvm.Cond.static ({ cls := "jdk/internal/util/Preconditions", name := "checkFromIndexSize", desc := "(IIILjava/util/function/BiFunction;)I" } : Jvm.MethodName)) ∈ lw_all := lw_g (lw_at lw_m3 94 rfl) rfl
theorem q645 : (Jvm.Cond.code ({ cls := "jdk/internal/util/Preconditions", name := "checkFromIndexSize", desc := "(IIILjava/util/function/BiFunction;)I" } : Jvm.MethodName) prog_74_method_13_code (4 : Nat) (Option.some Jvm.ClassFile.FieldType.int)) ∈ lw_all := lw_g (lw_at lw_m3 95 rfl) rfl
theorem q646 : (Jvm.Cond.methodLink "java/lang/AbstractStringBuilder" (399 : Nat) ({ cls := "java/lang/String", name := "getBytes", desc := "([BIB)V" } : Jvm.MethodName)) ∈ lw_all := lw_g (lw_at lw_m3 96 rfl) rfl
theorem q647 : (Jvm.Cond.instanceMethod ({ cls := "java/lang/String", name := "getBytes", desc := "([BIB)V" } : Jvm.MethodName)) ∈ lw_all := lw_g (lw_at lw_m3 97 rfl) rfl
theorem q648 : (Jvm.Cond.selects "java/lang/String" ({ cls := "java/lang/String", name := "getBytes", desc := "([BIB)V" } : Jvm.MethodName) ({ cls := "java/lang/String", name := "getBytes", desc := "([BIB)V" } : Jvm.MethodName)) ∈ lw_all := lw_g (lw_at lw_m3 98 rfl) rfl
theorem q649 : (Jvm.Cond.code ({ cls := "java/lang/String", name := "getBytes", desc := "([BIB)V" } : Jvm.MethodName) prog_39_method_147_code (4 : Nat) (Option.none : Option Jvm.ClassFile.FieldType)) ∈ lw_all := lw_g (lw_at lw_m3 99 rfl) rfl
theorem q650 : (Jvm.Cond.methodLink "java/lang/String" (212 : Nat) ({ cls := "java/lang/System", name := "arraycopy", desc := "(Ljava/lang/Object;ILjava/lang/Object;II)V" } : Jvm.MethodName)) ∈ lw_all := lw_g (lw_at lw_m3 100 rfl) rfl
theorem q651 : (Jvm.Cond.methodLink "java/lang/String" (106 : Nat) ({ cls := "java/lang/StringLatin1", name := "inflate", desc := "([BI[BII)V" } : Jvm.MethodName)) ∈ lw_all := lw_g (lw_at lw_m3 101 rfl) rfl
theorem q652 : (Jvm.Cond.methodLink "java/util/ArrayList" (29 : Nat) ({ cls := "java/lang/StringBuilder", name := "append", desc := "(I)Ljava/lang/StringBuilder;" } : Jvm.MethodName)) ∈ lw_all := lw_g (lw_at lw_m3 102 rfl) rfl
theorem q653 : (Jvm.Cond.instanceMethod ({ cls := "java/lang/StringBuilder", name := "append", desc := "(I)Ljava/lang/StringBuilder;" } : Jvm.MethodName)) ∈ lw_all := lw_g (lw_at lw_m3 103 rfl) rfl
theorem q654 : (Jvm.Cond.selects "java/lang/StringBuilder" ({ cls := "java/lang/StringBuilder", name := "append", desc := "(I)Ljava/lang/StringBuilder;" } : Jvm.MethodName) ({ cls := "java/lang/StringBuilder", name := "append", desc := "(I)Ljava/lang/StringBuilder;" } : Jvm.MethodName)) ∈ lw_all := lw_g (lw_at lw_m3 104 rfl) rfl
theorem q655 : (Jvm.Cond.code ({ cls := "java/lang/StringBuilder", name := "append", desc := "(I)Ljava/lang/StringBuilder;" } : Jvm.MethodName) prog_40_method_15_code (2 : Nat) (Option.some (Jvm.ClassFile.FieldType.object "java/lang/StringBuilder"))) ∈ lw_all := lw_g (lw_at lw_m3 105 rfl) rfl
theorem q656 : (Jvm.Cond.methodLink "java/lang/StringBuilder" (53 : Nat) ({ cls := "java/lang/AbstractStringBuilder", name := "append", desc := "(I)Ljava/lang/AbstractStringBuilder;" } : Jvm.MethodName)) ∈ lw_all := lw_g (lw_at lw_m3 106 rfl) rfl
theorem q657 : (Jvm.Cond.instanceMethod ({ cls := "java/lang/AbstractStringBuilder", name := "append", desc := "(I)Ljava/lang/AbstractStringBuilder;" } : Jvm.MethodName)) ∈ lw_all := lw_g (lw_at lw_m3 107 rfl) rfl
theorem q658 : (Jvm.Cond.code ({ cls := "java/lang/AbstractStringBuilder", name := "append", desc := "(I)Ljava/lang/AbstractStringBuilder;" } : Jvm.MethodName) prog_22_method_32_code (4 : Nat) (Option.some (Jvm.ClassFile.FieldType.object "java/lang/AbstractStringBuilder"))) ∈ lw_all := lw_g (lw_at lw_m3 108 rfl) rfl
theorem q659 : (Jvm.Cond.methodLink "java/lang/AbstractStringBuilder" (245 : Nat) ({ cls := "java/lang/Integer", name := "stringSize", desc := "(I)I" } : Jvm.MethodName)) ∈ lw_all := lw_g (lw_at lw_m3 109 rfl) rfl
theorem q660 : (Jvm.Cond.static ({ cls := "java/lang/Integer", name := "stringSize", desc := "(I)I" } : Jvm.MethodName)) ∈ lw_all := lw_g (lw_at lw_m3 110 rfl) rfl
theorem q661 : (Jvm.Cond.code ({ cls := "java/lang/Integer", name := "stringSize", desc := "(I)I" } : Jvm.MethodName) prog_34_method_13_code (4 : Nat) (Option.some Jvm.ClassFile.FieldType.int)) ∈ lw_all := lw_g (lw_at lw_m3 111 rfl) rfl
theorem q662 : (Jvm.Cond.methodLink "java/lang/AbstractStringBuilder" (248 : Nat) ({ cls := "java/lang/Integer", name := "getChars", desc := "(II[B)I" } : Jvm.MethodName)) ∈ lw_all := lw_g (lw_at lw_m3 112 rfl) rfl
theorem q663 : (Jvm.Cond.static ({ cls := "java/lang/Integer", name := "getChars", desc := "(II[B)I" } : Jvm.MethodName)) ∈ lw_all := lw_g (lw_at lw_m3 113 rfl) rfl
theorem q664 : (Jvm.Cond.code ({ cls := "java/lang/Integer", name := "getChars", desc := "(II[B)I" } : Jvm.MethodName) prog_34_method_12_code (7 : Nat) (Option.some Jvm.ClassFile.FieldType.int)) ∈ lw_all := lw_g (lw_at lw_m3 114 rfl) rfl
theorem q665 : (Jvm.Cond.fieldLink "java/lang/Integer" (83 : Nat) "java/lang/Integer" "DigitOnes" "[B") ∈ lw_all := lw_g (lw_at lw_m3 115 rfl) rfl
theorem q666 : (Jvm.Cond.laysStatic "java/lang/Integer" "DigitOnes" "[B") ∈ lw_tbl := lw_at lw_m3 116 rfl
theorem q667 : (Jvm.Cond.fieldLink "java/lang/Integer" (87 : Nat) "java/lang/Integer" "DigitTens" "[B") ∈ lw_all := lw_g (lw_at lw_m3 117 rfl) rfl
theorem q668 : (Jvm.Cond.laysStatic "java/lang/Integer" "DigitTens" "[B") ∈ lw_tbl := lw_at lw_m3 118 rfl
theorem q669 : (Jvm.Cond.methodLink "java/lang/AbstractStringBuilder" (251 : Nat) ({ cls := "java/lang/StringUTF16", name := "getChars", desc := "(III[B)I" } : Jvm.MethodName)) ∈ lw_all := lw_g (lw_at lw_m3 119 rfl) rfl
theorem q670 : (Jvm.Cond.static ({ cls := "java/lang/StringUTF16", name := "getChars", desc := "(III[B)I" } : Jvm.MethodName)) ∈ lw_all := lw_g (lw_at lw_m3 120 rfl) rfl
theorem q671 : (Jvm.Cond.code ({ cls := "java/lang/StringUTF16", name := "getChars", desc := "(III[B)I" } : Jvm.MethodName) prog_43_method_77_code (5 : Nat) (Option.some Jvm.ClassFile.FieldType.int)) ∈ lw_all := lw_g (lw_at lw_m3 121 rfl) rfl
theorem q672 : (Jvm.Cond.methodLink "java/lang/StringUTF16" (393 : Nat) ({ cls := "java/lang/StringUTF16", name := "getChars", desc := "(II[B)I" } : Jvm.MethodName)) ∈ lw_all := lw_g (lw_at lw_m3 122 rfl) rfl
theorem q673 : (Jvm.Cond.static ({ cls := "java/lang/StringUTF16", name := "getChars", desc := "(II[B)I" } : Jvm.MethodName)) ∈ lw_all := lw_g (lw_at lw_m3 123 rfl) rfl
theorem q674 : (Jvm.Cond.code ({ cls := "java/lang/StringUTF16", name := "getChars", desc := "(II[B)I" } : Jvm.MethodName) prog_43_method_89_code (7 : Nat) (Option.some Jvm.ClassFile.FieldType.int)) ∈ lw_all := lw_g (lw_at lw_m3 124 rfl) rfl
theorem q675 : (Jvm.Cond.fieldLink "java/lang/StringUTF16" (403 : Nat) "java/lang/Integer" "DigitOnes" "[B") ∈ lw_all := lw_g (lw_at lw_m3 125 rfl) rfl
theorem q676 : (Jvm.Cond.fieldLink "java/lang/StringUTF16" (407 : Nat) "java/lang/Integer" "DigitTens" "[B") ∈ lw_all := lw_g (lw_at lw_m3 126 rfl) rfl
theorem q677 : (Jvm.Cond.stringRef "java/util/ArrayList" (203 : Nat) ", Size: ") ∈ lw_tbl := lw_at lw_m3 127 rfl
theorem q678 : (Jvm.Cond.methodLink "java/util/ArrayList" (32 : Nat) ({ cls := "java/lang/StringBuilder", name := "toString", desc := "()Ljava/lang/String;" } : Jvm.MethodName)) ∈ lw_all := lw_g (lw_at lw_m3 128 rfl) rfl
theorem q679 : (Jvm.Cond.instanceMethod ({ cls := "java/lang/StringBuilder", name := "toString", desc := "()Ljava/lang/String;" } : Jvm.MethodName)) ∈ lw_all := lw_g (lw_at lw_m3 129 rfl) rfl
theorem q680 : (Jvm.Cond.selects "java/lang/StringBuilder" ({ cls := "java/lang/StringBuilder", name := "toString", desc := "()Ljava/lang/String;" } : Jvm.MethodName) ({ cls := "java/lang/StringBuilder", name := "toString", desc := "()Ljava/lang/String;" } : Jvm.MethodName)) ∈ lw_all := lw_g (lw_at lw_m3 130 rfl) rfl
theorem q681 : (Jvm.Cond.code ({ cls := "java/lang/StringBuilder", name := "toString", desc := "()Ljava/lang/String;" } : Jvm.MethodName) prog_40_method_42_code (1 : Nat) (Option.some (Jvm.ClassFile.FieldType.object "java/lang/String"))) ∈ lw_all := lw_g (lw_at lw_m3 131 rfl) rfl
theorem q682 : (Jvm.Cond.classLink "java/lang/StringBuilder" (18 : Nat) "java/lang/String") ∈ lw_all := lw_g (lw_at lw_m3 132 rfl) rfl
theorem q683 : (Jvm.Cond.methodLink "java/lang/StringBuilder" (137 : Nat) ({ cls := "java/lang/String", name := "<init>", desc := "(Ljava/lang/StringBuilder;)V" } : Jvm.MethodName)) ∈ lw_all := lw_g (lw_at lw_m3 133 rfl) rfl
theorem q684 : (Jvm.Cond.instanceMethod ({ cls := "java/lang/String", name := "<init>", desc := "(Ljava/lang/StringBuilder;)V" } : Jvm.MethodName)) ∈ lw_all := lw_g (lw_at lw_m3 134 rfl) rfl
theorem q685 : (Jvm.Cond.code ({ cls := "java/lang/String", name := "<init>", desc := "(Ljava/lang/StringBuilder;)V" } : Jvm.MethodName) prog_39_method_53_code (2 : Nat) (Option.none : Option Jvm.ClassFile.FieldType)) ∈ lw_all := lw_g (lw_at lw_m3 135 rfl) rfl
theorem q686 : (Jvm.Cond.methodLink "java/lang/String" (489 : Nat) ({ cls := "java/lang/String", name := "<init>", desc := "(Ljava/lang/AbstractStringBuilder;Ljava/lang/Void;)V" } : Jvm.MethodName)) ∈ lw_all := lw_g (lw_at lw_m3 136 rfl) rfl
theorem q687 : (Jvm.Cond.instanceMethod ({ cls := "java/lang/String", name := "<init>", desc := "(Ljava/lang/AbstractStringBuilder;Ljava/lang/Void;)V" } : Jvm.MethodName)) ∈ lw_all := lw_g (lw_at lw_m3 137 rfl) rfl
theorem q688 : (Jvm.Cond.code ({ cls := "java/lang/String", name := "<init>", desc := "(Ljava/lang/AbstractStringBuilder;Ljava/lang/Void;)V" } : Jvm.MethodName) prog_39_method_150_code (5 : Nat) (Option.none : Option Jvm.ClassFile.FieldType)) ∈ lw_all := lw_g (lw_at lw_m3 138 rfl) rfl
theorem q689 : (Jvm.Cond.methodLink "java/lang/String" (1 : Nat) ({ cls := "java/lang/Object", name := "<init>", desc := "()V" } : Jvm.MethodName)) ∈ lw_all := lw_g (lw_at lw_m3 139 rfl) rfl
theorem q690 : (Jvm.Cond.methodLink "java/lang/String" (552 : Nat) ({ cls := "java/lang/AbstractStringBuilder", name := "getValue", desc := "()[B" } : Jvm.MethodName)) ∈ lw_all := lw_g (lw_at lw_m3 140 rfl) rfl
theorem q691 : (Jvm.Cond.instanceMethod ({ cls := "java/lang/AbstractStringBuilder", name := "getValue", desc := "()[B" } : Jvm.MethodName)) ∈ lw_all := lw_g (lw_at lw_m3 141 rfl) rfl
theorem q692 : (Jvm.Cond.sameMethod "java/lang/AbstractStringBuilder" "java/lang/AbstractStringBuilder" "getValue" "()[B") ∈ lw_all := lw_g (lw_at lw_m3 142 rfl) rfl
theorem q693 : (Jvm.Cond.selects "java/lang/StringBuilder" ({ cls := "java/lang/AbstractStringBuilder", name := "getValue", desc := "()[B" } : Jvm.MethodName) ({ cls := "java/lang/AbstractStringBuilder", name := "getValue", desc := "()[B" } : Jvm.MethodName)) ∈ lw_all := lw_g (lw_at lw_m3 143 rfl) rfl
theorem q694 : (Jvm.Cond.code ({ cls := "java/lang/AbstractStringBuilder", name := "getValue", desc := "()[B" } : Jvm.MethodName) prog_22_method_64_code (1 : Nat) (Option.some (Jvm.ClassFile.FieldType.array Jvm.ClassFile.FieldType.byte))) ∈ lw_all := lw_g (lw_at lw_m3 144 rfl) rfl
theorem q695 : (Jvm.Cond.methodLink "java/lang/String" (549 : Nat) ({ cls := "java/lang/AbstractStringBuilder", name := "length", desc := "()I" } : Jvm.MethodName)) ∈ lw_all := lw_g (lw_at lw_m3 145 rfl) rfl
theorem q696 : (Jvm.Cond.instanceMethod ({ cls := "java/lang/AbstractStringBuilder", name := "length", desc := "()I" } : Jvm.MethodName)) ∈ lw_all := lw_g (lw_at lw_m3 146 rfl) rfl
theorem q697 : (Jvm.Cond.sameMethod "java/lang/AbstractStringBuilder" "java/lang/AbstractStringBuilder" "length" "()I") ∈ lw_all := lw_g (lw_at lw_m3 147 rfl) rfl
theorem q698 : (Jvm.Cond.selects "java/lang/StringBuilder" ({ cls := "java/lang/AbstractStringBuilder", name := "length", desc := "()I" } : Jvm.MethodName) ({ cls := "java/lang/StringBuilder", name := "length", desc := "()I" } : Jvm.MethodName)) ∈ lw_all := lw_g (lw_at lw_m3 148 rfl) rfl
theorem q699 : (Jvm.Cond.instanceMethod ({ cls := "java/lang/StringBuilder", name := "length", desc := "()I" } : Jvm.MethodName)) ∈ lw_all := lw_g (lw_at lw_m3 149 rfl) rfl
theorem q700 : (Jvm.Cond.code ({ cls := "java/lang/StringBuilder", name := "length", desc := "()I" } : Jvm.MethodName) prog_40_method_93_code (1 : Nat) (Option.some Jvm.ClassFile.FieldType.int)) ∈ lw_all := lw_g (lw_at lw_m3 150 rfl) rfl
theorem q701 : (Jvm.Cond.methodLink "java/lang/StringBuilder" (343 : Nat) ({ cls := "java/lang/AbstractStringBuilder", name := "length", desc := "()I" } : Jvm.MethodName)) ∈ lw_all := lw_g (lw_at lw_m3 151 rfl) rfl
theorem q702 : (Jvm.Cond.code ({ cls := "java/lang/AbstractStringBuilder", name := "length", desc := "()I" } : Jvm.MethodName) prog_22_method_6_code (1 : Nat) (Option.some Jvm.ClassFile.FieldType.int)) ∈ lw_all := lw_g (lw_at lw_m3 152 rfl) rfl
theorem q703 : (Jvm.Cond.methodLink "java/lang/String" (1047 : Nat) ({ cls := "java/lang/AbstractStringBuilder", name := "isLatin1", desc := "()Z" } : Jvm.MethodName)) ∈ lw_all := lw_g (lw_at lw_m3 153 rfl) rfl
theorem q704 : (Jvm.Cond.methodLink "java/lang/String" (54 : Nat) ({ cls := "java/util/Arrays", name := "copyOfRange", desc := "([BII)[B" } : Jvm.MethodName)) ∈ lw_all := lw_g (lw_at lw_m3 154 rfl) rfl
theorem q705 : (Jvm.Cond.static ({ cls := "java/util/Arrays", name := "copyOfRange", desc := "([BII)[B" } : Jvm.MethodName)) ∈ lw_all := lw_g (lw_at lw_m3 155 rfl) rfl
theorem q706 : (Jvm.Cond.code ({ cls := "java/util/Arrays", name := "copyOfRange", desc := "([BII)[B" } : Jvm.MethodName) prog_58_method_132_code (3 : Nat) (Option.some (Jvm.ClassFile.FieldType.array Jvm.ClassFile.FieldType.byte))) ∈ lw_all := lw_g (lw_at lw_m3 156 rfl) rfl
theorem q707 : (Jvm.Cond.methodLink "java/util/Arrays" (339 : Nat) ({ cls := "java/util/Arrays", name := "copyOfRangeByte", desc := "([BII)[B" } : Jvm.MethodName)) ∈ lw_all := lw_g (lw_at lw_m3 157 rfl) rfl
theorem q708 : (Jvm.Cond.static ({ cls := "java/util/Arrays", name := "copyOfRangeByte", desc := "([BII)[B" } : Jvm.MethodName)) ∈ lw_all := lw_g (lw_at lw_m3 158 rfl) rfl
theorem q709 : (Jvm.Cond.code ({ cls := "java/util/Arrays", name := "copyOfRangeByte", desc := "([BII)[B" } : Jvm.MethodName) prog_58_method_133_code (5 : Nat) (Option.some (Jvm.ClassFile.FieldType.array Jvm.ClassFile.FieldType.byte))) ∈ lw_all := lw_g (lw_at lw_m3 159 rfl) rfl
theorem q710 : (Jvm.Cond.methodLink "java/util/Arrays" (343 : Nat) ({ cls := "java/util/Arrays", name := "checkLength", desc := "(II)V" } : Jvm.MethodName)) ∈ lw_all := lw_g (lw_at lw_m3 160 rfl) rfl
theorem q711 : (Jvm.Cond.static ({ cls := "java/util/Arrays", name := "checkLength", desc := "(II)V" } : Jvm.MethodName)) ∈ lw_all := lw_g (lw_at lw_m3 161 rfl) rfl
theorem q712 : (Jvm.Cond.code ({ cls := "java/util/Arrays", name := "checkLength", desc := "(II)V" } : Jvm.MethodName) prog_58_method_131_code (2 : Nat) (Option.none : Option Jvm.ClassFile.FieldType)) ∈ lw_all := lw_g (lw_at lw_m3 162 rfl) rfl
theorem q713 : (Jvm.Cond.classLink "java/util/Arrays" (43 : Nat) "java/lang/IllegalArgumentException") ∈ lw_all := lw_g (lw_at lw_m3 163 rfl) rfl
theorem q714 : (Jvm.Cond.classLink "java/util/Arrays" (45 : Nat) "java/lang/StringBuilder") ∈ lw_all := lw_g (lw_at lw_m3 164 rfl) rfl
theorem q715 : (Jvm.Cond.methodLink "java/util/Arrays" (47 : Nat) ({ cls := "java/lang/StringBuilder", name := "<init>", desc := "()V" } : Jvm.MethodName)) ∈ lw_all := lw_g (lw_at lw_m3 165 rfl) rfl
theorem q716 : (Jvm.Cond.methodLink "java/util/Arrays" (54 : Nat) ({ cls := "java/lang/StringBuilder", name := "append", desc := "(I)Ljava/lang/StringBuilder;" } : Jvm.MethodName)) ∈ lw_all := lw_g (lw_at lw_m3 166 rfl) rfl
theorem q717 : (Jvm.Cond.stringRef "java/util/Arrays" (337 : Nat) " > ") ∈ lw_tbl := lw_at lw_m3 167 rfl
theorem q718 : (Jvm.Cond.methodLink "java/util/Arrays" (50 : Nat) ({ cls := "java/lang/StringBuilder", name := "append", desc := "(Ljava/lang/String;)Ljava/lang/StringBuilder;" } : Jvm.MethodName)) ∈ lw_all := lw_g (lw_at lw_m3 168 rfl) rfl
theorem q719 : (Jvm.Cond.methodLink "java/util/Arrays" (61 : Nat) ({ cls := "java/lang/StringBuilder", name := "toString", desc := "()Ljava/lang/String;" } : Jvm.MethodName)) ∈ lw_all := lw_g (lw_at lw_m3 169 rfl) rfl
theorem q720 : (Jvm.Cond.methodLink "java/util/Arrays" (65 : Nat) ({ cls := "java/lang/IllegalArgumentException", name := "<init>", desc := "(Ljava/lang/String;)V" } : Jvm.MethodName)) ∈ lw_all := lw_g (lw_at lw_m3 170 rfl) rfl
theorem q721 : (Jvm.Cond.instanceMethod ({ cls := "java/lang/IllegalArgumentException", name := "<init>", desc := "(Ljava/lang/String;)V" } : Jvm.MethodName)) ∈ lw_all := lw_g (lw_at lw_m3 171 rfl) rfl
theorem q722 : (Jvm.Cond.code ({ cls := "java/lang/IllegalArgumentException", name := "<init>", desc := "(Ljava/lang/String;)V" } : Jvm.MethodName) prog_31_method_2_code (2 : Nat) (Option.none : Option Jvm.ClassFile.FieldType)) ∈ lw_all := lw_g (lw_at lw_m3 172 rfl) rfl
theorem q723 : (Jvm.Cond.methodLink "java/lang/IllegalArgumentException" (7 : Nat) ({ cls := "java/lang/RuntimeException", name := "<init>", desc := "(Ljava/lang/String;)V" } : Jvm.MethodName)) ∈ lw_all := lw_g (lw_at lw_m3 173 rfl) rfl
theorem q724 : (Jvm.Cond.methodLink "java/lang/String" (1051 : Nat) ({ cls := "java/lang/StringUTF16", name := "compress", desc := "([BII)[B" } : Jvm.MethodName)) ∈ lw_all := lw_g (lw_at lw_m3 174 rfl) rfl
theorem q725 : (Jvm.Cond.static ({ cls := "java/lang/StringUTF16", name := "compress", desc := "([BII)[B" } : Jvm.MethodName)) ∈ lw_all := lw_g (lw_at lw_m3 175 rfl) rfl
theorem q726 : (Jvm.Cond.code ({ cls := "java/lang/StringUTF16", name := "compress", desc := "([BII)[B" } : Jvm.MethodName) prog_43_method_17_code (6 : Nat) (Option.some (Jvm.ClassFile.FieldType.array Jvm.ClassFile.FieldType.byte))) ∈ lw_all := lw_g (lw_at lw_m3 176 rfl) rfl
theorem q727 : (Jvm.Cond.methodLink "java/lang/StringUTF16" (123 : Nat) ({ cls := "java/lang/StringUTF16", name := "compress", desc := "([BI[BII)I" } : Jvm.MethodName)) ∈ lw_all := lw_g (lw_at lw_m3 177 rfl) rfl
theorem q728 : (Jvm.Cond.static ({ cls := "java/lang/StringUTF16", name := "compress", desc := "([BI[BII)I" } : Jvm.MethodName)) ∈ lw_all := lw_g (lw_at lw_m3 178 rfl) rfl
theorem q729 : (Jvm.Cond.code ({ cls := "java/lang/StringUTF16", name := "compress", desc := "([BI[BII)I" } : Jvm.MethodName) prog_43_method_22_code (7 : Nat) (Option.some Jvm.ClassFile.FieldType.int)) ∈ lw_all := lw_g (lw_at lw_m3 179 rfl) rfl
theorem q730 : (Jvm.Cond.methodLink "java/lang/StringUTF16" (71 : Nat) ({ cls := "java/lang/StringUTF16", name := "getChar", desc := "([BI)C" } : Jvm.MethodName)) ∈ lw_all := lw_g (lw_at lw_m3 180 rfl) rfl
theorem q731 : (Jvm.Cond.static ({ cls := "java/lang/StringUTF16", name := "getChar", desc := "([BI)C" } : Jvm.MethodName)) ∈ lw_all := lw_g (lw_at lw_m3 181 rfl) rfl
theorem q732 : (Jvm.Cond.code ({ cls := "java/lang/StringUTF16", name := "getChar", desc := "([BI)C" } : Jvm.MethodName) prog_43_method_5_code (2 : Nat) (Option.some Jvm.ClassFile.FieldType.char)) ∈ lw_all := lw_g (lw_at lw_m3 182 rfl) rfl
theorem q733 : (Jvm.Cond.methodLink "java/lang/StringUTF16" (126 : Nat) ({ cls := "java/util/Arrays", name := "copyOfRange", desc := "([BII)[B" } : Jvm.MethodName)) ∈ lw_all := lw_g (lw_at lw_m3 183 rfl) rfl
theorem q734 : (Jvm.Cond.methodLink "java/lang/String" (47 : Nat) ({ cls := "java/lang/StringUTF16", name := "coderFromArrayLen", desc := "([BI)B" } : Jvm.MethodName)) ∈ lw_all := lw_g (lw_at lw_m3 184 rfl) rfl
theorem q735 : (Jvm.Cond.static ({ cls := "java/lang/StringUTF16", name := "coderFromArrayLen", desc := "([BI)B" } : Jvm.MethodName)) ∈ lw_all := lw_g (lw_at lw_m3 185 rfl) rfl
theorem q736 : (Jvm.Cond.code ({ cls := "java/lang/StringUTF16", name := "coderFromArrayLen", desc := "([BI)B" } : Jvm.MethodName) prog_43_method_15_code (2 : Nat) (Option.some Jvm.ClassFile.FieldType.byte)) ∈ lw_all := lw_g (lw_at lw_m3 186 rfl) rfl
theorem q737 : (Jvm.Cond.fieldLink "java/lang/String" (9 : Nat) "java/lang/String" "value" "[B") ∈ lw_all := lw_g (lw_at lw_m3 187 rfl) rfl
theorem q738 : (Jvm.Cond.fieldLink "java/lang/String" (15 : Nat) "java/lang/String" "coder" "B") ∈ lw_all := lw_g (lw_at lw_m3 188 rfl) rfl
theorem q739 : (Jvm.Cond.fieldLink "java/lang/String" (19 : Nat) "java/lang/String" "hash" "I") ∈ lw_all := lw_g (lw_at lw_m3 189 rfl) rfl
theorem q740 : (Jvm.Cond.fieldLink "java/lang/String" (23 : Nat) "java/lang/String" "hashIsZero" "Z") ∈ lw_all := lw_g (lw_at lw_m3 190 rfl) rfl
theorem q741 : (Jvm.Cond.lays "java/lang/String" "java/lang/String" "hash" "I") ∈ lw_all := lw_g (lw_at lw_m3 191 rfl) rfl
theorem q742 : (Jvm.Cond.soleField "java/lang/String" "hash") ∈ lw_all := lw_g (lw_at lw_m3 192 rfl) rfl
theorem q743 : (Jvm.Cond.lays "java/lang/String" "java/lang/String" "hashIsZero" "Z") ∈ lw_all := lw_g (lw_at lw_m3 193 rfl) rfl
theorem q744 : (Jvm.Cond.soleField "java/lang/String" "hashIsZero") ∈ lw_all := lw_g (lw_at lw_m3 194 rfl) rfl
theorem q745 : (Jvm.Cond.superclass "java/lang/String" "java/lang/Object") ∈ lw_all := lw_g (lw_at lw_m3 195 rfl) rfl
theorem q746 : (Jvm.Cond.methodLink "java/util/ArrayList" (193 : Nat) ({ cls := "java/lang/IndexOutOfBoundsException", name := "<init>", desc := "(Ljava/lang/String;)V" } : Jvm.MethodName)) ∈ lw_all := lw_g (lw_at lw_m3 196 rfl) rfl
theorem q747 : (Jvm.Cond.classLink "java/util/ArrayList" (262 : Nat) "java/util/ArrayList$ListItr") ∈ lw_all := lw_g (lw_at lw_m3 197 rfl) rfl
theorem q748 : (Jvm.Cond.instantiable "java/util/ArrayList$ListItr" (5 : Nat)) ∈ lw_all := lw_g (lw_at lw_m3 198 rfl) rfl
theorem q749 : (Jvm.Cond.methodLink "java/util/ArrayList" (264 : Nat) ({ cls := "java/util/ArrayList$ListItr", name := "<init>", desc := "(Ljava/util/ArrayList;I)V" } : Jvm.MethodName)) ∈ lw_all := lw_g (lw_at lw_m3 199 rfl) rfl
theorem q750 : (Jvm.Cond.instanceMethod ({ cls := "java/util/ArrayList$ListItr", name := "<init>", desc := "(Ljava/util/ArrayList;I)V" } : Jvm.MethodName)) ∈ lw_all := lw_g (lw_at lw_m3 200 rfl) rfl
theorem q751 : (Jvm.Cond.code ({ cls := "java/util/ArrayList$ListItr", name := "<init>", desc := "(Ljava/util/ArrayList;I)V" } : Jvm.MethodName) prog_57_method_1_code (3 : Nat) (Option.none : Option Jvm.ClassFile.FieldType)) ∈ lw_all := lw_g (lw_at lw_m3 201 rfl) rfl
theorem q752 : (Jvm.Cond.methodLink "java/util/ArrayList$ListItr" (7 : Nat) ({ cls := "java/util/ArrayList$Itr", name := "<init>", desc := "(Ljava/util/ArrayList;)V" } : Jvm.MethodName)) ∈ lw_all := lw_g (lw_at lw_m3 202 rfl) rfl
theorem q753 : (Jvm.Cond.fieldLink "java/util/ArrayList$ListItr" (1 : Nat) "java/util/ArrayList$ListItr" "this$0" "Ljava/util/ArrayList;") ∈ lw_all := lw_g (lw_at lw_m3 203 rfl) rfl
theorem q754 : (Jvm.Cond.laysFinal "java/util/ArrayList$ListItr" "java/util/ArrayList$ListItr" "this$0" "Ljava/util/ArrayList;") ∈ lw_all := lw_g (lw_at lw_m3 204 rfl) rfl
theorem q755 : (Jvm.Cond.soleField "java/util/ArrayList$ListItr" "this$0") ∈ lw_all := lw_g (lw_at lw_m3 205 rfl) rfl
theorem q756 : (Jvm.Cond.lays "java/util/ArrayList$ListItr" "java/util/ArrayList$Itr" "cursor" "I") ∈ lw_all := lw_g (lw_at lw_m3 206 rfl) rfl
theorem q757 : (Jvm.Cond.lays "java/util/ArrayList$ListItr" "java/util/ArrayList$Itr" "lastRet" "I") ∈ lw_all := lw_g (lw_at lw_m3 207 rfl) rfl
theorem q758 : (Jvm.Cond.lays "java/util/ArrayList$ListItr" "java/util/ArrayList$Itr" "expectedModCount" "I") ∈ lw_all := lw_g (lw_at lw_m3 208 rfl) rfl
theorem q759 : (Jvm.Cond.laysFinal "java/util/ArrayList$ListItr" "java/util/ArrayList$Itr" "this$0" "Ljava/util/ArrayList;") ∈ lw_all := lw_g (lw_at lw_m3 209 rfl) rfl
theorem q760 : (Jvm.Cond.superclass "java/util/ArrayList$ListItr" "java/util/ArrayList$Itr") ∈ lw_all := lw_g (lw_at lw_m3 210 rfl) rfl
theorem q761 : (Jvm.Cond.selects "java/util/LinkedList" ({ cls := "java/util/AbstractList", name := "listIterator", desc := "(I)Ljava/util/ListIterator;" } : Jvm.MethodName) ({ cls := "java/util/LinkedList", name := "listIterator", desc := "(I)Ljava/util/ListIterator;" } : Jvm.MethodName)) ∈ lw_all := lw_g (lw_at lw_m3 211 rfl) rfl
theorem q762 : (Jvm.Cond.instanceMethod ({ cls := "java/util/LinkedList", name := "listIterator", desc := "(I)Ljava/util/ListIterator;" } : Jvm.MethodName)) ∈ lw_all := lw_g (lw_at lw_m3 212 rfl) rfl
theorem q763 : (Jvm.Cond.code ({ cls := "java/util/LinkedList", name := "listIterator", desc := "(I)Ljava/util/ListIterator;" } : Jvm.MethodName) prog_62_method_49_code (2 : Nat) (Option.some (Jvm.ClassFile.FieldType.object "java/util/ListIterator"))) ∈ lw_all := lw_g (lw_at lw_m3 213 rfl) rfl
theorem q764 : (Jvm.Cond.methodLink "java/util/LinkedList" (76 : Nat) ({ cls := "java/util/LinkedList", name := "checkPositionIndex", desc := "(I)V" } : Jvm.MethodName)) ∈ lw_all := lw_g (lw_at lw_m3 214 rfl) rfl
theorem q765 : (Jvm.Cond.privateMethod ({ cls := "java/util/LinkedList", name := "checkPositionIndex", desc := "(I)V" } : Jvm.MethodName)) ∈ lw_tbl := lw_at lw_m3 215 rfl
theorem q766 : (Jvm.Cond.instanceMethod ({ cls := "java/util/LinkedList", name := "checkPositionIndex", desc := "(I)V" } : Jvm.MethodName)) ∈ lw_all := lw_g (lw_at lw_m3 216 rfl) rfl
theorem q767 : (Jvm.Cond.code ({ cls := "java/util/LinkedList", name := "checkPositionIndex", desc := "(I)V" } : Jvm.MethodName) prog_62_method_30_code (2 : Nat) (Option.none : Option Jvm.ClassFile.FieldType)) ∈ lw_all := lw_g (lw_at lw_m3 217 rfl) rfl
theorem q768 : (Jvm.Cond.methodLink "java/util/LinkedList" (128 : Nat) ({ cls := "java/util/LinkedList", name := "isPositionIndex", desc := "(I)Z" } : Jvm.MethodName)) ∈ lw_all := lw_g (lw_at lw_m3 218 rfl) rfl
theorem q769 : (Jvm.Cond.privateMethod ({ cls := "java/util/LinkedList", name := "isPositionIndex", desc := "(I)Z" } : Jvm.MethodName)) ∈ lw_tbl := lw_at lw_m3 219 rfl
theorem q770 : (Jvm.Cond.instanceMethod ({ cls := "java/util/LinkedList", name := "isPositionIndex", desc := "(I)Z" } : Jvm.MethodName)) ∈ lw_all := lw_g (lw_at lw_m3 220 rfl) rfl
theorem q771 : (Jvm.Cond.code ({ cls := "java/util/LinkedList", name := "isPositionIndex", desc := "(I)Z" } : Jvm.MethodName) prog_62_method_27_code (2 : Nat) (Option.some Jvm.ClassFile.FieldType.boolean)) ∈ lw_all := lw_g (lw_at lw_m3 221 rfl) rfl
theorem q772 : (Jvm.Cond.classLink "java/util/LinkedList" (119 : Nat) "java/lang/IndexOutOfBoundsException") ∈ lw_all := lw_g (lw_at lw_m3 222 rfl) rfl
theorem q773 : (Jvm.Cond.methodLink "java/util/LinkedList" (121 : Nat) ({ cls := "java/util/LinkedList", name := "outOfBoundsMsg", desc := "(I)Ljava/lang/String;" } : Jvm.MethodName)) ∈ lw_all := lw_g (lw_at lw_m3 223 rfl) rfl
theorem q774 : (Jvm.Cond.privateMethod ({ cls := "java/util/LinkedList", name := "outOfBoundsMsg", desc := "(I)Ljava/lang/String;" } : Jvm.MethodName)) ∈ lw_tbl := lw_at lw_m3 224 rfl
theorem q775 : (Jvm.Cond.instanceMethod ({ cls := "java/util/LinkedList", name := "outOfBoundsMsg", desc := "(I)Ljava/lang/String;" } : Jvm.MethodName)) ∈ lw_all := lw_g (lw_at lw_m3 225 rfl) rfl
theorem q776 : (Jvm.Cond.code ({ cls := "java/util/LinkedList", name := "outOfBoundsMsg", desc := "(I)Ljava/lang/String;" } : Jvm.MethodName) prog_62_method_28_code (2 : Nat) (Option.some (Jvm.ClassFile.FieldType.object "java/lang/String"))) ∈ lw_all := lw_g (lw_at lw_m3 226 rfl) rfl
theorem q777 : (Jvm.Cond.classLink "java/util/LinkedList" (97 : Nat) "java/lang/StringBuilder") ∈ lw_all := lw_g (lw_at lw_m3 227 rfl) rfl
theorem q778 : (Jvm.Cond.methodLink "java/util/LinkedList" (99 : Nat) ({ cls := "java/lang/StringBuilder", name := "<init>", desc := "()V" } : Jvm.MethodName)) ∈ lw_all := lw_g (lw_at lw_m3 228 rfl) rfl
theorem q779 : (Jvm.Cond.stringRef "java/util/LinkedList" (100 : Nat) "Index: ") ∈ lw_tbl := lw_at lw_m3 229 rfl
theorem q780 : (Jvm.Cond.methodLink "java/util/LinkedList" (102 : Nat) ({ cls := "java/lang/StringBuilder", name := "append", desc := "(Ljava/lang/String;)Ljava/lang/StringBuilder;" } : Jvm.MethodName)) ∈ lw_all := lw_g (lw_at lw_m3 230 rfl) rfl
theorem q781 : (Jvm.Cond.methodLink "java/util/LinkedList" (106 : Nat) ({ cls := "java/lang/StringBuilder", name := "append", desc := "(I)Ljava/lang/StringBuilder;" } : Jvm.MethodName)) ∈ lw_all := lw_g (lw_at lw_m3 231 rfl) rfl
theorem q782 : (Jvm.Cond.stringRef "java/util/LinkedList" (109 : Nat) ", Size: ") ∈ lw_tbl := lw_at lw_m3 232 rfl
theorem q783 : (Jvm.Cond.methodLink "java/util/LinkedList" (111 : Nat) ({ cls := "java/lang/StringBuilder", name := "toString", desc := "()Ljava/lang/String;" } : Jvm.MethodName)) ∈ lw_all := lw_g (lw_at lw_m3 233 rfl) rfl
theorem q784 : (Jvm.Cond.methodLink "java/util/LinkedList" (125 : Nat) ({ cls := "java/lang/IndexOutOfBoundsException", name := "<init>", desc := "(Ljava/lang/String;)V" } : Jvm.MethodName)) ∈ lw_all := lw_g (lw_at lw_m3 234 rfl) rfl
theorem q785 : (Jvm.Cond.classLink "java/util/LinkedList" (150 : Nat) "java/util/LinkedList$ListItr") ∈ lw_all := lw_g (lw_at lw_m3 235 rfl) rfl
theorem q786 : (Jvm.Cond.instantiable "java/util/LinkedList$ListItr" (5 : Nat)) ∈ lw_all := lw_g (lw_at lw_m3 236 rfl) rfl
theorem q787 : (Jvm.Cond.methodLink "java/util/LinkedList" (152 : Nat) ({ cls := "java/util/LinkedList$ListItr", name := "<init>", desc := "(Ljava/util/LinkedList;I)V" } : Jvm.MethodName)) ∈ lw_all := lw_g (lw_at lw_m3 237 rfl) rfl
theorem q788 : (Jvm.Cond.instanceMethod ({ cls := "java/util/LinkedList$ListItr", name := "<init>", desc := "(Ljava/util/LinkedList;I)V" } : Jvm.MethodName)) ∈ lw_all := lw_g (lw_at lw_m3 238 rfl) rfl
theorem q789 : (Jvm.Cond.code ({ cls := "java/util/LinkedList$ListItr", name := "<init>", desc := "(Ljava/util/LinkedList;I)V" } : Jvm.MethodName) prog_63_method_1_code (3 : Nat) (Option.none : Option Jvm.ClassFile.FieldType)) ∈ lw_all := lw_g (lw_at lw_m3 239 rfl) rfl
theorem q790 : (Jvm.Cond.methodLink "java/util/LinkedList$ListItr" (7 : Nat) ({ cls := "java/lang/Object", name := "<init>", desc := "()V" } : Jvm.MethodName)) ∈ lw_all := lw_g (lw_at lw_m4 0 rfl) rfl
theorem q791 : (Jvm.Cond.methodLink "java/util/LinkedList$ListItr" (25 : Nat) ({ cls := "java/util/LinkedList", name := "node", desc := "(I)Ljava/util/LinkedList$Node;" } : Jvm.MethodName)) ∈ lw_all := lw_g (lw_at lw_m4 1 rfl) rfl
theorem q792 : (Jvm.Cond.instanceMethod ({ cls := "java/util/LinkedList", name := "node", desc := "(I)Ljava/util/LinkedList$Node;" } : Jvm.MethodName)) ∈ lw_all := lw_g (lw_at lw_m4 2 rfl) rfl
theorem q793 : (Jvm.Cond.selects "java/util/LinkedList" ({ cls := "java/util/LinkedList", name := "node", desc := "(I)Ljava/util/LinkedList$Node;" } : Jvm.MethodName) ({ cls := "java/util/LinkedList", name := "node", desc := "(I)Ljava/util/LinkedList$Node;" } : Jvm.MethodName)) ∈ lw_all := lw_g (lw_at lw_m4 3 rfl) rfl
theorem q794 : (Jvm.Cond.code ({ cls := "java/util/LinkedList", name := "node", desc := "(I)Ljava/util/LinkedList$Node;" } : Jvm.MethodName) prog_62_method_31_code (4 : Nat) (Option.some (Jvm.ClassFile.FieldType.object "java/util/LinkedList$Node"))) ∈ lw_all := lw_g (lw_at lw_m4 4 rfl) rfl
theorem q795 : (Jvm.Cond.fieldLink "java/util/LinkedList$ListItr" (46 : Nat) "java/util/LinkedList$ListItr" "lastReturned" "Ljava/util/LinkedList$Node;") ∈ lw_all := lw_g (lw_at lw_m4 5 rfl) rfl
theorem q796 : (Jvm.Cond.fieldLink "java/util/LinkedList$ListItr" (29 : Nat) "java/util/LinkedList$ListItr" "next" "Ljava/util/LinkedList$Node;") ∈ lw_all := lw_g (lw_at lw_m4 6 rfl) rfl
theorem q797 : (Jvm.Cond.fieldLink "java/util/LinkedList$ListItr" (33 : Nat) "java/util/LinkedList$ListItr" "nextIndex" "I") ∈ lw_all := lw_g (lw_at lw_m4 7 rfl) rfl
theorem q798 : (Jvm.Cond.fieldLink "java/util/LinkedList$ListItr" (19 : Nat) "java/util/LinkedList$ListItr" "expectedModCount" "I") ∈ lw_all := lw_g (lw_at lw_m4 8 rfl) rfl
theorem q799 : (Jvm.Cond.fieldLink "java/util/LinkedList$ListItr" (1 : Nat) "java/util/LinkedList$ListItr" "this$0" "Ljava/util/LinkedList;") ∈ lw_all := lw_g (lw_at lw_m4 9 rfl) rfl
theorem q800 : (Jvm.Cond.lays "java/util/LinkedList$ListItr" "java/util/LinkedList$ListItr" "lastReturned" "Ljava/util/LinkedList$Node;") ∈ lw_all := lw_g (lw_at lw_m4 10 rfl) rfl
theorem q801 : (Jvm.Cond.soleField "java/util/LinkedList$ListItr" "lastReturned") ∈ lw_all := lw_g (lw_at lw_m4 11 rfl) rfl
theorem q802 : (Jvm.Cond.lays "java/util/LinkedList$ListItr" "java/util/LinkedList$ListItr" "next" "Ljava/util/LinkedList$Node;") ∈ lw_all := lw_g (lw_at lw_m4 12 rfl) rfl
theorem q803 : (Jvm.Cond.soleField "java/util/LinkedList$ListItr" "next") ∈ lw_all := lw_g (lw_at lw_m4 13 rfl) rfl
theorem q804 : (Jvm.Cond.lays "java/util/LinkedList$ListItr" "java/util/LinkedList$ListItr" "nextIndex" "I") ∈ lw_all := lw_g (lw_at lw_m4 14 rfl) rfl
theorem q805 : (Jvm.Cond.soleField "java/util/LinkedList$ListItr" "nextIndex") ∈ lw_all := lw_g (lw_at lw_m4 15 rfl) rfl
theorem q806 : (Jvm.Cond.lays "java/util/LinkedList$ListItr" "java/util/LinkedList$ListItr" "expectedModCount" "I") ∈ lw_all := lw_g (lw_at lw_m4 16 rfl) rfl
theorem q807 : (Jvm.Cond.soleField "java/util/LinkedList$ListItr" "expectedModCount") ∈ lw_all := lw_g (lw_at lw_m4 17 rfl) rfl
theorem q808 : (Jvm.Cond.laysFinal "java/util/LinkedList$ListItr" "java/util/LinkedList$ListItr" "this$0" "Ljava/util/LinkedList;") ∈ lw_all := lw_g (lw_at lw_m4 18 rfl) rfl
theorem q809 : (Jvm.Cond.soleField "java/util/LinkedList$ListItr" "this$0") ∈ lw_all := lw_g (lw_at lw_m4 19 rfl) rfl
theorem q810 : (Jvm.Cond.superclass "java/util/LinkedList$ListItr" "java/lang/Object") ∈ lw_all := lw_g (lw_at lw_m4 20 rfl) rfl
theorem q811 : (Jvm.Cond.declares ({ cls := "java/util/AbstractList", name := "listIterator", desc := "(I)Ljava/util/ListIterator;" } : Jvm.MethodName)) ∈ lw_tbl := lw_at lw_m4 21 rfl
theorem q812 : (Jvm.Cond.interfaceEntry "BrassInspector$Round" (41 : Nat)) ∈ lw_tbl := lw_at lw_m4 22 rfl
theorem q813 : (Jvm.Cond.methodLink "BrassInspector$Round" (41 : Nat) ({ cls := "java/util/Iterator", name := "hasNext", desc := "()Z" } : Jvm.MethodName)) ∈ lw_all := lw_g (lw_at lw_m4 23 rfl) rfl
theorem q814 : (Jvm.Cond.interfaceMethod "java/util/Iterator" "java/util/Iterator" "hasNext" "()Z") ∈ lw_tbl := lw_at lw_m4 24 rfl
theorem q815 : (Jvm.Cond.declares ({ cls := "java/util/Iterator", name := "hasNext", desc := "()Z" } : Jvm.MethodName)) ∈ lw_tbl := lw_at lw_m4 25 rfl
theorem q816 : (Jvm.Cond.castable "BrassInspector$Round$OfFair$1" "java/util/Iterator") ∈ lw_tbl := lw_at lw_m4 26 rfl
theorem q817 : (Jvm.Cond.selects "BrassInspector$Round$OfFair$1" ({ cls := "java/util/Iterator", name := "hasNext", desc := "()Z" } : Jvm.MethodName) ({ cls := "BrassInspector$Round$OfFair$1", name := "hasNext", desc := "()Z" } : Jvm.MethodName)) ∈ lw_all := lw_g (lw_at lw_m4 27 rfl) rfl
theorem q818 : (Jvm.Cond.unhidden "BrassInspector$Round$OfFair$1" "hasNext" "()Z") ∈ lw_tbl := lw_at lw_m4 28 rfl
theorem q819 : (Jvm.Cond.instanceMethod ({ cls := "BrassInspector$Round$OfFair$1", name := "hasNext", desc := "()Z" } : Jvm.MethodName)) ∈ lw_all := lw_g (lw_at lw_m4 29 rfl) rfl
theorem q820 : (Jvm.Cond.publicMethod ({ cls := "BrassInspector$Round$OfFair$1", name := "hasNext", desc := "()Z" } : Jvm.MethodName)) ∈ lw_tbl := lw_at lw_m4 30 rfl
theorem q821 : (Jvm.Cond.code ({ cls := "BrassInspector$Round$OfFair$1", name := "hasNext", desc := "()Z" } : Jvm.MethodName) prog_16_method_3_code (1 : Nat) (Option.some Jvm.ClassFile.FieldType.boolean)) ∈ lw_all := lw_g (lw_at lw_m4 31 rfl) rfl
theorem q822 : (Jvm.Cond.interfaceEntry "BrassInspector$Round$OfFair$1" (33 : Nat)) ∈ lw_tbl := lw_at lw_m4 32 rfl
theorem q823 : (Jvm.Cond.methodLink "BrassInspector$Round$OfFair$1" (33 : Nat) ({ cls := "java/util/List", name := "size", desc := "()I" } : Jvm.MethodName)) ∈ lw_all := lw_g (lw_at lw_m4 33 rfl) rfl
theorem q824 : (Jvm.Cond.interfaceMethod "java/util/List" "java/util/List" "size" "()I") ∈ lw_tbl := lw_at lw_m4 34 rfl
theorem q825 : (Jvm.Cond.declares ({ cls := "java/util/List", name := "size", desc := "()I" } : Jvm.MethodName)) ∈ lw_tbl := lw_at lw_m4 35 rfl
theorem q826 : (Jvm.Cond.selects "java/util/ArrayList" ({ cls := "java/util/List", name := "size", desc := "()I" } : Jvm.MethodName) ({ cls := "java/util/ArrayList", name := "size", desc := "()I" } : Jvm.MethodName)) ∈ lw_all := lw_g (lw_at lw_m4 36 rfl) rfl
theorem q827 : (Jvm.Cond.unhidden "java/util/ArrayList" "size" "()I") ∈ lw_tbl := lw_at lw_m4 37 rfl
theorem q828 : (Jvm.Cond.instanceMethod ({ cls := "java/util/ArrayList", name := "size", desc := "()I" } : Jvm.MethodName)) ∈ lw_all := lw_g (lw_at lw_m4 38 rfl) rfl
theorem q829 : (Jvm.Cond.publicMethod ({ cls := "java/util/ArrayList", name := "size", desc := "()I" } : Jvm.MethodName)) ∈ lw_tbl := lw_at lw_m4 39 rfl
theorem q830 : (Jvm.Cond.code ({ cls := "java/util/ArrayList", name := "size", desc := "()I" } : Jvm.MethodName) prog_55_method_8_code (1 : Nat) (Option.some Jvm.ClassFile.FieldType.int)) ∈ lw_all := lw_g (lw_at lw_m4 40 rfl) rfl
theorem q831 : (Jvm.Cond.selects "java/util/LinkedList" ({ cls := "java/util/List", name := "size", desc := "()I" } : Jvm.MethodName) ({ cls := "java/util/LinkedList", name := "size", desc := "()I" } : Jvm.MethodName)) ∈ lw_all := lw_g (lw_at lw_m4 41 rfl) rfl
theorem q832 : (Jvm.Cond.unhidden "java/util/LinkedList" "size" "()I") ∈ lw_tbl := lw_at lw_m4 42 rfl
theorem q833 : (Jvm.Cond.instanceMethod ({ cls := "java/util/LinkedList", name := "size", desc := "()I" } : Jvm.MethodName)) ∈ lw_all := lw_g (lw_at lw_m4 43 rfl) rfl
theorem q834 : (Jvm.Cond.publicMethod ({ cls := "java/util/LinkedList", name := "size", desc := "()I" } : Jvm.MethodName)) ∈ lw_tbl := lw_at lw_m4 44 rfl
theorem q835 : (Jvm.Cond.code ({ cls := "java/util/LinkedList", name := "size", desc := "()I" } : Jvm.MethodName) prog_62_method_16_code (1 : Nat) (Option.some Jvm.ClassFile.FieldType.int)) ∈ lw_all := lw_g (lw_at lw_m4 45 rfl) rfl
theorem q836 : (Jvm.Cond.castable "java/util/AbstractList$ListItr" "java/util/Iterator") ∈ lw_tbl := lw_at lw_m4 46 rfl
theorem q837 : (Jvm.Cond.selects "java/util/AbstractList$ListItr" ({ cls := "java/util/Iterator", name := "hasNext", desc := "()Z" } : Jvm.MethodName) ({ cls := "java/util/AbstractList$Itr", name := "hasNext", desc := "()Z" } : Jvm.MethodName)) ∈ lw_all := lw_g (lw_at lw_m4 47 rfl) rfl
theorem q838 : (Jvm.Cond.unhidden "java/util/AbstractList$ListItr" "hasNext" "()Z") ∈ lw_tbl := lw_at lw_m4 48 rfl
theorem q839 : (Jvm.Cond.instanceMethod ({ cls := "java/util/AbstractList$Itr", name := "hasNext", desc := "()Z" } : Jvm.MethodName)) ∈ lw_all := lw_g (lw_at lw_m4 49 rfl) rfl
theorem q840 : (Jvm.Cond.publicMethod ({ cls := "java/util/AbstractList$Itr", name := "hasNext", desc := "()Z" } : Jvm.MethodName)) ∈ lw_tbl := lw_at lw_m4 50 rfl
theorem q841 : (Jvm.Cond.code ({ cls := "java/util/AbstractList$Itr", name := "hasNext", desc := "()Z" } : Jvm.MethodName) prog_52_method_2_code (1 : Nat) (Option.some Jvm.ClassFile.FieldType.boolean)) ∈ lw_all := lw_g (lw_at lw_m4 51 rfl) rfl
theorem q842 : (Jvm.Cond.methodLink "java/util/AbstractList$Itr" (28 : Nat) ({ cls := "java/util/AbstractList", name := "size", desc := "()I" } : Jvm.MethodName)) ∈ lw_all := lw_g (lw_at lw_m4 52 rfl) rfl
theorem q843 : (Jvm.Cond.sameMethod "java/util/AbstractList" "java/util/AbstractCollection" "size" "()I") ∈ lw_all := lw_g (lw_at lw_m4 53 rfl) rfl
theorem q844 : (Jvm.Cond.declares ({ cls := "java/util/AbstractCollection", name := "size", desc := "()I" } : Jvm.MethodName)) ∈ lw_tbl := lw_at lw_m4 54 rfl
theorem q845 : (Jvm.Cond.selects "java/util/ArrayList" ({ cls := "java/util/AbstractList", name := "size", desc := "()I" } : Jvm.MethodName) ({ cls := "java/util/ArrayList", name := "size", desc := "()I" } : Jvm.MethodName)) ∈ lw_all := lw_g (lw_at lw_m4 55 rfl) rfl
theorem q846 : (Jvm.Cond.selects "java/util/LinkedList" ({ cls := "java/util/AbstractList", name := "size", desc := "()I" } : Jvm.MethodName) ({ cls := "java/util/LinkedList", name := "size", desc := "()I" } : Jvm.MethodName)) ∈ lw_all := lw_g (lw_at lw_m4 56 rfl) rfl
theorem q847 : (Jvm.Cond.castable "java/util/ArrayList$Itr" "java/util/Iterator") ∈ lw_tbl := lw_at lw_m4 57 rfl
theorem q848 : (Jvm.Cond.selects "java/util/ArrayList$Itr" ({ cls := "java/util/Iterator", name := "hasNext", desc := "()Z" } : Jvm.MethodName) ({ cls := "java/util/ArrayList$Itr", name := "hasNext", desc := "()Z" } : Jvm.MethodName)) ∈ lw_all := lw_g (lw_at lw_m4 58 rfl) rfl
theorem q849 : (Jvm.Cond.unhidden "java/util/ArrayList$Itr" "hasNext" "()Z") ∈ lw_tbl := lw_at lw_m4 59 rfl
theorem q850 : (Jvm.Cond.instanceMethod ({ cls := "java/util/ArrayList$Itr", name := "hasNext", desc := "()Z" } : Jvm.MethodName)) ∈ lw_all := lw_g (lw_at lw_m4 60 rfl) rfl
theorem q851 : (Jvm.Cond.publicMethod ({ cls := "java/util/ArrayList$Itr", name := "hasNext", desc := "()Z" } : Jvm.MethodName)) ∈ lw_tbl := lw_at lw_m4 61 rfl
theorem q852 : (Jvm.Cond.code ({ cls := "java/util/ArrayList$Itr", name := "hasNext", desc := "()Z" } : Jvm.MethodName) prog_56_method_2_code (1 : Nat) (Option.some Jvm.ClassFile.FieldType.boolean)) ∈ lw_all := lw_g (lw_at lw_m4 62 rfl) rfl
theorem q853 : (Jvm.Cond.castable "java/util/ArrayList$ListItr" "java/util/Iterator") ∈ lw_tbl := lw_at lw_m4 63 rfl
theorem q854 : (Jvm.Cond.selects "java/util/ArrayList$ListItr" ({ cls := "java/util/Iterator", name := "hasNext", desc := "()Z" } : Jvm.MethodName) ({ cls := "java/util/ArrayList$Itr", name := "hasNext", desc := "()Z" } : Jvm.MethodName)) ∈ lw_all := lw_g (lw_at lw_m4 64 rfl) rfl
theorem q855 : (Jvm.Cond.unhidden "java/util/ArrayList$ListItr" "hasNext" "()Z") ∈ lw_tbl := lw_at lw_m4 65 rfl
theorem q856 : (Jvm.Cond.castable "java/util/LinkedList$ListItr" "java/util/Iterator") ∈ lw_tbl := lw_at lw_m4 66 rfl
theorem q857 : (Jvm.Cond.selects "java/util/LinkedList$ListItr" ({ cls := "java/util/Iterator", name := "hasNext", desc := "()Z" } : Jvm.MethodName) ({ cls := "java/util/LinkedList$ListItr", name := "hasNext", desc := "()Z" } : Jvm.MethodName)) ∈ lw_all := lw_g (lw_at lw_m4 67 rfl) rfl
theorem q858 : (Jvm.Cond.unhidden "java/util/LinkedList$ListItr" "hasNext" "()Z") ∈ lw_tbl := lw_at lw_m4 68 rfl
theorem q859 : (Jvm.Cond.instanceMethod ({ cls := "java/util/LinkedList$ListItr", name := "hasNext", desc := "()Z" } : Jvm.MethodName)) ∈ lw_all := lw_g (lw_at lw_m4 69 rfl) rfl
theorem q860 : (Jvm.Cond.publicMethod ({ cls := "java/util/LinkedList$ListItr", name := "hasNext", desc := "()Z" } : Jvm.MethodName)) ∈ lw_tbl := lw_at lw_m4 70 rfl
theorem q861 : (Jvm.Cond.code ({ cls := "java/util/LinkedList$ListItr", name := "hasNext", desc := "()Z" } : Jvm.MethodName) prog_63_method_2_code (1 : Nat) (Option.some Jvm.ClassFile.FieldType.boolean)) ∈ lw_all := lw_g (lw_at lw_m4 71 rfl) rfl
theorem q862 : (Jvm.Cond.interfaceEntry "BrassInspector$Round" (47 : Nat)) ∈ lw_tbl := lw_at lw_m4 72 rfl
theorem q863 : (Jvm.Cond.methodLink "BrassInspector$Round" (47 : Nat) ({ cls := "java/util/Iterator", name := "next", desc := "()Ljava/lang/Object;" } : Jvm.MethodName)) ∈ lw_all := lw_g (lw_at lw_m4 73 rfl) rfl
theorem q864 : (Jvm.Cond.interfaceMethod "java/util/Iterator" "java/util/Iterator" "next" "()Ljava/lang/Object;") ∈ lw_tbl := lw_at lw_m4 74 rfl
theorem q865 : (Jvm.Cond.declares ({ cls := "java/util/Iterator", name := "next", desc := "()Ljava/lang/Object;" } : Jvm.MethodName)) ∈ lw_tbl := lw_at lw_m4 75 rfl
theorem q866 : (Jvm.Cond.selects "BrassInspector$Round$OfFair$1" ({ cls := "java/util/Iterator", name := "next", desc := "()Ljava/lang/Object;" } : Jvm.MethodName) ({ cls := "BrassInspector$Round$OfFair$1", name := "next", desc := "()Ljava/lang/Object;" } : Jvm.MethodName)) ∈ lw_all := lw_g (lw_at lw_m4 76 rfl) rfl
theorem q867 : (Jvm.Cond.unhidden "BrassInspector$Round$OfFair$1" "next" "()Ljava/lang/Object;") ∈ lw_tbl := lw_at lw_m4 77 rfl
theorem q868 : (Jvm.Cond.instanceMethod ({ cls := "BrassInspector$Round$OfFair$1", name := "next", desc := "()Ljava/lang/Object;" } : Jvm.MethodName)) ∈ lw_all := lw_g (lw_at lw_m4 78 rfl) rfl
theorem q869 : (Jvm.Cond.publicMethod ({ cls := "BrassInspector$Round$OfFair$1", name := "next", desc := "()Ljava/lang/Object;" } : Jvm.MethodName)) ∈ lw_tbl := lw_at lw_m4 79 rfl
theorem q870 : (Jvm.Cond.code ({ cls := "BrassInspector$Round$OfFair$1", name := "next", desc := "()Ljava/lang/Object;" } : Jvm.MethodName) prog_16_method_5_code (1 : Nat) (Option.some (Jvm.ClassFile.FieldType.object "java/lang/Object"))) ∈ lw_all := lw_g (lw_at lw_m4 80 rfl) rfl
theorem q871 : (Jvm.Cond.methodLink "BrassInspector$Round$OfFair$1" (57 : Nat) ({ cls := "BrassInspector$Round$OfFair$1", name := "next", desc := "()LBrassInspector$Round$Trader;" } : Jvm.MethodName)) ∈ lw_all := lw_g (lw_at lw_m4 81 rfl) rfl
theorem q872 : (Jvm.Cond.instanceMethod ({ cls := "BrassInspector$Round$OfFair$1", name := "next", desc := "()LBrassInspector$Round$Trader;" } : Jvm.MethodName)) ∈ lw_all := lw_g (lw_at lw_m4 82 rfl) rfl
theorem q873 : (Jvm.Cond.selects "BrassInspector$Round$OfFair$1" ({ cls := "BrassInspector$Round$OfFair$1", name := "next", desc := "()LBrassInspector$Round$Trader;" } : Jvm.MethodName) ({ cls := "BrassInspector$Round$OfFair$1", name := "next", desc := "()LBrassInspector$Round$Trader;" } : Jvm.MethodName)) ∈ lw_all := lw_g (lw_at lw_m4 83 rfl) rfl
theorem q874 : (Jvm.Cond.code ({ cls := "BrassInspector$Round$OfFair$1", name := "next", desc := "()LBrassInspector$Round$Trader;" } : Jvm.MethodName) prog_16_method_4_code (2 : Nat) (Option.some (Jvm.ClassFile.FieldType.object "BrassInspector$Round$Trader"))) ∈ lw_all := lw_g (lw_at lw_m4 84 rfl) rfl
theorem q875 : (Jvm.Cond.methodLink "BrassInspector$Round$OfFair$1" (50 : Nat) ({ cls := "BrassInspector$Round$OfFair$1", name := "hasNext", desc := "()Z" } : Jvm.MethodName)) ∈ lw_all := lw_g (lw_at lw_m4 85 rfl) rfl
theorem q876 : (Jvm.Cond.classLink "BrassInspector$Round$OfFair$1" (54 : Nat) "java/util/NoSuchElementException") ∈ lw_all := lw_g (lw_at lw_m4 86 rfl) rfl
theorem q877 : (Jvm.Cond.instantiable "java/util/NoSuchElementException" (6 : Nat)) ∈ lw_all := lw_g (lw_at lw_m4 87 rfl) rfl
theorem q878 : (Jvm.Cond.castable "java/util/NoSuchElementException" "java/util/NoSuchElementException") ∈ lw_tbl := lw_at lw_m4 88 rfl
theorem q879 : (Jvm.Cond.selects "java/util/NoSuchElementException" ({ cls := "java/lang/Throwable", name := "fillInStackTrace", desc := "(I)Ljava/lang/Throwable;" } : Jvm.MethodName) ({ cls := "java/lang/Throwable", name := "fillInStackTrace", desc := "(I)Ljava/lang/Throwable;" } : Jvm.MethodName)) ∈ lw_all := lw_g (lw_at lw_m4 89 rfl) rfl
theorem q880 : (Jvm.Cond.lays "java/util/NoSuchElementException" "java/lang/Throwable" "cause" "Ljava/lang/Throwable;") ∈ lw_all := lw_g (lw_at lw_m4 90 rfl) rfl
theorem q881 : (Jvm.Cond.lays "java/util/NoSuchElementException" "java/lang/Throwable" "stackTrace" "[Ljava/lang/StackTraceElement;") ∈ lw_all := lw_g (lw_at lw_m4 91 rfl) rfl
theorem q882 : (Jvm.Cond.lays "java/util/NoSuchElementException" "java/lang/Throwable" "suppressedExceptions" "Ljava/util/List;") ∈ lw_all := lw_g (lw_at lw_m4 92 rfl) rfl
theorem q883 : (Jvm.Cond.lays "java/util/NoSuchElementException" "java/lang/Throwable" "detailMessage" "Ljava/lang/String;") ∈ lw_all := lw_g (lw_at lw_m4 93 rfl) rfl
theorem q884 : (Jvm.Cond.lays "java/util/NoSuchElementException" "java/lang/Throwable" "backtrace" "Ljava/lang/Object;") ∈ lw_all := lw_g (lw_at lw_m4 94 rfl) rfl
theorem q885 : (Jvm.Cond.methodLink "BrassInspector$Round$OfFair$1" (56 : Nat) ({ cls := "java/util/NoSuchElementException", name := "<init>", desc := "()V" } : Jvm.MethodName)) ∈ lw_all := lw_g (lw_at lw_m4 95 rfl) rfl
theorem q886 : (Jvm.Cond.instanceMethod ({ cls := "java/util/NoSuchElementException", name := "<init>", desc := "()V" } : Jvm.MethodName)) ∈ lw_all := lw_g (lw_at lw_m4 96 rfl) rfl
theorem q887 : (Jvm.Cond.code ({ cls := "java/util/NoSuchElementException", name := "<init>", desc := "()V" } : Jvm.MethodName) prog_67_method_1_code (1 : Nat) (Option.none : Option Jvm.ClassFile.FieldType)) ∈ lw_all := lw_g (lw_at lw_m4 97 rfl) rfl
theorem q888 : (Jvm.Cond.methodLink "java/util/NoSuchElementException" (1 : Nat) ({ cls := "java/lang/RuntimeException", name := "<init>", desc := "()V" } : Jvm.MethodName)) ∈ lw_all := lw_g (lw_at lw_m4 98 rfl) rfl
theorem q889 : (Jvm.Cond.lays "java/util/NoSuchElementException" "java/lang/Throwable" "depth" "I") ∈ lw_all := lw_g (lw_at lw_m4 99 rfl) rfl
theorem q890 : (Jvm.Cond.superclass "java/util/NoSuchElementException" "java/lang/RuntimeException") ∈ lw_all := lw_g (lw_at lw_m4 100 rfl) rfl
theorem q891 : (Jvm.Cond.interfaceEntry "BrassInspector$Round$OfFair$1" (39 : Nat)) ∈ lw_tbl := lw_at lw_m4 101 rfl
theorem q892 : (Jvm.Cond.methodLink "BrassInspector$Round$OfFair$1" (39 : Nat) ({ cls := "java/util/List", name := "get", desc := "(I)Ljava/lang/Object;" } : Jvm.MethodName)) ∈ lw_all := lw_g (lw_at lw_m4 102 rfl) rfl
theorem q893 : (Jvm.Cond.interfaceMethod "java/util/List" "java/util/List" "get" "(I)Ljava/lang/Object;") ∈ lw_tbl := lw_at lw_m4 103 rfl
theorem q894 : (Jvm.Cond.declares ({ cls := "java/util/List", name := "get", desc := "(I)Ljava/lang/Object;" } : Jvm.MethodName)) ∈ lw_tbl := lw_at lw_m4 104 rfl
theorem q895 : (Jvm.Cond.selects "java/util/ArrayList" ({ cls := "java/util/List", name := "get", desc := "(I)Ljava/lang/Object;" } : Jvm.MethodName) ({ cls := "java/util/ArrayList", name := "get", desc := "(I)Ljava/lang/Object;" } : Jvm.MethodName)) ∈ lw_all := lw_g (lw_at lw_m4 105 rfl) rfl
theorem q896 : (Jvm.Cond.unhidden "java/util/ArrayList" "get" "(I)Ljava/lang/Object;") ∈ lw_tbl := lw_at lw_m4 106 rfl
theorem q897 : (Jvm.Cond.instanceMethod ({ cls := "java/util/ArrayList", name := "get", desc := "(I)Ljava/lang/Object;" } : Jvm.MethodName)) ∈ lw_all := lw_g (lw_at lw_m4 107 rfl) rfl
theorem q898 : (Jvm.Cond.publicMethod ({ cls := "java/util/ArrayList", name := "get", desc := "(I)Ljava/lang/Object;" } : Jvm.MethodName)) ∈ lw_tbl := lw_at lw_m4 108 rfl
theorem q899 : (Jvm.Cond.code ({ cls := "java/util/ArrayList", name := "get", desc := "(I)Ljava/lang/Object;" } : Jvm.MethodName) prog_55_method_20_code (2 : Nat) (Option.some (Jvm.ClassFile.FieldType.object "java/lang/Object"))) ∈ lw_all := lw_g (lw_at lw_m4 109 rfl) rfl
theorem q900 : (Jvm.Cond.methodLink "java/util/ArrayList" (118 : Nat) ({ cls := "java/util/Objects", name := "checkIndex", desc := "(II)I" } : Jvm.MethodName)) ∈ lw_all := lw_g (lw_at lw_m4 110 rfl) rfl
theorem q901 : (Jvm.Cond.static ({ cls := "java/util/Objects", name := "checkIndex", desc := "(II)I" } : Jvm.MethodName)) ∈ lw_all := lw_g (lw_at lw_m4 111 rfl) rfl
theorem q902 : (Jvm.Cond.code ({ cls := "java/util/Objects", name := "checkIndex", desc := "(II)I" } : Jvm.MethodName) prog_68_method_17_code (2 : Nat) (Option.some Jvm.ClassFile.FieldType.int)) ∈ lw_all := lw_g (lw_at lw_m4 112 rfl) rfl
theorem q903 : (Jvm.Cond.methodLink "java/util/Objects" (105 : Nat) ({ cls := "jdk/internal/util/Preconditions", name := "checkIndex", desc := "(IILjava/util/function/BiFunction;)I" } : Jvm.MethodName)) ∈ lw_all := lw_g (lw_at lw_m4 113 rfl) rfl
theorem q904 : (Jvm.Cond.static ({ cls := "jdk/internal/util/Preconditions", name := "checkIndex", desc := "(IILjava/util/function/BiFunction;)I" } : Jvm.MethodName)) ∈ lw_all := lw_g (lw_at lw_m4 114 rfl) rfl
theorem q905 : (Jvm.Cond.code ({ cls := "jdk/internal/util/Preconditions", name := "checkIndex", desc := "(IILjava/util/function/BiFunction;)I" } : Jvm.MethodName) prog_74_method_11_code (3 : Nat) (Option.some Jvm.ClassFile.FieldType.int)) ∈ lw_all := lw_g (lw_at lw_m4 115 rfl) rfl
theorem q906 : (Jvm.Cond.methodLink "java/util/ArrayList" (123 : Nat) ({ cls := "java/util/ArrayList", name := "elementData", desc := "(I)Ljava/lang/Object;" } : Jvm.MethodName)) ∈ lw_all := lw_g (lw_at lw_m4 116 rfl) rfl
theorem q907 : (Jvm.Cond.instanceMethod ({ cls := "java/util/ArrayList", name := "elementData", desc := "(I)Ljava/lang/Object;" } : Jvm.MethodName)) ∈ lw_all := lw_g (lw_at lw_m4 117 rfl) rfl
theorem q908 : (Jvm.Cond.selects "java/util/ArrayList" ({ cls := "java/util/ArrayList", name := "elementData", desc := "(I)Ljava/lang/Object;" } : Jvm.MethodName) ({ cls := "java/util/ArrayList", name := "elementData", desc := "(I)Ljava/lang/Object;" } : Jvm.MethodName)) ∈ lw_all := lw_g (lw_at lw_m4 118 rfl) rfl
theorem q909 : (Jvm.Cond.code ({ cls := "java/util/ArrayList", name := "elementData", desc := "(I)Ljava/lang/Object;" } : Jvm.MethodName) prog_55_method_18_code (2 : Nat) (Option.some (Jvm.ClassFile.FieldType.object "java/lang/Object"))) ∈ lw_all := lw_g (lw_at lw_m4 119 rfl) rfl
theorem q910 : (Jvm.Cond.selects "java/util/LinkedList" ({ cls := "java/util/List", name := "get", desc := "(I)Ljava/lang/Object;" } : Jvm.MethodName) ({ cls := "java/util/LinkedList", name := "get", desc := "(I)Ljava/lang/Object;" } : Jvm.MethodName)) ∈ lw_all := lw_g (lw_at lw_m4 120 rfl) rfl
theorem q911 : (Jvm.Cond.unhidden "java/util/LinkedList" "get" "(I)Ljava/lang/Object;") ∈ lw_tbl := lw_at lw_m4 121 rfl
theorem q912 : (Jvm.Cond.instanceMethod ({ cls := "java/util/LinkedList", name := "get", desc := "(I)Ljava/lang/Object;" } : Jvm.MethodName)) ∈ lw_all := lw_g (lw_at lw_m4 122 rfl) rfl
theorem q913 : (Jvm.Cond.publicMethod ({ cls := "java/util/LinkedList", name := "get", desc := "(I)Ljava/lang/Object;" } : Jvm.MethodName)) ∈ lw_tbl := lw_at lw_m4 123 rfl
theorem q914 : (Jvm.Cond.code ({ cls := "java/util/LinkedList", name := "get", desc := "(I)Ljava/lang/Object;" } : Jvm.MethodName) prog_62_method_22_code (2 : Nat) (Option.some (Jvm.ClassFile.FieldType.object "java/lang/Object"))) ∈ lw_all := lw_g (lw_at lw_m4 124 rfl) rfl
theorem q915 : (Jvm.Cond.methodLink "java/util/LinkedList" (90 : Nat) ({ cls := "java/util/LinkedList", name := "checkElementIndex", desc := "(I)V" } : Jvm.MethodName)) ∈ lw_all := lw_g (lw_at lw_m4 125 rfl) rfl
theorem q916 : (Jvm.Cond.privateMethod ({ cls := "java/util/LinkedList", name := "checkElementIndex", desc := "(I)V" } : Jvm.MethodName)) ∈ lw_tbl := lw_at lw_m4 126 rfl
theorem q917 : (Jvm.Cond.instanceMethod ({ cls := "java/util/LinkedList", name := "checkElementIndex", desc := "(I)V" } : Jvm.MethodName)) ∈ lw_all := lw_g (lw_at lw_m4 127 rfl) rfl
theorem q918 : (Jvm.Cond.code ({ cls := "java/util/LinkedList", name := "checkElementIndex", desc := "(I)V" } : Jvm.MethodName) prog_62_method_29_code (2 : Nat) (Option.none : Option Jvm.ClassFile.FieldType)) ∈ lw_all := lw_g (lw_at lw_m4 128 rfl) rfl
theorem q919 : (Jvm.Cond.methodLink "java/util/LinkedList" (115 : Nat) ({ cls := "java/util/LinkedList", name := "isElementIndex", desc := "(I)Z" } : Jvm.MethodName)) ∈ lw_all := lw_g (lw_at lw_m4 129 rfl) rfl
theorem q920 : (Jvm.Cond.privateMethod ({ cls := "java/util/LinkedList", name := "isElementIndex", desc := "(I)Z" } : Jvm.MethodName)) ∈ lw_tbl := lw_at lw_m4 130 rfl
theorem q921 : (Jvm.Cond.instanceMethod ({ cls := "java/util/LinkedList", name := "isElementIndex", desc := "(I)Z" } : Jvm.MethodName)) ∈ lw_all := lw_g (lw_at lw_m4 131 rfl) rfl
theorem q922 : (Jvm.Cond.code ({ cls := "java/util/LinkedList", name := "isElementIndex", desc := "(I)Z" } : Jvm.MethodName) prog_62_method_26_code (2 : Nat) (Option.some Jvm.ClassFile.FieldType.boolean)) ∈ lw_all := lw_g (lw_at lw_m4 132 rfl) rfl
theorem q923 : (Jvm.Cond.methodLink "java/util/LinkedList" (86 : Nat) ({ cls := "java/util/LinkedList", name := "node", desc := "(I)Ljava/util/LinkedList$Node;" } : Jvm.MethodName)) ∈ lw_all := lw_g (lw_at lw_m4 133 rfl) rfl
theorem q924 : (Jvm.Cond.classLink "BrassInspector$Round$OfFair$1" (43 : Nat) "BrassInspector$Round$Trader") ∈ lw_all := lw_g (lw_at lw_m4 134 rfl) rfl
theorem q925 : (Jvm.Cond.methodLink "BrassInspector$Round$OfFair$1" (13 : Nat) ({ cls := "BrassInspector$Round$OfFair$1", name := "nextFrom", desc := "(I)I" } : Jvm.MethodName)) ∈ lw_all := lw_g (lw_at lw_m4 135 rfl) rfl
theorem q926 : (Jvm.Cond.privateMethod ({ cls := "BrassInspector$Round$OfFair$1", name := "nextFrom", desc := "(I)I" } : Jvm.MethodName)) ∈ lw_tbl := lw_at lw_m4 136 rfl
theorem q927 : (Jvm.Cond.instanceMethod ({ cls := "BrassInspector$Round$OfFair$1", name := "nextFrom", desc := "(I)I" } : Jvm.MethodName)) ∈ lw_all := lw_g (lw_at lw_m4 137 rfl) rfl
theorem q928 : (Jvm.Cond.instantiable "BrassInspector$Round$OfFair$1" (2 : Nat)) ∈ lw_all := lw_g (lw_at lw_m4 138 rfl) rfl
theorem q929 : (Jvm.Cond.code ({ cls := "BrassInspector$Round$OfFair$1", name := "nextFrom", desc := "(I)I" } : Jvm.MethodName) prog_16_method_2_code (3 : Nat) (Option.some Jvm.ClassFile.FieldType.int)) ∈ lw_all := lw_g (lw_at lw_m4 139 rfl) rfl
theorem q930 : (Jvm.Cond.methodLink "BrassInspector$Round$OfFair$1" (45 : Nat) ({ cls := "BrassInspector$Round$Trader", name := "fair", desc := "()I" } : Jvm.MethodName)) ∈ lw_all := lw_g (lw_at lw_m4 140 rfl) rfl
theorem q931 : (Jvm.Cond.instanceMethod ({ cls := "BrassInspector$Round$Trader", name := "fair", desc := "()I" } : Jvm.MethodName)) ∈ lw_all := lw_g (lw_at lw_m4 141 rfl) rfl
theorem q932 : (Jvm.Cond.selects "BrassInspector$Round$Trader" ({ cls := "BrassInspector$Round$Trader", name := "fair", desc := "()I" } : Jvm.MethodName) ({ cls := "BrassInspector$Round$Trader", name := "fair", desc := "()I" } : Jvm.MethodName)) ∈ lw_all := lw_g (lw_at lw_m4 142 rfl) rfl
theorem q933 : (Jvm.Cond.code ({ cls := "BrassInspector$Round$Trader", name := "fair", desc := "()I" } : Jvm.MethodName) prog_17_method_4_code (1 : Nat) (Option.some Jvm.ClassFile.FieldType.int)) ∈ lw_all := lw_g (lw_at lw_m4 143 rfl) rfl
theorem q934 : (Jvm.Cond.selects "java/util/AbstractList$ListItr" ({ cls := "java/util/Iterator", name := "next", desc := "()Ljava/lang/Object;" } : Jvm.MethodName) ({ cls := "java/util/AbstractList$Itr", name := "next", desc := "()Ljava/lang/Object;" } : Jvm.MethodName)) ∈ lw_all := lw_g (lw_at lw_m4 144 rfl) rfl
theorem q935 : (Jvm.Cond.unhidden "java/util/AbstractList$ListItr" "next" "()Ljava/lang/Object;") ∈ lw_tbl := lw_at lw_m4 145 rfl
theorem q936 : (Jvm.Cond.instanceMethod ({ cls := "java/util/AbstractList$Itr", name := "next", desc := "()Ljava/lang/Object;" } : Jvm.MethodName)) ∈ lw_all := lw_g (lw_at lw_m4 146 rfl) rfl
theorem q937 : (Jvm.Cond.publicMethod ({ cls := "java/util/AbstractList$Itr", name := "next", desc := "()Ljava/lang/Object;" } : Jvm.MethodName)) ∈ lw_tbl := lw_at lw_m4 147 rfl
theorem q938 : (Jvm.Cond.codeWith ({ cls := "java/util/AbstractList$Itr", name := "next", desc := "()Ljava/lang/Object;" } : Jvm.MethodName) prog_52_method_3_code (3 : Nat) (Option.some (Jvm.ClassFile.FieldType.object "java/lang/Object")) [((4 : Nat), (31 : Nat), (32 : Nat), (39 : Nat))]) ∈ lw_all := lw_g (lw_at lw_m4 148 rfl) rfl
theorem q939 : (Jvm.Cond.methodLink "java/util/AbstractList$Itr" (32 : Nat) ({ cls := "java/util/AbstractList$Itr", name := "checkForComodification", desc := "()V" } : Jvm.MethodName)) ∈ lw_all := lw_g (lw_at lw_m4 149 rfl) rfl
theorem q940 : (Jvm.Cond.instanceMethod ({ cls := "java/util/AbstractList$Itr", name := "checkForComodification", desc := "()V" } : Jvm.MethodName)) ∈ lw_all := lw_g (lw_at lw_m4 150 rfl) rfl
theorem q941 : (Jvm.Cond.sameMethod "java/util/AbstractList$Itr" "java/util/AbstractList$Itr" "checkForComodification" "()V") ∈ lw_all := lw_g (lw_at lw_m4 151 rfl) rfl
theorem q942 : (Jvm.Cond.selects "java/util/AbstractList$ListItr" ({ cls := "java/util/AbstractList$Itr", name := "checkForComodification", desc := "()V" } : Jvm.MethodName) ({ cls := "java/util/AbstractList$Itr", name := "checkForComodification", desc := "()V" } : Jvm.MethodName)) ∈ lw_all := lw_g (lw_at lw_m4 152 rfl) rfl
theorem q943 : (Jvm.Cond.code ({ cls := "java/util/AbstractList$Itr", name := "checkForComodification", desc := "()V" } : Jvm.MethodName) prog_52_method_5_code (1 : Nat) (Option.none : Option Jvm.ClassFile.FieldType)) ∈ lw_all := lw_g (lw_at lw_m4 153 rfl) rfl
theorem q944 : (Jvm.Cond.methodLink "java/util/AbstractList$Itr" (35 : Nat) ({ cls := "java/util/AbstractList", name := "get", desc := "(I)Ljava/lang/Object;" } : Jvm.MethodName)) ∈ lw_all := lw_g (lw_at lw_m4 154 rfl) rfl
theorem q945 : (Jvm.Cond.declares ({ cls := "java/util/AbstractList", name := "get", desc := "(I)Ljava/lang/Object;" } : Jvm.MethodName)) ∈ lw_tbl := lw_at lw_m4 155 rfl
theorem q946 : (Jvm.Cond.sameMethod "java/util/AbstractList" "java/util/AbstractList" "get" "(I)Ljava/lang/Object;") ∈ lw_all := lw_g (lw_at lw_m4 156 rfl) rfl
theorem q947 : (Jvm.Cond.selects "java/util/ArrayList" ({ cls := "java/util/AbstractList", name := "get", desc := "(I)Ljava/lang/Object;" } : Jvm.MethodName) ({ cls := "java/util/ArrayList", name := "get", desc := "(I)Ljava/lang/Object;" } : Jvm.MethodName)) ∈ lw_all := lw_g (lw_at lw_m4 157 rfl) rfl
theorem q948 : (Jvm.Cond.selects "java/util/LinkedList" ({ cls := "java/util/AbstractList", name := "get", desc := "(I)Ljava/lang/Object;" } : Jvm.MethodName) ({ cls := "java/util/LinkedList", name := "get", desc := "(I)Ljava/lang/Object;" } : Jvm.MethodName)) ∈ lw_all := lw_g (lw_at lw_m4 158 rfl) rfl
theorem q949 : (Jvm.Cond.classLink "java/util/AbstractList$Itr" (41 : Nat) "java/util/NoSuchElementException") ∈ lw_all := lw_g (lw_at lw_m4 159 rfl) rfl
theorem q950 : (Jvm.Cond.methodLink "java/util/AbstractList$Itr" (43 : Nat) ({ cls := "java/util/NoSuchElementException", name := "<init>", desc := "(Ljava/lang/Throwable;)V" } : Jvm.MethodName)) ∈ lw_all := lw_g (lw_at lw_m4 160 rfl) rfl
theorem q951 : (Jvm.Cond.instanceMethod ({ cls := "java/util/NoSuchElementException", name := "<init>", desc := "(Ljava/lang/Throwable;)V" } : Jvm.MethodName)) ∈ lw_all := lw_g (lw_at lw_m4 161 rfl) rfl
theorem q952 : (Jvm.Cond.code ({ cls := "java/util/NoSuchElementException", name := "<init>", desc := "(Ljava/lang/Throwable;)V" } : Jvm.MethodName) prog_67_method_3_code (2 : Nat) (Option.none : Option Jvm.ClassFile.FieldType)) ∈ lw_all := lw_g (lw_at lw_m4 162 rfl) rfl
theorem q953 : (Jvm.Cond.methodLink "java/util/NoSuchElementException" (10 : Nat) ({ cls := "java/lang/RuntimeException", name := "<init>", desc := "(Ljava/lang/Throwable;)V" } : Jvm.MethodName)) ∈ lw_all := lw_g (lw_at lw_m4 163 rfl) rfl
theorem q954 : (Jvm.Cond.instanceMethod ({ cls := "java/lang/RuntimeException", name := "<init>", desc := "(Ljava/lang/Throwable;)V" } : Jvm.MethodName)) ∈ lw_all := lw_g (lw_at lw_m4 164 rfl) rfl
theorem q955 : (Jvm.Cond.code ({ cls := "java/lang/RuntimeException", name := "<init>", desc := "(Ljava/lang/Throwable;)V" } : Jvm.MethodName) prog_38_method_4_code (2 : Nat) (Option.none : Option Jvm.ClassFile.FieldType)) ∈ lw_all := lw_g (lw_at lw_m4 165 rfl) rfl
theorem q956 : (Jvm.Cond.methodLink "java/lang/RuntimeException" (13 : Nat) ({ cls := "java/lang/Exception", name := "<init>", desc := "(Ljava/lang/Throwable;)V" } : Jvm.MethodName)) ∈ lw_all := lw_g (lw_at lw_m4 166 rfl) rfl
theorem q957 : (Jvm.Cond.instanceMethod ({ cls := "java/lang/Exception", name := "<init>", desc := "(Ljava/lang/Throwable;)V" } : Jvm.MethodName)) ∈ lw_all := lw_g (lw_at lw_m4 167 rfl) rfl
theorem q958 : (Jvm.Cond.code ({ cls := "java/lang/Exception", name := "<init>", desc := "(Ljava/lang/Throwable;)V" } : Jvm.MethodName) prog_30_method_4_code (2 : Nat) (Option.none : Option Jvm.ClassFile.FieldType)) ∈ lw_all := lw_g (lw_at lw_m4 168 rfl) rfl
theorem q959 : (Jvm.Cond.methodLink "java/lang/Exception" (13 : Nat) ({ cls := "java/lang/Throwable", name := "<init>", desc := "(Ljava/lang/Throwable;)V" } : Jvm.MethodName)) ∈ lw_all := lw_g (lw_at lw_m4 169 rfl) rfl
theorem q960 : (Jvm.Cond.instanceMethod ({ cls := "java/lang/Throwable", name := "<init>", desc := "(Ljava/lang/Throwable;)V" } : Jvm.MethodName)) ∈ lw_all := lw_g (lw_at lw_m4 170 rfl) rfl
theorem q961 : (Jvm.Cond.code ({ cls := "java/lang/Throwable", name := "<init>", desc := "(Ljava/lang/Throwable;)V" } : Jvm.MethodName) prog_46_method_4_code (2 : Nat) (Option.none : Option Jvm.ClassFile.FieldType)) ∈ lw_all := lw_g (lw_at lw_m4 171 rfl) rfl
theorem q962 : (Jvm.Cond.methodLink "java/lang/Throwable" (35 : Nat) ({ cls := "java/lang/Throwable", name := "toString", desc := "()Ljava/lang/String;" } : Jvm.MethodName)) ∈ lw_all := lw_g (lw_at lw_m4 172 rfl) rfl
theorem q963 : (Jvm.Cond.instanceMethod ({ cls := "java/lang/Throwable", name := "toString", desc := "()Ljava/lang/String;" } : Jvm.MethodName)) ∈ lw_all := lw_g (lw_at lw_m4 173 rfl) rfl
theorem q964 : (Jvm.Cond.sameMethod "java/lang/Throwable" "java/lang/Throwable" "toString" "()Ljava/lang/String;") ∈ lw_all := lw_g (lw_at lw_m4 174 rfl) rfl
theorem q965 : (Jvm.Cond.selects "BrassInspector$Refusal" ({ cls := "java/lang/Throwable", name := "toString", desc := "()Ljava/lang/String;" } : Jvm.MethodName) ({ cls := "java/lang/Throwable", name := "toString", desc := "()Ljava/lang/String;" } : Jvm.MethodName)) ∈ lw_all := lw_g (lw_at lw_m4 175 rfl) rfl
theorem q966 : (Jvm.Cond.selects "BrassInspector$TextError" ({ cls := "java/lang/Throwable", name := "toString", desc := "()Ljava/lang/String;" } : Jvm.MethodName) ({ cls := "java/lang/Throwable", name := "toString", desc := "()Ljava/lang/String;" } : Jvm.MethodName)) ∈ lw_all := lw_g (lw_at lw_m4 176 rfl) rfl
theorem q967 : (Jvm.Cond.selects "java/lang/ArithmeticException" ({ cls := "java/lang/Throwable", name := "toString", desc := "()Ljava/lang/String;" } : Jvm.MethodName) ({ cls := "java/lang/Throwable", name := "toString", desc := "()Ljava/lang/String;" } : Jvm.MethodName)) ∈ lw_all := lw_g (lw_at lw_m4 177 rfl) rfl
theorem q968 : (Jvm.Cond.selects "java/lang/ArrayIndexOutOfBoundsException" ({ cls := "java/lang/Throwable", name := "toString", desc := "()Ljava/lang/String;" } : Jvm.MethodName) ({ cls := "java/lang/Throwable", name := "toString", desc := "()Ljava/lang/String;" } : Jvm.MethodName)) ∈ lw_all := lw_g (lw_at lw_m4 178 rfl) rfl
theorem q969 : (Jvm.Cond.selects "java/lang/IllegalArgumentException" ({ cls := "java/lang/Throwable", name := "toString", desc := "()Ljava/lang/String;" } : Jvm.MethodName) ({ cls := "java/lang/Throwable", name := "toString", desc := "()Ljava/lang/String;" } : Jvm.MethodName)) ∈ lw_all := lw_g (lw_at lw_m4 179 rfl) rfl
theorem q970 : (Jvm.Cond.selects "java/lang/IllegalStateException" ({ cls := "java/lang/Throwable", name := "toString", desc := "()Ljava/lang/String;" } : Jvm.MethodName) ({ cls := "java/lang/Throwable", name := "toString", desc := "()Ljava/lang/String;" } : Jvm.MethodName)) ∈ lw_all := lw_g (lw_at lw_m4 180 rfl) rfl
theorem q971 : (Jvm.Cond.selects "java/lang/IndexOutOfBoundsException" ({ cls := "java/lang/Throwable", name := "toString", desc := "()Ljava/lang/String;" } : Jvm.MethodName) ({ cls := "java/lang/Throwable", name := "toString", desc := "()Ljava/lang/String;" } : Jvm.MethodName)) ∈ lw_all := lw_g (lw_at lw_m4 181 rfl) rfl
theorem q972 : (Jvm.Cond.selects "java/lang/StringIndexOutOfBoundsException" ({ cls := "java/lang/Throwable", name := "toString", desc := "()Ljava/lang/String;" } : Jvm.MethodName) ({ cls := "java/lang/Throwable", name := "toString", desc := "()Ljava/lang/String;" } : Jvm.MethodName)) ∈ lw_all := lw_g (lw_at lw_m4 182 rfl) rfl
theorem q973 : (Jvm.Cond.selects "java/lang/UnsupportedOperationException" ({ cls := "java/lang/Throwable", name := "toString", desc := "()Ljava/lang/String;" } : Jvm.MethodName) ({ cls := "java/lang/Throwable", name := "toString", desc := "()Ljava/lang/String;" } : Jvm.MethodName)) ∈ lw_all := lw_g (lw_at lw_m4 183 rfl) rfl
theorem q974 : (Jvm.Cond.selects "java/util/NoSuchElementException" ({ cls := "java/lang/Throwable", name := "toString", desc := "()Ljava/lang/String;" } : Jvm.MethodName) ({ cls := "java/lang/Throwable", name := "toString", desc := "()Ljava/lang/String;" } : Jvm.MethodName)) ∈ lw_all := lw_g (lw_at lw_m4 184 rfl) rfl
theorem q975 : (Jvm.Cond.code ({ cls := "java/lang/Throwable", name := "toString", desc := "()Ljava/lang/String;" } : Jvm.MethodName) prog_46_method_11_code (3 : Nat) (Option.some (Jvm.ClassFile.FieldType.object "java/lang/String"))) ∈ lw_all := lw_g (lw_at lw_m4 185 rfl) rfl
theorem q976 : (Jvm.Cond.methodLink "java/lang/Throwable" (69 : Nat) ({ cls := "java/lang/Object", name := "getClass", desc := "()Ljava/lang/Class;" } : Jvm.MethodName)) ∈ lw_all := lw_g (lw_at lw_m4 186 rfl) rfl
theorem q977 : (Jvm.Cond.instanceMethod ({ cls := "java/lang/Object", name := "getClass", desc := "()Ljava/lang/Class;" } : Jvm.MethodName)) ∈ lw_all := lw_g (lw_at lw_m4 187 rfl) rfl
theorem q978 : (Jvm.Cond.sameMethod "java/lang/Object" "java/lang/Object" "getClass" "()Ljava/lang/Class;") ∈ lw_all := lw_g (lw_at lw_m4 188 rfl) rfl
theorem q979 : (Jvm.Cond.selects "BrassInspector" ({ cls := "java/lang/Object", name := "getClass", desc := "()Ljava/lang/Class;" } : Jvm.MethodName) ({ cls := "java/lang/Object", name := "getClass", desc := "()Ljava/lang/Class;" } : Jvm.MethodName)) ∈ lw_all := lw_g (lw_at lw_m4 189 rfl) rfl
theorem q980 : (Jvm.Cond.selects "BrassInspector$1" ({ cls := "java/lang/Object", name := "getClass", desc := "()Ljava/lang/Class;" } : Jvm.MethodName) ({ cls := "java/lang/Object", name := "getClass", desc := "()Ljava/lang/Class;" } : Jvm.MethodName)) ∈ lw_all := lw_g (lw_at lw_m4 190 rfl) rfl
theorem q981 : (Jvm.Cond.selects "BrassInspector$2" ({ cls := "java/lang/Object", name := "getClass", desc := "()Ljava/lang/Class;" } : Jvm.MethodName) ({ cls := "java/lang/Object", name := "getClass", desc := "()Ljava/lang/Class;" } : Jvm.MethodName)) ∈ lw_all := lw_g (lw_at lw_m4 191 rfl) rfl
theorem q982 : (Jvm.Cond.selects "BrassInspector$3" ({ cls := "java/lang/Object", name := "getClass", desc := "()Ljava/lang/Class;" } : Jvm.MethodName) ({ cls := "java/lang/Object", name := "getClass", desc := "()Ljava/lang/Class;" } : Jvm.MethodName)) ∈ lw_all := lw_g (lw_at lw_m4 192 rfl) rfl
theorem q983 : (Jvm.Cond.selects "BrassInspector$4" ({ cls := "java/lang/Object", name := "getClass", desc := "()Ljava/lang/Class;" } : Jvm.MethodName) ({ cls := "java/lang/Object", name := "getClass", desc := "()Ljava/lang/Class;" } : Jvm.MethodName)) ∈ lw_all := lw_g (lw_at lw_m4 193 rfl) rfl
theorem q984 : (Jvm.Cond.selects "BrassInspector$5" ({ cls := "java/lang/Object", name := "getClass", desc := "()Ljava/lang/Class;" } : Jvm.MethodName) ({ cls := "java/lang/Object", name := "getClass", desc := "()Ljava/lang/Class;" } : Jvm.MethodName)) ∈ lw_all := lw_g (lw_at lw_m4 194 rfl) rfl
theorem q985 : (Jvm.Cond.selects "BrassInspector$6" ({ cls := "java/lang/Object", name := "getClass", desc := "()Ljava/lang/Class;" } : Jvm.MethodName) ({ cls := "java/lang/Object", name := "getClass", desc := "()Ljava/lang/Class;" } : Jvm.MethodName)) ∈ lw_all := lw_g (lw_at lw_m4 195 rfl) rfl
theorem q986 : (Jvm.Cond.selects "BrassInspector$Brass" ({ cls := "java/lang/Object", name := "getClass", desc := "()Ljava/lang/Class;" } : Jvm.MethodName) ({ cls := "java/lang/Object", name := "getClass", desc := "()Ljava/lang/Class;" } : Jvm.MethodName)) ∈ lw_all := lw_g (lw_at lw_m4 196 rfl) rfl
theorem q987 : (Jvm.Cond.selects "BrassInspector$Order" ({ cls := "java/lang/Object", name := "getClass", desc := "()Ljava/lang/Class;" } : Jvm.MethodName) ({ cls := "java/lang/Object", name := "getClass", desc := "()Ljava/lang/Class;" } : Jvm.MethodName)) ∈ lw_all := lw_g (lw_at lw_m4 197 rfl) rfl
theorem q988 : (Jvm.Cond.selects "BrassInspector$Reader" ({ cls := "java/lang/Object", name := "getClass", desc := "()Ljava/lang/Class;" } : Jvm.MethodName) ({ cls := "java/lang/Object", name := "getClass", desc := "()Ljava/lang/Class;" } : Jvm.MethodName)) ∈ lw_all := lw_g (lw_at lw_m4 198 rfl) rfl
theorem q989 : (Jvm.Cond.selects "BrassInspector$Refusal" ({ cls := "java/lang/Object", name := "getClass", desc := "()Ljava/lang/Class;" } : Jvm.MethodName) ({ cls := "java/lang/Object", name := "getClass", desc := "()Ljava/lang/Class;" } : Jvm.MethodName)) ∈ lw_all := lw_g (lw_at lw_m4 199 rfl) rfl
theorem q990 : (Jvm.Cond.selects "BrassInspector$Round" ({ cls := "java/lang/Object", name := "getClass", desc := "()Ljava/lang/Class;" } : Jvm.MethodName) ({ cls := "java/lang/Object", name := "getClass", desc := "()Ljava/lang/Class;" } : Jvm.MethodName)) ∈ lw_all := lw_g (lw_at lw_m4 200 rfl) rfl
theorem q991 : (Jvm.Cond.selects "BrassInspector$Round$1Rest" ({ cls := "java/lang/Object", name := "getClass", desc := "()Ljava/lang/Class;" } : Jvm.MethodName) ({ cls := "java/lang/Object", name := "getClass", desc := "()Ljava/lang/Class;" } : Jvm.MethodName)) ∈ lw_all := lw_g (lw_at lw_m4 201 rfl) rfl
theorem q992 : (Jvm.Cond.selects "BrassInspector$Round$OfFair" ({ cls := "java/lang/Object", name := "getClass", desc := "()Ljava/lang/Class;" } : Jvm.MethodName) ({ cls := "java/lang/Object", name := "getClass", desc := "()Ljava/lang/Class;" } : Jvm.MethodName)) ∈ lw_all := lw_g (lw_at lw_m4 202 rfl) rfl
theorem q993 : (Jvm.Cond.selects "BrassInspector$Round$OfFair$1" ({ cls := "java/lang/Object", name := "getClass", desc := "()Ljava/lang/Class;" } : Jvm.MethodName) ({ cls := "java/lang/Object", name := "getClass", desc := "()Ljava/lang/Class;" } : Jvm.MethodName)) ∈ lw_all := lw_g (lw_at lw_m4 203 rfl) rfl
theorem q994 : (Jvm.Cond.selects "BrassInspector$Round$Trader" ({ cls := "java/lang/Object", name := "getClass", desc := "()Ljava/lang/Class;" } : Jvm.MethodName) ({ cls := "java/lang/Object", name := "getClass", desc := "()Ljava/lang/Class;" } : Jvm.MethodName)) ∈ lw_all := lw_g (lw_at lw_m4 204 rfl) rfl
theorem q995 : (Jvm.Cond.selects "BrassInspector$TextError" ({ cls := "java/lang/Object", name := "getClass", desc := "()Ljava/lang/Class;" } : Jvm.MethodName) ({ cls := "java/lang/Object", name := "getClass", desc := "()Ljava/lang/Class;" } : Jvm.MethodName)) ∈ lw_all := lw_g (lw_at lw_m4 205 rfl) rfl
theorem q996 : (Jvm.Cond.selects "BrassInspectorModel" ({ cls := "java/lang/Object", name := "getClass", desc := "()Ljava/lang/Class;" } : Jvm.MethodName) ({ cls := "java/lang/Object", name := "getClass", desc := "()Ljava/lang/Class;" } : Jvm.MethodName)) ∈ lw_all := lw_g (lw_at lw_m4 206 rfl) rfl
theorem q997 : (Jvm.Cond.selects "java/lang/ArithmeticException" ({ cls := "java/lang/Object", name := "getClass", desc := "()Ljava/lang/Class;" } : Jvm.MethodName) ({ cls := "java/lang/Object", name := "getClass", desc := "()Ljava/lang/Class;" } : Jvm.MethodName)) ∈ lw_all := lw_g (lw_at lw_m4 207 rfl) rfl
theorem q998 : (Jvm.Cond.selects "java/lang/ArrayIndexOutOfBoundsException" ({ cls := "java/lang/Object", name := "getClass", desc := "()Ljava/lang/Class;" } : Jvm.MethodName) ({ cls := "java/lang/Object", name := "getClass", desc := "()Ljava/lang/Class;" } : Jvm.MethodName)) ∈ lw_all := lw_g (lw_at lw_m4 208 rfl) rfl
theorem q999 : (Jvm.Cond.selects "java/lang/IllegalArgumentException" ({ cls := "java/lang/Object", name := "getClass", desc := "()Ljava/lang/Class;" } : Jvm.MethodName) ({ cls := "java/lang/Object", name := "getClass", desc := "()Ljava/lang/Class;" } : Jvm.MethodName)) ∈ lw_all := lw_g (lw_at lw_m4 209 rfl) rfl
theorem q1000 : (Jvm.Cond.selects "java/lang/IllegalStateException" ({ cls := "java/lang/Object", name := "getClass", desc := "()Ljava/lang/Class;" } : Jvm.MethodName) ({ cls := "java/lang/Object", name := "getClass", desc := "()Ljava/lang/Class;" } : Jvm.MethodName)) ∈ lw_all := lw_g (lw_at lw_m4 210 rfl) rfl
theorem q1001 : (Jvm.Cond.selects "java/lang/IndexOutOfBoundsException" ({ cls := "java/lang/Object", name := "getClass", desc := "()Ljava/lang/Class;" } : Jvm.MethodName) ({ cls := "java/lang/Object", name := "getClass", desc := "()Ljava/lang/Class;" } : Jvm.MethodName)) ∈ lw_all := lw_g (lw_at lw_m4 211 rfl) rfl
theorem q1002 : (Jvm.Cond.selects "java/lang/String" ({ cls := "java/lang/Object", name := "getClass", desc := "()Ljava/lang/Class;" } : Jvm.MethodName) ({ cls := "java/lang/Object", name := "getClass", desc := "()Ljava/lang/Class;" } : Jvm.MethodName)) ∈ lw_all := lw_g (lw_at lw_m4 212 rfl) rfl
theorem q1003 : (Jvm.Cond.selects "java/lang/StringBuilder" ({ cls := "java/lang/Object", name := "getClass", desc := "()Ljava/lang/Class;" } : Jvm.MethodName) ({ cls := "java/lang/Object", name := "getClass", desc := "()Ljava/lang/Class;" } : Jvm.MethodName)) ∈ lw_all := lw_g (lw_at lw_m4 213 rfl) rfl
theorem q1004 : (Jvm.Cond.selects "java/lang/StringIndexOutOfBoundsException" ({ cls := "java/lang/Object", name := "getClass", desc := "()Ljava/lang/Class;" } : Jvm.MethodName) ({ cls := "java/lang/Object", name := "getClass", desc := "()Ljava/lang/Class;" } : Jvm.MethodName)) ∈ lw_all := lw_g (lw_at lw_m4 214 rfl) rfl
theorem q1005 : (Jvm.Cond.selects "java/lang/System$2" ({ cls := "java/lang/Object", name := "getClass", desc := "()Ljava/lang/Class;" } : Jvm.MethodName) ({ cls := "java/lang/Object", name := "getClass", desc := "()Ljava/lang/Class;" } : Jvm.MethodName)) ∈ lw_all := lw_g (lw_at lw_m4 215 rfl) rfl
theorem q1006 : (Jvm.Cond.selects "java/lang/UnsupportedOperationException" ({ cls := "java/lang/Object", name := "getClass", desc := "()Ljava/lang/Class;" } : Jvm.MethodName) ({ cls := "java/lang/Object", name := "getClass", desc := "()Ljava/lang/Class;" } : Jvm.MethodName)) ∈ lw_all := lw_g (lw_at lw_m4 216 rfl) rfl
theorem q1007 : (Jvm.Cond.selects "java/util/AbstractList$ListItr" ({ cls := "java/lang/Object", name := "getClass", desc := "()Ljava/lang/Class;" } : Jvm.MethodName) ({ cls := "java/lang/Object", name := "getClass", desc := "()Ljava/lang/Class;" } : Jvm.MethodName)) ∈ lw_all := lw_g (lw_at lw_m4 217 rfl) rfl
theorem q1008 : (Jvm.Cond.selects "java/util/ArrayList" ({ cls := "java/lang/Object", name := "getClass", desc := "()Ljava/lang/Class;" } : Jvm.MethodName) ({ cls := "java/lang/Object", name := "getClass", desc := "()Ljava/lang/Class;" } : Jvm.MethodName)) ∈ lw_all := lw_g (lw_at lw_m4 218 rfl) rfl
theorem q1009 : (Jvm.Cond.selects "java/util/ArrayList$Itr" ({ cls := "java/lang/Object", name := "getClass", desc := "()Ljava/lang/Class;" } : Jvm.MethodName) ({ cls := "java/lang/Object", name := "getClass", desc := "()Ljava/lang/Class;" } : Jvm.MethodName)) ∈ lw_all := lw_g (lw_at lw_m4 219 rfl) rfl
theorem q1010 : (Jvm.Cond.selects "java/util/ArrayList$ListItr" ({ cls := "java/lang/Object", name := "getClass", desc := "()Ljava/lang/Class;" } : Jvm.MethodName) ({ cls := "java/lang/Object", name := "getClass", desc := "()Ljava/lang/Class;" } : Jvm.MethodName)) ∈ lw_all := lw_g (lw_at lw_m4 220 rfl) rfl
theorem q1011 : (Jvm.Cond.selects "java/util/LinkedList" ({ cls := "java/lang/Object", name := "getClass", desc := "()Ljava/lang/Class;" } : Jvm.MethodName) ({ cls := "java/lang/Object", name := "getClass", desc := "()Ljava/lang/Class;" } : Jvm.MethodName)) ∈ lw_all := lw_g (lw_at lw_m4 221 rfl) rfl
theorem q1012 : (Jvm.Cond.selects "java/util/LinkedList$ListItr" ({ cls := "java/lang/Object", name := "getClass", desc := "()Ljava/lang/Class;" } : Jvm.MethodName) ({ cls := "java/lang/Object", name := "getClass", desc := "()Ljava/lang/Class;" } : Jvm.MethodName)) ∈ lw_all := lw_g (lw_at lw_m4 222 rfl) rfl
theorem q1013 : (Jvm.Cond.selects "java/util/LinkedList$Node" ({ cls := "java/lang/Object", name := "getClass", desc := "()Ljava/lang/Class;" } : Jvm.MethodName) ({ cls := "java/lang/Object", name := "getClass", desc := "()Ljava/lang/Class;" } : Jvm.MethodName)) ∈ lw_all := lw_g (lw_at lw_m4 223 rfl) rfl
theorem q1014 : (Jvm.Cond.selects "java/util/NoSuchElementException" ({ cls := "java/lang/Object", name := "getClass", desc := "()Ljava/lang/Class;" } : Jvm.MethodName) ({ cls := "java/lang/Object", name := "getClass", desc := "()Ljava/lang/Class;" } : Jvm.MethodName)) ∈ lw_all := lw_g (lw_at lw_m4 224 rfl) rfl
theorem q1015 : (Jvm.Cond.native ({ cls := "java/lang/Object", name := "getClass", desc := "()Ljava/lang/Class;" } : Jvm.MethodName)) ∈ lw_all := lw_g (lw_at lw_m4 225 rfl) rfl
theorem q1016 : (Jvm.Cond.methodLink "java/lang/Throwable" (78 : Nat) ({ cls := "java/lang/Throwable", name := "getLocalizedMessage", desc := "()Ljava/lang/String;" } : Jvm.MethodName)) ∈ lw_all := lw_g (lw_at lw_m4 226 rfl) rfl
theorem q1017 : (Jvm.Cond.instanceMethod ({ cls := "java/lang/Throwable", name := "getLocalizedMessage", desc := "()Ljava/lang/String;" } : Jvm.MethodName)) ∈ lw_all := lw_g (lw_at lw_m4 227 rfl) rfl
theorem q1018 : (Jvm.Cond.sameMethod "java/lang/Throwable" "java/lang/Throwable" "getLocalizedMessage" "()Ljava/lang/String;") ∈ lw_all := lw_g (lw_at lw_m4 228 rfl) rfl
theorem q1019 : (Jvm.Cond.selects "BrassInspector$Refusal" ({ cls := "java/lang/Throwable", name := "getLocalizedMessage", desc := "()Ljava/lang/String;" } : Jvm.MethodName) ({ cls := "java/lang/Throwable", name := "getLocalizedMessage", desc := "()Ljava/lang/String;" } : Jvm.MethodName)) ∈ lw_all := lw_g (lw_at lw_m4 229 rfl) rfl
theorem q1020 : (Jvm.Cond.selects "BrassInspector$TextError" ({ cls := "java/lang/Throwable", name := "getLocalizedMessage", desc := "()Ljava/lang/String;" } : Jvm.MethodName) ({ cls := "java/lang/Throwable", name := "getLocalizedMessage", desc := "()Ljava/lang/String;" } : Jvm.MethodName)) ∈ lw_all := lw_g (lw_at lw_m4 230 rfl) rfl
theorem q1021 : (Jvm.Cond.selects "java/lang/ArithmeticException" ({ cls := "java/lang/Throwable", name := "getLocalizedMessage", desc := "()Ljava/lang/String;" } : Jvm.MethodName) ({ cls := "java/lang/Throwable", name := "getLocalizedMessage", desc := "()Ljava/lang/String;" } : Jvm.MethodName)) ∈ lw_all := lw_g (lw_at lw_m4 231 rfl) rfl
theorem q1022 : (Jvm.Cond.selects "java/lang/ArrayIndexOutOfBoundsException" ({ cls := "java/lang/Throwable", name := "getLocalizedMessage", desc := "()Ljava/lang/String;" } : Jvm.MethodName) ({ cls := "java/lang/Throwable", name := "getLocalizedMessage", desc := "()Ljava/lang/String;" } : Jvm.MethodName)) ∈ lw_all := lw_g (lw_at lw_m4 232 rfl) rfl
theorem q1023 : (Jvm.Cond.selects "java/lang/IllegalArgumentException" ({ cls := "java/lang/Throwable", name := "getLocalizedMessage", desc := "()Ljava/lang/String;" } : Jvm.MethodName) ({ cls := "java/lang/Throwable", name := "getLocalizedMessage", desc := "()Ljava/lang/String;" } : Jvm.MethodName)) ∈ lw_all := lw_g (lw_at lw_m4 233 rfl) rfl
theorem q1024 : (Jvm.Cond.selects "java/lang/IllegalStateException" ({ cls := "java/lang/Throwable", name := "getLocalizedMessage", desc := "()Ljava/lang/String;" } : Jvm.MethodName) ({ cls := "java/lang/Throwable", name := "getLocalizedMessage", desc := "()Ljava/lang/String;" } : Jvm.MethodName)) ∈ lw_all := lw_g (lw_at lw_m4 234 rfl) rfl
theorem q1025 : (Jvm.Cond.selects "java/lang/IndexOutOfBoundsException" ({ cls := "java/lang/Throwable", name := "getLocalizedMessage", desc := "()Ljava/lang/String;" } : Jvm.MethodName) ({ cls := "java/lang/Throwable", name := "getLocalizedMessage", desc := "()Ljava/lang/String;" } : Jvm.MethodName)) ∈ lw_all := lw_g (lw_at lw_m4 235 rfl) rfl
theorem q1026 : (Jvm.Cond.selects "java/lang/StringIndexOutOfBoundsException" ({ cls := "java/lang/Throwable", name := "getLocalizedMessage", desc := "()Ljava/lang/String;" } : Jvm.MethodName) ({ cls := "java/lang/Throwable", name := "getLocalizedMessage", desc := "()Ljava/lang/String;" } : Jvm.MethodName)) ∈ lw_all := lw_g (lw_at lw_m4 236 rfl) rfl
theorem q1027 : (Jvm.Cond.selects "java/lang/UnsupportedOperationException" ({ cls := "java/lang/Throwable", name := "getLocalizedMessage", desc := "()Ljava/lang/String;" } : Jvm.MethodName) ({ cls := "java/lang/Throwable", name := "getLocalizedMessage", desc := "()Ljava/lang/String;" } : Jvm.MethodName)) ∈ lw_all := lw_g (lw_at lw_m4 237 rfl) rfl
theorem q1028 : (Jvm.Cond.selects "java/util/NoSuchElementException" ({ cls := "java/lang/Throwable", name := "getLocalizedMessage", desc := "()Ljava/lang/String;" } : Jvm.MethodName) ({ cls := "java/lang/Throwable", name := "getLocalizedMessage", desc := "()Ljava/lang/String;" } : Jvm.MethodName)) ∈ lw_all := lw_g (lw_at lw_m4 238 rfl) rfl
theorem q1029 : (Jvm.Cond.code ({ cls := "java/lang/Throwable", name := "getLocalizedMessage", desc := "()Ljava/lang/String;" } : Jvm.MethodName) prog_46_method_7_code (1 : Nat) (Option.some (Jvm.ClassFile.FieldType.object "java/lang/String"))) ∈ lw_all := lw_g (lw_at lw_m4 239 rfl) rfl
theorem q1030 : (Jvm.Cond.methodLink "java/lang/Throwable" (39 : Nat) ({ cls := "java/lang/Throwable", name := "getMessage", desc := "()Ljava/lang/String;" } : Jvm.MethodName)) ∈ lw_all := lw_g (lw_at lw_m5 0 rfl) rfl
theorem q1031 : (Jvm.Cond.instanceMethod ({ cls := "java/lang/Throwable", name := "getMessage", desc := "()Ljava/lang/String;" } : Jvm.MethodName)) ∈ lw_all := lw_g (lw_at lw_m5 1 rfl) rfl
theorem q1032 : (Jvm.Cond.sameMethod "java/lang/Throwable" "java/lang/Throwable" "getMessage" "()Ljava/lang/String;") ∈ lw_all := lw_g (lw_at lw_m5 2 rfl) rfl
theorem q1033 : (Jvm.Cond.selects "BrassInspector$Refusal" ({ cls := "java/lang/Throwable", name := "getMessage", desc := "()Ljava/lang/String;" } : Jvm.MethodName) ({ cls := "java/lang/Throwable", name := "getMessage", desc := "()Ljava/lang/String;" } : Jvm.MethodName)) ∈ lw_all := lw_g (lw_at lw_m5 3 rfl) rfl
theorem q1034 : (Jvm.Cond.selects "BrassInspector$TextError" ({ cls := "java/lang/Throwable", name := "getMessage", desc := "()Ljava/lang/String;" } : Jvm.MethodName) ({ cls := "java/lang/Throwable", name := "getMessage", desc := "()Ljava/lang/String;" } : Jvm.MethodName)) ∈ lw_all := lw_g (lw_at lw_m5 4 rfl) rfl
theorem q1035 : (Jvm.Cond.selects "java/lang/ArithmeticException" ({ cls := "java/lang/Throwable", name := "getMessage", desc := "()Ljava/lang/String;" } : Jvm.MethodName) ({ cls := "java/lang/Throwable", name := "getMessage", desc := "()Ljava/lang/String;" } : Jvm.MethodName)) ∈ lw_all := lw_g (lw_at lw_m5 5 rfl) rfl
theorem q1036 : (Jvm.Cond.selects "java/lang/ArrayIndexOutOfBoundsException" ({ cls := "java/lang/Throwable", name := "getMessage", desc := "()Ljava/lang/String;" } : Jvm.MethodName) ({ cls := "java/lang/Throwable", name := "getMessage", desc := "()Ljava/lang/String;" } : Jvm.MethodName)) ∈ lw_all := lw_g (lw_at lw_m5 6 rfl) rfl
theorem q1037 : (Jvm.Cond.selects "java/lang/IllegalArgumentException" ({ cls := "java/lang/Throwable", name := "getMessage", desc := "()Ljava/lang/String;" } : Jvm.MethodName) ({ cls := "java/lang/Throwable", name := "getMessage", desc := "()Ljava/lang/String;" } : Jvm.MethodName)) ∈ lw_all := lw_g (lw_at lw_m5 7 rfl) rfl
theorem q1038 : (Jvm.Cond.selects "java/lang/IllegalStateException" ({ cls := "java/lang/Throwable", name := "getMessage", desc := "()Ljava/lang/String;" } : Jvm.MethodName) ({ cls := "java/lang/Throwable", name := "getMessage", desc := "()Ljava/lang/String;" } : Jvm.MethodName)) ∈ lw_all := lw_g (lw_at lw_m5 8 rfl) rfl
theorem q1039 : (Jvm.Cond.selects "java/lang/IndexOutOfBoundsException" ({ cls := "java/lang/Throwable", name := "getMessage", desc := "()Ljava/lang/String;" } : Jvm.MethodName) ({ cls := "java/lang/Throwable", name := "getMessage", desc := "()Ljava/lang/String;" } : Jvm.MethodName)) ∈ lw_all := lw_g (lw_at lw_m5 9 rfl) rfl
theorem q1040 : (Jvm.Cond.selects "java/lang/StringIndexOutOfBoundsException" ({ cls := "java/lang/Throwable", name := "getMessage", desc := "()Ljava/lang/String;" } : Jvm.MethodName) ({ cls := "java/lang/Throwable", name := "getMessage", desc := "()Ljava/lang/String;" } : Jvm.MethodName)) ∈ lw_all := lw_g (lw_at lw_m5 10 rfl) rfl
theorem q1041 : (Jvm.Cond.selects "java/lang/UnsupportedOperationException" ({ cls := "java/lang/Throwable", name := "getMessage", desc := "()Ljava/lang/String;" } : Jvm.MethodName) ({ cls := "java/lang/Throwable", name := "getMessage", desc := "()Ljava/lang/String;" } : Jvm.MethodName)) ∈ lw_all := lw_g (lw_at lw_m5 11 rfl) rfl
theorem q1042 : (Jvm.Cond.selects "java/util/NoSuchElementException" ({ cls := "java/lang/Throwable", name := "getMessage", desc := "()Ljava/lang/String;" } : Jvm.MethodName) ({ cls := "java/lang/Throwable", name := "getMessage", desc := "()Ljava/lang/String;" } : Jvm.MethodName)) ∈ lw_all := lw_g (lw_at lw_m5 12 rfl) rfl
theorem q1043 : (Jvm.Cond.code ({ cls := "java/lang/Throwable", name := "getMessage", desc := "()Ljava/lang/String;" } : Jvm.MethodName) prog_46_method_6_code (1 : Nat) (Option.some (Jvm.ClassFile.FieldType.object "java/lang/String"))) ∈ lw_all := lw_g (lw_at lw_m5 13 rfl) rfl
theorem q1044 : (Jvm.Cond.classLink "java/lang/Throwable" (44 : Nat) "java/lang/StringBuilder") ∈ lw_all := lw_g (lw_at lw_m5 14 rfl) rfl
theorem q1045 : (Jvm.Cond.methodLink "java/lang/Throwable" (46 : Nat) ({ cls := "java/lang/StringBuilder", name := "<init>", desc := "()V" } : Jvm.MethodName)) ∈ lw_all := lw_g (lw_at lw_m5 15 rfl) rfl
theorem q1046 : (Jvm.Cond.methodLink "java/lang/Throwable" (49 : Nat) ({ cls := "java/lang/StringBuilder", name := "append", desc := "(Ljava/lang/String;)Ljava/lang/StringBuilder;" } : Jvm.MethodName)) ∈ lw_all := lw_g (lw_at lw_m5 16 rfl) rfl
theorem q1047 : (Jvm.Cond.stringRef "java/lang/Throwable" (81 : Nat) ": ") ∈ lw_tbl := lw_at lw_m5 17 rfl
theorem q1048 : (Jvm.Cond.methodLink "java/lang/Throwable" (60 : Nat) ({ cls := "java/lang/StringBuilder", name := "toString", desc := "()Ljava/lang/String;" } : Jvm.MethodName)) ∈ lw_all := lw_g (lw_at lw_m5 18 rfl) rfl
theorem q1049 : (Jvm.Cond.selects "java/util/ArrayList$Itr" ({ cls := "java/util/Iterator", name := "next", desc := "()Ljava/lang/Object;" } : Jvm.MethodName) ({ cls := "java/util/ArrayList$Itr", name := "next", desc := "()Ljava/lang/Object;" } : Jvm.MethodName)) ∈ lw_all := lw_g (lw_at lw_m5 19 rfl) rfl
theorem q1050 : (Jvm.Cond.unhidden "java/util/ArrayList$Itr" "next" "()Ljava/lang/Object;") ∈ lw_tbl := lw_at lw_m5 20 rfl
theorem q1051 : (Jvm.Cond.instanceMethod ({ cls := "java/util/ArrayList$Itr", name := "next", desc := "()Ljava/lang/Object;" } : Jvm.MethodName)) ∈ lw_all := lw_g (lw_at lw_m5 21 rfl) rfl
theorem q1052 : (Jvm.Cond.publicMethod ({ cls := "java/util/ArrayList$Itr", name := "next", desc := "()Ljava/lang/Object;" } : Jvm.MethodName)) ∈ lw_tbl := lw_at lw_m5 22 rfl
theorem q1053 : (Jvm.Cond.code ({ cls := "java/util/ArrayList$Itr", name := "next", desc := "()Ljava/lang/Object;" } : Jvm.MethodName) prog_56_method_3_code (3 : Nat) (Option.some (Jvm.ClassFile.FieldType.object "java/lang/Object"))) ∈ lw_all := lw_g (lw_at lw_m5 23 rfl) rfl
theorem q1054 : (Jvm.Cond.methodLink "java/util/ArrayList$Itr" (31 : Nat) ({ cls := "java/util/ArrayList$Itr", name := "checkForComodification", desc := "()V" } : Jvm.MethodName)) ∈ lw_all := lw_g (lw_at lw_m5 24 rfl) rfl
theorem q1055 : (Jvm.Cond.instanceMethod ({ cls := "java/util/ArrayList$Itr", name := "checkForComodification", desc := "()V" } : Jvm.MethodName)) ∈ lw_all := lw_g (lw_at lw_m5 25 rfl) rfl
theorem q1056 : (Jvm.Cond.selects "java/util/ArrayList$Itr" ({ cls := "java/util/ArrayList$Itr", name := "checkForComodification", desc := "()V" } : Jvm.MethodName) ({ cls := "java/util/ArrayList$Itr", name := "checkForComodification", desc := "()V" } : Jvm.MethodName)) ∈ lw_all := lw_g (lw_at lw_m5 26 rfl) rfl
theorem q1057 : (Jvm.Cond.sameMethod "java/util/ArrayList$Itr" "java/util/ArrayList$Itr" "checkForComodification" "()V") ∈ lw_all := lw_g (lw_at lw_m5 27 rfl) rfl
theorem q1058 : (Jvm.Cond.selects "java/util/ArrayList$ListItr" ({ cls := "java/util/ArrayList$Itr", name := "checkForComodification", desc := "()V" } : Jvm.MethodName) ({ cls := "java/util/ArrayList$Itr", name := "checkForComodification", desc := "()V" } : Jvm.MethodName)) ∈ lw_all := lw_g (lw_at lw_m5 28 rfl) rfl
theorem q1059 : (Jvm.Cond.code ({ cls := "java/util/ArrayList$Itr", name := "checkForComodification", desc := "()V" } : Jvm.MethodName) prog_56_method_6_code (1 : Nat) (Option.none : Option Jvm.ClassFile.FieldType)) ∈ lw_all := lw_g (lw_at lw_m5 29 rfl) rfl
theorem q1060 : (Jvm.Cond.classLink "java/util/ArrayList$Itr" (34 : Nat) "java/util/NoSuchElementException") ∈ lw_all := lw_g (lw_at lw_m5 30 rfl) rfl
theorem q1061 : (Jvm.Cond.methodLink "java/util/ArrayList$Itr" (36 : Nat) ({ cls := "java/util/NoSuchElementException", name := "<init>", desc := "()V" } : Jvm.MethodName)) ∈ lw_all := lw_g (lw_at lw_m5 31 rfl) rfl
theorem q1062 : (Jvm.Cond.selects "java/util/ArrayList$ListItr" ({ cls := "java/util/Iterator", name := "next", desc := "()Ljava/lang/Object;" } : Jvm.MethodName) ({ cls := "java/util/ArrayList$Itr", name := "next", desc := "()Ljava/lang/Object;" } : Jvm.MethodName)) ∈ lw_all := lw_g (lw_at lw_m5 32 rfl) rfl
theorem q1063 : (Jvm.Cond.unhidden "java/util/ArrayList$ListItr" "next" "()Ljava/lang/Object;") ∈ lw_tbl := lw_at lw_m5 33 rfl
theorem q1064 : (Jvm.Cond.selects "java/util/LinkedList$ListItr" ({ cls := "java/util/Iterator", name := "next", desc := "()Ljava/lang/Object;" } : Jvm.MethodName) ({ cls := "java/util/LinkedList$ListItr", name := "next", desc := "()Ljava/lang/Object;" } : Jvm.MethodName)) ∈ lw_all := lw_g (lw_at lw_m5 34 rfl) rfl
theorem q1065 : (Jvm.Cond.unhidden "java/util/LinkedList$ListItr" "next" "()Ljava/lang/Object;") ∈ lw_tbl := lw_at lw_m5 35 rfl
theorem q1066 : (Jvm.Cond.instanceMethod ({ cls := "java/util/LinkedList$ListItr", name := "next", desc := "()Ljava/lang/Object;" } : Jvm.MethodName)) ∈ lw_all := lw_g (lw_at lw_m5 36 rfl) rfl
theorem q1067 : (Jvm.Cond.publicMethod ({ cls := "java/util/LinkedList$ListItr", name := "next", desc := "()Ljava/lang/Object;" } : Jvm.MethodName)) ∈ lw_tbl := lw_at lw_m5 37 rfl
theorem q1068 : (Jvm.Cond.code ({ cls := "java/util/LinkedList$ListItr", name := "next", desc := "()Ljava/lang/Object;" } : Jvm.MethodName) prog_63_method_3_code (1 : Nat) (Option.some (Jvm.ClassFile.FieldType.object "java/lang/Object"))) ∈ lw_all := lw_g (lw_at lw_m5 38 rfl) rfl
theorem q1069 : (Jvm.Cond.methodLink "java/util/LinkedList$ListItr" (36 : Nat) ({ cls := "java/util/LinkedList$ListItr", name := "checkForComodification", desc := "()V" } : Jvm.MethodName)) ∈ lw_all := lw_g (lw_at lw_m5 39 rfl) rfl
theorem q1070 : (Jvm.Cond.instanceMethod ({ cls := "java/util/LinkedList$ListItr", name := "checkForComodification", desc := "()V" } : Jvm.MethodName)) ∈ lw_all := lw_g (lw_at lw_m5 40 rfl) rfl
theorem q1071 : (Jvm.Cond.selects "java/util/LinkedList$ListItr" ({ cls := "java/util/LinkedList$ListItr", name := "checkForComodification", desc := "()V" } : Jvm.MethodName) ({ cls := "java/util/LinkedList$ListItr", name := "checkForComodification", desc := "()V" } : Jvm.MethodName)) ∈ lw_all := lw_g (lw_at lw_m5 41 rfl) rfl
theorem q1072 : (Jvm.Cond.code ({ cls := "java/util/LinkedList$ListItr", name := "checkForComodification", desc := "()V" } : Jvm.MethodName) prog_63_method_12_code (1 : Nat) (Option.none : Option Jvm.ClassFile.FieldType)) ∈ lw_all := lw_g (lw_at lw_m5 42 rfl) rfl
theorem q1073 : (Jvm.Cond.methodLink "java/util/LinkedList$ListItr" (39 : Nat) ({ cls := "java/util/LinkedList$ListItr", name := "hasNext", desc := "()Z" } : Jvm.MethodName)) ∈ lw_all := lw_g (lw_at lw_m5 43 rfl) rfl
theorem q1074 : (Jvm.Cond.classLink "java/util/LinkedList$ListItr" (43 : Nat) "java/util/NoSuchElementException") ∈ lw_all := lw_g (lw_at lw_m5 44 rfl) rfl
theorem q1075 : (Jvm.Cond.methodLink "java/util/LinkedList$ListItr" (45 : Nat) ({ cls := "java/util/NoSuchElementException", name := "<init>", desc := "()V" } : Jvm.MethodName)) ∈ lw_all := lw_g (lw_at lw_m5 45 rfl) rfl
theorem q1076 : (Jvm.Cond.classLink "BrassInspector$Round" (51 : Nat) "BrassInspector$Round$Trader") ∈ lw_all := lw_g (lw_at lw_m5 46 rfl) rfl
theorem q1077 : (Jvm.Cond.instantiable "BrassInspector$Round$Trader" (11 : Nat)) ∈ lw_all := lw_g (lw_at lw_m5 47 rfl) rfl
theorem q1078 : (Jvm.Cond.methodLink "BrassInspector$Round" (53 : Nat) ({ cls := "java/util/Objects", name := "requireNonNull", desc := "(Ljava/lang/Object;)Ljava/lang/Object;" } : Jvm.MethodName)) ∈ lw_all := lw_g (lw_at lw_m5 48 rfl) rfl
theorem q1079 : (Jvm.Cond.static ({ cls := "java/util/Objects", name := "requireNonNull", desc := "(Ljava/lang/Object;)Ljava/lang/Object;" } : Jvm.MethodName)) ∈ lw_all := lw_g (lw_at lw_m5 49 rfl) rfl
theorem q1080 : (Jvm.Cond.code ({ cls := "java/util/Objects", name := "requireNonNull", desc := "(Ljava/lang/Object;)Ljava/lang/Object;" } : Jvm.MethodName) prog_68_method_10_code (1 : Nat) (Option.some (Jvm.ClassFile.FieldType.object "java/lang/Object"))) ∈ lw_all := lw_g (lw_at lw_m5 50 rfl) rfl
theorem q1081 : (Jvm.Cond.methodLink "BrassInspector$Round" (59 : Nat) ({ cls := "BrassInspector$Round$Trader", name := "<init>", desc := "(LBrassInspector$Round;LBrassInspector$Round$Trader;)V" } : Jvm.MethodName)) ∈ lw_all := lw_g (lw_at lw_m5 51 rfl) rfl
theorem q1082 : (Jvm.Cond.instanceMethod ({ cls := "BrassInspector$Round$Trader", name := "<init>", desc := "(LBrassInspector$Round;LBrassInspector$Round$Trader;)V" } : Jvm.MethodName)) ∈ lw_all := lw_g (lw_at lw_m5 52 rfl) rfl
theorem q1083 : (Jvm.Cond.code ({ cls := "BrassInspector$Round$Trader", name := "<init>", desc := "(LBrassInspector$Round;LBrassInspector$Round$Trader;)V" } : Jvm.MethodName) prog_17_method_2_code (3 : Nat) (Option.none : Option Jvm.ClassFile.FieldType)) ∈ lw_all := lw_g (lw_at lw_m5 53 rfl) rfl
theorem q1084 : (Jvm.Cond.methodLink "BrassInspector$Round$Trader" (34 : Nat) ({ cls := "BrassInspector$Round$Trader", name := "<init>", desc := "(LBrassInspector$Round;IIII)V" } : Jvm.MethodName)) ∈ lw_all := lw_g (lw_at lw_m5 54 rfl) rfl
theorem q1085 : (Jvm.Cond.instanceMethod ({ cls := "BrassInspector$Round$Trader", name := "<init>", desc := "(LBrassInspector$Round;IIII)V" } : Jvm.MethodName)) ∈ lw_all := lw_g (lw_at lw_m5 55 rfl) rfl
theorem q1086 : (Jvm.Cond.code ({ cls := "BrassInspector$Round$Trader", name := "<init>", desc := "(LBrassInspector$Round;IIII)V" } : Jvm.MethodName) prog_17_method_1_code (6 : Nat) (Option.none : Option Jvm.ClassFile.FieldType)) ∈ lw_all := lw_g (lw_at lw_m5 56 rfl) rfl
theorem q1087 : (Jvm.Cond.methodLink "BrassInspector$Round$Trader" (9 : Nat) ({ cls := "java/lang/Object", name := "<init>", desc := "()V" } : Jvm.MethodName)) ∈ lw_all := lw_g (lw_at lw_m5 57 rfl) rfl
theorem q1088 : (Jvm.Cond.fieldLink "BrassInspector$Round$Trader" (22 : Nat) "BrassInspector$Round$Trader" "number" "I") ∈ lw_all := lw_g (lw_at lw_m5 58 rfl) rfl
theorem q1089 : (Jvm.Cond.fieldLink "BrassInspector$Round$Trader" (25 : Nat) "BrassInspector$Round$Trader" "fair" "I") ∈ lw_all := lw_g (lw_at lw_m5 59 rfl) rfl
theorem q1090 : (Jvm.Cond.fieldLink "BrassInspector$Round$Trader" (28 : Nat) "BrassInspector$Round$Trader" "coins" "I") ∈ lw_all := lw_g (lw_at lw_m5 60 rfl) rfl
theorem q1091 : (Jvm.Cond.fieldLink "BrassInspector$Round$Trader" (37 : Nat) "BrassInspector$Round$Trader" "debt" "I") ∈ lw_all := lw_g (lw_at lw_m5 61 rfl) rfl
theorem q1092 : (Jvm.Cond.fieldLink "BrassInspector$Round$Trader" (40 : Nat) "BrassInspector$Round$Trader" "error" "I") ∈ lw_all := lw_g (lw_at lw_m5 62 rfl) rfl
theorem q1093 : (Jvm.Cond.fieldLink "BrassInspector$Round$Trader" (31 : Nat) "BrassInspector$Round$Trader" "drift" "I") ∈ lw_all := lw_g (lw_at lw_m5 63 rfl) rfl
theorem q1094 : (Jvm.Cond.fieldLink "BrassInspector$Round$Trader" (15 : Nat) "BrassInspector$Round$Trader" "seal" "I") ∈ lw_all := lw_g (lw_at lw_m5 64 rfl) rfl
theorem q1095 : (Jvm.Cond.fieldLink "BrassInspector$Round$Trader" (43 : Nat) "BrassInspector$Round$Trader" "shave" "I") ∈ lw_all := lw_g (lw_at lw_m5 65 rfl) rfl
theorem q1096 : (Jvm.Cond.fieldLink "BrassInspector$Round$Trader" (46 : Nat) "BrassInspector$Round$Trader" "fined" "I") ∈ lw_all := lw_g (lw_at lw_m5 66 rfl) rfl
theorem q1097 : (Jvm.Cond.fieldLink "BrassInspector$Round$Trader" (19 : Nat) "BrassInspector$Round$Trader" "inspected" "I") ∈ lw_all := lw_g (lw_at lw_m5 67 rfl) rfl
theorem q1098 : (Jvm.Cond.fieldLink "BrassInspector$Round$Trader" (3 : Nat) "BrassInspector$Round$Trader" "this$0" "LBrassInspector$Round;") ∈ lw_all := lw_g (lw_at lw_m5 68 rfl) rfl
theorem q1099 : (Jvm.Cond.laysFinal "BrassInspector$Round$Trader" "BrassInspector$Round$Trader" "number" "I") ∈ lw_all := lw_g (lw_at lw_m5 69 rfl) rfl
theorem q1100 : (Jvm.Cond.soleField "BrassInspector$Round$Trader" "number") ∈ lw_all := lw_g (lw_at lw_m5 70 rfl) rfl
theorem q1101 : (Jvm.Cond.laysFinal "BrassInspector$Round$Trader" "BrassInspector$Round$Trader" "fair" "I") ∈ lw_all := lw_g (lw_at lw_m5 71 rfl) rfl
theorem q1102 : (Jvm.Cond.soleField "BrassInspector$Round$Trader" "fair") ∈ lw_all := lw_g (lw_at lw_m5 72 rfl) rfl
theorem q1103 : (Jvm.Cond.lays "BrassInspector$Round$Trader" "BrassInspector$Round$Trader" "coins" "I") ∈ lw_all := lw_g (lw_at lw_m5 73 rfl) rfl
theorem q1104 : (Jvm.Cond.soleField "BrassInspector$Round$Trader" "coins") ∈ lw_all := lw_g (lw_at lw_m5 74 rfl) rfl
theorem q1105 : (Jvm.Cond.lays "BrassInspector$Round$Trader" "BrassInspector$Round$Trader" "debt" "I") ∈ lw_all := lw_g (lw_at lw_m5 75 rfl) rfl
theorem q1106 : (Jvm.Cond.soleField "BrassInspector$Round$Trader" "debt") ∈ lw_all := lw_g (lw_at lw_m5 76 rfl) rfl
theorem q1107 : (Jvm.Cond.lays "BrassInspector$Round$Trader" "BrassInspector$Round$Trader" "error" "I") ∈ lw_all := lw_g (lw_at lw_m5 77 rfl) rfl
theorem q1108 : (Jvm.Cond.soleField "BrassInspector$Round$Trader" "error") ∈ lw_all := lw_g (lw_at lw_m5 78 rfl) rfl
theorem q1109 : (Jvm.Cond.lays "BrassInspector$Round$Trader" "BrassInspector$Round$Trader" "drift" "I") ∈ lw_all := lw_g (lw_at lw_m5 79 rfl) rfl
theorem q1110 : (Jvm.Cond.soleField "BrassInspector$Round$Trader" "drift") ∈ lw_all := lw_g (lw_at lw_m5 80 rfl) rfl
theorem q1111 : (Jvm.Cond.lays "BrassInspector$Round$Trader" "BrassInspector$Round$Trader" "seal" "I") ∈ lw_all := lw_g (lw_at lw_m5 81 rfl) rfl
theorem q1112 : (Jvm.Cond.soleField "BrassInspector$Round$Trader" "seal") ∈ lw_all := lw_g (lw_at lw_m5 82 rfl) rfl
theorem q1113 : (Jvm.Cond.lays "BrassInspector$Round$Trader" "BrassInspector$Round$Trader" "shave" "I") ∈ lw_all := lw_g (lw_at lw_m5 83 rfl) rfl
theorem q1114 : (Jvm.Cond.soleField "BrassInspector$Round$Trader" "shave") ∈ lw_all := lw_g (lw_at lw_m5 84 rfl) rfl
theorem q1115 : (Jvm.Cond.lays "BrassInspector$Round$Trader" "BrassInspector$Round$Trader" "fined" "I") ∈ lw_all := lw_g (lw_at lw_m5 85 rfl) rfl
theorem q1116 : (Jvm.Cond.soleField "BrassInspector$Round$Trader" "fined") ∈ lw_all := lw_g (lw_at lw_m5 86 rfl) rfl
theorem q1117 : (Jvm.Cond.lays "BrassInspector$Round$Trader" "BrassInspector$Round$Trader" "inspected" "I") ∈ lw_all := lw_g (lw_at lw_m5 87 rfl) rfl
theorem q1118 : (Jvm.Cond.soleField "BrassInspector$Round$Trader" "inspected") ∈ lw_all := lw_g (lw_at lw_m5 88 rfl) rfl
theorem q1119 : (Jvm.Cond.laysFinal "BrassInspector$Round$Trader" "BrassInspector$Round$Trader" "this$0" "LBrassInspector$Round;") ∈ lw_all := lw_g (lw_at lw_m5 89 rfl) rfl
theorem q1120 : (Jvm.Cond.soleField "BrassInspector$Round$Trader" "this$0") ∈ lw_all := lw_g (lw_at lw_m5 90 rfl) rfl
theorem q1121 : (Jvm.Cond.superclass "BrassInspector$Round$Trader" "java/lang/Object") ∈ lw_all := lw_g (lw_at lw_m5 91 rfl) rfl
theorem q1122 : (Jvm.Cond.interfaceEntry "BrassInspector$Round" (62 : Nat)) ∈ lw_tbl := lw_at lw_m5 92 rfl
theorem q1123 : (Jvm.Cond.methodLink "BrassInspector$Round" (62 : Nat) ({ cls := "java/util/List", name := "add", desc := "(Ljava/lang/Object;)Z" } : Jvm.MethodName)) ∈ lw_all := lw_g (lw_at lw_m5 93 rfl) rfl
theorem q1124 : (Jvm.Cond.interfaceMethod "java/util/List" "java/util/List" "add" "(Ljava/lang/Object;)Z") ∈ lw_tbl := lw_at lw_m5 94 rfl
theorem q1125 : (Jvm.Cond.declares ({ cls := "java/util/List", name := "add", desc := "(Ljava/lang/Object;)Z" } : Jvm.MethodName)) ∈ lw_tbl := lw_at lw_m5 95 rfl
theorem q1126 : (Jvm.Cond.selects "java/util/ArrayList" ({ cls := "java/util/List", name := "add", desc := "(Ljava/lang/Object;)Z" } : Jvm.MethodName) ({ cls := "java/util/ArrayList", name := "add", desc := "(Ljava/lang/Object;)Z" } : Jvm.MethodName)) ∈ lw_all := lw_g (lw_at lw_m5 96 rfl) rfl
theorem q1127 : (Jvm.Cond.unhidden "java/util/ArrayList" "add" "(Ljava/lang/Object;)Z") ∈ lw_tbl := lw_at lw_m5 97 rfl
theorem q1128 : (Jvm.Cond.instanceMethod ({ cls := "java/util/ArrayList", name := "add", desc := "(Ljava/lang/Object;)Z" } : Jvm.MethodName)) ∈ lw_all := lw_g (lw_at lw_m5 98 rfl) rfl
theorem q1129 : (Jvm.Cond.publicMethod ({ cls := "java/util/ArrayList", name := "add", desc := "(Ljava/lang/Object;)Z" } : Jvm.MethodName)) ∈ lw_tbl := lw_at lw_m5 99 rfl
theorem q1130 : (Jvm.Cond.code ({ cls := "java/util/ArrayList", name := "add", desc := "(Ljava/lang/Object;)Z" } : Jvm.MethodName) prog_55_method_25_code (2 : Nat) (Option.some Jvm.ClassFile.FieldType.boolean)) ∈ lw_all := lw_g (lw_at lw_m5 100 rfl) rfl
theorem q1131 : (Jvm.Cond.methodLink "java/util/ArrayList" (131 : Nat) ({ cls := "java/util/ArrayList", name := "add", desc := "(Ljava/lang/Object;[Ljava/lang/Object;I)V" } : Jvm.MethodName)) ∈ lw_all := lw_g (lw_at lw_m5 101 rfl) rfl
theorem q1132 : (Jvm.Cond.privateMethod ({ cls := "java/util/ArrayList", name := "add", desc := "(Ljava/lang/Object;[Ljava/lang/Object;I)V" } : Jvm.MethodName)) ∈ lw_tbl := lw_at lw_m5 102 rfl
theorem q1133 : (Jvm.Cond.instanceMethod ({ cls := "java/util/ArrayList", name := "add", desc := "(Ljava/lang/Object;[Ljava/lang/Object;I)V" } : Jvm.MethodName)) ∈ lw_all := lw_g (lw_at lw_m5 103 rfl) rfl
theorem q1134 : (Jvm.Cond.code ({ cls := "java/util/ArrayList", name := "add", desc := "(Ljava/lang/Object;[Ljava/lang/Object;I)V" } : Jvm.MethodName) prog_55_method_24_code (4 : Nat) (Option.none : Option Jvm.ClassFile.FieldType)) ∈ lw_all := lw_g (lw_at lw_m5 104 rfl) rfl
theorem q1135 : (Jvm.Cond.methodLink "java/util/ArrayList" (129 : Nat) ({ cls := "java/util/ArrayList", name := "grow", desc := "()[Ljava/lang/Object;" } : Jvm.MethodName)) ∈ lw_all := lw_g (lw_at lw_m5 105 rfl) rfl
theorem q1136 : (Jvm.Cond.privateMethod ({ cls := "java/util/ArrayList", name := "grow", desc := "()[Ljava/lang/Object;" } : Jvm.MethodName)) ∈ lw_tbl := lw_at lw_m5 106 rfl
theorem q1137 : (Jvm.Cond.instanceMethod ({ cls := "java/util/ArrayList", name := "grow", desc := "()[Ljava/lang/Object;" } : Jvm.MethodName)) ∈ lw_all := lw_g (lw_at lw_m5 107 rfl) rfl
theorem q1138 : (Jvm.Cond.code ({ cls := "java/util/ArrayList", name := "grow", desc := "()[Ljava/lang/Object;" } : Jvm.MethodName) prog_55_method_7_code (1 : Nat) (Option.some (Jvm.ClassFile.FieldType.array (Jvm.ClassFile.FieldType.object "java/lang/Object")))) ∈ lw_all := lw_g (lw_at lw_m5 108 rfl) rfl
theorem q1139 : (Jvm.Cond.methodLink "java/util/ArrayList" (69 : Nat) ({ cls := "java/util/ArrayList", name := "grow", desc := "(I)[Ljava/lang/Object;" } : Jvm.MethodName)) ∈ lw_all := lw_g (lw_at lw_m5 109 rfl) rfl
theorem q1140 : (Jvm.Cond.privateMethod ({ cls := "java/util/ArrayList", name := "grow", desc := "(I)[Ljava/lang/Object;" } : Jvm.MethodName)) ∈ lw_tbl := lw_at lw_m5 110 rfl
theorem q1141 : (Jvm.Cond.instanceMethod ({ cls := "java/util/ArrayList", name := "grow", desc := "(I)[Ljava/lang/Object;" } : Jvm.MethodName)) ∈ lw_all := lw_g (lw_at lw_m5 111 rfl) rfl
theorem q1142 : (Jvm.Cond.code ({ cls := "java/util/ArrayList", name := "grow", desc := "(I)[Ljava/lang/Object;" } : Jvm.MethodName) prog_55_method_6_code (4 : Nat) (Option.some (Jvm.ClassFile.FieldType.array (Jvm.ClassFile.FieldType.object "java/lang/Object")))) ∈ lw_all := lw_g (lw_at lw_m5 112 rfl) rfl
theorem q1143 : (Jvm.Cond.methodLink "java/util/ArrayList" (73 : Nat) ({ cls := "jdk/internal/util/ArraysSupport", name := "newLength", desc := "(III)I" } : Jvm.MethodName)) ∈ lw_all := lw_g (lw_at lw_m5 113 rfl) rfl
theorem q1144 : (Jvm.Cond.methodLink "java/util/ArrayList" (66 : Nat) ({ cls := "java/util/Arrays", name := "copyOf", desc := "([Ljava/lang/Object;I)[Ljava/lang/Object;" } : Jvm.MethodName)) ∈ lw_all := lw_g (lw_at lw_m5 114 rfl) rfl
theorem q1145 : (Jvm.Cond.static ({ cls := "java/util/Arrays", name := "copyOf", desc := "([Ljava/lang/Object;I)[Ljava/lang/Object;" } : Jvm.MethodName)) ∈ lw_all := lw_g (lw_at lw_m5 115 rfl) rfl
theorem q1146 : (Jvm.Cond.code ({ cls := "java/util/Arrays", name := "copyOf", desc := "([Ljava/lang/Object;I)[Ljava/lang/Object;" } : Jvm.MethodName) prog_58_method_119_code (2 : Nat) (Option.some (Jvm.ClassFile.FieldType.array (Jvm.ClassFile.FieldType.object "java/lang/Object")))) ∈ lw_all := lw_g (lw_at lw_m5 116 rfl) rfl
theorem q1147 : (Jvm.Cond.methodLink "java/util/Arrays" (86 : Nat) ({ cls := "java/lang/Object", name := "getClass", desc := "()Ljava/lang/Class;" } : Jvm.MethodName)) ∈ lw_all := lw_g (lw_at lw_m5 117 rfl) rfl
theorem q1148 : (Jvm.Cond.methodLink "java/util/Arrays" (300 : Nat) ({ cls := "java/util/Arrays", name := "copyOf", desc := "([Ljava/lang/Object;ILjava/lang/Class;)[Ljava/lang/Object;" } : Jvm.MethodName)) ∈ lw_all := lw_g (lw_at lw_m5 118 rfl) rfl
theorem q1149 : (Jvm.Cond.static ({ cls := "java/util/Arrays", name := "copyOf", desc := "([Ljava/lang/Object;ILjava/lang/Class;)[Ljava/lang/Object;" } : Jvm.MethodName)) ∈ lw_all := lw_g (lw_at lw_m5 119 rfl) rfl
theorem q1150 : (Jvm.Cond.code ({ cls := "java/util/Arrays", name := "copyOf", desc := "([Ljava/lang/Object;ILjava/lang/Class;)[Ljava/lang/Object;" } : Jvm.MethodName) prog_58_method_120_code (4 : Nat) (Option.some (Jvm.ClassFile.FieldType.array (Jvm.ClassFile.FieldType.object "java/lang/Object")))) ∈ lw_all := lw_g (lw_at lw_m5 120 rfl) rfl
theorem q1151 : (Jvm.Cond.classLink "java/util/Arrays" (110 : Nat) "[Ljava/lang/Object;") ∈ lw_all := lw_g (lw_at lw_m5 121 rfl) rfl
theorem q1152 : (Jvm.Cond.arrayOver (Jvm.ClassFile.FieldType.object "java/lang/Object")) ∈ lw_tbl := lw_at lw_m5 122 rfl
theorem q1153 : (Jvm.Cond.classLink "java/util/Arrays" (2 : Nat) "java/lang/Object") ∈ lw_all := lw_g (lw_at lw_m5 123 rfl) rfl
theorem q1154 : (Jvm.Cond.methodLink "java/util/ArrayList" (79 : Nat) ({ cls := "java/lang/Math", name := "max", desc := "(II)I" } : Jvm.MethodName)) ∈ lw_all := lw_g (lw_at lw_m5 124 rfl) rfl
theorem q1155 : (Jvm.Cond.classLink "java/util/ArrayList" (7 : Nat) "java/lang/Object") ∈ lw_all := lw_g (lw_at lw_m5 125 rfl) rfl
theorem q1156 : (Jvm.Cond.selects "java/util/LinkedList" ({ cls := "java/util/List", name := "add", desc := "(Ljava/lang/Object;)Z" } : Jvm.MethodName) ({ cls := "java/util/LinkedList", name := "add", desc := "(Ljava/lang/Object;)Z" } : Jvm.MethodName)) ∈ lw_all := lw_g (lw_at lw_m5 126 rfl) rfl
theorem q1157 : (Jvm.Cond.unhidden "java/util/LinkedList" "add" "(Ljava/lang/Object;)Z") ∈ lw_tbl := lw_at lw_m5 127 rfl
theorem q1158 : (Jvm.Cond.instanceMethod ({ cls := "java/util/LinkedList", name := "add", desc := "(Ljava/lang/Object;)Z" } : Jvm.MethodName)) ∈ lw_all := lw_g (lw_at lw_m5 128 rfl) rfl
theorem q1159 : (Jvm.Cond.publicMethod ({ cls := "java/util/LinkedList", name := "add", desc := "(Ljava/lang/Object;)Z" } : Jvm.MethodName)) ∈ lw_tbl := lw_at lw_m5 129 rfl
theorem q1160 : (Jvm.Cond.code ({ cls := "java/util/LinkedList", name := "add", desc := "(Ljava/lang/Object;)Z" } : Jvm.MethodName) prog_62_method_17_code (2 : Nat) (Option.some Jvm.ClassFile.FieldType.boolean)) ∈ lw_all := lw_g (lw_at lw_m5 130 rfl) rfl
theorem q1161 : (Jvm.Cond.methodLink "java/util/LinkedList" (57 : Nat) ({ cls := "java/util/LinkedList", name := "linkLast", desc := "(Ljava/lang/Object;)V" } : Jvm.MethodName)) ∈ lw_all := lw_g (lw_at lw_m5 131 rfl) rfl
theorem q1162 : (Jvm.Cond.instanceMethod ({ cls := "java/util/LinkedList", name := "linkLast", desc := "(Ljava/lang/Object;)V" } : Jvm.MethodName)) ∈ lw_all := lw_g (lw_at lw_m5 132 rfl) rfl
theorem q1163 : (Jvm.Cond.selects "java/util/LinkedList" ({ cls := "java/util/LinkedList", name := "linkLast", desc := "(Ljava/lang/Object;)V" } : Jvm.MethodName) ({ cls := "java/util/LinkedList", name := "linkLast", desc := "(Ljava/lang/Object;)V" } : Jvm.MethodName)) ∈ lw_all := lw_g (lw_at lw_m5 133 rfl) rfl
theorem q1164 : (Jvm.Cond.code ({ cls := "java/util/LinkedList", name := "linkLast", desc := "(Ljava/lang/Object;)V" } : Jvm.MethodName) prog_62_method_4_code (4 : Nat) (Option.none : Option Jvm.ClassFile.FieldType)) ∈ lw_all := lw_g (lw_at lw_m5 134 rfl) rfl
theorem q1165 : (Jvm.Cond.classLink "java/util/LinkedList" (22 : Nat) "java/util/LinkedList$Node") ∈ lw_all := lw_g (lw_at lw_m5 135 rfl) rfl
theorem q1166 : (Jvm.Cond.instantiable "java/util/LinkedList$Node" (3 : Nat)) ∈ lw_all := lw_g (lw_at lw_m5 136 rfl) rfl
theorem q1167 : (Jvm.Cond.methodLink "java/util/LinkedList" (24 : Nat) ({ cls := "java/util/LinkedList$Node", name := "<init>", desc := "(Ljava/util/LinkedList$Node;Ljava/lang/Object;Ljava/util/LinkedList$Node;)V" } : Jvm.MethodName)) ∈ lw_all := lw_g (lw_at lw_m5 137 rfl) rfl
theorem q1168 : (Jvm.Cond.instanceMethod ({ cls := "java/util/LinkedList$Node", name := "<init>", desc := "(Ljava/util/LinkedList$Node;Ljava/lang/Object;Ljava/util/LinkedList$Node;)V" } : Jvm.MethodName)) ∈ lw_all := lw_g (lw_at lw_m5 138 rfl) rfl
theorem q1169 : (Jvm.Cond.code ({ cls := "java/util/LinkedList$Node", name := "<init>", desc := "(Ljava/util/LinkedList$Node;Ljava/lang/Object;Ljava/util/LinkedList$Node;)V" } : Jvm.MethodName) prog_64_method_1_code (4 : Nat) (Option.none : Option Jvm.ClassFile.FieldType)) ∈ lw_all := lw_g (lw_at lw_m5 139 rfl) rfl
theorem q1170 : (Jvm.Cond.methodLink "java/util/LinkedList$Node" (1 : Nat) ({ cls := "java/lang/Object", name := "<init>", desc := "()V" } : Jvm.MethodName)) ∈ lw_all := lw_g (lw_at lw_m5 140 rfl) rfl
theorem q1171 : (Jvm.Cond.fieldLink "java/util/LinkedList$Node" (7 : Nat) "java/util/LinkedList$Node" "item" "Ljava/lang/Object;") ∈ lw_all := lw_g (lw_at lw_m5 141 rfl) rfl
theorem q1172 : (Jvm.Cond.fieldLink "java/util/LinkedList$ListItr" (52 : Nat) "java/util/LinkedList$Node" "item" "Ljava/lang/Object;") ∈ lw_all := lw_g (lw_at lw_m5 142 rfl) rfl
theorem q1173 : (Jvm.Cond.fieldLink "java/util/LinkedList" (39 : Nat) "java/util/LinkedList$Node" "item" "Ljava/lang/Object;") ∈ lw_all := lw_g (lw_at lw_m5 143 rfl) rfl
theorem q1174 : (Jvm.Cond.fieldLink "java/util/LinkedList$Node" (13 : Nat) "java/util/LinkedList$Node" "next" "Ljava/util/LinkedList$Node;") ∈ lw_all := lw_g (lw_at lw_m5 144 rfl) rfl
theorem q1175 : (Jvm.Cond.fieldLink "java/util/LinkedList$ListItr" (49 : Nat) "java/util/LinkedList$Node" "next" "Ljava/util/LinkedList$Node;") ∈ lw_all := lw_g (lw_at lw_m5 145 rfl) rfl
theorem q1176 : (Jvm.Cond.fieldLink "java/util/LinkedList" (36 : Nat) "java/util/LinkedList$Node" "next" "Ljava/util/LinkedList$Node;") ∈ lw_all := lw_g (lw_at lw_m5 146 rfl) rfl
theorem q1177 : (Jvm.Cond.fieldLink "java/util/LinkedList$Node" (17 : Nat) "java/util/LinkedList$Node" "prev" "Ljava/util/LinkedList$Node;") ∈ lw_all := lw_g (lw_at lw_m5 147 rfl) rfl
theorem q1178 : (Jvm.Cond.fieldLink "java/util/LinkedList" (30 : Nat) "java/util/LinkedList$Node" "prev" "Ljava/util/LinkedList$Node;") ∈ lw_all := lw_g (lw_at lw_m5 148 rfl) rfl
theorem q1179 : (Jvm.Cond.lays "java/util/LinkedList$Node" "java/util/LinkedList$Node" "item" "Ljava/lang/Object;") ∈ lw_all := lw_g (lw_at lw_m5 149 rfl) rfl
theorem q1180 : (Jvm.Cond.soleField "java/util/LinkedList$Node" "item") ∈ lw_all := lw_g (lw_at lw_m5 150 rfl) rfl
theorem q1181 : (Jvm.Cond.lays "java/util/LinkedList$Node" "java/util/LinkedList$Node" "next" "Ljava/util/LinkedList$Node;") ∈ lw_all := lw_g (lw_at lw_m5 151 rfl) rfl
theorem q1182 : (Jvm.Cond.soleField "java/util/LinkedList$Node" "next") ∈ lw_all := lw_g (lw_at lw_m5 152 rfl) rfl
theorem q1183 : (Jvm.Cond.lays "java/util/LinkedList$Node" "java/util/LinkedList$Node" "prev" "Ljava/util/LinkedList$Node;") ∈ lw_all := lw_g (lw_at lw_m5 153 rfl) rfl
theorem q1184 : (Jvm.Cond.soleField "java/util/LinkedList$Node" "prev") ∈ lw_all := lw_g (lw_at lw_m5 154 rfl) rfl
theorem q1185 : (Jvm.Cond.superclass "java/util/LinkedList$Node" "java/lang/Object") ∈ lw_all := lw_g (lw_at lw_m5 155 rfl) rfl
theorem q1186 : (Jvm.Cond.classLink "BrassInspector$Round" (66 : Nat) "BrassInspector$Brass") ∈ lw_all := lw_g (lw_at lw_m5 156 rfl) rfl
theorem q1187 : (Jvm.Cond.methodLink "BrassInspector$Round" (68 : Nat) ({ cls := "BrassInspector$Brass", name := "copy", desc := "()LBrassInspector$Brass;" } : Jvm.MethodName)) ∈ lw_all := lw_g (lw_at lw_m5 157 rfl) rfl
theorem q1188 : (Jvm.Cond.instanceMethod ({ cls := "BrassInspector$Brass", name := "copy", desc := "()LBrassInspector$Brass;" } : Jvm.MethodName)) ∈ lw_all := lw_g (lw_at lw_m5 158 rfl) rfl
theorem q1189 : (Jvm.Cond.selects "BrassInspector$Brass" ({ cls := "BrassInspector$Brass", name := "copy", desc := "()LBrassInspector$Brass;" } : Jvm.MethodName) ({ cls := "BrassInspector$Brass", name := "copy", desc := "()LBrassInspector$Brass;" } : Jvm.MethodName)) ∈ lw_all := lw_g (lw_at lw_m5 159 rfl) rfl
theorem q1190 : (Jvm.Cond.code ({ cls := "BrassInspector$Brass", name := "copy", desc := "()LBrassInspector$Brass;" } : Jvm.MethodName) prog_8_method_2_code (2 : Nat) (Option.some (Jvm.ClassFile.FieldType.object "BrassInspector$Brass"))) ∈ lw_all := lw_g (lw_at lw_m5 160 rfl) rfl
theorem q1191 : (Jvm.Cond.classLink "BrassInspector$Brass" (8 : Nat) "BrassInspector$Brass") ∈ lw_all := lw_g (lw_at lw_m5 161 rfl) rfl
theorem q1192 : (Jvm.Cond.instantiable "BrassInspector$Brass" (4 : Nat)) ∈ lw_all := lw_g (lw_at lw_m5 162 rfl) rfl
theorem q1193 : (Jvm.Cond.methodLink "BrassInspector$Brass" (16 : Nat) ({ cls := "BrassInspector$Brass", name := "<init>", desc := "(II)V" } : Jvm.MethodName)) ∈ lw_all := lw_g (lw_at lw_m5 163 rfl) rfl
theorem q1194 : (Jvm.Cond.instanceMethod ({ cls := "BrassInspector$Brass", name := "<init>", desc := "(II)V" } : Jvm.MethodName)) ∈ lw_all := lw_g (lw_at lw_m5 164 rfl) rfl
theorem q1195 : (Jvm.Cond.code ({ cls := "BrassInspector$Brass", name := "<init>", desc := "(II)V" } : Jvm.MethodName) prog_8_method_1_code (3 : Nat) (Option.none : Option Jvm.ClassFile.FieldType)) ∈ lw_all := lw_g (lw_at lw_m5 165 rfl) rfl
theorem q1196 : (Jvm.Cond.methodLink "BrassInspector$Brass" (1 : Nat) ({ cls := "java/lang/Object", name := "<init>", desc := "()V" } : Jvm.MethodName)) ∈ lw_all := lw_g (lw_at lw_m5 166 rfl) rfl
theorem q1197 : (Jvm.Cond.fieldLink "BrassInspector$Brass" (7 : Nat) "BrassInspector$Brass" "number" "I") ∈ lw_all := lw_g (lw_at lw_m5 167 rfl) rfl
theorem q1198 : (Jvm.Cond.fieldLink "BrassInspector$Brass" (13 : Nat) "BrassInspector$Brass" "ounces" "I") ∈ lw_all := lw_g (lw_at lw_m5 168 rfl) rfl
theorem q1199 : (Jvm.Cond.fieldLink "BrassInspector$Brass" (19 : Nat) "BrassInspector$Brass" "wear" "I") ∈ lw_all := lw_g (lw_at lw_m5 169 rfl) rfl
theorem q1200 : (Jvm.Cond.fieldLink "BrassInspector$Brass" (22 : Nat) "BrassInspector$Brass" "uses" "I") ∈ lw_all := lw_g (lw_at lw_m5 170 rfl) rfl
theorem q1201 : (Jvm.Cond.laysFinal "BrassInspector$Brass" "BrassInspector$Brass" "number" "I") ∈ lw_all := lw_g (lw_at lw_m5 171 rfl) rfl
theorem q1202 : (Jvm.Cond.soleField "BrassInspector$Brass" "number") ∈ lw_all := lw_g (lw_at lw_m5 172 rfl) rfl
theorem q1203 : (Jvm.Cond.laysFinal "BrassInspector$Brass" "BrassInspector$Brass" "ounces" "I") ∈ lw_all := lw_g (lw_at lw_m5 173 rfl) rfl
theorem q1204 : (Jvm.Cond.soleField "BrassInspector$Brass" "ounces") ∈ lw_all := lw_g (lw_at lw_m5 174 rfl) rfl
theorem q1205 : (Jvm.Cond.lays "BrassInspector$Brass" "BrassInspector$Brass" "wear" "I") ∈ lw_all := lw_g (lw_at lw_m5 175 rfl) rfl
theorem q1206 : (Jvm.Cond.soleField "BrassInspector$Brass" "wear") ∈ lw_all := lw_g (lw_at lw_m5 176 rfl) rfl
theorem q1207 : (Jvm.Cond.lays "BrassInspector$Brass" "BrassInspector$Brass" "uses" "I") ∈ lw_all := lw_g (lw_at lw_m5 177 rfl) rfl
theorem q1208 : (Jvm.Cond.soleField "BrassInspector$Brass" "uses") ∈ lw_all := lw_g (lw_at lw_m5 178 rfl) rfl
theorem q1209 : (Jvm.Cond.superclass "BrassInspector$Brass" "java/lang/Object") ∈ lw_all := lw_g (lw_at lw_m5 179 rfl) rfl
theorem q1210 : (Jvm.Cond.methodLink "BrassInspector" (77 : Nat) ({ cls := "BrassInspector$Deed", name := "does", desc := "(LBrassInspector$Round;)I" } : Jvm.MethodName)) ∈ lw_all := lw_g (lw_at lw_m5 180 rfl) rfl
theorem q1211 : (Jvm.Cond.declares ({ cls := "BrassInspector$Deed", name := "does", desc := "(LBrassInspector$Round;)I" } : Jvm.MethodName)) ∈ lw_tbl := lw_at lw_m5 181 rfl
theorem q1212 : (Jvm.Cond.sameMethod "BrassInspector$Deed" "BrassInspector$Deed" "does" "(LBrassInspector$Round;)I") ∈ lw_all := lw_g (lw_at lw_m5 182 rfl) rfl
theorem q1213 : (Jvm.Cond.selects "BrassInspector$1" ({ cls := "BrassInspector$Deed", name := "does", desc := "(LBrassInspector$Round;)I" } : Jvm.MethodName) ({ cls := "BrassInspector$1", name := "does", desc := "(LBrassInspector$Round;)I" } : Jvm.MethodName)) ∈ lw_all := lw_g (lw_at lw_m5 183 rfl) rfl
theorem q1214 : (Jvm.Cond.instanceMethod ({ cls := "BrassInspector$1", name := "does", desc := "(LBrassInspector$Round;)I" } : Jvm.MethodName)) ∈ lw_all := lw_g (lw_at lw_m5 184 rfl) rfl
theorem q1215 : (Jvm.Cond.code ({ cls := "BrassInspector$1", name := "does", desc := "(LBrassInspector$Round;)I" } : Jvm.MethodName) prog_2_method_2_code (2 : Nat) (Option.some Jvm.ClassFile.FieldType.int)) ∈ lw_all := lw_g (lw_at lw_m5 185 rfl) rfl
theorem q1216 : (Jvm.Cond.methodLink "BrassInspector$1" (20 : Nat) ({ cls := "BrassInspector$Round", name := "rate", desc := "(II)I" } : Jvm.MethodName)) ∈ lw_all := lw_g (lw_at lw_m5 186 rfl) rfl
theorem q1217 : (Jvm.Cond.instanceMethod ({ cls := "BrassInspector$Round", name := "rate", desc := "(II)I" } : Jvm.MethodName)) ∈ lw_all := lw_g (lw_at lw_m5 187 rfl) rfl
theorem q1218 : (Jvm.Cond.selects "BrassInspector$Round" ({ cls := "BrassInspector$Round", name := "rate", desc := "(II)I" } : Jvm.MethodName) ({ cls := "BrassInspector$Round", name := "rate", desc := "(II)I" } : Jvm.MethodName)) ∈ lw_all := lw_g (lw_at lw_m5 188 rfl) rfl
theorem q1219 : (Jvm.Cond.code ({ cls := "BrassInspector$Round", name := "rate", desc := "(II)I" } : Jvm.MethodName) prog_13_method_15_code (4 : Nat) (Option.some Jvm.ClassFile.FieldType.int)) ∈ lw_all := lw_g (lw_at lw_m5 189 rfl) rfl
theorem q1220 : (Jvm.Cond.selects "BrassInspector$2" ({ cls := "BrassInspector$Deed", name := "does", desc := "(LBrassInspector$Round;)I" } : Jvm.MethodName) ({ cls := "BrassInspector$2", name := "does", desc := "(LBrassInspector$Round;)I" } : Jvm.MethodName)) ∈ lw_all := lw_g (lw_at lw_m5 190 rfl) rfl
theorem q1221 : (Jvm.Cond.instanceMethod ({ cls := "BrassInspector$2", name := "does", desc := "(LBrassInspector$Round;)I" } : Jvm.MethodName)) ∈ lw_all := lw_g (lw_at lw_m5 191 rfl) rfl
theorem q1222 : (Jvm.Cond.code ({ cls := "BrassInspector$2", name := "does", desc := "(LBrassInspector$Round;)I" } : Jvm.MethodName) prog_3_method_2_code (2 : Nat) (Option.some Jvm.ClassFile.FieldType.int)) ∈ lw_all := lw_g (lw_at lw_m5 192 rfl) rfl
theorem q1223 : (Jvm.Cond.methodLink "BrassInspector$2" (23 : Nat) ({ cls := "BrassInspector$Round", name := "comes", desc := "(III)I" } : Jvm.MethodName)) ∈ lw_all := lw_g (lw_at lw_m5 193 rfl) rfl
theorem q1224 : (Jvm.Cond.instanceMethod ({ cls := "BrassInspector$Round", name := "comes", desc := "(III)I" } : Jvm.MethodName)) ∈ lw_all := lw_g (lw_at lw_m5 194 rfl) rfl
theorem q1225 : (Jvm.Cond.selects "BrassInspector$Round" ({ cls := "BrassInspector$Round", name := "comes", desc := "(III)I" } : Jvm.MethodName) ({ cls := "BrassInspector$Round", name := "comes", desc := "(III)I" } : Jvm.MethodName)) ∈ lw_all := lw_g (lw_at lw_m5 195 rfl) rfl
theorem q1226 : (Jvm.Cond.code ({ cls := "BrassInspector$Round", name := "comes", desc := "(III)I" } : Jvm.MethodName) prog_13_method_16_code (4 : Nat) (Option.some Jvm.ClassFile.FieldType.int)) ∈ lw_all := lw_g (lw_at lw_m5 196 rfl) rfl
theorem q1227 : (Jvm.Cond.interfaceEntry "BrassInspector$Round" (95 : Nat)) ∈ lw_tbl := lw_at lw_m5 197 rfl
theorem q1228 : (Jvm.Cond.methodLink "BrassInspector$Round" (95 : Nat) ({ cls := "java/util/List", name := "size", desc := "()I" } : Jvm.MethodName)) ∈ lw_all := lw_g (lw_at lw_m5 198 rfl) rfl
theorem q1229 : (Jvm.Cond.methodLinkNest "BrassInspector$Round" (99 : Nat) ({ cls := "BrassInspector", name := "meet", desc := "(ZII)V" } : Jvm.MethodName) "BrassInspector") ∈ lw_tbl := lw_at lw_m5 199 rfl
theorem q1230 : (Jvm.Cond.static ({ cls := "BrassInspector", name := "meet", desc := "(ZII)V" } : Jvm.MethodName)) ∈ lw_all := lw_g (lw_at lw_m5 200 rfl) rfl
theorem q1231 : (Jvm.Cond.code ({ cls := "BrassInspector", name := "meet", desc := "(ZII)V" } : Jvm.MethodName) prog_1_method_1_code (3 : Nat) (Option.none : Option Jvm.ClassFile.FieldType)) ∈ lw_all := lw_g (lw_at lw_m5 201 rfl) rfl
theorem q1232 : (Jvm.Cond.instantiable "BrassInspector$Refusal" (8 : Nat)) ∈ lw_all := lw_g (lw_at lw_m5 202 rfl) rfl
theorem q1233 : (Jvm.Cond.castable "BrassInspector$Refusal" "BrassInspector$Refusal") ∈ lw_tbl := lw_at lw_m5 203 rfl
theorem q1234 : (Jvm.Cond.selects "BrassInspector$Refusal" ({ cls := "java/lang/Throwable", name := "fillInStackTrace", desc := "(I)Ljava/lang/Throwable;" } : Jvm.MethodName) ({ cls := "java/lang/Throwable", name := "fillInStackTrace", desc := "(I)Ljava/lang/Throwable;" } : Jvm.MethodName)) ∈ lw_all := lw_g (lw_at lw_m5 204 rfl) rfl
theorem q1235 : (Jvm.Cond.lays "BrassInspector$Refusal" "java/lang/Throwable" "cause" "Ljava/lang/Throwable;") ∈ lw_all := lw_g (lw_at lw_m5 205 rfl) rfl
theorem q1236 : (Jvm.Cond.lays "BrassInspector$Refusal" "java/lang/Throwable" "stackTrace" "[Ljava/lang/StackTraceElement;") ∈ lw_all := lw_g (lw_at lw_m5 206 rfl) rfl
theorem q1237 : (Jvm.Cond.lays "BrassInspector$Refusal" "java/lang/Throwable" "suppressedExceptions" "Ljava/util/List;") ∈ lw_all := lw_g (lw_at lw_m5 207 rfl) rfl
theorem q1238 : (Jvm.Cond.lays "BrassInspector$Refusal" "java/lang/Throwable" "detailMessage" "Ljava/lang/String;") ∈ lw_all := lw_g (lw_at lw_m5 208 rfl) rfl
theorem q1239 : (Jvm.Cond.lays "BrassInspector$Refusal" "java/lang/Throwable" "backtrace" "Ljava/lang/Object;") ∈ lw_all := lw_g (lw_at lw_m5 209 rfl) rfl
theorem q1240 : (Jvm.Cond.methodLink "BrassInspector" (3 : Nat) ({ cls := "BrassInspector$Refusal", name := "<init>", desc := "(II)V" } : Jvm.MethodName)) ∈ lw_all := lw_g (lw_at lw_m5 210 rfl) rfl
theorem q1241 : (Jvm.Cond.instanceMethod ({ cls := "BrassInspector$Refusal", name := "<init>", desc := "(II)V" } : Jvm.MethodName)) ∈ lw_all := lw_g (lw_at lw_m5 211 rfl) rfl
theorem q1242 : (Jvm.Cond.code ({ cls := "BrassInspector$Refusal", name := "<init>", desc := "(II)V" } : Jvm.MethodName) prog_12_method_1_code (3 : Nat) (Option.none : Option Jvm.ClassFile.FieldType)) ∈ lw_all := lw_g (lw_at lw_m5 212 rfl) rfl
theorem q1243 : (Jvm.Cond.methodLink "BrassInspector$Refusal" (1 : Nat) ({ cls := "java/lang/Exception", name := "<init>", desc := "()V" } : Jvm.MethodName)) ∈ lw_all := lw_g (lw_at lw_m5 213 rfl) rfl
theorem q1244 : (Jvm.Cond.fieldLink "BrassInspector$Refusal" (7 : Nat) "BrassInspector$Refusal" "reason" "I") ∈ lw_all := lw_g (lw_at lw_m5 214 rfl) rfl
theorem q1245 : (Jvm.Cond.fieldLink "BrassInspector$Refusal" (13 : Nat) "BrassInspector$Refusal" "detail" "I") ∈ lw_all := lw_g (lw_at lw_m5 215 rfl) rfl
theorem q1246 : (Jvm.Cond.laysFinal "BrassInspector$Refusal" "BrassInspector$Refusal" "reason" "I") ∈ lw_all := lw_g (lw_at lw_m5 216 rfl) rfl
theorem q1247 : (Jvm.Cond.soleField "BrassInspector$Refusal" "reason") ∈ lw_all := lw_g (lw_at lw_m5 217 rfl) rfl
theorem q1248 : (Jvm.Cond.laysFinal "BrassInspector$Refusal" "BrassInspector$Refusal" "detail" "I") ∈ lw_all := lw_g (lw_at lw_m5 218 rfl) rfl
theorem q1249 : (Jvm.Cond.soleField "BrassInspector$Refusal" "detail") ∈ lw_all := lw_g (lw_at lw_m5 219 rfl) rfl
theorem q1250 : (Jvm.Cond.lays "BrassInspector$Refusal" "java/lang/Throwable" "depth" "I") ∈ lw_all := lw_g (lw_at lw_m5 220 rfl) rfl
theorem q1251 : (Jvm.Cond.superclass "BrassInspector$Refusal" "java/lang/Exception") ∈ lw_all := lw_g (lw_at lw_m5 221 rfl) rfl
theorem q1252 : (Jvm.Cond.methodLink "BrassInspector$Round" (103 : Nat) ({ cls := "BrassInspector$Round$Trader", name := "<init>", desc := "(LBrassInspector$Round;IIII)V" } : Jvm.MethodName)) ∈ lw_all := lw_g (lw_at lw_m5 222 rfl) rfl
theorem q1253 : (Jvm.Cond.selects "BrassInspector$3" ({ cls := "BrassInspector$Deed", name := "does", desc := "(LBrassInspector$Round;)I" } : Jvm.MethodName) ({ cls := "BrassInspector$3", name := "does", desc := "(LBrassInspector$Round;)I" } : Jvm.MethodName)) ∈ lw_all := lw_g (lw_at lw_m5 223 rfl) rfl
theorem q1254 : (Jvm.Cond.instanceMethod ({ cls := "BrassInspector$3", name := "does", desc := "(LBrassInspector$Round;)I" } : Jvm.MethodName)) ∈ lw_all := lw_g (lw_at lw_m5 224 rfl) rfl
theorem q1255 : (Jvm.Cond.code ({ cls := "BrassInspector$3", name := "does", desc := "(LBrassInspector$Round;)I" } : Jvm.MethodName) prog_4_method_2_code (2 : Nat) (Option.some Jvm.ClassFile.FieldType.int)) ∈ lw_all := lw_g (lw_at lw_m5 225 rfl) rfl
theorem q1256 : (Jvm.Cond.methodLink "BrassInspector$3" (20 : Nat) ({ cls := "BrassInspector$Round", name := "trader", desc := "(I)LBrassInspector$Round$Trader;" } : Jvm.MethodName)) ∈ lw_all := lw_g (lw_at lw_m5 226 rfl) rfl
theorem q1257 : (Jvm.Cond.instanceMethod ({ cls := "BrassInspector$Round", name := "trader", desc := "(I)LBrassInspector$Round$Trader;" } : Jvm.MethodName)) ∈ lw_all := lw_g (lw_at lw_m5 227 rfl) rfl
theorem q1258 : (Jvm.Cond.selects "BrassInspector$Round" ({ cls := "BrassInspector$Round", name := "trader", desc := "(I)LBrassInspector$Round$Trader;" } : Jvm.MethodName) ({ cls := "BrassInspector$Round", name := "trader", desc := "(I)LBrassInspector$Round$Trader;" } : Jvm.MethodName)) ∈ lw_all := lw_g (lw_at lw_m5 228 rfl) rfl
theorem q1259 : (Jvm.Cond.code ({ cls := "BrassInspector$Round", name := "trader", desc := "(I)LBrassInspector$Round$Trader;" } : Jvm.MethodName) prog_13_method_4_code (2 : Nat) (Option.some (Jvm.ClassFile.FieldType.object "BrassInspector$Round$Trader"))) ∈ lw_all := lw_g (lw_at lw_m5 229 rfl) rfl
theorem q1260 : (Jvm.Cond.interfaceEntry "BrassInspector$Round" (82 : Nat)) ∈ lw_tbl := lw_at lw_m5 230 rfl
theorem q1261 : (Jvm.Cond.methodLink "BrassInspector$Round" (82 : Nat) ({ cls := "java/util/List", name := "get", desc := "(I)Ljava/lang/Object;" } : Jvm.MethodName)) ∈ lw_all := lw_g (lw_at lw_m5 231 rfl) rfl
theorem q1262 : (Jvm.Cond.methodLink "BrassInspector$3" (26 : Nat) ({ cls := "BrassInspector$Round$Trader", name := "gets", desc := "(I)I" } : Jvm.MethodName)) ∈ lw_all := lw_g (lw_at lw_m5 232 rfl) rfl
theorem q1263 : (Jvm.Cond.instanceMethod ({ cls := "BrassInspector$Round$Trader", name := "gets", desc := "(I)I" } : Jvm.MethodName)) ∈ lw_all := lw_g (lw_at lw_m5 233 rfl) rfl
theorem q1264 : (Jvm.Cond.selects "BrassInspector$Round$Trader" ({ cls := "BrassInspector$Round$Trader", name := "gets", desc := "(I)I" } : Jvm.MethodName) ({ cls := "BrassInspector$Round$Trader", name := "gets", desc := "(I)I" } : Jvm.MethodName)) ∈ lw_all := lw_g (lw_at lw_m5 234 rfl) rfl
theorem q1265 : (Jvm.Cond.code ({ cls := "BrassInspector$Round$Trader", name := "gets", desc := "(I)I" } : Jvm.MethodName) prog_17_method_18_code (2 : Nat) (Option.some Jvm.ClassFile.FieldType.int)) ∈ lw_all := lw_g (lw_at lw_m5 235 rfl) rfl
theorem q1266 : (Jvm.Cond.methodLink "BrassInspector$Round$Trader" (58 : Nat) ({ cls := "java/lang/Math", name := "min", desc := "(II)I" } : Jvm.MethodName)) ∈ lw_all := lw_g (lw_at lw_m5 236 rfl) rfl
theorem q1267 : (Jvm.Cond.selects "BrassInspector$4" ({ cls := "BrassInspector$Deed", name := "does", desc := "(LBrassInspector$Round;)I" } : Jvm.MethodName) ({ cls := "BrassInspector$4", name := "does", desc := "(LBrassInspector$Round;)I" } : Jvm.MethodName)) ∈ lw_all := lw_g (lw_at lw_m5 237 rfl) rfl
theorem q1268 : (Jvm.Cond.instanceMethod ({ cls := "BrassInspector$4", name := "does", desc := "(LBrassInspector$Round;)I" } : Jvm.MethodName)) ∈ lw_all := lw_g (lw_at lw_m5 238 rfl) rfl
theorem q1269 : (Jvm.Cond.code ({ cls := "BrassInspector$4", name := "does", desc := "(LBrassInspector$Round;)I" } : Jvm.MethodName) prog_5_method_2_code (2 : Nat) (Option.some Jvm.ClassFile.FieldType.int)) ∈ lw_all := lw_g (lw_at lw_m5 239 rfl) rfl
theorem q1270 : (Jvm.Cond.methodLink "BrassInspector$4" (17 : Nat) ({ cls := "BrassInspector$Round", name := "cast", desc := "(I)I" } : Jvm.MethodName)) ∈ lw_all := lw_g (lw_at lw_m6 0 rfl) rfl
theorem q1271 : (Jvm.Cond.instanceMethod ({ cls := "BrassInspector$Round", name := "cast", desc := "(I)I" } : Jvm.MethodName)) ∈ lw_all := lw_g (lw_at lw_m6 1 rfl) rfl
theorem q1272 : (Jvm.Cond.selects "BrassInspector$Round" ({ cls := "BrassInspector$Round", name := "cast", desc := "(I)I" } : Jvm.MethodName) ({ cls := "BrassInspector$Round", name := "cast", desc := "(I)I" } : Jvm.MethodName)) ∈ lw_all := lw_g (lw_at lw_m6 2 rfl) rfl
theorem q1273 : (Jvm.Cond.code ({ cls := "BrassInspector$Round", name := "cast", desc := "(I)I" } : Jvm.MethodName) prog_13_method_17_code (2 : Nat) (Option.some Jvm.ClassFile.FieldType.int)) ∈ lw_all := lw_g (lw_at lw_m6 3 rfl) rfl
theorem q1274 : (Jvm.Cond.methodLink "BrassInspector$Round" (106 : Nat) ({ cls := "BrassInspector$Brass", name := "<init>", desc := "(II)V" } : Jvm.MethodName)) ∈ lw_all := lw_g (lw_at lw_m6 4 rfl) rfl
theorem q1275 : (Jvm.Cond.selects "BrassInspector$5" ({ cls := "BrassInspector$Deed", name := "does", desc := "(LBrassInspector$Round;)I" } : Jvm.MethodName) ({ cls := "BrassInspector$5", name := "does", desc := "(LBrassInspector$Round;)I" } : Jvm.MethodName)) ∈ lw_all := lw_g (lw_at lw_m6 5 rfl) rfl
theorem q1276 : (Jvm.Cond.instanceMethod ({ cls := "BrassInspector$5", name := "does", desc := "(LBrassInspector$Round;)I" } : Jvm.MethodName)) ∈ lw_all := lw_g (lw_at lw_m6 6 rfl) rfl
theorem q1277 : (Jvm.Cond.code ({ cls := "BrassInspector$5", name := "does", desc := "(LBrassInspector$Round;)I" } : Jvm.MethodName) prog_6_method_2_code (2 : Nat) (Option.some Jvm.ClassFile.FieldType.int)) ∈ lw_all := lw_g (lw_at lw_m6 7 rfl) rfl
theorem q1278 : (Jvm.Cond.methodLink "BrassInspector$5" (17 : Nat) ({ cls := "BrassInspector$Round", name := "polish", desc := "(I)I" } : Jvm.MethodName)) ∈ lw_all := lw_g (lw_at lw_m6 8 rfl) rfl
theorem q1279 : (Jvm.Cond.instanceMethod ({ cls := "BrassInspector$Round", name := "polish", desc := "(I)I" } : Jvm.MethodName)) ∈ lw_all := lw_g (lw_at lw_m6 9 rfl) rfl
theorem q1280 : (Jvm.Cond.selects "BrassInspector$Round" ({ cls := "BrassInspector$Round", name := "polish", desc := "(I)I" } : Jvm.MethodName) ({ cls := "BrassInspector$Round", name := "polish", desc := "(I)I" } : Jvm.MethodName)) ∈ lw_all := lw_g (lw_at lw_m6 10 rfl) rfl
theorem q1281 : (Jvm.Cond.code ({ cls := "BrassInspector$Round", name := "polish", desc := "(I)I" } : Jvm.MethodName) prog_13_method_18_code (2 : Nat) (Option.some Jvm.ClassFile.FieldType.int)) ∈ lw_all := lw_g (lw_at lw_m6 11 rfl) rfl
theorem q1282 : (Jvm.Cond.methodLink "BrassInspector$Round" (109 : Nat) ({ cls := "BrassInspector$Round", name := "weight", desc := "(I)LBrassInspector$Brass;" } : Jvm.MethodName)) ∈ lw_all := lw_g (lw_at lw_m6 12 rfl) rfl
theorem q1283 : (Jvm.Cond.instanceMethod ({ cls := "BrassInspector$Round", name := "weight", desc := "(I)LBrassInspector$Brass;" } : Jvm.MethodName)) ∈ lw_all := lw_g (lw_at lw_m6 13 rfl) rfl
theorem q1284 : (Jvm.Cond.selects "BrassInspector$Round" ({ cls := "BrassInspector$Round", name := "weight", desc := "(I)LBrassInspector$Brass;" } : Jvm.MethodName) ({ cls := "BrassInspector$Round", name := "weight", desc := "(I)LBrassInspector$Brass;" } : Jvm.MethodName)) ∈ lw_all := lw_g (lw_at lw_m6 14 rfl) rfl
theorem q1285 : (Jvm.Cond.code ({ cls := "BrassInspector$Round", name := "weight", desc := "(I)LBrassInspector$Brass;" } : Jvm.MethodName) prog_13_method_7_code (2 : Nat) (Option.some (Jvm.ClassFile.FieldType.object "BrassInspector$Brass"))) ∈ lw_all := lw_g (lw_at lw_m6 15 rfl) rfl
theorem q1286 : (Jvm.Cond.methodLink "BrassInspector$Round" (113 : Nat) ({ cls := "BrassInspector$Brass", name := "wear", desc := "()I" } : Jvm.MethodName)) ∈ lw_all := lw_g (lw_at lw_m6 16 rfl) rfl
theorem q1287 : (Jvm.Cond.instanceMethod ({ cls := "BrassInspector$Brass", name := "wear", desc := "()I" } : Jvm.MethodName)) ∈ lw_all := lw_g (lw_at lw_m6 17 rfl) rfl
theorem q1288 : (Jvm.Cond.selects "BrassInspector$Brass" ({ cls := "BrassInspector$Brass", name := "wear", desc := "()I" } : Jvm.MethodName) ({ cls := "BrassInspector$Brass", name := "wear", desc := "()I" } : Jvm.MethodName)) ∈ lw_all := lw_g (lw_at lw_m6 18 rfl) rfl
theorem q1289 : (Jvm.Cond.code ({ cls := "BrassInspector$Brass", name := "wear", desc := "()I" } : Jvm.MethodName) prog_8_method_5_code (1 : Nat) (Option.some Jvm.ClassFile.FieldType.int)) ∈ lw_all := lw_g (lw_at lw_m6 19 rfl) rfl
theorem q1290 : (Jvm.Cond.methodLink "BrassInspector$Round" (116 : Nat) ({ cls := "BrassInspector$Brass", name := "renewed", desc := "()I" } : Jvm.MethodName)) ∈ lw_all := lw_g (lw_at lw_m6 20 rfl) rfl
theorem q1291 : (Jvm.Cond.instanceMethod ({ cls := "BrassInspector$Brass", name := "renewed", desc := "()I" } : Jvm.MethodName)) ∈ lw_all := lw_g (lw_at lw_m6 21 rfl) rfl
theorem q1292 : (Jvm.Cond.selects "BrassInspector$Brass" ({ cls := "BrassInspector$Brass", name := "renewed", desc := "()I" } : Jvm.MethodName) ({ cls := "BrassInspector$Brass", name := "renewed", desc := "()I" } : Jvm.MethodName)) ∈ lw_all := lw_g (lw_at lw_m6 22 rfl) rfl
theorem q1293 : (Jvm.Cond.code ({ cls := "BrassInspector$Brass", name := "renewed", desc := "()I" } : Jvm.MethodName) prog_8_method_8_code (2 : Nat) (Option.some Jvm.ClassFile.FieldType.int)) ∈ lw_all := lw_g (lw_at lw_m6 23 rfl) rfl
theorem q1294 : (Jvm.Cond.selects "BrassInspector$6" ({ cls := "BrassInspector$Deed", name := "does", desc := "(LBrassInspector$Round;)I" } : Jvm.MethodName) ({ cls := "BrassInspector$6", name := "does", desc := "(LBrassInspector$Round;)I" } : Jvm.MethodName)) ∈ lw_all := lw_g (lw_at lw_m6 24 rfl) rfl
theorem q1295 : (Jvm.Cond.instanceMethod ({ cls := "BrassInspector$6", name := "does", desc := "(LBrassInspector$Round;)I" } : Jvm.MethodName)) ∈ lw_all := lw_g (lw_at lw_m6 25 rfl) rfl
theorem q1296 : (Jvm.Cond.code ({ cls := "BrassInspector$6", name := "does", desc := "(LBrassInspector$Round;)I" } : Jvm.MethodName) prog_7_method_2_code (2 : Nat) (Option.some Jvm.ClassFile.FieldType.int)) ∈ lw_all := lw_g (lw_at lw_m6 26 rfl) rfl
theorem q1297 : (Jvm.Cond.methodLinkNest "BrassInspector$6" (17 : Nat) ({ cls := "BrassInspector", name := "carryOutAll", desc := "(LBrassInspector$Round;Ljava/util/List;)I" } : Jvm.MethodName) "BrassInspector") ∈ lw_tbl := lw_at lw_m6 27 rfl
theorem q1298 : (Jvm.Cond.static ({ cls := "BrassInspector", name := "carryOutAll", desc := "(LBrassInspector$Round;Ljava/util/List;)I" } : Jvm.MethodName)) ∈ lw_all := lw_g (lw_at lw_m6 28 rfl) rfl
theorem q1299 : (Jvm.Cond.codeWith ({ cls := "BrassInspector", name := "carryOutAll", desc := "(LBrassInspector$Round;Ljava/util/List;)I" } : Jvm.MethodName) prog_1_method_40_code (7 : Nat) (Option.some Jvm.ClassFile.FieldType.int) [((29 : Nat), (36 : Nat), (39 : Nat), (1 : Nat))]) ∈ lw_all := lw_g (lw_at lw_m6 29 rfl) rfl
theorem q1300 : (Jvm.Cond.interfaceEntry "BrassInspector" (305 : Nat)) ∈ lw_tbl := lw_at lw_m6 30 rfl
theorem q1301 : (Jvm.Cond.methodLink "BrassInspector" (305 : Nat) ({ cls := "java/util/List", name := "iterator", desc := "()Ljava/util/Iterator;" } : Jvm.MethodName)) ∈ lw_all := lw_g (lw_at lw_m6 31 rfl) rfl
theorem q1302 : (Jvm.Cond.interfaceEntry "BrassInspector" (207 : Nat)) ∈ lw_tbl := lw_at lw_m6 32 rfl
theorem q1303 : (Jvm.Cond.methodLink "BrassInspector" (207 : Nat) ({ cls := "java/util/Iterator", name := "hasNext", desc := "()Z" } : Jvm.MethodName)) ∈ lw_all := lw_g (lw_at lw_m6 33 rfl) rfl
theorem q1304 : (Jvm.Cond.interfaceEntry "BrassInspector" (212 : Nat)) ∈ lw_tbl := lw_at lw_m6 34 rfl
theorem q1305 : (Jvm.Cond.methodLink "BrassInspector" (212 : Nat) ({ cls := "java/util/Iterator", name := "next", desc := "()Ljava/lang/Object;" } : Jvm.MethodName)) ∈ lw_all := lw_g (lw_at lw_m6 35 rfl) rfl
theorem q1306 : (Jvm.Cond.classLink "BrassInspector" (78 : Nat) "BrassInspector$Deed") ∈ lw_all := lw_g (lw_at lw_m6 36 rfl) rfl
theorem q1307 : (Jvm.Cond.instanceMethod ({ cls := "BrassInspector$Order", name := "does", desc := "(LBrassInspector$Round;)I" } : Jvm.MethodName)) ∈ lw_all := lw_g (lw_at lw_m6 37 rfl) rfl
theorem q1308 : (Jvm.Cond.code ({ cls := "BrassInspector$Order", name := "does", desc := "(LBrassInspector$Round;)I" } : Jvm.MethodName) prog_10_method_3_code (4 : Nat) (Option.some Jvm.ClassFile.FieldType.int)) ∈ lw_all := lw_g (lw_at lw_m6 38 rfl) rfl
theorem q1309 : (Jvm.Cond.stringRef "BrassInspector$Order" (25 : Nat) "days") ∈ lw_tbl := lw_at lw_m6 39 rfl
theorem q1310 : (Jvm.Cond.methodLink "BrassInspector$Order" (27 : Nat) ({ cls := "java/lang/String", name := "equals", desc := "(Ljava/lang/Object;)Z" } : Jvm.MethodName)) ∈ lw_all := lw_g (lw_at lw_m6 40 rfl) rfl
theorem q1311 : (Jvm.Cond.instanceMethod ({ cls := "java/lang/String", name := "equals", desc := "(Ljava/lang/Object;)Z" } : Jvm.MethodName)) ∈ lw_all := lw_g (lw_at lw_m6 41 rfl) rfl
theorem q1312 : (Jvm.Cond.selects "java/lang/String" ({ cls := "java/lang/String", name := "equals", desc := "(Ljava/lang/Object;)Z" } : Jvm.MethodName) ({ cls := "java/lang/String", name := "equals", desc := "(Ljava/lang/Object;)Z" } : Jvm.MethodName)) ∈ lw_all := lw_g (lw_at lw_m6 42 rfl) rfl
theorem q1313 : (Jvm.Cond.code ({ cls := "java/lang/String", name := "equals", desc := "(Ljava/lang/Object;)Z" } : Jvm.MethodName) prog_39_method_66_code (3 : Nat) (Option.some Jvm.ClassFile.FieldType.boolean)) ∈ lw_all := lw_g (lw_at lw_m6 43 rfl) rfl
theorem q1314 : (Jvm.Cond.classLink "java/lang/String" (10 : Nat) "java/lang/String") ∈ lw_all := lw_g (lw_at lw_m6 44 rfl) rfl
theorem q1315 : (Jvm.Cond.methodLink "java/lang/String" (541 : Nat) ({ cls := "java/lang/StringLatin1", name := "equals", desc := "([B[B)Z" } : Jvm.MethodName)) ∈ lw_all := lw_g (lw_at lw_m6 45 rfl) rfl
theorem q1316 : (Jvm.Cond.static ({ cls := "java/lang/StringLatin1", name := "equals", desc := "([B[B)Z" } : Jvm.MethodName)) ∈ lw_all := lw_g (lw_at lw_m6 46 rfl) rfl
theorem q1317 : (Jvm.Cond.code ({ cls := "java/lang/StringLatin1", name := "equals", desc := "([B[B)Z" } : Jvm.MethodName) prog_42_method_13_code (3 : Nat) (Option.some Jvm.ClassFile.FieldType.boolean)) ∈ lw_all := lw_g (lw_at lw_m6 47 rfl) rfl
theorem q1318 : (Jvm.Cond.methodLinkNest "BrassInspector$Order" (33 : Nat) ({ cls := "BrassInspector", name := "isIn", desc := "(III)Z" } : Jvm.MethodName) "BrassInspector") ∈ lw_tbl := lw_at lw_m6 48 rfl
theorem q1319 : (Jvm.Cond.methodLinkNest "BrassInspector$Order" (37 : Nat) ({ cls := "BrassInspector", name := "call", desc := "(Z)V" } : Jvm.MethodName) "BrassInspector") ∈ lw_tbl := lw_at lw_m6 49 rfl
theorem q1320 : (Jvm.Cond.static ({ cls := "BrassInspector", name := "call", desc := "(Z)V" } : Jvm.MethodName)) ∈ lw_all := lw_g (lw_at lw_m6 50 rfl) rfl
theorem q1321 : (Jvm.Cond.code ({ cls := "BrassInspector", name := "call", desc := "(Z)V" } : Jvm.MethodName) prog_1_method_4_code (1 : Nat) (Option.none : Option Jvm.ClassFile.FieldType)) ∈ lw_all := lw_g (lw_at lw_m6 51 rfl) rfl
theorem q1322 : (Jvm.Cond.methodLink "BrassInspector" (7 : Nat) ({ cls := "BrassInspector", name := "meet", desc := "(ZII)V" } : Jvm.MethodName)) ∈ lw_all := lw_g (lw_at lw_m6 52 rfl) rfl
theorem q1323 : (Jvm.Cond.methodLink "BrassInspector$Order" (41 : Nat) ({ cls := "BrassInspector$Round", name := "pass", desc := "(I)I" } : Jvm.MethodName)) ∈ lw_all := lw_g (lw_at lw_m6 53 rfl) rfl
theorem q1324 : (Jvm.Cond.instanceMethod ({ cls := "BrassInspector$Round", name := "pass", desc := "(I)I" } : Jvm.MethodName)) ∈ lw_all := lw_g (lw_at lw_m6 54 rfl) rfl
theorem q1325 : (Jvm.Cond.selects "BrassInspector$Round" ({ cls := "BrassInspector$Round", name := "pass", desc := "(I)I" } : Jvm.MethodName) ({ cls := "BrassInspector$Round", name := "pass", desc := "(I)I" } : Jvm.MethodName)) ∈ lw_all := lw_g (lw_at lw_m6 55 rfl) rfl
theorem q1326 : (Jvm.Cond.code ({ cls := "BrassInspector$Round", name := "pass", desc := "(I)I" } : Jvm.MethodName) prog_13_method_26_code (4 : Nat) (Option.some Jvm.ClassFile.FieldType.int)) ∈ lw_all := lw_g (lw_at lw_m6 56 rfl) rfl
theorem q1327 : (Jvm.Cond.methodLink "BrassInspector$Round" (207 : Nat) ({ cls := "BrassInspector$Round", name := "dayGoesBy", desc := "()I" } : Jvm.MethodName)) ∈ lw_all := lw_g (lw_at lw_m6 57 rfl) rfl
theorem q1328 : (Jvm.Cond.privateMethod ({ cls := "BrassInspector$Round", name := "dayGoesBy", desc := "()I" } : Jvm.MethodName)) ∈ lw_tbl := lw_at lw_m6 58 rfl
theorem q1329 : (Jvm.Cond.instanceMethod ({ cls := "BrassInspector$Round", name := "dayGoesBy", desc := "()I" } : Jvm.MethodName)) ∈ lw_all := lw_g (lw_at lw_m6 59 rfl) rfl
theorem q1330 : (Jvm.Cond.code ({ cls := "BrassInspector$Round", name := "dayGoesBy", desc := "()I" } : Jvm.MethodName) prog_13_method_25_code (4 : Nat) (Option.some Jvm.ClassFile.FieldType.int)) ∈ lw_all := lw_g (lw_at lw_m6 60 rfl) rfl
theorem q1331 : (Jvm.Cond.methodLink "BrassInspector$Round" (123 : Nat) ({ cls := "BrassInspector$Round", name := "fairNow", desc := "()I" } : Jvm.MethodName)) ∈ lw_all := lw_g (lw_at lw_m6 61 rfl) rfl
theorem q1332 : (Jvm.Cond.instanceMethod ({ cls := "BrassInspector$Round", name := "fairNow", desc := "()I" } : Jvm.MethodName)) ∈ lw_all := lw_g (lw_at lw_m6 62 rfl) rfl
theorem q1333 : (Jvm.Cond.selects "BrassInspector$Round" ({ cls := "BrassInspector$Round", name := "fairNow", desc := "()I" } : Jvm.MethodName) ({ cls := "BrassInspector$Round", name := "fairNow", desc := "()I" } : Jvm.MethodName)) ∈ lw_all := lw_g (lw_at lw_m6 63 rfl) rfl
theorem q1334 : (Jvm.Cond.code ({ cls := "BrassInspector$Round", name := "fairNow", desc := "()I" } : Jvm.MethodName) prog_13_method_12_code (1 : Nat) (Option.some Jvm.ClassFile.FieldType.int)) ∈ lw_all := lw_g (lw_at lw_m6 64 rfl) rfl
theorem q1335 : (Jvm.Cond.methodLink "BrassInspector$Round" (126 : Nat) ({ cls := "BrassInspector$Round", name := "of", desc := "(I)Ljava/lang/Iterable;" } : Jvm.MethodName)) ∈ lw_all := lw_g (lw_at lw_m6 65 rfl) rfl
theorem q1336 : (Jvm.Cond.instanceMethod ({ cls := "BrassInspector$Round", name := "of", desc := "(I)Ljava/lang/Iterable;" } : Jvm.MethodName)) ∈ lw_all := lw_g (lw_at lw_m6 66 rfl) rfl
theorem q1337 : (Jvm.Cond.selects "BrassInspector$Round" ({ cls := "BrassInspector$Round", name := "of", desc := "(I)Ljava/lang/Iterable;" } : Jvm.MethodName) ({ cls := "BrassInspector$Round", name := "of", desc := "(I)Ljava/lang/Iterable;" } : Jvm.MethodName)) ∈ lw_all := lw_g (lw_at lw_m6 67 rfl) rfl
theorem q1338 : (Jvm.Cond.code ({ cls := "BrassInspector$Round", name := "of", desc := "(I)Ljava/lang/Iterable;" } : Jvm.MethodName) prog_13_method_5_code (2 : Nat) (Option.some (Jvm.ClassFile.FieldType.object "java/lang/Iterable"))) ∈ lw_all := lw_g (lw_at lw_m6 68 rfl) rfl
theorem q1339 : (Jvm.Cond.classLink "BrassInspector$Round" (86 : Nat) "BrassInspector$Round$OfFair") ∈ lw_all := lw_g (lw_at lw_m6 69 rfl) rfl
theorem q1340 : (Jvm.Cond.instantiable "BrassInspector$Round$OfFair" (2 : Nat)) ∈ lw_all := lw_g (lw_at lw_m6 70 rfl) rfl
theorem q1341 : (Jvm.Cond.methodLink "BrassInspector$Round" (88 : Nat) ({ cls := "BrassInspector$Round$OfFair", name := "<init>", desc := "(LBrassInspector$Round;I)V" } : Jvm.MethodName)) ∈ lw_all := lw_g (lw_at lw_m6 71 rfl) rfl
theorem q1342 : (Jvm.Cond.instanceMethod ({ cls := "BrassInspector$Round$OfFair", name := "<init>", desc := "(LBrassInspector$Round;I)V" } : Jvm.MethodName)) ∈ lw_all := lw_g (lw_at lw_m6 72 rfl) rfl
theorem q1343 : (Jvm.Cond.code ({ cls := "BrassInspector$Round$OfFair", name := "<init>", desc := "(LBrassInspector$Round;I)V" } : Jvm.MethodName) prog_15_method_1_code (3 : Nat) (Option.none : Option Jvm.ClassFile.FieldType)) ∈ lw_all := lw_g (lw_at lw_m6 73 rfl) rfl
theorem q1344 : (Jvm.Cond.methodLink "BrassInspector$Round$OfFair" (7 : Nat) ({ cls := "java/lang/Object", name := "<init>", desc := "()V" } : Jvm.MethodName)) ∈ lw_all := lw_g (lw_at lw_m6 74 rfl) rfl
theorem q1345 : (Jvm.Cond.fieldLink "BrassInspector$Round$OfFair" (13 : Nat) "BrassInspector$Round$OfFair" "fair" "I") ∈ lw_all := lw_g (lw_at lw_m6 75 rfl) rfl
theorem q1346 : (Jvm.Cond.fieldLinkNest "BrassInspector$Round$OfFair$1" (48 : Nat) "BrassInspector$Round$OfFair" "fair" "I" "BrassInspector") ∈ lw_tbl := lw_at lw_m6 76 rfl
theorem q1347 : (Jvm.Cond.fieldLink "BrassInspector$Round$OfFair" (1 : Nat) "BrassInspector$Round$OfFair" "this$0" "LBrassInspector$Round;") ∈ lw_all := lw_g (lw_at lw_m6 77 rfl) rfl
theorem q1348 : (Jvm.Cond.fieldLink "BrassInspector$Round$OfFair$1" (21 : Nat) "BrassInspector$Round$OfFair" "this$0" "LBrassInspector$Round;") ∈ lw_all := lw_g (lw_at lw_m6 78 rfl) rfl
theorem q1349 : (Jvm.Cond.laysFinal "BrassInspector$Round$OfFair" "BrassInspector$Round$OfFair" "fair" "I") ∈ lw_all := lw_g (lw_at lw_m6 79 rfl) rfl
theorem q1350 : (Jvm.Cond.soleField "BrassInspector$Round$OfFair" "fair") ∈ lw_all := lw_g (lw_at lw_m6 80 rfl) rfl
theorem q1351 : (Jvm.Cond.laysFinal "BrassInspector$Round$OfFair" "BrassInspector$Round$OfFair" "this$0" "LBrassInspector$Round;") ∈ lw_all := lw_g (lw_at lw_m6 81 rfl) rfl
theorem q1352 : (Jvm.Cond.soleField "BrassInspector$Round$OfFair" "this$0") ∈ lw_all := lw_g (lw_at lw_m6 82 rfl) rfl
theorem q1353 : (Jvm.Cond.superclass "BrassInspector$Round$OfFair" "java/lang/Object") ∈ lw_all := lw_g (lw_at lw_m6 83 rfl) rfl
theorem q1354 : (Jvm.Cond.interfaceEntry "BrassInspector$Round" (130 : Nat)) ∈ lw_tbl := lw_at lw_m6 84 rfl
theorem q1355 : (Jvm.Cond.methodLink "BrassInspector$Round" (130 : Nat) ({ cls := "java/lang/Iterable", name := "iterator", desc := "()Ljava/util/Iterator;" } : Jvm.MethodName)) ∈ lw_all := lw_g (lw_at lw_m6 85 rfl) rfl
theorem q1356 : (Jvm.Cond.interfaceMethod "java/lang/Iterable" "java/lang/Iterable" "iterator" "()Ljava/util/Iterator;") ∈ lw_tbl := lw_at lw_m6 86 rfl
theorem q1357 : (Jvm.Cond.declares ({ cls := "java/lang/Iterable", name := "iterator", desc := "()Ljava/util/Iterator;" } : Jvm.MethodName)) ∈ lw_tbl := lw_at lw_m6 87 rfl
theorem q1358 : (Jvm.Cond.castable "BrassInspector$Round$OfFair" "java/lang/Iterable") ∈ lw_tbl := lw_at lw_m6 88 rfl
theorem q1359 : (Jvm.Cond.selects "BrassInspector$Round$OfFair" ({ cls := "java/lang/Iterable", name := "iterator", desc := "()Ljava/util/Iterator;" } : Jvm.MethodName) ({ cls := "BrassInspector$Round$OfFair", name := "iterator", desc := "()Ljava/util/Iterator;" } : Jvm.MethodName)) ∈ lw_all := lw_g (lw_at lw_m6 89 rfl) rfl
theorem q1360 : (Jvm.Cond.unhidden "BrassInspector$Round$OfFair" "iterator" "()Ljava/util/Iterator;") ∈ lw_tbl := lw_at lw_m6 90 rfl
theorem q1361 : (Jvm.Cond.instanceMethod ({ cls := "BrassInspector$Round$OfFair", name := "iterator", desc := "()Ljava/util/Iterator;" } : Jvm.MethodName)) ∈ lw_all := lw_g (lw_at lw_m6 91 rfl) rfl
theorem q1362 : (Jvm.Cond.publicMethod ({ cls := "BrassInspector$Round$OfFair", name := "iterator", desc := "()Ljava/util/Iterator;" } : Jvm.MethodName)) ∈ lw_tbl := lw_at lw_m6 92 rfl
theorem q1363 : (Jvm.Cond.code ({ cls := "BrassInspector$Round$OfFair", name := "iterator", desc := "()Ljava/util/Iterator;" } : Jvm.MethodName) prog_15_method_2_code (1 : Nat) (Option.some (Jvm.ClassFile.FieldType.object "java/util/Iterator"))) ∈ lw_all := lw_g (lw_at lw_m6 93 rfl) rfl
theorem q1364 : (Jvm.Cond.classLink "BrassInspector$Round$OfFair" (17 : Nat) "BrassInspector$Round$OfFair$1") ∈ lw_all := lw_g (lw_at lw_m6 94 rfl) rfl
theorem q1365 : (Jvm.Cond.methodLink "BrassInspector$Round$OfFair" (19 : Nat) ({ cls := "BrassInspector$Round$OfFair$1", name := "<init>", desc := "(LBrassInspector$Round$OfFair;)V" } : Jvm.MethodName)) ∈ lw_all := lw_g (lw_at lw_m6 95 rfl) rfl
theorem q1366 : (Jvm.Cond.instanceMethod ({ cls := "BrassInspector$Round$OfFair$1", name := "<init>", desc := "(LBrassInspector$Round$OfFair;)V" } : Jvm.MethodName)) ∈ lw_all := lw_g (lw_at lw_m6 96 rfl) rfl
theorem q1367 : (Jvm.Cond.code ({ cls := "BrassInspector$Round$OfFair$1", name := "<init>", desc := "(LBrassInspector$Round$OfFair;)V" } : Jvm.MethodName) prog_16_method_1_code (2 : Nat) (Option.none : Option Jvm.ClassFile.FieldType)) ∈ lw_all := lw_g (lw_at lw_m6 97 rfl) rfl
theorem q1368 : (Jvm.Cond.methodLink "BrassInspector$Round$OfFair$1" (7 : Nat) ({ cls := "java/lang/Object", name := "<init>", desc := "()V" } : Jvm.MethodName)) ∈ lw_all := lw_g (lw_at lw_m6 98 rfl) rfl
theorem q1369 : (Jvm.Cond.fieldLink "BrassInspector$Round$OfFair$1" (17 : Nat) "BrassInspector$Round$OfFair$1" "at" "I") ∈ lw_all := lw_g (lw_at lw_m6 99 rfl) rfl
theorem q1370 : (Jvm.Cond.fieldLink "BrassInspector$Round$OfFair$1" (1 : Nat) "BrassInspector$Round$OfFair$1" "this$1" "LBrassInspector$Round$OfFair;") ∈ lw_all := lw_g (lw_at lw_m6 100 rfl) rfl
theorem q1371 : (Jvm.Cond.lays "BrassInspector$Round$OfFair$1" "BrassInspector$Round$OfFair$1" "at" "I") ∈ lw_all := lw_g (lw_at lw_m6 101 rfl) rfl
theorem q1372 : (Jvm.Cond.soleField "BrassInspector$Round$OfFair$1" "at") ∈ lw_all := lw_g (lw_at lw_m6 102 rfl) rfl
theorem q1373 : (Jvm.Cond.laysFinal "BrassInspector$Round$OfFair$1" "BrassInspector$Round$OfFair$1" "this$1" "LBrassInspector$Round$OfFair;") ∈ lw_all := lw_g (lw_at lw_m6 103 rfl) rfl
theorem q1374 : (Jvm.Cond.soleField "BrassInspector$Round$OfFair$1" "this$1") ∈ lw_all := lw_g (lw_at lw_m6 104 rfl) rfl
theorem q1375 : (Jvm.Cond.superclass "BrassInspector$Round$OfFair$1" "java/lang/Object") ∈ lw_all := lw_g (lw_at lw_m6 105 rfl) rfl
theorem q1376 : (Jvm.Cond.castable "java/util/ArrayList" "java/lang/Iterable") ∈ lw_tbl := lw_at lw_m6 106 rfl
theorem q1377 : (Jvm.Cond.selects "java/util/ArrayList" ({ cls := "java/lang/Iterable", name := "iterator", desc := "()Ljava/util/Iterator;" } : Jvm.MethodName) ({ cls := "java/util/ArrayList", name := "iterator", desc := "()Ljava/util/Iterator;" } : Jvm.MethodName)) ∈ lw_all := lw_g (lw_at lw_m6 107 rfl) rfl
theorem q1378 : (Jvm.Cond.castable "java/util/LinkedList" "java/lang/Iterable") ∈ lw_tbl := lw_at lw_m6 108 rfl
theorem q1379 : (Jvm.Cond.selects "java/util/LinkedList" ({ cls := "java/lang/Iterable", name := "iterator", desc := "()Ljava/util/Iterator;" } : Jvm.MethodName) ({ cls := "java/util/AbstractSequentialList", name := "iterator", desc := "()Ljava/util/Iterator;" } : Jvm.MethodName)) ∈ lw_all := lw_g (lw_at lw_m6 109 rfl) rfl
theorem q1380 : (Jvm.Cond.methodLink "BrassInspector$Round" (195 : Nat) ({ cls := "BrassInspector$Round$Trader", name := "isBarred", desc := "()Z" } : Jvm.MethodName)) ∈ lw_all := lw_g (lw_at lw_m6 110 rfl) rfl
theorem q1381 : (Jvm.Cond.instanceMethod ({ cls := "BrassInspector$Round$Trader", name := "isBarred", desc := "()Z" } : Jvm.MethodName)) ∈ lw_all := lw_g (lw_at lw_m6 111 rfl) rfl
theorem q1382 : (Jvm.Cond.selects "BrassInspector$Round$Trader" ({ cls := "BrassInspector$Round$Trader", name := "isBarred", desc := "()Z" } : Jvm.MethodName) ({ cls := "BrassInspector$Round$Trader", name := "isBarred", desc := "()Z" } : Jvm.MethodName)) ∈ lw_all := lw_g (lw_at lw_m6 112 rfl) rfl
theorem q1383 : (Jvm.Cond.code ({ cls := "BrassInspector$Round$Trader", name := "isBarred", desc := "()Z" } : Jvm.MethodName) prog_17_method_17_code (1 : Nat) (Option.some Jvm.ClassFile.FieldType.boolean)) ∈ lw_all := lw_g (lw_at lw_m6 113 rfl) rfl
theorem q1384 : (Jvm.Cond.methodLink "BrassInspector$Round" (198 : Nat) ({ cls := "BrassInspector$Round$Trader", name := "sells", desc := "()I" } : Jvm.MethodName)) ∈ lw_all := lw_g (lw_at lw_m6 114 rfl) rfl
theorem q1385 : (Jvm.Cond.instanceMethod ({ cls := "BrassInspector$Round$Trader", name := "sells", desc := "()I" } : Jvm.MethodName)) ∈ lw_all := lw_g (lw_at lw_m6 115 rfl) rfl
theorem q1386 : (Jvm.Cond.selects "BrassInspector$Round$Trader" ({ cls := "BrassInspector$Round$Trader", name := "sells", desc := "()I" } : Jvm.MethodName) ({ cls := "BrassInspector$Round$Trader", name := "sells", desc := "()I" } : Jvm.MethodName)) ∈ lw_all := lw_g (lw_at lw_m6 116 rfl) rfl
theorem q1387 : (Jvm.Cond.code ({ cls := "BrassInspector$Round$Trader", name := "sells", desc := "()I" } : Jvm.MethodName) prog_17_method_27_code (3 : Nat) (Option.some Jvm.ClassFile.FieldType.int)) ∈ lw_all := lw_g (lw_at lw_m6 117 rfl) rfl
theorem q1388 : (Jvm.Cond.fieldLinkNest "BrassInspector$Round$Trader" (91 : Nat) "BrassInspector" "LOSS_BY_ERROR" "[I" "BrassInspector") ∈ lw_tbl := lw_at lw_m6 118 rfl
theorem q1389 : (Jvm.Cond.laysStatic "BrassInspector" "LOSS_BY_ERROR" "[I") ∈ lw_tbl := lw_at lw_m6 119 rfl
theorem q1390 : (Jvm.Cond.methodLinkNest "BrassInspector$Round$Trader" (77 : Nat) ({ cls := "BrassInspector", name := "sum", desc := "([I)I" } : Jvm.MethodName) "BrassInspector") ∈ lw_tbl := lw_at lw_m6 120 rfl
theorem q1391 : (Jvm.Cond.methodLink "BrassInspector$Round$Trader" (94 : Nat) ({ cls := "BrassInspector$Round$Trader", name := "gets", desc := "(I)I" } : Jvm.MethodName)) ∈ lw_all := lw_g (lw_at lw_m6 121 rfl) rfl
theorem q1392 : (Jvm.Cond.methodLink "BrassInspector$Round$Trader" (98 : Nat) ({ cls := "BrassInspector$Round$Trader", name := "lossNow", desc := "()I" } : Jvm.MethodName)) ∈ lw_all := lw_g (lw_at lw_m6 122 rfl) rfl
theorem q1393 : (Jvm.Cond.instanceMethod ({ cls := "BrassInspector$Round$Trader", name := "lossNow", desc := "()I" } : Jvm.MethodName)) ∈ lw_all := lw_g (lw_at lw_m6 123 rfl) rfl
theorem q1394 : (Jvm.Cond.selects "BrassInspector$Round$Trader" ({ cls := "BrassInspector$Round$Trader", name := "lossNow", desc := "()I" } : Jvm.MethodName) ({ cls := "BrassInspector$Round$Trader", name := "lossNow", desc := "()I" } : Jvm.MethodName)) ∈ lw_all := lw_g (lw_at lw_m6 124 rfl) rfl
theorem q1395 : (Jvm.Cond.code ({ cls := "BrassInspector$Round$Trader", name := "lossNow", desc := "()I" } : Jvm.MethodName) prog_17_method_25_code (1 : Nat) (Option.some Jvm.ClassFile.FieldType.int)) ∈ lw_all := lw_g (lw_at lw_m6 125 rfl) rfl
theorem q1396 : (Jvm.Cond.methodLink "BrassInspector$Round" (201 : Nat) ({ cls := "BrassInspector$Round$Trader", name := "drifts", desc := "()V" } : Jvm.MethodName)) ∈ lw_all := lw_g (lw_at lw_m6 126 rfl) rfl
theorem q1397 : (Jvm.Cond.instanceMethod ({ cls := "BrassInspector$Round$Trader", name := "drifts", desc := "()V" } : Jvm.MethodName)) ∈ lw_all := lw_g (lw_at lw_m6 127 rfl) rfl
theorem q1398 : (Jvm.Cond.selects "BrassInspector$Round$Trader" ({ cls := "BrassInspector$Round$Trader", name := "drifts", desc := "()V" } : Jvm.MethodName) ({ cls := "BrassInspector$Round$Trader", name := "drifts", desc := "()V" } : Jvm.MethodName)) ∈ lw_all := lw_g (lw_at lw_m6 128 rfl) rfl
theorem q1399 : (Jvm.Cond.code ({ cls := "BrassInspector$Round$Trader", name := "drifts", desc := "()V" } : Jvm.MethodName) prog_17_method_28_code (1 : Nat) (Option.none : Option Jvm.ClassFile.FieldType)) ∈ lw_all := lw_g (lw_at lw_m6 129 rfl) rfl
theorem q1400 : (Jvm.Cond.methodLink "BrassInspector$Round$Trader" (101 : Nat) ({ cls := "java/lang/Math", name := "max", desc := "(II)I" } : Jvm.MethodName)) ∈ lw_all := lw_g (lw_at lw_m6 130 rfl) rfl
theorem q1401 : (Jvm.Cond.methodLink "BrassInspector$Round" (204 : Nat) ({ cls := "BrassInspector$Round$Trader", name := "sealAges", desc := "()V" } : Jvm.MethodName)) ∈ lw_all := lw_g (lw_at lw_m6 131 rfl) rfl
theorem q1402 : (Jvm.Cond.instanceMethod ({ cls := "BrassInspector$Round$Trader", name := "sealAges", desc := "()V" } : Jvm.MethodName)) ∈ lw_all := lw_g (lw_at lw_m6 132 rfl) rfl
theorem q1403 : (Jvm.Cond.selects "BrassInspector$Round$Trader" ({ cls := "BrassInspector$Round$Trader", name := "sealAges", desc := "()V" } : Jvm.MethodName) ({ cls := "BrassInspector$Round$Trader", name := "sealAges", desc := "()V" } : Jvm.MethodName)) ∈ lw_all := lw_g (lw_at lw_m6 133 rfl) rfl
theorem q1404 : (Jvm.Cond.code ({ cls := "BrassInspector$Round$Trader", name := "sealAges", desc := "()V" } : Jvm.MethodName) prog_17_method_29_code (1 : Nat) (Option.none : Option Jvm.ClassFile.FieldType)) ∈ lw_all := lw_g (lw_at lw_m6 134 rfl) rfl
theorem q1405 : (Jvm.Cond.methodLink "BrassInspector$Round$Trader" (104 : Nat) ({ cls := "BrassInspector$Round$Trader", name := "isSealed", desc := "()Z" } : Jvm.MethodName)) ∈ lw_all := lw_g (lw_at lw_m6 135 rfl) rfl
theorem q1406 : (Jvm.Cond.instanceMethod ({ cls := "BrassInspector$Round$Trader", name := "isSealed", desc := "()Z" } : Jvm.MethodName)) ∈ lw_all := lw_g (lw_at lw_m6 136 rfl) rfl
theorem q1407 : (Jvm.Cond.selects "BrassInspector$Round$Trader" ({ cls := "BrassInspector$Round$Trader", name := "isSealed", desc := "()Z" } : Jvm.MethodName) ({ cls := "BrassInspector$Round$Trader", name := "isSealed", desc := "()Z" } : Jvm.MethodName)) ∈ lw_all := lw_g (lw_at lw_m6 137 rfl) rfl
theorem q1408 : (Jvm.Cond.code ({ cls := "BrassInspector$Round$Trader", name := "isSealed", desc := "()Z" } : Jvm.MethodName) prog_17_method_11_code (1 : Nat) (Option.some Jvm.ClassFile.FieldType.boolean)) ∈ lw_all := lw_g (lw_at lw_m6 138 rfl) rfl
theorem q1409 : (Jvm.Cond.methodLink "BrassInspector$Order" (47 : Nat) ({ cls := "BrassInspector$Round", name := "traders", desc := "()Ljava/util/List;" } : Jvm.MethodName)) ∈ lw_all := lw_g (lw_at lw_m6 139 rfl) rfl
theorem q1410 : (Jvm.Cond.instanceMethod ({ cls := "BrassInspector$Round", name := "traders", desc := "()Ljava/util/List;" } : Jvm.MethodName)) ∈ lw_all := lw_g (lw_at lw_m6 140 rfl) rfl
theorem q1411 : (Jvm.Cond.selects "BrassInspector$Round" ({ cls := "BrassInspector$Round", name := "traders", desc := "()Ljava/util/List;" } : Jvm.MethodName) ({ cls := "BrassInspector$Round", name := "traders", desc := "()Ljava/util/List;" } : Jvm.MethodName)) ∈ lw_all := lw_g (lw_at lw_m6 141 rfl) rfl
theorem q1412 : (Jvm.Cond.code ({ cls := "BrassInspector$Round", name := "traders", desc := "()Ljava/util/List;" } : Jvm.MethodName) prog_13_method_3_code (1 : Nat) (Option.some (Jvm.ClassFile.FieldType.object "java/util/List"))) ∈ lw_all := lw_g (lw_at lw_m6 142 rfl) rfl
theorem q1413 : (Jvm.Cond.interfaceEntry "BrassInspector$Order" (51 : Nat)) ∈ lw_tbl := lw_at lw_m6 143 rfl
theorem q1414 : (Jvm.Cond.methodLink "BrassInspector$Order" (51 : Nat) ({ cls := "java/util/List", name := "size", desc := "()I" } : Jvm.MethodName)) ∈ lw_all := lw_g (lw_at lw_m6 144 rfl) rfl
theorem q1415 : (Jvm.Cond.methodLink "BrassInspector$Order" (57 : Nat) ({ cls := "java/lang/String", name := "hashCode", desc := "()I" } : Jvm.MethodName)) ∈ lw_all := lw_g (lw_at lw_m6 145 rfl) rfl
theorem q1416 : (Jvm.Cond.instanceMethod ({ cls := "java/lang/String", name := "hashCode", desc := "()I" } : Jvm.MethodName)) ∈ lw_all := lw_g (lw_at lw_m6 146 rfl) rfl
theorem q1417 : (Jvm.Cond.selects "java/lang/String" ({ cls := "java/lang/String", name := "hashCode", desc := "()I" } : Jvm.MethodName) ({ cls := "java/lang/String", name := "hashCode", desc := "()I" } : Jvm.MethodName)) ∈ lw_all := lw_g (lw_at lw_m6 147 rfl) rfl
theorem q1418 : (Jvm.Cond.code ({ cls := "java/lang/String", name := "hashCode", desc := "()I" } : Jvm.MethodName) prog_39_method_78_code (2 : Nat) (Option.some Jvm.ClassFile.FieldType.int)) ∈ lw_all := lw_g (lw_at lw_m6 148 rfl) rfl
theorem q1419 : (Jvm.Cond.methodLink "java/lang/String" (492 : Nat) ({ cls := "java/lang/String", name := "isLatin1", desc := "()Z" } : Jvm.MethodName)) ∈ lw_all := lw_g (lw_at lw_m6 149 rfl) rfl
theorem q1420 : (Jvm.Cond.instanceMethod ({ cls := "java/lang/String", name := "isLatin1", desc := "()Z" } : Jvm.MethodName)) ∈ lw_all := lw_g (lw_at lw_m6 150 rfl) rfl
theorem q1421 : (Jvm.Cond.selects "java/lang/String" ({ cls := "java/lang/String", name := "isLatin1", desc := "()Z" } : Jvm.MethodName) ({ cls := "java/lang/String", name := "isLatin1", desc := "()Z" } : Jvm.MethodName)) ∈ lw_all := lw_g (lw_at lw_m6 151 rfl) rfl
theorem q1422 : (Jvm.Cond.code ({ cls := "java/lang/String", name := "isLatin1", desc := "()Z" } : Jvm.MethodName) prog_39_method_154_code (1 : Nat) (Option.some Jvm.ClassFile.FieldType.boolean)) ∈ lw_all := lw_g (lw_at lw_m6 152 rfl) rfl
theorem q1423 : (Jvm.Cond.methodLink "java/lang/String" (628 : Nat) ({ cls := "java/lang/StringLatin1", name := "hashCode", desc := "([B)I" } : Jvm.MethodName)) ∈ lw_all := lw_g (lw_at lw_m6 153 rfl) rfl
theorem q1424 : (Jvm.Cond.static ({ cls := "java/lang/StringLatin1", name := "hashCode", desc := "([B)I" } : Jvm.MethodName)) ∈ lw_all := lw_g (lw_at lw_m6 154 rfl) rfl
theorem q1425 : (Jvm.Cond.code ({ cls := "java/lang/StringLatin1", name := "hashCode", desc := "([B)I" } : Jvm.MethodName) prog_42_method_21_code (1 : Nat) (Option.some Jvm.ClassFile.FieldType.int)) ∈ lw_all := lw_g (lw_at lw_m6 155 rfl) rfl
theorem q1426 : (Jvm.Cond.methodLink "java/lang/StringLatin1" (84 : Nat) ({ cls := "jdk/internal/util/ArraysSupport", name := "vectorizedHashCode", desc := "(Ljava/lang/Object;IIII)I" } : Jvm.MethodName)) ∈ lw_all := lw_g (lw_at lw_m6 156 rfl) rfl
theorem q1427 : (Jvm.Cond.static ({ cls := "jdk/internal/util/ArraysSupport", name := "vectorizedHashCode", desc := "(Ljava/lang/Object;IIII)I" } : Jvm.MethodName)) ∈ lw_all := lw_g (lw_at lw_m6 157 rfl) rfl
theorem q1428 : (Jvm.Cond.code ({ cls := "jdk/internal/util/ArraysSupport", name := "vectorizedHashCode", desc := "(Ljava/lang/Object;IIII)I" } : Jvm.MethodName) prog_73_method_4_code (5 : Nat) (Option.some Jvm.ClassFile.FieldType.int)) ∈ lw_all := lw_g (lw_at lw_m6 158 rfl) rfl
theorem q1429 : (Jvm.Cond.classLink "jdk/internal/util/ArraysSupport" (60 : Nat) "[B") ∈ lw_all := lw_g (lw_at lw_m6 159 rfl) rfl
theorem q1430 : (Jvm.Cond.methodLink "jdk/internal/util/ArraysSupport" (62 : Nat) ({ cls := "jdk/internal/util/ArraysSupport", name := "signedHashCode", desc := "(I[BII)I" } : Jvm.MethodName)) ∈ lw_all := lw_g (lw_at lw_m6 160 rfl) rfl
theorem q1431 : (Jvm.Cond.static ({ cls := "jdk/internal/util/ArraysSupport", name := "signedHashCode", desc := "(I[BII)I" } : Jvm.MethodName)) ∈ lw_all := lw_g (lw_at lw_m6 161 rfl) rfl
theorem q1432 : (Jvm.Cond.code ({ cls := "jdk/internal/util/ArraysSupport", name := "signedHashCode", desc := "(I[BII)I" } : Jvm.MethodName) prog_73_method_5_code (6 : Nat) (Option.some Jvm.ClassFile.FieldType.int)) ∈ lw_all := lw_g (lw_at lw_m6 162 rfl) rfl
theorem q1433 : (Jvm.Cond.methodLink "jdk/internal/util/ArraysSupport" (66 : Nat) ({ cls := "jdk/internal/util/ArraysSupport", name := "utf16hashCode", desc := "(I[BII)I" } : Jvm.MethodName)) ∈ lw_all := lw_g (lw_at lw_m6 163 rfl) rfl
theorem q1434 : (Jvm.Cond.static ({ cls := "jdk/internal/util/ArraysSupport", name := "utf16hashCode", desc := "(I[BII)I" } : Jvm.MethodName)) ∈ lw_all := lw_g (lw_at lw_m6 164 rfl) rfl
theorem q1435 : (Jvm.Cond.code ({ cls := "jdk/internal/util/ArraysSupport", name := "utf16hashCode", desc := "(I[BII)I" } : Jvm.MethodName) prog_73_method_10_code (6 : Nat) (Option.some Jvm.ClassFile.FieldType.int)) ∈ lw_all := lw_g (lw_at lw_m6 165 rfl) rfl
theorem q1436 : (Jvm.Cond.fieldLink "jdk/internal/util/ArraysSupport" (106 : Nat) "jdk/internal/util/ArraysSupport" "JLA" "Ljdk/internal/access/JavaLangAccess;") ∈ lw_all := lw_g (lw_at lw_m6 166 rfl) rfl
theorem q1437 : (Jvm.Cond.laysStatic "jdk/internal/util/ArraysSupport" "JLA" "Ljdk/internal/access/JavaLangAccess;") ∈ lw_tbl := lw_at lw_m6 167 rfl
theorem q1438 : (Jvm.Cond.interfaceEntry "jdk/internal/util/ArraysSupport" (110 : Nat)) ∈ lw_tbl := lw_at lw_m6 168 rfl
theorem q1439 : (Jvm.Cond.methodLink "jdk/internal/util/ArraysSupport" (110 : Nat) ({ cls := "jdk/internal/access/JavaLangAccess", name := "getUTF16Char", desc := "([BI)C" } : Jvm.MethodName)) ∈ lw_all := lw_g (lw_at lw_m6 169 rfl) rfl
theorem q1440 : (Jvm.Cond.interfaceMethod "jdk/internal/access/JavaLangAccess" "jdk/internal/access/JavaLangAccess" "getUTF16Char" "([BI)C") ∈ lw_tbl := lw_at lw_m6 170 rfl
theorem q1441 : (Jvm.Cond.declares ({ cls := "jdk/internal/access/JavaLangAccess", name := "getUTF16Char", desc := "([BI)C" } : Jvm.MethodName)) ∈ lw_tbl := lw_at lw_m6 171 rfl
theorem q1442 : (Jvm.Cond.castable "java/lang/System$2" "jdk/internal/access/JavaLangAccess") ∈ lw_tbl := lw_at lw_m6 172 rfl
theorem q1443 : (Jvm.Cond.selects "java/lang/System$2" ({ cls := "jdk/internal/access/JavaLangAccess", name := "getUTF16Char", desc := "([BI)C" } : Jvm.MethodName) ({ cls := "java/lang/System$2", name := "getUTF16Char", desc := "([BI)C" } : Jvm.MethodName)) ∈ lw_all := lw_g (lw_at lw_m6 173 rfl) rfl
theorem q1444 : (Jvm.Cond.unhidden "java/lang/System$2" "getUTF16Char" "([BI)C") ∈ lw_tbl := lw_at lw_m6 174 rfl
theorem q1445 : (Jvm.Cond.instanceMethod ({ cls := "java/lang/System$2", name := "getUTF16Char", desc := "([BI)C" } : Jvm.MethodName)) ∈ lw_all := lw_g (lw_at lw_m6 175 rfl) rfl
theorem q1446 : (Jvm.Cond.publicMethod ({ cls := "java/lang/System$2", name := "getUTF16Char", desc := "([BI)C" } : Jvm.MethodName)) ∈ lw_tbl := lw_at lw_m6 176 rfl
theorem q1447 : (Jvm.Cond.code ({ cls := "java/lang/System$2", name := "getUTF16Char", desc := "([BI)C" } : Jvm.MethodName) prog_45_method_45_code (3 : Nat) (Option.some Jvm.ClassFile.FieldType.char)) ∈ lw_all := lw_g (lw_at lw_m6 177 rfl) rfl
theorem q1448 : (Jvm.Cond.methodLink "java/lang/System$2" (185 : Nat) ({ cls := "java/lang/StringUTF16", name := "getChar", desc := "([BI)C" } : Jvm.MethodName)) ∈ lw_all := lw_g (lw_at lw_m6 178 rfl) rfl
theorem q1449 : (Jvm.Cond.classLink "jdk/internal/util/ArraysSupport" (69 : Nat) "[C") ∈ lw_all := lw_g (lw_at lw_m6 179 rfl) rfl
theorem q1450 : (Jvm.Cond.methodLink "jdk/internal/util/ArraysSupport" (71 : Nat) ({ cls := "jdk/internal/util/ArraysSupport", name := "hashCode", desc := "(I[CII)I" } : Jvm.MethodName)) ∈ lw_all := lw_g (lw_at lw_m6 180 rfl) rfl
theorem q1451 : (Jvm.Cond.static ({ cls := "jdk/internal/util/ArraysSupport", name := "hashCode", desc := "(I[CII)I" } : Jvm.MethodName)) ∈ lw_all := lw_g (lw_at lw_m6 181 rfl) rfl
theorem q1452 : (Jvm.Cond.code ({ cls := "jdk/internal/util/ArraysSupport", name := "hashCode", desc := "(I[CII)I" } : Jvm.MethodName) prog_73_method_7_code (6 : Nat) (Option.some Jvm.ClassFile.FieldType.int)) ∈ lw_all := lw_g (lw_at lw_m6 182 rfl) rfl
theorem q1453 : (Jvm.Cond.methodLink "jdk/internal/util/ArraysSupport" (75 : Nat) ({ cls := "jdk/internal/util/ArraysSupport", name := "hashCode", desc := "(I[BII)I" } : Jvm.MethodName)) ∈ lw_all := lw_g (lw_at lw_m6 183 rfl) rfl
theorem q1454 : (Jvm.Cond.static ({ cls := "jdk/internal/util/ArraysSupport", name := "hashCode", desc := "(I[BII)I" } : Jvm.MethodName)) ∈ lw_all := lw_g (lw_at lw_m6 184 rfl) rfl
theorem q1455 : (Jvm.Cond.code ({ cls := "jdk/internal/util/ArraysSupport", name := "hashCode", desc := "(I[BII)I" } : Jvm.MethodName) prog_73_method_6_code (6 : Nat) (Option.some Jvm.ClassFile.FieldType.int)) ∈ lw_all := lw_g (lw_at lw_m6 185 rfl) rfl
theorem q1456 : (Jvm.Cond.classLink "jdk/internal/util/ArraysSupport" (77 : Nat) "[S") ∈ lw_all := lw_g (lw_at lw_m6 186 rfl) rfl
theorem q1457 : (Jvm.Cond.methodLink "jdk/internal/util/ArraysSupport" (79 : Nat) ({ cls := "jdk/internal/util/ArraysSupport", name := "hashCode", desc := "(I[SII)I" } : Jvm.MethodName)) ∈ lw_all := lw_g (lw_at lw_m6 187 rfl) rfl
theorem q1458 : (Jvm.Cond.static ({ cls := "jdk/internal/util/ArraysSupport", name := "hashCode", desc := "(I[SII)I" } : Jvm.MethodName)) ∈ lw_all := lw_g (lw_at lw_m6 188 rfl) rfl
theorem q1459 : (Jvm.Cond.code ({ cls := "jdk/internal/util/ArraysSupport", name := "hashCode", desc := "(I[SII)I" } : Jvm.MethodName) prog_73_method_8_code (6 : Nat) (Option.some Jvm.ClassFile.FieldType.int)) ∈ lw_all := lw_g (lw_at lw_m6 189 rfl) rfl
theorem q1460 : (Jvm.Cond.classLink "jdk/internal/util/ArraysSupport" (82 : Nat) "[I") ∈ lw_all := lw_g (lw_at lw_m6 190 rfl) rfl
theorem q1461 : (Jvm.Cond.methodLink "jdk/internal/util/ArraysSupport" (84 : Nat) ({ cls := "jdk/internal/util/ArraysSupport", name := "hashCode", desc := "(I[III)I" } : Jvm.MethodName)) ∈ lw_all := lw_g (lw_at lw_m6 191 rfl) rfl
theorem q1462 : (Jvm.Cond.static ({ cls := "jdk/internal/util/ArraysSupport", name := "hashCode", desc := "(I[III)I" } : Jvm.MethodName)) ∈ lw_all := lw_g (lw_at lw_m6 192 rfl) rfl
theorem q1463 : (Jvm.Cond.code ({ cls := "jdk/internal/util/ArraysSupport", name := "hashCode", desc := "(I[III)I" } : Jvm.MethodName) prog_73_method_9_code (6 : Nat) (Option.some Jvm.ClassFile.FieldType.int)) ∈ lw_all := lw_g (lw_at lw_m6 193 rfl) rfl
theorem q1464 : (Jvm.Cond.classLink "jdk/internal/util/ArraysSupport" (87 : Nat) "java/lang/IllegalArgumentException") ∈ lw_all := lw_g (lw_at lw_m6 194 rfl) rfl
theorem q1465 : (Jvm.Cond.classLink "jdk/internal/util/ArraysSupport" (89 : Nat) "java/lang/StringBuilder") ∈ lw_all := lw_g (lw_at lw_m6 195 rfl) rfl
theorem q1466 : (Jvm.Cond.methodLink "jdk/internal/util/ArraysSupport" (91 : Nat) ({ cls := "java/lang/StringBuilder", name := "<init>", desc := "()V" } : Jvm.MethodName)) ∈ lw_all := lw_g (lw_at lw_m6 196 rfl) rfl
theorem q1467 : (Jvm.Cond.stringRef "jdk/internal/util/ArraysSupport" (92 : Nat) "unrecognized basic type: ") ∈ lw_tbl := lw_at lw_m6 197 rfl
theorem q1468 : (Jvm.Cond.methodLink "jdk/internal/util/ArraysSupport" (94 : Nat) ({ cls := "java/lang/StringBuilder", name := "append", desc := "(Ljava/lang/String;)Ljava/lang/StringBuilder;" } : Jvm.MethodName)) ∈ lw_all := lw_g (lw_at lw_m6 198 rfl) rfl
theorem q1469 : (Jvm.Cond.methodLink "jdk/internal/util/ArraysSupport" (98 : Nat) ({ cls := "java/lang/StringBuilder", name := "append", desc := "(I)Ljava/lang/StringBuilder;" } : Jvm.MethodName)) ∈ lw_all := lw_g (lw_at lw_m6 199 rfl) rfl
theorem q1470 : (Jvm.Cond.methodLink "jdk/internal/util/ArraysSupport" (101 : Nat) ({ cls := "java/lang/StringBuilder", name := "toString", desc := "()Ljava/lang/String;" } : Jvm.MethodName)) ∈ lw_all := lw_g (lw_at lw_m6 200 rfl) rfl
theorem q1471 : (Jvm.Cond.methodLink "jdk/internal/util/ArraysSupport" (105 : Nat) ({ cls := "java/lang/IllegalArgumentException", name := "<init>", desc := "(Ljava/lang/String;)V" } : Jvm.MethodName)) ∈ lw_all := lw_g (lw_at lw_m6 201 rfl) rfl
theorem q1472 : (Jvm.Cond.methodLink "java/lang/String" (632 : Nat) ({ cls := "java/lang/StringUTF16", name := "hashCode", desc := "([B)I" } : Jvm.MethodName)) ∈ lw_all := lw_g (lw_at lw_m6 202 rfl) rfl
theorem q1473 : (Jvm.Cond.static ({ cls := "java/lang/StringUTF16", name := "hashCode", desc := "([B)I" } : Jvm.MethodName)) ∈ lw_all := lw_g (lw_at lw_m6 203 rfl) rfl
theorem q1474 : (Jvm.Cond.code ({ cls := "java/lang/StringUTF16", name := "hashCode", desc := "([B)I" } : Jvm.MethodName) prog_43_method_39_code (1 : Nat) (Option.some Jvm.ClassFile.FieldType.int)) ∈ lw_all := lw_g (lw_at lw_m6 204 rfl) rfl
theorem q1475 : (Jvm.Cond.methodLink "java/lang/StringUTF16" (220 : Nat) ({ cls := "jdk/internal/util/ArraysSupport", name := "vectorizedHashCode", desc := "(Ljava/lang/Object;IIII)I" } : Jvm.MethodName)) ∈ lw_all := lw_g (lw_at lw_m6 205 rfl) rfl
theorem q1476 : (Jvm.Cond.stringRef "BrassInspector$Order" (60 : Nat) "look") ∈ lw_tbl := lw_at lw_m6 206 rfl
theorem q1477 : (Jvm.Cond.stringRef "BrassInspector$Order" (62 : Nat) "mend") ∈ lw_tbl := lw_at lw_m6 207 rfl
theorem q1478 : (Jvm.Cond.stringRef "BrassInspector$Order" (64 : Nat) "shave") ∈ lw_tbl := lw_at lw_m6 208 rfl
theorem q1479 : (Jvm.Cond.stringRef "BrassInspector$Order" (66 : Nat) "drift") ∈ lw_tbl := lw_at lw_m6 209 rfl
theorem q1480 : (Jvm.Cond.methodLink "BrassInspector$Order" (68 : Nat) ({ cls := "BrassInspector$Round", name := "weights", desc := "()Ljava/util/List;" } : Jvm.MethodName)) ∈ lw_all := lw_g (lw_at lw_m6 210 rfl) rfl
theorem q1481 : (Jvm.Cond.instanceMethod ({ cls := "BrassInspector$Round", name := "weights", desc := "()Ljava/util/List;" } : Jvm.MethodName)) ∈ lw_all := lw_g (lw_at lw_m6 211 rfl) rfl
theorem q1482 : (Jvm.Cond.selects "BrassInspector$Round" ({ cls := "BrassInspector$Round", name := "weights", desc := "()Ljava/util/List;" } : Jvm.MethodName) ({ cls := "BrassInspector$Round", name := "weights", desc := "()Ljava/util/List;" } : Jvm.MethodName)) ∈ lw_all := lw_g (lw_at lw_m6 212 rfl) rfl
theorem q1483 : (Jvm.Cond.code ({ cls := "BrassInspector$Round", name := "weights", desc := "()Ljava/util/List;" } : Jvm.MethodName) prog_13_method_6_code (1 : Nat) (Option.some (Jvm.ClassFile.FieldType.object "java/util/List"))) ∈ lw_all := lw_g (lw_at lw_m6 213 rfl) rfl
theorem q1484 : (Jvm.Cond.methodLink "BrassInspector$Order" (71 : Nat) ({ cls := "BrassInspector$Round", name := "inspect", desc := "(II)I" } : Jvm.MethodName)) ∈ lw_all := lw_g (lw_at lw_m6 214 rfl) rfl
theorem q1485 : (Jvm.Cond.instanceMethod ({ cls := "BrassInspector$Round", name := "inspect", desc := "(II)I" } : Jvm.MethodName)) ∈ lw_all := lw_g (lw_at lw_m6 215 rfl) rfl
theorem q1486 : (Jvm.Cond.selects "BrassInspector$Round" ({ cls := "BrassInspector$Round", name := "inspect", desc := "(II)I" } : Jvm.MethodName) ({ cls := "BrassInspector$Round", name := "inspect", desc := "(II)I" } : Jvm.MethodName)) ∈ lw_all := lw_g (lw_at lw_m6 216 rfl) rfl
theorem q1487 : (Jvm.Cond.codeWith ({ cls := "BrassInspector$Round", name := "inspect", desc := "(II)I" } : Jvm.MethodName) prog_13_method_21_code (6 : Nat) (Option.some Jvm.ClassFile.FieldType.int) [((13 : Nat), (42 : Nat), (45 : Nat), (155 : Nat))]) ∈ lw_all := lw_g (lw_at lw_m6 217 rfl) rfl
theorem q1488 : (Jvm.Cond.classLink "BrassInspector$Round" (155 : Nat) "BrassInspector$Refusal") ∈ lw_all := lw_g (lw_at lw_m6 218 rfl) rfl
theorem q1489 : (Jvm.Cond.methodLink "BrassInspector$Round" (146 : Nat) ({ cls := "BrassInspector$Round", name := "trader", desc := "(I)LBrassInspector$Round$Trader;" } : Jvm.MethodName)) ∈ lw_all := lw_g (lw_at lw_m6 219 rfl) rfl
theorem q1490 : (Jvm.Cond.methodLink "BrassInspector$Round" (149 : Nat) ({ cls := "BrassInspector$Round$Trader", name := "isHere", desc := "()Z" } : Jvm.MethodName)) ∈ lw_all := lw_g (lw_at lw_m6 220 rfl) rfl
theorem q1491 : (Jvm.Cond.instanceMethod ({ cls := "BrassInspector$Round$Trader", name := "isHere", desc := "()Z" } : Jvm.MethodName)) ∈ lw_all := lw_g (lw_at lw_m6 221 rfl) rfl
theorem q1492 : (Jvm.Cond.selects "BrassInspector$Round$Trader" ({ cls := "BrassInspector$Round$Trader", name := "isHere", desc := "()Z" } : Jvm.MethodName) ({ cls := "BrassInspector$Round$Trader", name := "isHere", desc := "()Z" } : Jvm.MethodName)) ∈ lw_all := lw_g (lw_at lw_m6 222 rfl) rfl
theorem q1493 : (Jvm.Cond.code ({ cls := "BrassInspector$Round$Trader", name := "isHere", desc := "()Z" } : Jvm.MethodName) prog_17_method_16_code (1 : Nat) (Option.some Jvm.ClassFile.FieldType.boolean)) ∈ lw_all := lw_g (lw_at lw_m6 223 rfl) rfl
theorem q1494 : (Jvm.Cond.methodLink "BrassInspector$Round$Trader" (54 : Nat) ({ cls := "BrassInspector$Round", name := "fairNow", desc := "()I" } : Jvm.MethodName)) ∈ lw_all := lw_g (lw_at lw_m6 224 rfl) rfl
theorem q1495 : (Jvm.Cond.methodLink "BrassInspector$Round" (152 : Nat) ({ cls := "BrassInspector$Round$Trader", name := "fair", desc := "()I" } : Jvm.MethodName)) ∈ lw_all := lw_g (lw_at lw_m6 225 rfl) rfl
theorem q1496 : (Jvm.Cond.methodLink "BrassInspector$Round" (136 : Nat) ({ cls := "BrassInspector$Round$Trader", name := "isInspectedNow", desc := "()Z" } : Jvm.MethodName)) ∈ lw_all := lw_g (lw_at lw_m6 226 rfl) rfl
theorem q1497 : (Jvm.Cond.instanceMethod ({ cls := "BrassInspector$Round$Trader", name := "isInspectedNow", desc := "()Z" } : Jvm.MethodName)) ∈ lw_all := lw_g (lw_at lw_m6 227 rfl) rfl
theorem q1498 : (Jvm.Cond.selects "BrassInspector$Round$Trader" ({ cls := "BrassInspector$Round$Trader", name := "isInspectedNow", desc := "()Z" } : Jvm.MethodName) ({ cls := "BrassInspector$Round$Trader", name := "isInspectedNow", desc := "()Z" } : Jvm.MethodName)) ∈ lw_all := lw_g (lw_at lw_m6 228 rfl) rfl
theorem q1499 : (Jvm.Cond.code ({ cls := "BrassInspector$Round$Trader", name := "isInspectedNow", desc := "()Z" } : Jvm.MethodName) prog_17_method_15_code (1 : Nat) (Option.some Jvm.ClassFile.FieldType.boolean)) ∈ lw_all := lw_g (lw_at lw_m6 229 rfl) rfl
theorem q1500 : (Jvm.Cond.methodLink "BrassInspector$Round" (157 : Nat) ({ cls := "BrassInspector$Refusal", name := "<init>", desc := "(IILBrassInspector$Refusal;)V" } : Jvm.MethodName)) ∈ lw_all := lw_g (lw_at lw_m6 230 rfl) rfl
theorem q1501 : (Jvm.Cond.instanceMethod ({ cls := "BrassInspector$Refusal", name := "<init>", desc := "(IILBrassInspector$Refusal;)V" } : Jvm.MethodName)) ∈ lw_all := lw_g (lw_at lw_m6 231 rfl) rfl
theorem q1502 : (Jvm.Cond.code ({ cls := "BrassInspector$Refusal", name := "<init>", desc := "(IILBrassInspector$Refusal;)V" } : Jvm.MethodName) prog_12_method_2_code (4 : Nat) (Option.none : Option Jvm.ClassFile.FieldType)) ∈ lw_all := lw_g (lw_at lw_m6 232 rfl) rfl
theorem q1503 : (Jvm.Cond.methodLink "BrassInspector$Refusal" (16 : Nat) ({ cls := "java/lang/Exception", name := "<init>", desc := "(Ljava/lang/String;Ljava/lang/Throwable;)V" } : Jvm.MethodName)) ∈ lw_all := lw_g (lw_at lw_m6 233 rfl) rfl
theorem q1504 : (Jvm.Cond.instanceMethod ({ cls := "java/lang/Exception", name := "<init>", desc := "(Ljava/lang/String;Ljava/lang/Throwable;)V" } : Jvm.MethodName)) ∈ lw_all := lw_g (lw_at lw_m6 234 rfl) rfl
theorem q1505 : (Jvm.Cond.code ({ cls := "java/lang/Exception", name := "<init>", desc := "(Ljava/lang/String;Ljava/lang/Throwable;)V" } : Jvm.MethodName) prog_30_method_3_code (3 : Nat) (Option.none : Option Jvm.ClassFile.FieldType)) ∈ lw_all := lw_g (lw_at lw_m6 235 rfl) rfl
theorem q1506 : (Jvm.Cond.methodLink "java/lang/Exception" (10 : Nat) ({ cls := "java/lang/Throwable", name := "<init>", desc := "(Ljava/lang/String;Ljava/lang/Throwable;)V" } : Jvm.MethodName)) ∈ lw_all := lw_g (lw_at lw_m6 236 rfl) rfl
theorem q1507 : (Jvm.Cond.instanceMethod ({ cls := "java/lang/Throwable", name := "<init>", desc := "(Ljava/lang/String;Ljava/lang/Throwable;)V" } : Jvm.MethodName)) ∈ lw_all := lw_g (lw_at lw_m6 237 rfl) rfl
theorem q1508 : (Jvm.Cond.code ({ cls := "java/lang/Throwable", name := "<init>", desc := "(Ljava/lang/String;Ljava/lang/Throwable;)V" } : Jvm.MethodName) prog_46_method_3_code (3 : Nat) (Option.none : Option Jvm.ClassFile.FieldType)) ∈ lw_all := lw_g (lw_at lw_m6 238 rfl) rfl
theorem q1509 : (Jvm.Cond.methodLink "BrassInspector$Round" (160 : Nat) ({ cls := "BrassInspector$Round$Trader", name := "looksAt", desc := "(LBrassInspector$Brass;)I" } : Jvm.MethodName)) ∈ lw_all := lw_g (lw_at lw_m6 239 rfl) rfl
theorem q1510 : (Jvm.Cond.instanceMethod ({ cls := "BrassInspector$Round$Trader", name := "looksAt", desc := "(LBrassInspector$Brass;)I" } : Jvm.MethodName)) ∈ lw_all := lw_g (lw_at lw_m7 0 rfl) rfl
theorem q1511 : (Jvm.Cond.selects "BrassInspector$Round$Trader" ({ cls := "BrassInspector$Round$Trader", name := "looksAt", desc := "(LBrassInspector$Brass;)I" } : Jvm.MethodName) ({ cls := "BrassInspector$Round$Trader", name := "looksAt", desc := "(LBrassInspector$Brass;)I" } : Jvm.MethodName)) ∈ lw_all := lw_g (lw_at lw_m7 1 rfl) rfl
theorem q1512 : (Jvm.Cond.code ({ cls := "BrassInspector$Round$Trader", name := "looksAt", desc := "(LBrassInspector$Brass;)I" } : Jvm.MethodName) prog_17_method_21_code (4 : Nat) (Option.some Jvm.ClassFile.FieldType.int)) ∈ lw_all := lw_g (lw_at lw_m7 2 rfl) rfl
theorem q1513 : (Jvm.Cond.methodLink "BrassInspector$Round$Trader" (81 : Nat) ({ cls := "BrassInspector$Round$Trader", name := "fineFor", desc := "(LBrassInspector$Brass;)I" } : Jvm.MethodName)) ∈ lw_all := lw_g (lw_at lw_m7 3 rfl) rfl
theorem q1514 : (Jvm.Cond.instanceMethod ({ cls := "BrassInspector$Round$Trader", name := "fineFor", desc := "(LBrassInspector$Brass;)I" } : Jvm.MethodName)) ∈ lw_all := lw_g (lw_at lw_m7 4 rfl) rfl
theorem q1515 : (Jvm.Cond.selects "BrassInspector$Round$Trader" ({ cls := "BrassInspector$Round$Trader", name := "fineFor", desc := "(LBrassInspector$Brass;)I" } : Jvm.MethodName) ({ cls := "BrassInspector$Round$Trader", name := "fineFor", desc := "(LBrassInspector$Brass;)I" } : Jvm.MethodName)) ∈ lw_all := lw_g (lw_at lw_m7 5 rfl) rfl
theorem q1516 : (Jvm.Cond.code ({ cls := "BrassInspector$Round$Trader", name := "fineFor", desc := "(LBrassInspector$Brass;)I" } : Jvm.MethodName) prog_17_method_20_code (5 : Nat) (Option.some Jvm.ClassFile.FieldType.int)) ∈ lw_all := lw_g (lw_at lw_m7 6 rfl) rfl
theorem q1517 : (Jvm.Cond.methodLink "BrassInspector$Round$Trader" (69 : Nat) ({ cls := "BrassInspector$Round$Trader", name := "shows", desc := "(LBrassInspector$Brass;)I" } : Jvm.MethodName)) ∈ lw_all := lw_g (lw_at lw_m7 7 rfl) rfl
theorem q1518 : (Jvm.Cond.instanceMethod ({ cls := "BrassInspector$Round$Trader", name := "shows", desc := "(LBrassInspector$Brass;)I" } : Jvm.MethodName)) ∈ lw_all := lw_g (lw_at lw_m7 8 rfl) rfl
theorem q1519 : (Jvm.Cond.selects "BrassInspector$Round$Trader" ({ cls := "BrassInspector$Round$Trader", name := "shows", desc := "(LBrassInspector$Brass;)I" } : Jvm.MethodName) ({ cls := "BrassInspector$Round$Trader", name := "shows", desc := "(LBrassInspector$Brass;)I" } : Jvm.MethodName)) ∈ lw_all := lw_g (lw_at lw_m7 9 rfl) rfl
theorem q1520 : (Jvm.Cond.code ({ cls := "BrassInspector$Round$Trader", name := "shows", desc := "(LBrassInspector$Brass;)I" } : Jvm.MethodName) prog_17_method_19_code (2 : Nat) (Option.some Jvm.ClassFile.FieldType.int)) ∈ lw_all := lw_g (lw_at lw_m7 10 rfl) rfl
theorem q1521 : (Jvm.Cond.methodLink "BrassInspector$Round$Trader" (64 : Nat) ({ cls := "BrassInspector$Brass", name := "wear", desc := "()I" } : Jvm.MethodName)) ∈ lw_all := lw_g (lw_at lw_m7 11 rfl) rfl
theorem q1522 : (Jvm.Cond.methodLinkNest "BrassInspector$Round$Trader" (84 : Nat) ({ cls := "BrassInspector", name := "isIn", desc := "(III)Z" } : Jvm.MethodName) "BrassInspector") ∈ lw_tbl := lw_at lw_m7 12 rfl
theorem q1523 : (Jvm.Cond.methodLink "BrassInspector$Round" (164 : Nat) ({ cls := "BrassInspector$Brass", name := "isUsed", desc := "()V" } : Jvm.MethodName)) ∈ lw_all := lw_g (lw_at lw_m7 13 rfl) rfl
theorem q1524 : (Jvm.Cond.instanceMethod ({ cls := "BrassInspector$Brass", name := "isUsed", desc := "()V" } : Jvm.MethodName)) ∈ lw_all := lw_g (lw_at lw_m7 14 rfl) rfl
theorem q1525 : (Jvm.Cond.selects "BrassInspector$Brass" ({ cls := "BrassInspector$Brass", name := "isUsed", desc := "()V" } : Jvm.MethodName) ({ cls := "BrassInspector$Brass", name := "isUsed", desc := "()V" } : Jvm.MethodName)) ∈ lw_all := lw_g (lw_at lw_m7 15 rfl) rfl
theorem q1526 : (Jvm.Cond.code ({ cls := "BrassInspector$Brass", name := "isUsed", desc := "()V" } : Jvm.MethodName) prog_8_method_7_code (1 : Nat) (Option.none : Option Jvm.ClassFile.FieldType)) ∈ lw_all := lw_g (lw_at lw_m7 16 rfl) rfl
theorem q1527 : (Jvm.Cond.methodLink "BrassInspector$Order" (75 : Nat) ({ cls := "BrassInspector$Round", name := "mend", desc := "(I)I" } : Jvm.MethodName)) ∈ lw_all := lw_g (lw_at lw_m7 17 rfl) rfl
theorem q1528 : (Jvm.Cond.instanceMethod ({ cls := "BrassInspector$Round", name := "mend", desc := "(I)I" } : Jvm.MethodName)) ∈ lw_all := lw_g (lw_at lw_m7 18 rfl) rfl
theorem q1529 : (Jvm.Cond.selects "BrassInspector$Round" ({ cls := "BrassInspector$Round", name := "mend", desc := "(I)I" } : Jvm.MethodName) ({ cls := "BrassInspector$Round", name := "mend", desc := "(I)I" } : Jvm.MethodName)) ∈ lw_all := lw_g (lw_at lw_m7 19 rfl) rfl
theorem q1530 : (Jvm.Cond.code ({ cls := "BrassInspector$Round", name := "mend", desc := "(I)I" } : Jvm.MethodName) prog_13_method_22_code (3 : Nat) (Option.some Jvm.ClassFile.FieldType.int)) ∈ lw_all := lw_g (lw_at lw_m7 20 rfl) rfl
theorem q1531 : (Jvm.Cond.methodLink "BrassInspector$Round" (167 : Nat) ({ cls := "BrassInspector$Round$Trader", name := "error", desc := "()I" } : Jvm.MethodName)) ∈ lw_all := lw_g (lw_at lw_m7 21 rfl) rfl
theorem q1532 : (Jvm.Cond.instanceMethod ({ cls := "BrassInspector$Round$Trader", name := "error", desc := "()I" } : Jvm.MethodName)) ∈ lw_all := lw_g (lw_at lw_m7 22 rfl) rfl
theorem q1533 : (Jvm.Cond.selects "BrassInspector$Round$Trader" ({ cls := "BrassInspector$Round$Trader", name := "error", desc := "()I" } : Jvm.MethodName) ({ cls := "BrassInspector$Round$Trader", name := "error", desc := "()I" } : Jvm.MethodName)) ∈ lw_all := lw_g (lw_at lw_m7 23 rfl) rfl
theorem q1534 : (Jvm.Cond.code ({ cls := "BrassInspector$Round$Trader", name := "error", desc := "()I" } : Jvm.MethodName) prog_17_method_7_code (1 : Nat) (Option.some Jvm.ClassFile.FieldType.int)) ∈ lw_all := lw_g (lw_at lw_m7 24 rfl) rfl
theorem q1535 : (Jvm.Cond.methodLink "BrassInspector$Round" (170 : Nat) ({ cls := "BrassInspector$Round$Trader", name := "coins", desc := "()I" } : Jvm.MethodName)) ∈ lw_all := lw_g (lw_at lw_m7 25 rfl) rfl
theorem q1536 : (Jvm.Cond.instanceMethod ({ cls := "BrassInspector$Round$Trader", name := "coins", desc := "()I" } : Jvm.MethodName)) ∈ lw_all := lw_g (lw_at lw_m7 26 rfl) rfl
theorem q1537 : (Jvm.Cond.selects "BrassInspector$Round$Trader" ({ cls := "BrassInspector$Round$Trader", name := "coins", desc := "()I" } : Jvm.MethodName) ({ cls := "BrassInspector$Round$Trader", name := "coins", desc := "()I" } : Jvm.MethodName)) ∈ lw_all := lw_g (lw_at lw_m7 27 rfl) rfl
theorem q1538 : (Jvm.Cond.code ({ cls := "BrassInspector$Round$Trader", name := "coins", desc := "()I" } : Jvm.MethodName) prog_17_method_5_code (1 : Nat) (Option.some Jvm.ClassFile.FieldType.int)) ∈ lw_all := lw_g (lw_at lw_m7 28 rfl) rfl
theorem q1539 : (Jvm.Cond.methodLink "BrassInspector$Round" (173 : Nat) ({ cls := "BrassInspector$Round$Trader", name := "mended", desc := "()I" } : Jvm.MethodName)) ∈ lw_all := lw_g (lw_at lw_m7 29 rfl) rfl
theorem q1540 : (Jvm.Cond.instanceMethod ({ cls := "BrassInspector$Round$Trader", name := "mended", desc := "()I" } : Jvm.MethodName)) ∈ lw_all := lw_g (lw_at lw_m7 30 rfl) rfl
theorem q1541 : (Jvm.Cond.selects "BrassInspector$Round$Trader" ({ cls := "BrassInspector$Round$Trader", name := "mended", desc := "()I" } : Jvm.MethodName) ({ cls := "BrassInspector$Round$Trader", name := "mended", desc := "()I" } : Jvm.MethodName)) ∈ lw_all := lw_g (lw_at lw_m7 31 rfl) rfl
theorem q1542 : (Jvm.Cond.code ({ cls := "BrassInspector$Round$Trader", name := "mended", desc := "()I" } : Jvm.MethodName) prog_17_method_22_code (2 : Nat) (Option.some Jvm.ClassFile.FieldType.int)) ∈ lw_all := lw_g (lw_at lw_m7 32 rfl) rfl
theorem q1543 : (Jvm.Cond.methodLink "BrassInspector$Order" (77 : Nat) ({ cls := "BrassInspector$Round", name := "shave", desc := "(II)I" } : Jvm.MethodName)) ∈ lw_all := lw_g (lw_at lw_m7 33 rfl) rfl
theorem q1544 : (Jvm.Cond.instanceMethod ({ cls := "BrassInspector$Round", name := "shave", desc := "(II)I" } : Jvm.MethodName)) ∈ lw_all := lw_g (lw_at lw_m7 34 rfl) rfl
theorem q1545 : (Jvm.Cond.selects "BrassInspector$Round" ({ cls := "BrassInspector$Round", name := "shave", desc := "(II)I" } : Jvm.MethodName) ({ cls := "BrassInspector$Round", name := "shave", desc := "(II)I" } : Jvm.MethodName)) ∈ lw_all := lw_g (lw_at lw_m7 35 rfl) rfl
theorem q1546 : (Jvm.Cond.code ({ cls := "BrassInspector$Round", name := "shave", desc := "(II)I" } : Jvm.MethodName) prog_13_method_23_code (4 : Nat) (Option.some Jvm.ClassFile.FieldType.int)) ∈ lw_all := lw_g (lw_at lw_m7 36 rfl) rfl
theorem q1547 : (Jvm.Cond.methodLink "BrassInspector$Round" (176 : Nat) ({ cls := "BrassInspector$Round$Trader", name := "shave", desc := "()I" } : Jvm.MethodName)) ∈ lw_all := lw_g (lw_at lw_m7 37 rfl) rfl
theorem q1548 : (Jvm.Cond.instanceMethod ({ cls := "BrassInspector$Round$Trader", name := "shave", desc := "()I" } : Jvm.MethodName)) ∈ lw_all := lw_g (lw_at lw_m7 38 rfl) rfl
theorem q1549 : (Jvm.Cond.selects "BrassInspector$Round$Trader" ({ cls := "BrassInspector$Round$Trader", name := "shave", desc := "()I" } : Jvm.MethodName) ({ cls := "BrassInspector$Round$Trader", name := "shave", desc := "()I" } : Jvm.MethodName)) ∈ lw_all := lw_g (lw_at lw_m7 39 rfl) rfl
theorem q1550 : (Jvm.Cond.code ({ cls := "BrassInspector$Round$Trader", name := "shave", desc := "()I" } : Jvm.MethodName) prog_17_method_12_code (1 : Nat) (Option.some Jvm.ClassFile.FieldType.int)) ∈ lw_all := lw_g (lw_at lw_m7 40 rfl) rfl
theorem q1551 : (Jvm.Cond.methodLink "BrassInspector$Round" (179 : Nat) ({ cls := "BrassInspector$Round$Trader", name := "shaves", desc := "(I)I" } : Jvm.MethodName)) ∈ lw_all := lw_g (lw_at lw_m7 41 rfl) rfl
theorem q1552 : (Jvm.Cond.instanceMethod ({ cls := "BrassInspector$Round$Trader", name := "shaves", desc := "(I)I" } : Jvm.MethodName)) ∈ lw_all := lw_g (lw_at lw_m7 42 rfl) rfl
theorem q1553 : (Jvm.Cond.selects "BrassInspector$Round$Trader" ({ cls := "BrassInspector$Round$Trader", name := "shaves", desc := "(I)I" } : Jvm.MethodName) ({ cls := "BrassInspector$Round$Trader", name := "shaves", desc := "(I)I" } : Jvm.MethodName)) ∈ lw_all := lw_g (lw_at lw_m7 43 rfl) rfl
theorem q1554 : (Jvm.Cond.code ({ cls := "BrassInspector$Round$Trader", name := "shaves", desc := "(I)I" } : Jvm.MethodName) prog_17_method_23_code (2 : Nat) (Option.some Jvm.ClassFile.FieldType.int)) ∈ lw_all := lw_g (lw_at lw_m7 44 rfl) rfl
theorem q1555 : (Jvm.Cond.methodLink "BrassInspector$Order" (79 : Nat) ({ cls := "BrassInspector$Round", name := "trader", desc := "(I)LBrassInspector$Round$Trader;" } : Jvm.MethodName)) ∈ lw_all := lw_g (lw_at lw_m7 45 rfl) rfl
theorem q1556 : (Jvm.Cond.methodLink "BrassInspector$Order" (83 : Nat) ({ cls := "BrassInspector$Round$Trader", name := "drift", desc := "(I)I" } : Jvm.MethodName)) ∈ lw_all := lw_g (lw_at lw_m7 46 rfl) rfl
theorem q1557 : (Jvm.Cond.instanceMethod ({ cls := "BrassInspector$Round$Trader", name := "drift", desc := "(I)I" } : Jvm.MethodName)) ∈ lw_all := lw_g (lw_at lw_m7 47 rfl) rfl
theorem q1558 : (Jvm.Cond.selects "BrassInspector$Round$Trader" ({ cls := "BrassInspector$Round$Trader", name := "drift", desc := "(I)I" } : Jvm.MethodName) ({ cls := "BrassInspector$Round$Trader", name := "drift", desc := "(I)I" } : Jvm.MethodName)) ∈ lw_all := lw_g (lw_at lw_m7 48 rfl) rfl
theorem q1559 : (Jvm.Cond.code ({ cls := "BrassInspector$Round$Trader", name := "drift", desc := "(I)I" } : Jvm.MethodName) prog_17_method_9_code (3 : Nat) (Option.some Jvm.ClassFile.FieldType.int)) ∈ lw_all := lw_g (lw_at lw_m7 49 rfl) rfl
theorem q1560 : (Jvm.Cond.methodLink "BrassInspector$Order" (87 : Nat) ({ cls := "BrassInspector$Round", name := "pay", desc := "(II)I" } : Jvm.MethodName)) ∈ lw_all := lw_g (lw_at lw_m7 50 rfl) rfl
theorem q1561 : (Jvm.Cond.instanceMethod ({ cls := "BrassInspector$Round", name := "pay", desc := "(II)I" } : Jvm.MethodName)) ∈ lw_all := lw_g (lw_at lw_m7 51 rfl) rfl
theorem q1562 : (Jvm.Cond.selects "BrassInspector$Round" ({ cls := "BrassInspector$Round", name := "pay", desc := "(II)I" } : Jvm.MethodName) ({ cls := "BrassInspector$Round", name := "pay", desc := "(II)I" } : Jvm.MethodName)) ∈ lw_all := lw_g (lw_at lw_m7 52 rfl) rfl
theorem q1563 : (Jvm.Cond.code ({ cls := "BrassInspector$Round", name := "pay", desc := "(II)I" } : Jvm.MethodName) prog_13_method_24_code (5 : Nat) (Option.some Jvm.ClassFile.FieldType.int)) ∈ lw_all := lw_g (lw_at lw_m7 53 rfl) rfl
theorem q1564 : (Jvm.Cond.methodLink "BrassInspector$Round" (183 : Nat) ({ cls := "BrassInspector$Round$Trader", name := "debt", desc := "()I" } : Jvm.MethodName)) ∈ lw_all := lw_g (lw_at lw_m7 54 rfl) rfl
theorem q1565 : (Jvm.Cond.instanceMethod ({ cls := "BrassInspector$Round$Trader", name := "debt", desc := "()I" } : Jvm.MethodName)) ∈ lw_all := lw_g (lw_at lw_m7 55 rfl) rfl
theorem q1566 : (Jvm.Cond.selects "BrassInspector$Round$Trader" ({ cls := "BrassInspector$Round$Trader", name := "debt", desc := "()I" } : Jvm.MethodName) ({ cls := "BrassInspector$Round$Trader", name := "debt", desc := "()I" } : Jvm.MethodName)) ∈ lw_all := lw_g (lw_at lw_m7 56 rfl) rfl
theorem q1567 : (Jvm.Cond.code ({ cls := "BrassInspector$Round$Trader", name := "debt", desc := "()I" } : Jvm.MethodName) prog_17_method_6_code (1 : Nat) (Option.some Jvm.ClassFile.FieldType.int)) ∈ lw_all := lw_g (lw_at lw_m7 57 rfl) rfl
theorem q1568 : (Jvm.Cond.methodLink "BrassInspector$Round" (186 : Nat) ({ cls := "java/lang/Math", name := "min", desc := "(II)I" } : Jvm.MethodName)) ∈ lw_all := lw_g (lw_at lw_m7 58 rfl) rfl
theorem q1569 : (Jvm.Cond.methodLink "BrassInspector$Round" (192 : Nat) ({ cls := "BrassInspector$Round$Trader", name := "pays", desc := "(I)I" } : Jvm.MethodName)) ∈ lw_all := lw_g (lw_at lw_m7 59 rfl) rfl
theorem q1570 : (Jvm.Cond.instanceMethod ({ cls := "BrassInspector$Round$Trader", name := "pays", desc := "(I)I" } : Jvm.MethodName)) ∈ lw_all := lw_g (lw_at lw_m7 60 rfl) rfl
theorem q1571 : (Jvm.Cond.selects "BrassInspector$Round$Trader" ({ cls := "BrassInspector$Round$Trader", name := "pays", desc := "(I)I" } : Jvm.MethodName) ({ cls := "BrassInspector$Round$Trader", name := "pays", desc := "(I)I" } : Jvm.MethodName)) ∈ lw_all := lw_g (lw_at lw_m7 61 rfl) rfl
theorem q1572 : (Jvm.Cond.code ({ cls := "BrassInspector$Round$Trader", name := "pays", desc := "(I)I" } : Jvm.MethodName) prog_17_method_24_code (2 : Nat) (Option.some Jvm.ClassFile.FieldType.int)) ∈ lw_all := lw_g (lw_at lw_m7 62 rfl) rfl
theorem q1573 : (Jvm.Cond.methodLink "BrassInspector" (306 : Nat) ({ cls := "BrassInspector$Refusal", name := "initCause", desc := "(Ljava/lang/Throwable;)Ljava/lang/Throwable;" } : Jvm.MethodName)) ∈ lw_all := lw_g (lw_at lw_m7 63 rfl) rfl
theorem q1574 : (Jvm.Cond.sameMethod "BrassInspector$Refusal" "java/lang/Throwable" "initCause" "(Ljava/lang/Throwable;)Ljava/lang/Throwable;") ∈ lw_all := lw_g (lw_at lw_m7 64 rfl) rfl
theorem q1575 : (Jvm.Cond.declares ({ cls := "java/lang/Throwable", name := "initCause", desc := "(Ljava/lang/Throwable;)Ljava/lang/Throwable;" } : Jvm.MethodName)) ∈ lw_tbl := lw_at lw_m7 65 rfl
theorem q1576 : (Jvm.Cond.selects "BrassInspector$Refusal" ({ cls := "BrassInspector$Refusal", name := "initCause", desc := "(Ljava/lang/Throwable;)Ljava/lang/Throwable;" } : Jvm.MethodName) ({ cls := "java/lang/Throwable", name := "initCause", desc := "(Ljava/lang/Throwable;)Ljava/lang/Throwable;" } : Jvm.MethodName)) ∈ lw_all := lw_g (lw_at lw_m7 66 rfl) rfl
theorem q1577 : (Jvm.Cond.instanceMethod ({ cls := "java/lang/Throwable", name := "initCause", desc := "(Ljava/lang/Throwable;)Ljava/lang/Throwable;" } : Jvm.MethodName)) ∈ lw_all := lw_g (lw_at lw_m7 67 rfl) rfl
theorem q1578 : (Jvm.Cond.codeSync ({ cls := "java/lang/Throwable", name := "initCause", desc := "(Ljava/lang/Throwable;)Ljava/lang/Throwable;" } : Jvm.MethodName) prog_46_method_9_code (2 : Nat) (Option.some (Jvm.ClassFile.FieldType.object "java/lang/Throwable"))) ∈ lw_all := lw_g (lw_at lw_m7 68 rfl) rfl
theorem q1579 : (Jvm.Cond.classLink "java/lang/Throwable" (42 : Nat) "java/lang/IllegalStateException") ∈ lw_all := lw_g (lw_at lw_m7 69 rfl) rfl
theorem q1580 : (Jvm.Cond.instantiable "java/lang/IllegalStateException" (6 : Nat)) ∈ lw_all := lw_g (lw_at lw_m7 70 rfl) rfl
theorem q1581 : (Jvm.Cond.castable "java/lang/IllegalStateException" "java/lang/IllegalStateException") ∈ lw_tbl := lw_at lw_m7 71 rfl
theorem q1582 : (Jvm.Cond.selects "java/lang/IllegalStateException" ({ cls := "java/lang/Throwable", name := "fillInStackTrace", desc := "(I)Ljava/lang/Throwable;" } : Jvm.MethodName) ({ cls := "java/lang/Throwable", name := "fillInStackTrace", desc := "(I)Ljava/lang/Throwable;" } : Jvm.MethodName)) ∈ lw_all := lw_g (lw_at lw_m7 72 rfl) rfl
theorem q1583 : (Jvm.Cond.lays "java/lang/IllegalStateException" "java/lang/Throwable" "cause" "Ljava/lang/Throwable;") ∈ lw_all := lw_g (lw_at lw_m7 73 rfl) rfl
theorem q1584 : (Jvm.Cond.lays "java/lang/IllegalStateException" "java/lang/Throwable" "stackTrace" "[Ljava/lang/StackTraceElement;") ∈ lw_all := lw_g (lw_at lw_m7 74 rfl) rfl
theorem q1585 : (Jvm.Cond.lays "java/lang/IllegalStateException" "java/lang/Throwable" "suppressedExceptions" "Ljava/util/List;") ∈ lw_all := lw_g (lw_at lw_m7 75 rfl) rfl
theorem q1586 : (Jvm.Cond.lays "java/lang/IllegalStateException" "java/lang/Throwable" "detailMessage" "Ljava/lang/String;") ∈ lw_all := lw_g (lw_at lw_m7 76 rfl) rfl
theorem q1587 : (Jvm.Cond.lays "java/lang/IllegalStateException" "java/lang/Throwable" "backtrace" "Ljava/lang/Object;") ∈ lw_all := lw_g (lw_at lw_m7 77 rfl) rfl
theorem q1588 : (Jvm.Cond.stringRef "java/lang/Throwable" (47 : Nat) "Can't overwrite cause with ") ∈ lw_tbl := lw_at lw_m7 78 rfl
theorem q1589 : (Jvm.Cond.stringRef "java/lang/Throwable" (53 : Nat) "a null") ∈ lw_tbl := lw_at lw_m7 79 rfl
theorem q1590 : (Jvm.Cond.methodLink "java/lang/Throwable" (55 : Nat) ({ cls := "java/util/Objects", name := "toString", desc := "(Ljava/lang/Object;Ljava/lang/String;)Ljava/lang/String;" } : Jvm.MethodName)) ∈ lw_all := lw_g (lw_at lw_m7 80 rfl) rfl
theorem q1591 : (Jvm.Cond.static ({ cls := "java/util/Objects", name := "toString", desc := "(Ljava/lang/Object;Ljava/lang/String;)Ljava/lang/String;" } : Jvm.MethodName)) ∈ lw_all := lw_g (lw_at lw_m7 81 rfl) rfl
theorem q1592 : (Jvm.Cond.code ({ cls := "java/util/Objects", name := "toString", desc := "(Ljava/lang/Object;Ljava/lang/String;)Ljava/lang/String;" } : Jvm.MethodName) prog_68_method_7_code (2 : Nat) (Option.some (Jvm.ClassFile.FieldType.object "java/lang/String"))) ∈ lw_all := lw_g (lw_at lw_m7 82 rfl) rfl
theorem q1593 : (Jvm.Cond.declares ({ cls := "java/lang/Object", name := "toString", desc := "()Ljava/lang/String;" } : Jvm.MethodName)) ∈ lw_tbl := lw_at lw_m7 83 rfl
theorem q1594 : (Jvm.Cond.methodLink "java/util/Objects" (37 : Nat) ({ cls := "java/lang/Object", name := "toString", desc := "()Ljava/lang/String;" } : Jvm.MethodName)) ∈ lw_all := lw_g (lw_at lw_m7 84 rfl) rfl
theorem q1595 : (Jvm.Cond.instanceMethod ({ cls := "java/lang/Object", name := "toString", desc := "()Ljava/lang/String;" } : Jvm.MethodName)) ∈ lw_all := lw_g (lw_at lw_m7 85 rfl) rfl
theorem q1596 : (Jvm.Cond.sameMethod "java/lang/Object" "java/lang/Object" "toString" "()Ljava/lang/String;") ∈ lw_all := lw_g (lw_at lw_m7 86 rfl) rfl
theorem q1597 : (Jvm.Cond.selects "BrassInspector" ({ cls := "java/lang/Object", name := "toString", desc := "()Ljava/lang/String;" } : Jvm.MethodName) ({ cls := "java/lang/Object", name := "toString", desc := "()Ljava/lang/String;" } : Jvm.MethodName)) ∈ lw_all := lw_g (lw_at lw_m7 87 rfl) rfl
theorem q1598 : (Jvm.Cond.selects "BrassInspector$1" ({ cls := "java/lang/Object", name := "toString", desc := "()Ljava/lang/String;" } : Jvm.MethodName) ({ cls := "java/lang/Object", name := "toString", desc := "()Ljava/lang/String;" } : Jvm.MethodName)) ∈ lw_all := lw_g (lw_at lw_m7 88 rfl) rfl
theorem q1599 : (Jvm.Cond.selects "BrassInspector$2" ({ cls := "java/lang/Object", name := "toString", desc := "()Ljava/lang/String;" } : Jvm.MethodName) ({ cls := "java/lang/Object", name := "toString", desc := "()Ljava/lang/String;" } : Jvm.MethodName)) ∈ lw_all := lw_g (lw_at lw_m7 89 rfl) rfl
theorem q1600 : (Jvm.Cond.selects "BrassInspector$3" ({ cls := "java/lang/Object", name := "toString", desc := "()Ljava/lang/String;" } : Jvm.MethodName) ({ cls := "java/lang/Object", name := "toString", desc := "()Ljava/lang/String;" } : Jvm.MethodName)) ∈ lw_all := lw_g (lw_at lw_m7 90 rfl) rfl
theorem q1601 : (Jvm.Cond.selects "BrassInspector$4" ({ cls := "java/lang/Object", name := "toString", desc := "()Ljava/lang/String;" } : Jvm.MethodName) ({ cls := "java/lang/Object", name := "toString", desc := "()Ljava/lang/String;" } : Jvm.MethodName)) ∈ lw_all := lw_g (lw_at lw_m7 91 rfl) rfl
theorem q1602 : (Jvm.Cond.selects "BrassInspector$5" ({ cls := "java/lang/Object", name := "toString", desc := "()Ljava/lang/String;" } : Jvm.MethodName) ({ cls := "java/lang/Object", name := "toString", desc := "()Ljava/lang/String;" } : Jvm.MethodName)) ∈ lw_all := lw_g (lw_at lw_m7 92 rfl) rfl
theorem q1603 : (Jvm.Cond.selects "BrassInspector$6" ({ cls := "java/lang/Object", name := "toString", desc := "()Ljava/lang/String;" } : Jvm.MethodName) ({ cls := "java/lang/Object", name := "toString", desc := "()Ljava/lang/String;" } : Jvm.MethodName)) ∈ lw_all := lw_g (lw_at lw_m7 93 rfl) rfl
theorem q1604 : (Jvm.Cond.selects "BrassInspector$Brass" ({ cls := "java/lang/Object", name := "toString", desc := "()Ljava/lang/String;" } : Jvm.MethodName) ({ cls := "java/lang/Object", name := "toString", desc := "()Ljava/lang/String;" } : Jvm.MethodName)) ∈ lw_all := lw_g (lw_at lw_m7 94 rfl) rfl
theorem q1605 : (Jvm.Cond.selects "BrassInspector$Order" ({ cls := "java/lang/Object", name := "toString", desc := "()Ljava/lang/String;" } : Jvm.MethodName) ({ cls := "java/lang/Object", name := "toString", desc := "()Ljava/lang/String;" } : Jvm.MethodName)) ∈ lw_all := lw_g (lw_at lw_m7 95 rfl) rfl
theorem q1606 : (Jvm.Cond.selects "BrassInspector$Reader" ({ cls := "java/lang/Object", name := "toString", desc := "()Ljava/lang/String;" } : Jvm.MethodName) ({ cls := "java/lang/Object", name := "toString", desc := "()Ljava/lang/String;" } : Jvm.MethodName)) ∈ lw_all := lw_g (lw_at lw_m7 96 rfl) rfl
theorem q1607 : (Jvm.Cond.selects "BrassInspector$Refusal" ({ cls := "java/lang/Object", name := "toString", desc := "()Ljava/lang/String;" } : Jvm.MethodName) ({ cls := "java/lang/Throwable", name := "toString", desc := "()Ljava/lang/String;" } : Jvm.MethodName)) ∈ lw_all := lw_g (lw_at lw_m7 97 rfl) rfl
theorem q1608 : (Jvm.Cond.selects "BrassInspector$Round" ({ cls := "java/lang/Object", name := "toString", desc := "()Ljava/lang/String;" } : Jvm.MethodName) ({ cls := "java/lang/Object", name := "toString", desc := "()Ljava/lang/String;" } : Jvm.MethodName)) ∈ lw_all := lw_g (lw_at lw_m7 98 rfl) rfl
theorem q1609 : (Jvm.Cond.selects "BrassInspector$Round$1Rest" ({ cls := "java/lang/Object", name := "toString", desc := "()Ljava/lang/String;" } : Jvm.MethodName) ({ cls := "java/lang/Object", name := "toString", desc := "()Ljava/lang/String;" } : Jvm.MethodName)) ∈ lw_all := lw_g (lw_at lw_m7 99 rfl) rfl
theorem q1610 : (Jvm.Cond.selects "BrassInspector$Round$OfFair" ({ cls := "java/lang/Object", name := "toString", desc := "()Ljava/lang/String;" } : Jvm.MethodName) ({ cls := "java/lang/Object", name := "toString", desc := "()Ljava/lang/String;" } : Jvm.MethodName)) ∈ lw_all := lw_g (lw_at lw_m7 100 rfl) rfl
theorem q1611 : (Jvm.Cond.selects "BrassInspector$Round$OfFair$1" ({ cls := "java/lang/Object", name := "toString", desc := "()Ljava/lang/String;" } : Jvm.MethodName) ({ cls := "java/lang/Object", name := "toString", desc := "()Ljava/lang/String;" } : Jvm.MethodName)) ∈ lw_all := lw_g (lw_at lw_m7 101 rfl) rfl
theorem q1612 : (Jvm.Cond.selects "BrassInspector$Round$Trader" ({ cls := "java/lang/Object", name := "toString", desc := "()Ljava/lang/String;" } : Jvm.MethodName) ({ cls := "java/lang/Object", name := "toString", desc := "()Ljava/lang/String;" } : Jvm.MethodName)) ∈ lw_all := lw_g (lw_at lw_m7 102 rfl) rfl
theorem q1613 : (Jvm.Cond.selects "BrassInspector$TextError" ({ cls := "java/lang/Object", name := "toString", desc := "()Ljava/lang/String;" } : Jvm.MethodName) ({ cls := "java/lang/Throwable", name := "toString", desc := "()Ljava/lang/String;" } : Jvm.MethodName)) ∈ lw_all := lw_g (lw_at lw_m7 103 rfl) rfl
theorem q1614 : (Jvm.Cond.selects "BrassInspectorModel" ({ cls := "java/lang/Object", name := "toString", desc := "()Ljava/lang/String;" } : Jvm.MethodName) ({ cls := "java/lang/Object", name := "toString", desc := "()Ljava/lang/String;" } : Jvm.MethodName)) ∈ lw_all := lw_g (lw_at lw_m7 104 rfl) rfl
theorem q1615 : (Jvm.Cond.selects "java/lang/ArithmeticException" ({ cls := "java/lang/Object", name := "toString", desc := "()Ljava/lang/String;" } : Jvm.MethodName) ({ cls := "java/lang/Throwable", name := "toString", desc := "()Ljava/lang/String;" } : Jvm.MethodName)) ∈ lw_all := lw_g (lw_at lw_m7 105 rfl) rfl
theorem q1616 : (Jvm.Cond.selects "java/lang/ArrayIndexOutOfBoundsException" ({ cls := "java/lang/Object", name := "toString", desc := "()Ljava/lang/String;" } : Jvm.MethodName) ({ cls := "java/lang/Throwable", name := "toString", desc := "()Ljava/lang/String;" } : Jvm.MethodName)) ∈ lw_all := lw_g (lw_at lw_m7 106 rfl) rfl
theorem q1617 : (Jvm.Cond.selects "java/lang/IllegalArgumentException" ({ cls := "java/lang/Object", name := "toString", desc := "()Ljava/lang/String;" } : Jvm.MethodName) ({ cls := "java/lang/Throwable", name := "toString", desc := "()Ljava/lang/String;" } : Jvm.MethodName)) ∈ lw_all := lw_g (lw_at lw_m7 107 rfl) rfl
theorem q1618 : (Jvm.Cond.selects "java/lang/IllegalStateException" ({ cls := "java/lang/Object", name := "toString", desc := "()Ljava/lang/String;" } : Jvm.MethodName) ({ cls := "java/lang/Throwable", name := "toString", desc := "()Ljava/lang/String;" } : Jvm.MethodName)) ∈ lw_all := lw_g (lw_at lw_m7 108 rfl) rfl
theorem q1619 : (Jvm.Cond.selects "java/lang/IndexOutOfBoundsException" ({ cls := "java/lang/Object", name := "toString", desc := "()Ljava/lang/String;" } : Jvm.MethodName) ({ cls := "java/lang/Throwable", name := "toString", desc := "()Ljava/lang/String;" } : Jvm.MethodName)) ∈ lw_all := lw_g (lw_at lw_m7 109 rfl) rfl
theorem q1620 : (Jvm.Cond.selects "java/lang/String" ({ cls := "java/lang/Object", name := "toString", desc := "()Ljava/lang/String;" } : Jvm.MethodName) ({ cls := "java/lang/String", name := "toString", desc := "()Ljava/lang/String;" } : Jvm.MethodName)) ∈ lw_all := lw_g (lw_at lw_m7 110 rfl) rfl
theorem q1621 : (Jvm.Cond.instanceMethod ({ cls := "java/lang/String", name := "toString", desc := "()Ljava/lang/String;" } : Jvm.MethodName)) ∈ lw_all := lw_g (lw_at lw_m7 111 rfl) rfl
theorem q1622 : (Jvm.Cond.code ({ cls := "java/lang/String", name := "toString", desc := "()Ljava/lang/String;" } : Jvm.MethodName) prog_39_method_126_code (1 : Nat) (Option.some (Jvm.ClassFile.FieldType.object "java/lang/String"))) ∈ lw_all := lw_g (lw_at lw_m7 112 rfl) rfl
theorem q1623 : (Jvm.Cond.selects "java/lang/StringBuilder" ({ cls := "java/lang/Object", name := "toString", desc := "()Ljava/lang/String;" } : Jvm.MethodName) ({ cls := "java/lang/StringBuilder", name := "toString", desc := "()Ljava/lang/String;" } : Jvm.MethodName)) ∈ lw_all := lw_g (lw_at lw_m7 113 rfl) rfl
theorem q1624 : (Jvm.Cond.selects "java/lang/StringIndexOutOfBoundsException" ({ cls := "java/lang/Object", name := "toString", desc := "()Ljava/lang/String;" } : Jvm.MethodName) ({ cls := "java/lang/Throwable", name := "toString", desc := "()Ljava/lang/String;" } : Jvm.MethodName)) ∈ lw_all := lw_g (lw_at lw_m7 114 rfl) rfl
theorem q1625 : (Jvm.Cond.selects "java/lang/System$2" ({ cls := "java/lang/Object", name := "toString", desc := "()Ljava/lang/String;" } : Jvm.MethodName) ({ cls := "java/lang/Object", name := "toString", desc := "()Ljava/lang/String;" } : Jvm.MethodName)) ∈ lw_all := lw_g (lw_at lw_m7 115 rfl) rfl
theorem q1626 : (Jvm.Cond.selects "java/lang/UnsupportedOperationException" ({ cls := "java/lang/Object", name := "toString", desc := "()Ljava/lang/String;" } : Jvm.MethodName) ({ cls := "java/lang/Throwable", name := "toString", desc := "()Ljava/lang/String;" } : Jvm.MethodName)) ∈ lw_all := lw_g (lw_at lw_m7 116 rfl) rfl
theorem q1627 : (Jvm.Cond.methodLink "java/lang/Throwable" (61 : Nat) ({ cls := "java/lang/IllegalStateException", name := "<init>", desc := "(Ljava/lang/String;Ljava/lang/Throwable;)V" } : Jvm.MethodName)) ∈ lw_all := lw_g (lw_at lw_m7 117 rfl) rfl
theorem q1628 : (Jvm.Cond.instanceMethod ({ cls := "java/lang/IllegalStateException", name := "<init>", desc := "(Ljava/lang/String;Ljava/lang/Throwable;)V" } : Jvm.MethodName)) ∈ lw_all := lw_g (lw_at lw_m7 118 rfl) rfl
theorem q1629 : (Jvm.Cond.code ({ cls := "java/lang/IllegalStateException", name := "<init>", desc := "(Ljava/lang/String;Ljava/lang/Throwable;)V" } : Jvm.MethodName) prog_32_method_3_code (3 : Nat) (Option.none : Option Jvm.ClassFile.FieldType)) ∈ lw_all := lw_g (lw_at lw_m7 119 rfl) rfl
theorem q1630 : (Jvm.Cond.methodLink "java/lang/IllegalStateException" (10 : Nat) ({ cls := "java/lang/RuntimeException", name := "<init>", desc := "(Ljava/lang/String;Ljava/lang/Throwable;)V" } : Jvm.MethodName)) ∈ lw_all := lw_g (lw_at lw_m7 120 rfl) rfl
theorem q1631 : (Jvm.Cond.instanceMethod ({ cls := "java/lang/RuntimeException", name := "<init>", desc := "(Ljava/lang/String;Ljava/lang/Throwable;)V" } : Jvm.MethodName)) ∈ lw_all := lw_g (lw_at lw_m7 121 rfl) rfl
theorem q1632 : (Jvm.Cond.code ({ cls := "java/lang/RuntimeException", name := "<init>", desc := "(Ljava/lang/String;Ljava/lang/Throwable;)V" } : Jvm.MethodName) prog_38_method_3_code (3 : Nat) (Option.none : Option Jvm.ClassFile.FieldType)) ∈ lw_all := lw_g (lw_at lw_m7 122 rfl) rfl
theorem q1633 : (Jvm.Cond.methodLink "java/lang/RuntimeException" (10 : Nat) ({ cls := "java/lang/Exception", name := "<init>", desc := "(Ljava/lang/String;Ljava/lang/Throwable;)V" } : Jvm.MethodName)) ∈ lw_all := lw_g (lw_at lw_m7 123 rfl) rfl
theorem q1634 : (Jvm.Cond.lays "java/lang/IllegalStateException" "java/lang/Throwable" "depth" "I") ∈ lw_all := lw_g (lw_at lw_m7 124 rfl) rfl
theorem q1635 : (Jvm.Cond.superclass "java/lang/IllegalStateException" "java/lang/RuntimeException") ∈ lw_all := lw_g (lw_at lw_m7 125 rfl) rfl
theorem q1636 : (Jvm.Cond.classLink "java/lang/Throwable" (64 : Nat) "java/lang/IllegalArgumentException") ∈ lw_all := lw_g (lw_at lw_m7 126 rfl) rfl
theorem q1637 : (Jvm.Cond.stringRef "java/lang/Throwable" (66 : Nat) "Self-causation not permitted") ∈ lw_tbl := lw_at lw_m7 127 rfl
theorem q1638 : (Jvm.Cond.methodLink "java/lang/Throwable" (68 : Nat) ({ cls := "java/lang/IllegalArgumentException", name := "<init>", desc := "(Ljava/lang/String;Ljava/lang/Throwable;)V" } : Jvm.MethodName)) ∈ lw_all := lw_g (lw_at lw_m7 128 rfl) rfl
theorem q1639 : (Jvm.Cond.instanceMethod ({ cls := "java/lang/IllegalArgumentException", name := "<init>", desc := "(Ljava/lang/String;Ljava/lang/Throwable;)V" } : Jvm.MethodName)) ∈ lw_all := lw_g (lw_at lw_m7 129 rfl) rfl
theorem q1640 : (Jvm.Cond.code ({ cls := "java/lang/IllegalArgumentException", name := "<init>", desc := "(Ljava/lang/String;Ljava/lang/Throwable;)V" } : Jvm.MethodName) prog_31_method_3_code (3 : Nat) (Option.none : Option Jvm.ClassFile.FieldType)) ∈ lw_all := lw_g (lw_at lw_m7 130 rfl) rfl
theorem q1641 : (Jvm.Cond.methodLink "java/lang/IllegalArgumentException" (10 : Nat) ({ cls := "java/lang/RuntimeException", name := "<init>", desc := "(Ljava/lang/String;Ljava/lang/Throwable;)V" } : Jvm.MethodName)) ∈ lw_all := lw_g (lw_at lw_m7 131 rfl) rfl
theorem q1642 : (Jvm.Cond.selects "BrassInspector$Order" ({ cls := "BrassInspector$Deed", name := "does", desc := "(LBrassInspector$Round;)I" } : Jvm.MethodName) ({ cls := "BrassInspector$Order", name := "does", desc := "(LBrassInspector$Round;)I" } : Jvm.MethodName)) ∈ lw_all := lw_g (lw_at lw_m7 132 rfl) rfl
theorem q1643 : (Jvm.Cond.methodLink "BrassInspector" (83 : Nat) ({ cls := "BrassInspector", name := "become", desc := "(LBrassInspector$Round;)V" } : Jvm.MethodName)) ∈ lw_all := lw_g (lw_at lw_m7 133 rfl) rfl
theorem q1644 : (Jvm.Cond.privateMethod ({ cls := "BrassInspector", name := "become", desc := "(LBrassInspector$Round;)V" } : Jvm.MethodName)) ∈ lw_tbl := lw_at lw_m7 134 rfl
theorem q1645 : (Jvm.Cond.instanceMethod ({ cls := "BrassInspector", name := "become", desc := "(LBrassInspector$Round;)V" } : Jvm.MethodName)) ∈ lw_all := lw_g (lw_at lw_m7 135 rfl) rfl
theorem q1646 : (Jvm.Cond.code ({ cls := "BrassInspector", name := "become", desc := "(LBrassInspector$Round;)V" } : Jvm.MethodName) prog_1_method_10_code (2 : Nat) (Option.none : Option Jvm.ClassFile.FieldType)) ∈ lw_all := lw_g (lw_at lw_m7 136 rfl) rfl
theorem q1647 : (Jvm.Cond.methodLink "BrassInspector" (61 : Nat) ({ cls := "java/util/LinkedList", name := "size", desc := "()I" } : Jvm.MethodName)) ∈ lw_all := lw_g (lw_at lw_m7 137 rfl) rfl
theorem q1648 : (Jvm.Cond.methodLink "BrassInspector" (65 : Nat) ({ cls := "java/util/LinkedList", name := "removeFirst", desc := "()Ljava/lang/Object;" } : Jvm.MethodName)) ∈ lw_all := lw_g (lw_at lw_m7 138 rfl) rfl
theorem q1649 : (Jvm.Cond.instanceMethod ({ cls := "java/util/LinkedList", name := "removeFirst", desc := "()Ljava/lang/Object;" } : Jvm.MethodName)) ∈ lw_all := lw_g (lw_at lw_m7 139 rfl) rfl
theorem q1650 : (Jvm.Cond.selects "java/util/LinkedList" ({ cls := "java/util/LinkedList", name := "removeFirst", desc := "()Ljava/lang/Object;" } : Jvm.MethodName) ({ cls := "java/util/LinkedList", name := "removeFirst", desc := "()Ljava/lang/Object;" } : Jvm.MethodName)) ∈ lw_all := lw_g (lw_at lw_m7 140 rfl) rfl
theorem q1651 : (Jvm.Cond.code ({ cls := "java/util/LinkedList", name := "removeFirst", desc := "()Ljava/lang/Object;" } : Jvm.MethodName) prog_62_method_11_code (2 : Nat) (Option.some (Jvm.ClassFile.FieldType.object "java/lang/Object"))) ∈ lw_all := lw_g (lw_at lw_m7 141 rfl) rfl
theorem q1652 : (Jvm.Cond.classLink "java/util/LinkedList" (43 : Nat) "java/util/NoSuchElementException") ∈ lw_all := lw_g (lw_at lw_m7 142 rfl) rfl
theorem q1653 : (Jvm.Cond.methodLink "java/util/LinkedList" (45 : Nat) ({ cls := "java/util/NoSuchElementException", name := "<init>", desc := "()V" } : Jvm.MethodName)) ∈ lw_all := lw_g (lw_at lw_m7 143 rfl) rfl
theorem q1654 : (Jvm.Cond.methodLink "java/util/LinkedList" (46 : Nat) ({ cls := "java/util/LinkedList", name := "unlinkFirst", desc := "(Ljava/util/LinkedList$Node;)Ljava/lang/Object;" } : Jvm.MethodName)) ∈ lw_all := lw_g (lw_at lw_m7 144 rfl) rfl
theorem q1655 : (Jvm.Cond.privateMethod ({ cls := "java/util/LinkedList", name := "unlinkFirst", desc := "(Ljava/util/LinkedList$Node;)Ljava/lang/Object;" } : Jvm.MethodName)) ∈ lw_tbl := lw_at lw_m7 145 rfl
theorem q1656 : (Jvm.Cond.instanceMethod ({ cls := "java/util/LinkedList", name := "unlinkFirst", desc := "(Ljava/util/LinkedList$Node;)Ljava/lang/Object;" } : Jvm.MethodName)) ∈ lw_all := lw_g (lw_at lw_m7 146 rfl) rfl
theorem q1657 : (Jvm.Cond.code ({ cls := "java/util/LinkedList", name := "unlinkFirst", desc := "(Ljava/util/LinkedList$Node;)Ljava/lang/Object;" } : Jvm.MethodName) prog_62_method_6_code (4 : Nat) (Option.some (Jvm.ClassFile.FieldType.object "java/lang/Object"))) ∈ lw_all := lw_g (lw_at lw_m7 147 rfl) rfl
theorem q1658 : (Jvm.Cond.methodLink "BrassInspector" (69 : Nat) ({ cls := "java/util/LinkedList", name := "addLast", desc := "(Ljava/lang/Object;)V" } : Jvm.MethodName)) ∈ lw_all := lw_g (lw_at lw_m7 148 rfl) rfl
theorem q1659 : (Jvm.Cond.instanceMethod ({ cls := "java/util/LinkedList", name := "addLast", desc := "(Ljava/lang/Object;)V" } : Jvm.MethodName)) ∈ lw_all := lw_g (lw_at lw_m7 149 rfl) rfl
theorem q1660 : (Jvm.Cond.selects "java/util/LinkedList" ({ cls := "java/util/LinkedList", name := "addLast", desc := "(Ljava/lang/Object;)V" } : Jvm.MethodName) ({ cls := "java/util/LinkedList", name := "addLast", desc := "(Ljava/lang/Object;)V" } : Jvm.MethodName)) ∈ lw_all := lw_g (lw_at lw_m7 150 rfl) rfl
theorem q1661 : (Jvm.Cond.code ({ cls := "java/util/LinkedList", name := "addLast", desc := "(Ljava/lang/Object;)V" } : Jvm.MethodName) prog_62_method_14_code (2 : Nat) (Option.none : Option Jvm.ClassFile.FieldType)) ∈ lw_all := lw_g (lw_at lw_m7 151 rfl) rfl
theorem q1662 : (Jvm.Cond.methodLink "BrassInspector" (95 : Nat) ({ cls := "BrassInspector", name := "outside", desc := "(Ljava/lang/Exception;)Ljava/lang/RuntimeException;" } : Jvm.MethodName)) ∈ lw_all := lw_g (lw_at lw_m7 152 rfl) rfl
theorem q1663 : (Jvm.Cond.privateMethod ({ cls := "BrassInspector", name := "outside", desc := "(Ljava/lang/Exception;)Ljava/lang/RuntimeException;" } : Jvm.MethodName)) ∈ lw_tbl := lw_at lw_m7 153 rfl
theorem q1664 : (Jvm.Cond.instanceMethod ({ cls := "BrassInspector", name := "outside", desc := "(Ljava/lang/Exception;)Ljava/lang/RuntimeException;" } : Jvm.MethodName)) ∈ lw_all := lw_g (lw_at lw_m7 154 rfl) rfl
theorem q1665 : (Jvm.Cond.code ({ cls := "BrassInspector", name := "outside", desc := "(Ljava/lang/Exception;)Ljava/lang/RuntimeException;" } : Jvm.MethodName) prog_1_method_13_code (3 : Nat) (Option.some (Jvm.ClassFile.FieldType.object "java/lang/RuntimeException"))) ∈ lw_all := lw_g (lw_at lw_m7 155 rfl) rfl
theorem q1666 : (Jvm.Cond.classLink "BrassInspector" (99 : Nat) "BrassInspector$TextError") ∈ lw_all := lw_g (lw_at lw_m7 156 rfl) rfl
theorem q1667 : (Jvm.Cond.methodLink "BrassInspector" (101 : Nat) ({ cls := "BrassInspector$TextError", name := "position", desc := "()I" } : Jvm.MethodName)) ∈ lw_all := lw_g (lw_at lw_m7 157 rfl) rfl
theorem q1668 : (Jvm.Cond.instanceMethod ({ cls := "BrassInspector$TextError", name := "position", desc := "()I" } : Jvm.MethodName)) ∈ lw_all := lw_g (lw_at lw_m7 158 rfl) rfl
theorem q1669 : (Jvm.Cond.selects "BrassInspector$TextError" ({ cls := "BrassInspector$TextError", name := "position", desc := "()I" } : Jvm.MethodName) ({ cls := "BrassInspector$TextError", name := "position", desc := "()I" } : Jvm.MethodName)) ∈ lw_all := lw_g (lw_at lw_m7 159 rfl) rfl
theorem q1670 : (Jvm.Cond.code ({ cls := "BrassInspector$TextError", name := "position", desc := "()I" } : Jvm.MethodName) prog_18_method_2_code (1 : Nat) (Option.some Jvm.ClassFile.FieldType.int)) ∈ lw_all := lw_g (lw_at lw_m7 160 rfl) rfl
theorem q1671 : (Jvm.Cond.classLink "BrassInspector" (104 : Nat) "java/lang/UnsupportedOperationException") ∈ lw_all := lw_g (lw_at lw_m7 161 rfl) rfl
theorem q1672 : (Jvm.Cond.instantiable "java/lang/UnsupportedOperationException" (6 : Nat)) ∈ lw_all := lw_g (lw_at lw_m7 162 rfl) rfl
theorem q1673 : (Jvm.Cond.castable "java/lang/UnsupportedOperationException" "java/lang/UnsupportedOperationException") ∈ lw_tbl := lw_at lw_m7 163 rfl
theorem q1674 : (Jvm.Cond.selects "java/lang/UnsupportedOperationException" ({ cls := "java/lang/Throwable", name := "fillInStackTrace", desc := "(I)Ljava/lang/Throwable;" } : Jvm.MethodName) ({ cls := "java/lang/Throwable", name := "fillInStackTrace", desc := "(I)Ljava/lang/Throwable;" } : Jvm.MethodName)) ∈ lw_all := lw_g (lw_at lw_m7 164 rfl) rfl
theorem q1675 : (Jvm.Cond.lays "java/lang/UnsupportedOperationException" "java/lang/Throwable" "cause" "Ljava/lang/Throwable;") ∈ lw_all := lw_g (lw_at lw_m7 165 rfl) rfl
theorem q1676 : (Jvm.Cond.lays "java/lang/UnsupportedOperationException" "java/lang/Throwable" "stackTrace" "[Ljava/lang/StackTraceElement;") ∈ lw_all := lw_g (lw_at lw_m7 166 rfl) rfl
theorem q1677 : (Jvm.Cond.lays "java/lang/UnsupportedOperationException" "java/lang/Throwable" "suppressedExceptions" "Ljava/util/List;") ∈ lw_all := lw_g (lw_at lw_m7 167 rfl) rfl
theorem q1678 : (Jvm.Cond.lays "java/lang/UnsupportedOperationException" "java/lang/Throwable" "detailMessage" "Ljava/lang/String;") ∈ lw_all := lw_g (lw_at lw_m7 168 rfl) rfl
theorem q1679 : (Jvm.Cond.lays "java/lang/UnsupportedOperationException" "java/lang/Throwable" "backtrace" "Ljava/lang/Object;") ∈ lw_all := lw_g (lw_at lw_m7 169 rfl) rfl
theorem q1680 : (Jvm.Cond.methodLink "BrassInspector" (106 : Nat) ({ cls := "java/lang/UnsupportedOperationException", name := "<init>", desc := "()V" } : Jvm.MethodName)) ∈ lw_all := lw_g (lw_at lw_m7 170 rfl) rfl
theorem q1681 : (Jvm.Cond.instanceMethod ({ cls := "java/lang/UnsupportedOperationException", name := "<init>", desc := "()V" } : Jvm.MethodName)) ∈ lw_all := lw_g (lw_at lw_m7 171 rfl) rfl
theorem q1682 : (Jvm.Cond.code ({ cls := "java/lang/UnsupportedOperationException", name := "<init>", desc := "()V" } : Jvm.MethodName) prog_47_method_1_code (1 : Nat) (Option.none : Option Jvm.ClassFile.FieldType)) ∈ lw_all := lw_g (lw_at lw_m7 172 rfl) rfl
theorem q1683 : (Jvm.Cond.methodLink "java/lang/UnsupportedOperationException" (1 : Nat) ({ cls := "java/lang/RuntimeException", name := "<init>", desc := "()V" } : Jvm.MethodName)) ∈ lw_all := lw_g (lw_at lw_m7 173 rfl) rfl
theorem q1684 : (Jvm.Cond.lays "java/lang/UnsupportedOperationException" "java/lang/Throwable" "depth" "I") ∈ lw_all := lw_g (lw_at lw_m7 174 rfl) rfl
theorem q1685 : (Jvm.Cond.superclass "java/lang/UnsupportedOperationException" "java/lang/RuntimeException") ∈ lw_all := lw_g (lw_at lw_m7 175 rfl) rfl
theorem q1686 : (Jvm.Cond.methodLink "BrassInspectorLaw" (142 : Nat) ({ cls := "BrassInspectorLaw", name := "trader", desc := "(LBrassInspector;III[J)I" } : Jvm.MethodName)) ∈ lw_all := lw_g (lw_at lw_m7 176 rfl) rfl
theorem q1687 : (Jvm.Cond.static ({ cls := "BrassInspectorLaw", name := "trader", desc := "(LBrassInspector;III[J)I" } : Jvm.MethodName)) ∈ lw_all := lw_g (lw_at lw_m7 177 rfl) rfl
theorem q1688 : (Jvm.Cond.codeWith ({ cls := "BrassInspectorLaw", name := "trader", desc := "(LBrassInspector;III[J)I" } : Jvm.MethodName) method_4_code (6 : Nat) (Option.some Jvm.ClassFile.FieldType.int) [((0 : Nat), (12 : Nat), (15 : Nat), (13 : Nat)), ((0 : Nat), (12 : Nat), (19 : Nat), (15 : Nat)), ((0 : Nat), (12 : Nat), (23 : Nat), (21 : Nat))]) ∈ lw_all := lw_g (lw_at lw_m7 178 rfl) rfl
theorem q1689 : (Jvm.Cond.classLink "BrassInspectorLaw" (21 : Nat) "java/lang/UnsupportedOperationException") ∈ lw_all := lw_g (lw_at lw_m7 179 rfl) rfl
theorem q1690 : (Jvm.Cond.methodLink "BrassInspectorLaw" (17 : Nat) ({ cls := "BrassInspector", name := "trader", desc := "(III)I" } : Jvm.MethodName)) ∈ lw_all := lw_g (lw_at lw_m7 180 rfl) rfl
theorem q1691 : (Jvm.Cond.instanceMethod ({ cls := "BrassInspector", name := "trader", desc := "(III)I" } : Jvm.MethodName)) ∈ lw_all := lw_g (lw_at lw_m7 181 rfl) rfl
theorem q1692 : (Jvm.Cond.selects "BrassInspector" ({ cls := "BrassInspector", name := "trader", desc := "(III)I" } : Jvm.MethodName) ({ cls := "BrassInspector", name := "trader", desc := "(III)I" } : Jvm.MethodName)) ∈ lw_all := lw_g (lw_at lw_m7 182 rfl) rfl
theorem q1693 : (Jvm.Cond.code ({ cls := "BrassInspector", name := "trader", desc := "(III)I" } : Jvm.MethodName) prog_1_method_18_code (4 : Nat) (Option.some Jvm.ClassFile.FieldType.int)) ∈ lw_all := lw_g (lw_at lw_m7 183 rfl) rfl
theorem q1694 : (Jvm.Cond.classLink "BrassInspector" (148 : Nat) "BrassInspector$2") ∈ lw_all := lw_g (lw_at lw_m7 184 rfl) rfl
theorem q1695 : (Jvm.Cond.instantiable "BrassInspector$2" (4 : Nat)) ∈ lw_all := lw_g (lw_at lw_m7 185 rfl) rfl
theorem q1696 : (Jvm.Cond.methodLink "BrassInspector" (150 : Nat) ({ cls := "BrassInspector$2", name := "<init>", desc := "(LBrassInspector;III)V" } : Jvm.MethodName)) ∈ lw_all := lw_g (lw_at lw_m7 186 rfl) rfl
theorem q1697 : (Jvm.Cond.instanceMethod ({ cls := "BrassInspector$2", name := "<init>", desc := "(LBrassInspector;III)V" } : Jvm.MethodName)) ∈ lw_all := lw_g (lw_at lw_m7 187 rfl) rfl
theorem q1698 : (Jvm.Cond.code ({ cls := "BrassInspector$2", name := "<init>", desc := "(LBrassInspector;III)V" } : Jvm.MethodName) prog_3_method_1_code (5 : Nat) (Option.none : Option Jvm.ClassFile.FieldType)) ∈ lw_all := lw_g (lw_at lw_m7 188 rfl) rfl
theorem q1699 : (Jvm.Cond.methodLinkNest "BrassInspector$2" (17 : Nat) ({ cls := "BrassInspector$Deed", name := "<init>", desc := "()V" } : Jvm.MethodName) "BrassInspector") ∈ lw_tbl := lw_at lw_m7 189 rfl
theorem q1700 : (Jvm.Cond.fieldLink "BrassInspector$2" (7 : Nat) "BrassInspector$2" "val$fair" "I") ∈ lw_all := lw_g (lw_at lw_m7 190 rfl) rfl
theorem q1701 : (Jvm.Cond.fieldLink "BrassInspector$2" (11 : Nat) "BrassInspector$2" "val$coins" "I") ∈ lw_all := lw_g (lw_at lw_m7 191 rfl) rfl
theorem q1702 : (Jvm.Cond.fieldLink "BrassInspector$2" (14 : Nat) "BrassInspector$2" "val$drift" "I") ∈ lw_all := lw_g (lw_at lw_m7 192 rfl) rfl
theorem q1703 : (Jvm.Cond.fieldLink "BrassInspector$2" (1 : Nat) "BrassInspector$2" "this$0" "LBrassInspector;") ∈ lw_all := lw_g (lw_at lw_m7 193 rfl) rfl
theorem q1704 : (Jvm.Cond.laysFinal "BrassInspector$2" "BrassInspector$2" "val$fair" "I") ∈ lw_all := lw_g (lw_at lw_m7 194 rfl) rfl
theorem q1705 : (Jvm.Cond.soleField "BrassInspector$2" "val$fair") ∈ lw_all := lw_g (lw_at lw_m7 195 rfl) rfl
theorem q1706 : (Jvm.Cond.laysFinal "BrassInspector$2" "BrassInspector$2" "val$coins" "I") ∈ lw_all := lw_g (lw_at lw_m7 196 rfl) rfl
theorem q1707 : (Jvm.Cond.soleField "BrassInspector$2" "val$coins") ∈ lw_all := lw_g (lw_at lw_m7 197 rfl) rfl
theorem q1708 : (Jvm.Cond.laysFinal "BrassInspector$2" "BrassInspector$2" "val$drift" "I") ∈ lw_all := lw_g (lw_at lw_m7 198 rfl) rfl
theorem q1709 : (Jvm.Cond.soleField "BrassInspector$2" "val$drift") ∈ lw_all := lw_g (lw_at lw_m7 199 rfl) rfl
theorem q1710 : (Jvm.Cond.laysFinal "BrassInspector$2" "BrassInspector$2" "this$0" "LBrassInspector;") ∈ lw_all := lw_g (lw_at lw_m7 200 rfl) rfl
theorem q1711 : (Jvm.Cond.soleField "BrassInspector$2" "this$0") ∈ lw_all := lw_g (lw_at lw_m7 201 rfl) rfl
theorem q1712 : (Jvm.Cond.superclass "BrassInspector$2" "BrassInspector$Deed") ∈ lw_all := lw_g (lw_at lw_m7 202 rfl) rfl
theorem q1713 : (Jvm.Cond.methodLink "BrassInspectorLaw" (146 : Nat) ({ cls := "BrassInspectorLaw", name := "drift", desc := "(LBrassInspector;II[J)I" } : Jvm.MethodName)) ∈ lw_all := lw_g (lw_at lw_m7 203 rfl) rfl
theorem q1714 : (Jvm.Cond.static ({ cls := "BrassInspectorLaw", name := "drift", desc := "(LBrassInspector;II[J)I" } : Jvm.MethodName)) ∈ lw_all := lw_g (lw_at lw_m7 204 rfl) rfl
theorem q1715 : (Jvm.Cond.codeWith ({ cls := "BrassInspectorLaw", name := "drift", desc := "(LBrassInspector;II[J)I" } : Jvm.MethodName) method_5_code (5 : Nat) (Option.some Jvm.ClassFile.FieldType.int) [((0 : Nat), (10 : Nat), (13 : Nat), (13 : Nat)), ((0 : Nat), (10 : Nat), (17 : Nat), (15 : Nat))]) ∈ lw_all := lw_g (lw_at lw_m7 205 rfl) rfl
theorem q1716 : (Jvm.Cond.methodLink "BrassInspectorLaw" (23 : Nat) ({ cls := "BrassInspector", name := "drift", desc := "(II)I" } : Jvm.MethodName)) ∈ lw_all := lw_g (lw_at lw_m7 206 rfl) rfl
theorem q1717 : (Jvm.Cond.instanceMethod ({ cls := "BrassInspector", name := "drift", desc := "(II)I" } : Jvm.MethodName)) ∈ lw_all := lw_g (lw_at lw_m7 207 rfl) rfl
theorem q1718 : (Jvm.Cond.selects "BrassInspector" ({ cls := "BrassInspector", name := "drift", desc := "(II)I" } : Jvm.MethodName) ({ cls := "BrassInspector", name := "drift", desc := "(II)I" } : Jvm.MethodName)) ∈ lw_all := lw_g (lw_at lw_m7 208 rfl) rfl
theorem q1719 : (Jvm.Cond.code ({ cls := "BrassInspector", name := "drift", desc := "(II)I" } : Jvm.MethodName) prog_1_method_19_code (3 : Nat) (Option.some Jvm.ClassFile.FieldType.int)) ∈ lw_all := lw_g (lw_at lw_m7 209 rfl) rfl
theorem q1720 : (Jvm.Cond.methodLink "BrassInspector" (153 : Nat) ({ cls := "BrassInspector", name := "traderIn", desc := "(I)LBrassInspector$Round$Trader;" } : Jvm.MethodName)) ∈ lw_all := lw_g (lw_at lw_m7 210 rfl) rfl
theorem q1721 : (Jvm.Cond.privateMethod ({ cls := "BrassInspector", name := "traderIn", desc := "(I)LBrassInspector$Round$Trader;" } : Jvm.MethodName)) ∈ lw_tbl := lw_at lw_m7 211 rfl
theorem q1722 : (Jvm.Cond.instanceMethod ({ cls := "BrassInspector", name := "traderIn", desc := "(I)LBrassInspector$Round$Trader;" } : Jvm.MethodName)) ∈ lw_all := lw_g (lw_at lw_m7 212 rfl) rfl
theorem q1723 : (Jvm.Cond.code ({ cls := "BrassInspector", name := "traderIn", desc := "(I)LBrassInspector$Round$Trader;" } : Jvm.MethodName) prog_1_method_15_code (2 : Nat) (Option.some (Jvm.ClassFile.FieldType.object "BrassInspector$Round$Trader"))) ∈ lw_all := lw_g (lw_at lw_m7 213 rfl) rfl
theorem q1724 : (Jvm.Cond.methodLink "BrassInspector" (115 : Nat) ({ cls := "BrassInspector$Round", name := "traders", desc := "()Ljava/util/List;" } : Jvm.MethodName)) ∈ lw_all := lw_g (lw_at lw_m7 214 rfl) rfl
theorem q1725 : (Jvm.Cond.interfaceEntry "BrassInspector" (119 : Nat)) ∈ lw_tbl := lw_at lw_m7 215 rfl
theorem q1726 : (Jvm.Cond.methodLink "BrassInspector" (119 : Nat) ({ cls := "java/util/List", name := "size", desc := "()I" } : Jvm.MethodName)) ∈ lw_all := lw_g (lw_at lw_m7 216 rfl) rfl
theorem q1727 : (Jvm.Cond.methodLink "BrassInspector" (122 : Nat) ({ cls := "BrassInspector$Round", name := "trader", desc := "(I)LBrassInspector$Round$Trader;" } : Jvm.MethodName)) ∈ lw_all := lw_g (lw_at lw_m7 217 rfl) rfl
theorem q1728 : (Jvm.Cond.classLink "BrassInspector" (156 : Nat) "BrassInspector$Order") ∈ lw_all := lw_g (lw_at lw_m7 218 rfl) rfl
theorem q1729 : (Jvm.Cond.instantiable "BrassInspector$Order" (3 : Nat)) ∈ lw_all := lw_g (lw_at lw_m7 219 rfl) rfl
theorem q1730 : (Jvm.Cond.stringRef "BrassInspector" (158 : Nat) "drift") ∈ lw_tbl := lw_at lw_m7 220 rfl
theorem q1731 : (Jvm.Cond.methodLink "BrassInspector" (160 : Nat) ({ cls := "BrassInspector$Order", name := "<init>", desc := "(Ljava/lang/String;II)V" } : Jvm.MethodName)) ∈ lw_all := lw_g (lw_at lw_m7 221 rfl) rfl
theorem q1732 : (Jvm.Cond.instanceMethod ({ cls := "BrassInspector$Order", name := "<init>", desc := "(Ljava/lang/String;II)V" } : Jvm.MethodName)) ∈ lw_all := lw_g (lw_at lw_m7 222 rfl) rfl
theorem q1733 : (Jvm.Cond.code ({ cls := "BrassInspector$Order", name := "<init>", desc := "(Ljava/lang/String;II)V" } : Jvm.MethodName) prog_10_method_2_code (4 : Nat) (Option.none : Option Jvm.ClassFile.FieldType)) ∈ lw_all := lw_g (lw_at lw_m7 223 rfl) rfl
theorem q1734 : (Jvm.Cond.methodLinkNest "BrassInspector$Order" (9 : Nat) ({ cls := "BrassInspector$Deed", name := "<init>", desc := "()V" } : Jvm.MethodName) "BrassInspector") ∈ lw_tbl := lw_at lw_m7 224 rfl
theorem q1735 : (Jvm.Cond.fieldLink "BrassInspector$Order" (14 : Nat) "BrassInspector$Order" "word" "Ljava/lang/String;") ∈ lw_all := lw_g (lw_at lw_m7 225 rfl) rfl
theorem q1736 : (Jvm.Cond.fieldLink "BrassInspector$Order" (18 : Nat) "BrassInspector$Order" "one" "I") ∈ lw_all := lw_g (lw_at lw_m7 226 rfl) rfl
theorem q1737 : (Jvm.Cond.fieldLink "BrassInspector$Order" (22 : Nat) "BrassInspector$Order" "other" "I") ∈ lw_all := lw_g (lw_at lw_m7 227 rfl) rfl
theorem q1738 : (Jvm.Cond.laysFinal "BrassInspector$Order" "BrassInspector$Order" "word" "Ljava/lang/String;") ∈ lw_all := lw_g (lw_at lw_m7 228 rfl) rfl
theorem q1739 : (Jvm.Cond.soleField "BrassInspector$Order" "word") ∈ lw_all := lw_g (lw_at lw_m7 229 rfl) rfl
theorem q1740 : (Jvm.Cond.laysFinal "BrassInspector$Order" "BrassInspector$Order" "one" "I") ∈ lw_all := lw_g (lw_at lw_m7 230 rfl) rfl
theorem q1741 : (Jvm.Cond.soleField "BrassInspector$Order" "one") ∈ lw_all := lw_g (lw_at lw_m7 231 rfl) rfl
theorem q1742 : (Jvm.Cond.laysFinal "BrassInspector$Order" "BrassInspector$Order" "other" "I") ∈ lw_all := lw_g (lw_at lw_m7 232 rfl) rfl
theorem q1743 : (Jvm.Cond.soleField "BrassInspector$Order" "other") ∈ lw_all := lw_g (lw_at lw_m7 233 rfl) rfl
theorem q1744 : (Jvm.Cond.superclass "BrassInspector$Order" "BrassInspector$Deed") ∈ lw_all := lw_g (lw_at lw_m7 234 rfl) rfl
theorem q1745 : (Jvm.Cond.methodLink "BrassInspectorLaw" (149 : Nat) ({ cls := "BrassInspectorLaw", name := "coins", desc := "(LBrassInspector;II[J)I" } : Jvm.MethodName)) ∈ lw_all := lw_g (lw_at lw_m7 235 rfl) rfl
theorem q1746 : (Jvm.Cond.static ({ cls := "BrassInspectorLaw", name := "coins", desc := "(LBrassInspector;II[J)I" } : Jvm.MethodName)) ∈ lw_all := lw_g (lw_at lw_m7 236 rfl) rfl
theorem q1747 : (Jvm.Cond.codeWith ({ cls := "BrassInspectorLaw", name := "coins", desc := "(LBrassInspector;II[J)I" } : Jvm.MethodName) method_6_code (5 : Nat) (Option.some Jvm.ClassFile.FieldType.int) [((0 : Nat), (10 : Nat), (13 : Nat), (13 : Nat)), ((0 : Nat), (10 : Nat), (17 : Nat), (15 : Nat))]) ∈ lw_all := lw_g (lw_at lw_m7 237 rfl) rfl
theorem q1748 : (Jvm.Cond.methodLink "BrassInspectorLaw" (26 : Nat) ({ cls := "BrassInspector", name := "coins", desc := "(II)I" } : Jvm.MethodName)) ∈ lw_all := lw_g (lw_at lw_m7 238 rfl) rfl
theorem q1749 : (Jvm.Cond.instanceMethod ({ cls := "BrassInspector", name := "coins", desc := "(II)I" } : Jvm.MethodName)) ∈ lw_all := lw_g (lw_at lw_m7 239 rfl) rfl
theorem q1750 : (Jvm.Cond.selects "BrassInspector" ({ cls := "BrassInspector", name := "coins", desc := "(II)I" } : Jvm.MethodName) ({ cls := "BrassInspector", name := "coins", desc := "(II)I" } : Jvm.MethodName)) ∈ lw_all := lw_g (lw_at lw_m8 0 rfl) rfl
theorem q1751 : (Jvm.Cond.code ({ cls := "BrassInspector", name := "coins", desc := "(II)I" } : Jvm.MethodName) prog_1_method_20_code (3 : Nat) (Option.some Jvm.ClassFile.FieldType.int)) ∈ lw_all := lw_g (lw_at lw_m8 1 rfl) rfl
theorem q1752 : (Jvm.Cond.classLink "BrassInspector" (163 : Nat) "BrassInspector$3") ∈ lw_all := lw_g (lw_at lw_m8 2 rfl) rfl
theorem q1753 : (Jvm.Cond.instantiable "BrassInspector$3" (3 : Nat)) ∈ lw_all := lw_g (lw_at lw_m8 3 rfl) rfl
theorem q1754 : (Jvm.Cond.methodLink "BrassInspector" (165 : Nat) ({ cls := "BrassInspector$3", name := "<init>", desc := "(LBrassInspector;II)V" } : Jvm.MethodName)) ∈ lw_all := lw_g (lw_at lw_m8 4 rfl) rfl
theorem q1755 : (Jvm.Cond.instanceMethod ({ cls := "BrassInspector$3", name := "<init>", desc := "(LBrassInspector;II)V" } : Jvm.MethodName)) ∈ lw_all := lw_g (lw_at lw_m8 5 rfl) rfl
theorem q1756 : (Jvm.Cond.code ({ cls := "BrassInspector$3", name := "<init>", desc := "(LBrassInspector;II)V" } : Jvm.MethodName) prog_4_method_1_code (4 : Nat) (Option.none : Option Jvm.ClassFile.FieldType)) ∈ lw_all := lw_g (lw_at lw_m8 6 rfl) rfl
theorem q1757 : (Jvm.Cond.methodLinkNest "BrassInspector$3" (14 : Nat) ({ cls := "BrassInspector$Deed", name := "<init>", desc := "()V" } : Jvm.MethodName) "BrassInspector") ∈ lw_tbl := lw_at lw_m8 7 rfl
theorem q1758 : (Jvm.Cond.fieldLink "BrassInspector$3" (7 : Nat) "BrassInspector$3" "val$trader" "I") ∈ lw_all := lw_g (lw_at lw_m8 8 rfl) rfl
theorem q1759 : (Jvm.Cond.fieldLink "BrassInspector$3" (11 : Nat) "BrassInspector$3" "val$many" "I") ∈ lw_all := lw_g (lw_at lw_m8 9 rfl) rfl
theorem q1760 : (Jvm.Cond.fieldLink "BrassInspector$3" (1 : Nat) "BrassInspector$3" "this$0" "LBrassInspector;") ∈ lw_all := lw_g (lw_at lw_m8 10 rfl) rfl
theorem q1761 : (Jvm.Cond.laysFinal "BrassInspector$3" "BrassInspector$3" "val$trader" "I") ∈ lw_all := lw_g (lw_at lw_m8 11 rfl) rfl
theorem q1762 : (Jvm.Cond.soleField "BrassInspector$3" "val$trader") ∈ lw_all := lw_g (lw_at lw_m8 12 rfl) rfl
theorem q1763 : (Jvm.Cond.laysFinal "BrassInspector$3" "BrassInspector$3" "val$many" "I") ∈ lw_all := lw_g (lw_at lw_m8 13 rfl) rfl
theorem q1764 : (Jvm.Cond.soleField "BrassInspector$3" "val$many") ∈ lw_all := lw_g (lw_at lw_m8 14 rfl) rfl
theorem q1765 : (Jvm.Cond.laysFinal "BrassInspector$3" "BrassInspector$3" "this$0" "LBrassInspector;") ∈ lw_all := lw_g (lw_at lw_m8 15 rfl) rfl
theorem q1766 : (Jvm.Cond.soleField "BrassInspector$3" "this$0") ∈ lw_all := lw_g (lw_at lw_m8 16 rfl) rfl
theorem q1767 : (Jvm.Cond.superclass "BrassInspector$3" "BrassInspector$Deed") ∈ lw_all := lw_g (lw_at lw_m8 17 rfl) rfl
theorem q1768 : (Jvm.Cond.methodLink "BrassInspectorLaw" (152 : Nat) ({ cls := "BrassInspectorLaw", name := "traderOf", desc := "(LBrassInspector;II[J)I" } : Jvm.MethodName)) ∈ lw_all := lw_g (lw_at lw_m8 18 rfl) rfl
theorem q1769 : (Jvm.Cond.static ({ cls := "BrassInspectorLaw", name := "traderOf", desc := "(LBrassInspector;II[J)I" } : Jvm.MethodName)) ∈ lw_all := lw_g (lw_at lw_m8 19 rfl) rfl
theorem q1770 : (Jvm.Cond.codeWith ({ cls := "BrassInspectorLaw", name := "traderOf", desc := "(LBrassInspector;II[J)I" } : Jvm.MethodName) method_7_code (5 : Nat) (Option.some Jvm.ClassFile.FieldType.int) [((0 : Nat), (10 : Nat), (13 : Nat), (13 : Nat)), ((0 : Nat), (10 : Nat), (17 : Nat), (15 : Nat))]) ∈ lw_all := lw_g (lw_at lw_m8 20 rfl) rfl
theorem q1771 : (Jvm.Cond.methodLink "BrassInspectorLaw" (29 : Nat) ({ cls := "BrassInspector", name := "traderOf", desc := "(II)I" } : Jvm.MethodName)) ∈ lw_all := lw_g (lw_at lw_m8 21 rfl) rfl
theorem q1772 : (Jvm.Cond.instanceMethod ({ cls := "BrassInspector", name := "traderOf", desc := "(II)I" } : Jvm.MethodName)) ∈ lw_all := lw_g (lw_at lw_m8 22 rfl) rfl
theorem q1773 : (Jvm.Cond.selects "BrassInspector" ({ cls := "BrassInspector", name := "traderOf", desc := "(II)I" } : Jvm.MethodName) ({ cls := "BrassInspector", name := "traderOf", desc := "(II)I" } : Jvm.MethodName)) ∈ lw_all := lw_g (lw_at lw_m8 23 rfl) rfl
theorem q1774 : (Jvm.Cond.code ({ cls := "BrassInspector", name := "traderOf", desc := "(II)I" } : Jvm.MethodName) prog_1_method_21_code (4 : Nat) (Option.some Jvm.ClassFile.FieldType.int)) ∈ lw_all := lw_g (lw_at lw_m8 24 rfl) rfl
theorem q1775 : (Jvm.Cond.methodLink "BrassInspector" (166 : Nat) ({ cls := "BrassInspector$Round$Trader", name := "fair", desc := "()I" } : Jvm.MethodName)) ∈ lw_all := lw_g (lw_at lw_m8 25 rfl) rfl
theorem q1776 : (Jvm.Cond.methodLink "BrassInspector" (171 : Nat) ({ cls := "BrassInspector$Round$Trader", name := "coins", desc := "()I" } : Jvm.MethodName)) ∈ lw_all := lw_g (lw_at lw_m8 26 rfl) rfl
theorem q1777 : (Jvm.Cond.methodLink "BrassInspector" (174 : Nat) ({ cls := "BrassInspector$Round$Trader", name := "debt", desc := "()I" } : Jvm.MethodName)) ∈ lw_all := lw_g (lw_at lw_m8 27 rfl) rfl
theorem q1778 : (Jvm.Cond.methodLink "BrassInspector" (177 : Nat) ({ cls := "BrassInspector$Round$Trader", name := "error", desc := "()I" } : Jvm.MethodName)) ∈ lw_all := lw_g (lw_at lw_m8 28 rfl) rfl
theorem q1779 : (Jvm.Cond.methodLink "BrassInspector" (179 : Nat) ({ cls := "BrassInspector$Round$Trader", name := "drift", desc := "()I" } : Jvm.MethodName)) ∈ lw_all := lw_g (lw_at lw_m8 29 rfl) rfl
theorem q1780 : (Jvm.Cond.instanceMethod ({ cls := "BrassInspector$Round$Trader", name := "drift", desc := "()I" } : Jvm.MethodName)) ∈ lw_all := lw_g (lw_at lw_m8 30 rfl) rfl
theorem q1781 : (Jvm.Cond.selects "BrassInspector$Round$Trader" ({ cls := "BrassInspector$Round$Trader", name := "drift", desc := "()I" } : Jvm.MethodName) ({ cls := "BrassInspector$Round$Trader", name := "drift", desc := "()I" } : Jvm.MethodName)) ∈ lw_all := lw_g (lw_at lw_m8 31 rfl) rfl
theorem q1782 : (Jvm.Cond.code ({ cls := "BrassInspector$Round$Trader", name := "drift", desc := "()I" } : Jvm.MethodName) prog_17_method_8_code (1 : Nat) (Option.some Jvm.ClassFile.FieldType.int)) ∈ lw_all := lw_g (lw_at lw_m8 32 rfl) rfl
theorem q1783 : (Jvm.Cond.methodLink "BrassInspector" (181 : Nat) ({ cls := "BrassInspector$Round$Trader", name := "seal", desc := "()I" } : Jvm.MethodName)) ∈ lw_all := lw_g (lw_at lw_m8 33 rfl) rfl
theorem q1784 : (Jvm.Cond.instanceMethod ({ cls := "BrassInspector$Round$Trader", name := "seal", desc := "()I" } : Jvm.MethodName)) ∈ lw_all := lw_g (lw_at lw_m8 34 rfl) rfl
theorem q1785 : (Jvm.Cond.selects "BrassInspector$Round$Trader" ({ cls := "BrassInspector$Round$Trader", name := "seal", desc := "()I" } : Jvm.MethodName) ({ cls := "BrassInspector$Round$Trader", name := "seal", desc := "()I" } : Jvm.MethodName)) ∈ lw_all := lw_g (lw_at lw_m8 35 rfl) rfl
theorem q1786 : (Jvm.Cond.code ({ cls := "BrassInspector$Round$Trader", name := "seal", desc := "()I" } : Jvm.MethodName) prog_17_method_10_code (1 : Nat) (Option.some Jvm.ClassFile.FieldType.int)) ∈ lw_all := lw_g (lw_at lw_m8 36 rfl) rfl
theorem q1787 : (Jvm.Cond.methodLink "BrassInspector" (184 : Nat) ({ cls := "BrassInspector$Round$Trader", name := "shave", desc := "()I" } : Jvm.MethodName)) ∈ lw_all := lw_g (lw_at lw_m8 37 rfl) rfl
theorem q1788 : (Jvm.Cond.methodLink "BrassInspector" (187 : Nat) ({ cls := "BrassInspector$Round$Trader", name := "isBarred", desc := "()Z" } : Jvm.MethodName)) ∈ lw_all := lw_g (lw_at lw_m8 38 rfl) rfl
theorem q1789 : (Jvm.Cond.methodLink "BrassInspector" (191 : Nat) ({ cls := "BrassInspector$Round$Trader", name := "fined", desc := "()I" } : Jvm.MethodName)) ∈ lw_all := lw_g (lw_at lw_m8 39 rfl) rfl
theorem q1790 : (Jvm.Cond.instanceMethod ({ cls := "BrassInspector$Round$Trader", name := "fined", desc := "()I" } : Jvm.MethodName)) ∈ lw_all := lw_g (lw_at lw_m8 40 rfl) rfl
theorem q1791 : (Jvm.Cond.selects "BrassInspector$Round$Trader" ({ cls := "BrassInspector$Round$Trader", name := "fined", desc := "()I" } : Jvm.MethodName) ({ cls := "BrassInspector$Round$Trader", name := "fined", desc := "()I" } : Jvm.MethodName)) ∈ lw_all := lw_g (lw_at lw_m8 41 rfl) rfl
theorem q1792 : (Jvm.Cond.code ({ cls := "BrassInspector$Round$Trader", name := "fined", desc := "()I" } : Jvm.MethodName) prog_17_method_13_code (1 : Nat) (Option.some Jvm.ClassFile.FieldType.int)) ∈ lw_all := lw_g (lw_at lw_m8 42 rfl) rfl
theorem q1793 : (Jvm.Cond.methodLink "BrassInspector" (194 : Nat) ({ cls := "BrassInspector$Round$Trader", name := "inspected", desc := "()I" } : Jvm.MethodName)) ∈ lw_all := lw_g (lw_at lw_m8 43 rfl) rfl
theorem q1794 : (Jvm.Cond.instanceMethod ({ cls := "BrassInspector$Round$Trader", name := "inspected", desc := "()I" } : Jvm.MethodName)) ∈ lw_all := lw_g (lw_at lw_m8 44 rfl) rfl
theorem q1795 : (Jvm.Cond.selects "BrassInspector$Round$Trader" ({ cls := "BrassInspector$Round$Trader", name := "inspected", desc := "()I" } : Jvm.MethodName) ({ cls := "BrassInspector$Round$Trader", name := "inspected", desc := "()I" } : Jvm.MethodName)) ∈ lw_all := lw_g (lw_at lw_m8 45 rfl) rfl
theorem q1796 : (Jvm.Cond.code ({ cls := "BrassInspector$Round$Trader", name := "inspected", desc := "()I" } : Jvm.MethodName) prog_17_method_14_code (1 : Nat) (Option.some Jvm.ClassFile.FieldType.int)) ∈ lw_all := lw_g (lw_at lw_m8 46 rfl) rfl
theorem q1797 : (Jvm.Cond.methodLink "BrassInspectorLaw" (155 : Nat) ({ cls := "BrassInspectorLaw", name := "traderAt", desc := "(LBrassInspector;II[J)I" } : Jvm.MethodName)) ∈ lw_all := lw_g (lw_at lw_m8 47 rfl) rfl
theorem q1798 : (Jvm.Cond.static ({ cls := "BrassInspectorLaw", name := "traderAt", desc := "(LBrassInspector;II[J)I" } : Jvm.MethodName)) ∈ lw_all := lw_g (lw_at lw_m8 48 rfl) rfl
theorem q1799 : (Jvm.Cond.codeWith ({ cls := "BrassInspectorLaw", name := "traderAt", desc := "(LBrassInspector;II[J)I" } : Jvm.MethodName) method_8_code (5 : Nat) (Option.some Jvm.ClassFile.FieldType.int) [((0 : Nat), (10 : Nat), (13 : Nat), (13 : Nat)), ((0 : Nat), (10 : Nat), (17 : Nat), (35 : Nat))]) ∈ lw_all := lw_g (lw_at lw_m8 49 rfl) rfl
theorem q1800 : (Jvm.Cond.classLink "BrassInspectorLaw" (35 : Nat) "java/util/NoSuchElementException") ∈ lw_all := lw_g (lw_at lw_m8 50 rfl) rfl
theorem q1801 : (Jvm.Cond.methodLink "BrassInspectorLaw" (32 : Nat) ({ cls := "BrassInspector", name := "traderAt", desc := "(II)I" } : Jvm.MethodName)) ∈ lw_all := lw_g (lw_at lw_m8 51 rfl) rfl
theorem q1802 : (Jvm.Cond.instanceMethod ({ cls := "BrassInspector", name := "traderAt", desc := "(II)I" } : Jvm.MethodName)) ∈ lw_all := lw_g (lw_at lw_m8 52 rfl) rfl
theorem q1803 : (Jvm.Cond.selects "BrassInspector" ({ cls := "BrassInspector", name := "traderAt", desc := "(II)I" } : Jvm.MethodName) ({ cls := "BrassInspector", name := "traderAt", desc := "(II)I" } : Jvm.MethodName)) ∈ lw_all := lw_g (lw_at lw_m8 53 rfl) rfl
theorem q1804 : (Jvm.Cond.code ({ cls := "BrassInspector", name := "traderAt", desc := "(II)I" } : Jvm.MethodName) prog_1_method_22_code (6 : Nat) (Option.some Jvm.ClassFile.FieldType.int)) ∈ lw_all := lw_g (lw_at lw_m8 54 rfl) rfl
theorem q1805 : (Jvm.Cond.methodLink "BrassInspector" (197 : Nat) ({ cls := "BrassInspector$Round", name := "of", desc := "(I)Ljava/lang/Iterable;" } : Jvm.MethodName)) ∈ lw_all := lw_g (lw_at lw_m8 55 rfl) rfl
theorem q1806 : (Jvm.Cond.interfaceEntry "BrassInspector" (201 : Nat)) ∈ lw_tbl := lw_at lw_m8 56 rfl
theorem q1807 : (Jvm.Cond.methodLink "BrassInspector" (201 : Nat) ({ cls := "java/lang/Iterable", name := "iterator", desc := "()Ljava/util/Iterator;" } : Jvm.MethodName)) ∈ lw_all := lw_g (lw_at lw_m8 57 rfl) rfl
theorem q1808 : (Jvm.Cond.classLink "BrassInspector" (167 : Nat) "BrassInspector$Round$Trader") ∈ lw_all := lw_g (lw_at lw_m8 58 rfl) rfl
theorem q1809 : (Jvm.Cond.methodLink "BrassInspector" (215 : Nat) ({ cls := "BrassInspector$Round$Trader", name := "number", desc := "()I" } : Jvm.MethodName)) ∈ lw_all := lw_g (lw_at lw_m8 59 rfl) rfl
theorem q1810 : (Jvm.Cond.instanceMethod ({ cls := "BrassInspector$Round$Trader", name := "number", desc := "()I" } : Jvm.MethodName)) ∈ lw_all := lw_g (lw_at lw_m8 60 rfl) rfl
theorem q1811 : (Jvm.Cond.selects "BrassInspector$Round$Trader" ({ cls := "BrassInspector$Round$Trader", name := "number", desc := "()I" } : Jvm.MethodName) ({ cls := "BrassInspector$Round$Trader", name := "number", desc := "()I" } : Jvm.MethodName)) ∈ lw_all := lw_g (lw_at lw_m8 61 rfl) rfl
theorem q1812 : (Jvm.Cond.code ({ cls := "BrassInspector$Round$Trader", name := "number", desc := "()I" } : Jvm.MethodName) prog_17_method_3_code (1 : Nat) (Option.some Jvm.ClassFile.FieldType.int)) ∈ lw_all := lw_g (lw_at lw_m8 62 rfl) rfl
theorem q1813 : (Jvm.Cond.classLink "BrassInspector" (58 : Nat) "java/util/NoSuchElementException") ∈ lw_all := lw_g (lw_at lw_m8 63 rfl) rfl
theorem q1814 : (Jvm.Cond.methodLink "BrassInspector" (60 : Nat) ({ cls := "java/util/NoSuchElementException", name := "<init>", desc := "()V" } : Jvm.MethodName)) ∈ lw_all := lw_g (lw_at lw_m8 64 rfl) rfl
theorem q1815 : (Jvm.Cond.methodLink "BrassInspectorLaw" (158 : Nat) ({ cls := "BrassInspectorLaw", name := "fairOf", desc := "(LBrassInspector;II[J)I" } : Jvm.MethodName)) ∈ lw_all := lw_g (lw_at lw_m8 65 rfl) rfl
theorem q1816 : (Jvm.Cond.static ({ cls := "BrassInspectorLaw", name := "fairOf", desc := "(LBrassInspector;II[J)I" } : Jvm.MethodName)) ∈ lw_all := lw_g (lw_at lw_m8 66 rfl) rfl
theorem q1817 : (Jvm.Cond.codeWith ({ cls := "BrassInspectorLaw", name := "fairOf", desc := "(LBrassInspector;II[J)I" } : Jvm.MethodName) method_9_code (5 : Nat) (Option.some Jvm.ClassFile.FieldType.int) [((0 : Nat), (10 : Nat), (13 : Nat), (13 : Nat)), ((0 : Nat), (10 : Nat), (17 : Nat), (15 : Nat))]) ∈ lw_all := lw_g (lw_at lw_m8 67 rfl) rfl
theorem q1818 : (Jvm.Cond.methodLink "BrassInspectorLaw" (37 : Nat) ({ cls := "BrassInspector", name := "fairOf", desc := "(II)I" } : Jvm.MethodName)) ∈ lw_all := lw_g (lw_at lw_m8 68 rfl) rfl
theorem q1819 : (Jvm.Cond.instanceMethod ({ cls := "BrassInspector", name := "fairOf", desc := "(II)I" } : Jvm.MethodName)) ∈ lw_all := lw_g (lw_at lw_m8 69 rfl) rfl
theorem q1820 : (Jvm.Cond.selects "BrassInspector" ({ cls := "BrassInspector", name := "fairOf", desc := "(II)I" } : Jvm.MethodName) ({ cls := "BrassInspector", name := "fairOf", desc := "(II)I" } : Jvm.MethodName)) ∈ lw_all := lw_g (lw_at lw_m8 70 rfl) rfl
theorem q1821 : (Jvm.Cond.code ({ cls := "BrassInspector", name := "fairOf", desc := "(II)I" } : Jvm.MethodName) prog_1_method_23_code (3 : Nat) (Option.some Jvm.ClassFile.FieldType.int)) ∈ lw_all := lw_g (lw_at lw_m8 71 rfl) rfl
theorem q1822 : (Jvm.Cond.methodLink "BrassInspector" (218 : Nat) ({ cls := "BrassInspector$Round", name := "rateOf", desc := "(I)I" } : Jvm.MethodName)) ∈ lw_all := lw_g (lw_at lw_m8 72 rfl) rfl
theorem q1823 : (Jvm.Cond.instanceMethod ({ cls := "BrassInspector$Round", name := "rateOf", desc := "(I)I" } : Jvm.MethodName)) ∈ lw_all := lw_g (lw_at lw_m8 73 rfl) rfl
theorem q1824 : (Jvm.Cond.selects "BrassInspector$Round" ({ cls := "BrassInspector$Round", name := "rateOf", desc := "(I)I" } : Jvm.MethodName) ({ cls := "BrassInspector$Round", name := "rateOf", desc := "(I)I" } : Jvm.MethodName)) ∈ lw_all := lw_g (lw_at lw_m8 74 rfl) rfl
theorem q1825 : (Jvm.Cond.code ({ cls := "BrassInspector$Round", name := "rateOf", desc := "(I)I" } : Jvm.MethodName) prog_13_method_8_code (2 : Nat) (Option.some Jvm.ClassFile.FieldType.int)) ∈ lw_all := lw_g (lw_at lw_m8 75 rfl) rfl
theorem q1826 : (Jvm.Cond.methodLink "BrassInspector" (222 : Nat) ({ cls := "BrassInspector$Round", name := "tradersOf", desc := "(I)I" } : Jvm.MethodName)) ∈ lw_all := lw_g (lw_at lw_m8 76 rfl) rfl
theorem q1827 : (Jvm.Cond.instanceMethod ({ cls := "BrassInspector$Round", name := "tradersOf", desc := "(I)I" } : Jvm.MethodName)) ∈ lw_all := lw_g (lw_at lw_m8 77 rfl) rfl
theorem q1828 : (Jvm.Cond.selects "BrassInspector$Round" ({ cls := "BrassInspector$Round", name := "tradersOf", desc := "(I)I" } : Jvm.MethodName) ({ cls := "BrassInspector$Round", name := "tradersOf", desc := "(I)I" } : Jvm.MethodName)) ∈ lw_all := lw_g (lw_at lw_m8 78 rfl) rfl
theorem q1829 : (Jvm.Cond.code ({ cls := "BrassInspector$Round", name := "tradersOf", desc := "(I)I" } : Jvm.MethodName) prog_13_method_28_code (5 : Nat) (Option.some Jvm.ClassFile.FieldType.int)) ∈ lw_all := lw_g (lw_at lw_m8 79 rfl) rfl
theorem q1830 : (Jvm.Cond.methodLink "BrassInspector" (225 : Nat) ({ cls := "BrassInspector$Round", name := "sealsOf", desc := "(I)I" } : Jvm.MethodName)) ∈ lw_all := lw_g (lw_at lw_m8 80 rfl) rfl
theorem q1831 : (Jvm.Cond.instanceMethod ({ cls := "BrassInspector$Round", name := "sealsOf", desc := "(I)I" } : Jvm.MethodName)) ∈ lw_all := lw_g (lw_at lw_m8 81 rfl) rfl
theorem q1832 : (Jvm.Cond.selects "BrassInspector$Round" ({ cls := "BrassInspector$Round", name := "sealsOf", desc := "(I)I" } : Jvm.MethodName) ({ cls := "BrassInspector$Round", name := "sealsOf", desc := "(I)I" } : Jvm.MethodName)) ∈ lw_all := lw_g (lw_at lw_m8 82 rfl) rfl
theorem q1833 : (Jvm.Cond.code ({ cls := "BrassInspector$Round", name := "sealsOf", desc := "(I)I" } : Jvm.MethodName) prog_13_method_29_code (5 : Nat) (Option.some Jvm.ClassFile.FieldType.int)) ∈ lw_all := lw_g (lw_at lw_m8 83 rfl) rfl
theorem q1834 : (Jvm.Cond.methodLink "BrassInspector$Round" (213 : Nat) ({ cls := "BrassInspector$Round$Trader", name := "isSealed", desc := "()Z" } : Jvm.MethodName)) ∈ lw_all := lw_g (lw_at lw_m8 84 rfl) rfl
theorem q1835 : (Jvm.Cond.methodLink "BrassInspector" (228 : Nat) ({ cls := "BrassInspector$Round", name := "fairNow", desc := "()I" } : Jvm.MethodName)) ∈ lw_all := lw_g (lw_at lw_m8 85 rfl) rfl
theorem q1836 : (Jvm.Cond.methodLink "BrassInspector" (231 : Nat) ({ cls := "BrassInspector$Round", name := "finesOf", desc := "(I)I" } : Jvm.MethodName)) ∈ lw_all := lw_g (lw_at lw_m8 86 rfl) rfl
theorem q1837 : (Jvm.Cond.instanceMethod ({ cls := "BrassInspector$Round", name := "finesOf", desc := "(I)I" } : Jvm.MethodName)) ∈ lw_all := lw_g (lw_at lw_m8 87 rfl) rfl
theorem q1838 : (Jvm.Cond.selects "BrassInspector$Round" ({ cls := "BrassInspector$Round", name := "finesOf", desc := "(I)I" } : Jvm.MethodName) ({ cls := "BrassInspector$Round", name := "finesOf", desc := "(I)I" } : Jvm.MethodName)) ∈ lw_all := lw_g (lw_at lw_m8 88 rfl) rfl
theorem q1839 : (Jvm.Cond.code ({ cls := "BrassInspector$Round", name := "finesOf", desc := "(I)I" } : Jvm.MethodName) prog_13_method_9_code (2 : Nat) (Option.some Jvm.ClassFile.FieldType.int)) ∈ lw_all := lw_g (lw_at lw_m8 89 rfl) rfl
theorem q1840 : (Jvm.Cond.methodLink "BrassInspectorLaw" (161 : Nat) ({ cls := "BrassInspectorLaw", name := "next", desc := "(LBrassInspector;[J)I" } : Jvm.MethodName)) ∈ lw_all := lw_g (lw_at lw_m8 90 rfl) rfl
theorem q1841 : (Jvm.Cond.static ({ cls := "BrassInspectorLaw", name := "next", desc := "(LBrassInspector;[J)I" } : Jvm.MethodName)) ∈ lw_all := lw_g (lw_at lw_m8 91 rfl) rfl
theorem q1842 : (Jvm.Cond.codeWith ({ cls := "BrassInspectorLaw", name := "next", desc := "(LBrassInspector;[J)I" } : Jvm.MethodName) method_10_code (3 : Nat) (Option.some Jvm.ClassFile.FieldType.int) [((0 : Nat), (8 : Nat), (11 : Nat), (35 : Nat))]) ∈ lw_all := lw_g (lw_at lw_m8 92 rfl) rfl
theorem q1843 : (Jvm.Cond.methodLink "BrassInspectorLaw" (40 : Nat) ({ cls := "BrassInspector", name := "next", desc := "()I" } : Jvm.MethodName)) ∈ lw_all := lw_g (lw_at lw_m8 93 rfl) rfl
theorem q1844 : (Jvm.Cond.instanceMethod ({ cls := "BrassInspector", name := "next", desc := "()I" } : Jvm.MethodName)) ∈ lw_all := lw_g (lw_at lw_m8 94 rfl) rfl
theorem q1845 : (Jvm.Cond.selects "BrassInspector" ({ cls := "BrassInspector", name := "next", desc := "()I" } : Jvm.MethodName) ({ cls := "BrassInspector", name := "next", desc := "()I" } : Jvm.MethodName)) ∈ lw_all := lw_g (lw_at lw_m8 95 rfl) rfl
theorem q1846 : (Jvm.Cond.code ({ cls := "BrassInspector", name := "next", desc := "()I" } : Jvm.MethodName) prog_1_method_24_code (2 : Nat) (Option.some Jvm.ClassFile.FieldType.int)) ∈ lw_all := lw_g (lw_at lw_m8 96 rfl) rfl
theorem q1847 : (Jvm.Cond.methodLink "BrassInspector" (234 : Nat) ({ cls := "BrassInspector$Round", name := "next", desc := "()LBrassInspector$Round$Trader;" } : Jvm.MethodName)) ∈ lw_all := lw_g (lw_at lw_m8 97 rfl) rfl
theorem q1848 : (Jvm.Cond.instanceMethod ({ cls := "BrassInspector$Round", name := "next", desc := "()LBrassInspector$Round$Trader;" } : Jvm.MethodName)) ∈ lw_all := lw_g (lw_at lw_m8 98 rfl) rfl
theorem q1849 : (Jvm.Cond.selects "BrassInspector$Round" ({ cls := "BrassInspector$Round", name := "next", desc := "()LBrassInspector$Round$Trader;" } : Jvm.MethodName) ({ cls := "BrassInspector$Round", name := "next", desc := "()LBrassInspector$Round$Trader;" } : Jvm.MethodName)) ∈ lw_all := lw_g (lw_at lw_m8 99 rfl) rfl
theorem q1850 : (Jvm.Cond.code ({ cls := "BrassInspector$Round", name := "next", desc := "()LBrassInspector$Round$Trader;" } : Jvm.MethodName) prog_13_method_20_code (6 : Nat) (Option.some (Jvm.ClassFile.FieldType.object "BrassInspector$Round$Trader"))) ∈ lw_all := lw_g (lw_at lw_m8 100 rfl) rfl
theorem q1851 : (Jvm.Cond.classLink "BrassInspector$Round" (133 : Nat) "BrassInspector$Round$1Rest") ∈ lw_all := lw_g (lw_at lw_m8 101 rfl) rfl
theorem q1852 : (Jvm.Cond.instantiable "BrassInspector$Round$1Rest" (2 : Nat)) ∈ lw_all := lw_g (lw_at lw_m8 102 rfl) rfl
theorem q1853 : (Jvm.Cond.methodLink "BrassInspector$Round" (135 : Nat) ({ cls := "BrassInspector$Round$1Rest", name := "<init>", desc := "(LBrassInspector$Round;LBrassInspector$Round$Trader;)V" } : Jvm.MethodName)) ∈ lw_all := lw_g (lw_at lw_m8 103 rfl) rfl
theorem q1854 : (Jvm.Cond.instanceMethod ({ cls := "BrassInspector$Round$1Rest", name := "<init>", desc := "(LBrassInspector$Round;LBrassInspector$Round$Trader;)V" } : Jvm.MethodName)) ∈ lw_all := lw_g (lw_at lw_m8 104 rfl) rfl
theorem q1855 : (Jvm.Cond.code ({ cls := "BrassInspector$Round$1Rest", name := "<init>", desc := "(LBrassInspector$Round;LBrassInspector$Round$Trader;)V" } : Jvm.MethodName) prog_14_method_1_code (3 : Nat) (Option.none : Option Jvm.ClassFile.FieldType)) ∈ lw_all := lw_g (lw_at lw_m8 105 rfl) rfl
theorem q1856 : (Jvm.Cond.methodLink "BrassInspector$Round$1Rest" (9 : Nat) ({ cls := "java/lang/Object", name := "<init>", desc := "()V" } : Jvm.MethodName)) ∈ lw_all := lw_g (lw_at lw_m8 106 rfl) rfl
theorem q1857 : (Jvm.Cond.fieldLink "BrassInspector$Round$1Rest" (15 : Nat) "BrassInspector$Round$1Rest" "trader" "LBrassInspector$Round$Trader;") ∈ lw_all := lw_g (lw_at lw_m8 107 rfl) rfl
theorem q1858 : (Jvm.Cond.fieldLinkNest "BrassInspector$Round" (142 : Nat) "BrassInspector$Round$1Rest" "trader" "LBrassInspector$Round$Trader;" "BrassInspector") ∈ lw_tbl := lw_at lw_m8 108 rfl
theorem q1859 : (Jvm.Cond.fieldLink "BrassInspector$Round$1Rest" (3 : Nat) "BrassInspector$Round$1Rest" "this$0" "LBrassInspector$Round;") ∈ lw_all := lw_g (lw_at lw_m8 109 rfl) rfl
theorem q1860 : (Jvm.Cond.laysFinal "BrassInspector$Round$1Rest" "BrassInspector$Round$1Rest" "trader" "LBrassInspector$Round$Trader;") ∈ lw_all := lw_g (lw_at lw_m8 110 rfl) rfl
theorem q1861 : (Jvm.Cond.soleField "BrassInspector$Round$1Rest" "trader") ∈ lw_all := lw_g (lw_at lw_m8 111 rfl) rfl
theorem q1862 : (Jvm.Cond.laysFinal "BrassInspector$Round$1Rest" "BrassInspector$Round$1Rest" "this$0" "LBrassInspector$Round;") ∈ lw_all := lw_g (lw_at lw_m8 112 rfl) rfl
theorem q1863 : (Jvm.Cond.soleField "BrassInspector$Round$1Rest" "this$0") ∈ lw_all := lw_g (lw_at lw_m8 113 rfl) rfl
theorem q1864 : (Jvm.Cond.superclass "BrassInspector$Round$1Rest" "java/lang/Object") ∈ lw_all := lw_g (lw_at lw_m8 114 rfl) rfl
theorem q1865 : (Jvm.Cond.methodLink "BrassInspector$Round" (139 : Nat) ({ cls := "BrassInspector$Round$1Rest", name := "days", desc := "()I" } : Jvm.MethodName)) ∈ lw_all := lw_g (lw_at lw_m8 115 rfl) rfl
theorem q1866 : (Jvm.Cond.instanceMethod ({ cls := "BrassInspector$Round$1Rest", name := "days", desc := "()I" } : Jvm.MethodName)) ∈ lw_all := lw_g (lw_at lw_m8 116 rfl) rfl
theorem q1867 : (Jvm.Cond.selects "BrassInspector$Round$1Rest" ({ cls := "BrassInspector$Round$1Rest", name := "days", desc := "()I" } : Jvm.MethodName) ({ cls := "BrassInspector$Round$1Rest", name := "days", desc := "()I" } : Jvm.MethodName)) ∈ lw_all := lw_g (lw_at lw_m8 117 rfl) rfl
theorem q1868 : (Jvm.Cond.code ({ cls := "BrassInspector$Round$1Rest", name := "days", desc := "()I" } : Jvm.MethodName) prog_14_method_2_code (1 : Nat) (Option.some Jvm.ClassFile.FieldType.int)) ∈ lw_all := lw_g (lw_at lw_m8 118 rfl) rfl
theorem q1869 : (Jvm.Cond.methodLink "BrassInspector$Round$1Rest" (19 : Nat) ({ cls := "BrassInspector$Round$Trader", name := "inspected", desc := "()I" } : Jvm.MethodName)) ∈ lw_all := lw_g (lw_at lw_m8 119 rfl) rfl
theorem q1870 : (Jvm.Cond.constant "BrassInspector$Round$1Rest" (27 : Nat) (2147483647 : Int32)) ∈ lw_all := lw_g (lw_at lw_m8 120 rfl) rfl
theorem q1871 : (Jvm.Cond.methodLink "BrassInspector" (237 : Nat) ({ cls := "BrassInspector", name := "requireElement", desc := "(Z)V" } : Jvm.MethodName)) ∈ lw_all := lw_g (lw_at lw_m8 121 rfl) rfl
theorem q1872 : (Jvm.Cond.static ({ cls := "BrassInspector", name := "requireElement", desc := "(Z)V" } : Jvm.MethodName)) ∈ lw_all := lw_g (lw_at lw_m8 122 rfl) rfl
theorem q1873 : (Jvm.Cond.code ({ cls := "BrassInspector", name := "requireElement", desc := "(Z)V" } : Jvm.MethodName) prog_1_method_9_code (1 : Nat) (Option.none : Option Jvm.ClassFile.FieldType)) ∈ lw_all := lw_g (lw_at lw_m8 123 rfl) rfl
theorem q1874 : (Jvm.Cond.methodLink "BrassInspectorLaw" (165 : Nat) ({ cls := "BrassInspectorLaw", name := "weight", desc := "(LBrassInspector;I[J)I" } : Jvm.MethodName)) ∈ lw_all := lw_g (lw_at lw_m8 124 rfl) rfl
theorem q1875 : (Jvm.Cond.static ({ cls := "BrassInspectorLaw", name := "weight", desc := "(LBrassInspector;I[J)I" } : Jvm.MethodName)) ∈ lw_all := lw_g (lw_at lw_m8 125 rfl) rfl
theorem q1876 : (Jvm.Cond.codeWith ({ cls := "BrassInspectorLaw", name := "weight", desc := "(LBrassInspector;I[J)I" } : Jvm.MethodName) method_11_code (4 : Nat) (Option.some Jvm.ClassFile.FieldType.int) [((0 : Nat), (9 : Nat), (12 : Nat), (15 : Nat)), ((0 : Nat), (9 : Nat), (15 : Nat), (21 : Nat))]) ∈ lw_all := lw_g (lw_at lw_m8 126 rfl) rfl
theorem q1877 : (Jvm.Cond.methodLink "BrassInspectorLaw" (44 : Nat) ({ cls := "BrassInspector", name := "weight", desc := "(I)I" } : Jvm.MethodName)) ∈ lw_all := lw_g (lw_at lw_m8 127 rfl) rfl
theorem q1878 : (Jvm.Cond.instanceMethod ({ cls := "BrassInspector", name := "weight", desc := "(I)I" } : Jvm.MethodName)) ∈ lw_all := lw_g (lw_at lw_m8 128 rfl) rfl
theorem q1879 : (Jvm.Cond.selects "BrassInspector" ({ cls := "BrassInspector", name := "weight", desc := "(I)I" } : Jvm.MethodName) ({ cls := "BrassInspector", name := "weight", desc := "(I)I" } : Jvm.MethodName)) ∈ lw_all := lw_g (lw_at lw_m8 129 rfl) rfl
theorem q1880 : (Jvm.Cond.code ({ cls := "BrassInspector", name := "weight", desc := "(I)I" } : Jvm.MethodName) prog_1_method_25_code (2 : Nat) (Option.some Jvm.ClassFile.FieldType.int)) ∈ lw_all := lw_g (lw_at lw_m8 130 rfl) rfl
theorem q1881 : (Jvm.Cond.classLink "BrassInspector" (240 : Nat) "BrassInspector$4") ∈ lw_all := lw_g (lw_at lw_m8 131 rfl) rfl
theorem q1882 : (Jvm.Cond.instantiable "BrassInspector$4" (2 : Nat)) ∈ lw_all := lw_g (lw_at lw_m8 132 rfl) rfl
theorem q1883 : (Jvm.Cond.methodLink "BrassInspector" (242 : Nat) ({ cls := "BrassInspector$4", name := "<init>", desc := "(LBrassInspector;I)V" } : Jvm.MethodName)) ∈ lw_all := lw_g (lw_at lw_m8 133 rfl) rfl
theorem q1884 : (Jvm.Cond.instanceMethod ({ cls := "BrassInspector$4", name := "<init>", desc := "(LBrassInspector;I)V" } : Jvm.MethodName)) ∈ lw_all := lw_g (lw_at lw_m8 134 rfl) rfl
theorem q1885 : (Jvm.Cond.code ({ cls := "BrassInspector$4", name := "<init>", desc := "(LBrassInspector;I)V" } : Jvm.MethodName) prog_5_method_1_code (3 : Nat) (Option.none : Option Jvm.ClassFile.FieldType)) ∈ lw_all := lw_g (lw_at lw_m8 135 rfl) rfl
theorem q1886 : (Jvm.Cond.methodLinkNest "BrassInspector$4" (11 : Nat) ({ cls := "BrassInspector$Deed", name := "<init>", desc := "()V" } : Jvm.MethodName) "BrassInspector") ∈ lw_tbl := lw_at lw_m8 136 rfl
theorem q1887 : (Jvm.Cond.fieldLink "BrassInspector$4" (7 : Nat) "BrassInspector$4" "val$ounces" "I") ∈ lw_all := lw_g (lw_at lw_m8 137 rfl) rfl
theorem q1888 : (Jvm.Cond.fieldLink "BrassInspector$4" (1 : Nat) "BrassInspector$4" "this$0" "LBrassInspector;") ∈ lw_all := lw_g (lw_at lw_m8 138 rfl) rfl
theorem q1889 : (Jvm.Cond.laysFinal "BrassInspector$4" "BrassInspector$4" "val$ounces" "I") ∈ lw_all := lw_g (lw_at lw_m8 139 rfl) rfl
theorem q1890 : (Jvm.Cond.soleField "BrassInspector$4" "val$ounces") ∈ lw_all := lw_g (lw_at lw_m8 140 rfl) rfl
theorem q1891 : (Jvm.Cond.laysFinal "BrassInspector$4" "BrassInspector$4" "this$0" "LBrassInspector;") ∈ lw_all := lw_g (lw_at lw_m8 141 rfl) rfl
theorem q1892 : (Jvm.Cond.soleField "BrassInspector$4" "this$0") ∈ lw_all := lw_g (lw_at lw_m8 142 rfl) rfl
theorem q1893 : (Jvm.Cond.superclass "BrassInspector$4" "BrassInspector$Deed") ∈ lw_all := lw_g (lw_at lw_m8 143 rfl) rfl
theorem q1894 : (Jvm.Cond.methodLink "BrassInspectorLaw" (169 : Nat) ({ cls := "BrassInspectorLaw", name := "polish", desc := "(LBrassInspector;I[J)I" } : Jvm.MethodName)) ∈ lw_all := lw_g (lw_at lw_m8 144 rfl) rfl
theorem q1895 : (Jvm.Cond.static ({ cls := "BrassInspectorLaw", name := "polish", desc := "(LBrassInspector;I[J)I" } : Jvm.MethodName)) ∈ lw_all := lw_g (lw_at lw_m8 145 rfl) rfl
theorem q1896 : (Jvm.Cond.codeWith ({ cls := "BrassInspectorLaw", name := "polish", desc := "(LBrassInspector;I[J)I" } : Jvm.MethodName) method_12_code (4 : Nat) (Option.some Jvm.ClassFile.FieldType.int) [((0 : Nat), (9 : Nat), (12 : Nat), (13 : Nat)), ((0 : Nat), (9 : Nat), (15 : Nat), (21 : Nat))]) ∈ lw_all := lw_g (lw_at lw_m8 146 rfl) rfl
theorem q1897 : (Jvm.Cond.methodLink "BrassInspectorLaw" (48 : Nat) ({ cls := "BrassInspector", name := "polish", desc := "(I)I" } : Jvm.MethodName)) ∈ lw_all := lw_g (lw_at lw_m8 147 rfl) rfl
theorem q1898 : (Jvm.Cond.instanceMethod ({ cls := "BrassInspector", name := "polish", desc := "(I)I" } : Jvm.MethodName)) ∈ lw_all := lw_g (lw_at lw_m8 148 rfl) rfl
theorem q1899 : (Jvm.Cond.selects "BrassInspector" ({ cls := "BrassInspector", name := "polish", desc := "(I)I" } : Jvm.MethodName) ({ cls := "BrassInspector", name := "polish", desc := "(I)I" } : Jvm.MethodName)) ∈ lw_all := lw_g (lw_at lw_m8 149 rfl) rfl
theorem q1900 : (Jvm.Cond.code ({ cls := "BrassInspector", name := "polish", desc := "(I)I" } : Jvm.MethodName) prog_1_method_26_code (2 : Nat) (Option.some Jvm.ClassFile.FieldType.int)) ∈ lw_all := lw_g (lw_at lw_m8 150 rfl) rfl
theorem q1901 : (Jvm.Cond.methodLink "BrassInspector" (245 : Nat) ({ cls := "BrassInspector", name := "weightIn", desc := "(I)LBrassInspector$Brass;" } : Jvm.MethodName)) ∈ lw_all := lw_g (lw_at lw_m8 151 rfl) rfl
theorem q1902 : (Jvm.Cond.privateMethod ({ cls := "BrassInspector", name := "weightIn", desc := "(I)LBrassInspector$Brass;" } : Jvm.MethodName)) ∈ lw_tbl := lw_at lw_m8 152 rfl
theorem q1903 : (Jvm.Cond.instanceMethod ({ cls := "BrassInspector", name := "weightIn", desc := "(I)LBrassInspector$Brass;" } : Jvm.MethodName)) ∈ lw_all := lw_g (lw_at lw_m8 153 rfl) rfl
theorem q1904 : (Jvm.Cond.code ({ cls := "BrassInspector", name := "weightIn", desc := "(I)LBrassInspector$Brass;" } : Jvm.MethodName) prog_1_method_16_code (2 : Nat) (Option.some (Jvm.ClassFile.FieldType.object "BrassInspector$Brass"))) ∈ lw_all := lw_g (lw_at lw_m8 154 rfl) rfl
theorem q1905 : (Jvm.Cond.methodLink "BrassInspector" (126 : Nat) ({ cls := "BrassInspector$Round", name := "weights", desc := "()Ljava/util/List;" } : Jvm.MethodName)) ∈ lw_all := lw_g (lw_at lw_m8 155 rfl) rfl
theorem q1906 : (Jvm.Cond.methodLink "BrassInspector" (129 : Nat) ({ cls := "BrassInspector$Round", name := "weight", desc := "(I)LBrassInspector$Brass;" } : Jvm.MethodName)) ∈ lw_all := lw_g (lw_at lw_m8 156 rfl) rfl
theorem q1907 : (Jvm.Cond.classLink "BrassInspector" (248 : Nat) "BrassInspector$5") ∈ lw_all := lw_g (lw_at lw_m8 157 rfl) rfl
theorem q1908 : (Jvm.Cond.instantiable "BrassInspector$5" (2 : Nat)) ∈ lw_all := lw_g (lw_at lw_m8 158 rfl) rfl
theorem q1909 : (Jvm.Cond.methodLink "BrassInspector" (250 : Nat) ({ cls := "BrassInspector$5", name := "<init>", desc := "(LBrassInspector;I)V" } : Jvm.MethodName)) ∈ lw_all := lw_g (lw_at lw_m8 159 rfl) rfl
theorem q1910 : (Jvm.Cond.instanceMethod ({ cls := "BrassInspector$5", name := "<init>", desc := "(LBrassInspector;I)V" } : Jvm.MethodName)) ∈ lw_all := lw_g (lw_at lw_m8 160 rfl) rfl
theorem q1911 : (Jvm.Cond.code ({ cls := "BrassInspector$5", name := "<init>", desc := "(LBrassInspector;I)V" } : Jvm.MethodName) prog_6_method_1_code (3 : Nat) (Option.none : Option Jvm.ClassFile.FieldType)) ∈ lw_all := lw_g (lw_at lw_m8 161 rfl) rfl
theorem q1912 : (Jvm.Cond.methodLinkNest "BrassInspector$5" (11 : Nat) ({ cls := "BrassInspector$Deed", name := "<init>", desc := "()V" } : Jvm.MethodName) "BrassInspector") ∈ lw_tbl := lw_at lw_m8 162 rfl
theorem q1913 : (Jvm.Cond.fieldLink "BrassInspector$5" (7 : Nat) "BrassInspector$5" "val$weight" "I") ∈ lw_all := lw_g (lw_at lw_m8 163 rfl) rfl
theorem q1914 : (Jvm.Cond.fieldLink "BrassInspector$5" (1 : Nat) "BrassInspector$5" "this$0" "LBrassInspector;") ∈ lw_all := lw_g (lw_at lw_m8 164 rfl) rfl
theorem q1915 : (Jvm.Cond.laysFinal "BrassInspector$5" "BrassInspector$5" "val$weight" "I") ∈ lw_all := lw_g (lw_at lw_m8 165 rfl) rfl
theorem q1916 : (Jvm.Cond.soleField "BrassInspector$5" "val$weight") ∈ lw_all := lw_g (lw_at lw_m8 166 rfl) rfl
theorem q1917 : (Jvm.Cond.laysFinal "BrassInspector$5" "BrassInspector$5" "this$0" "LBrassInspector;") ∈ lw_all := lw_g (lw_at lw_m8 167 rfl) rfl
theorem q1918 : (Jvm.Cond.soleField "BrassInspector$5" "this$0") ∈ lw_all := lw_g (lw_at lw_m8 168 rfl) rfl
theorem q1919 : (Jvm.Cond.superclass "BrassInspector$5" "BrassInspector$Deed") ∈ lw_all := lw_g (lw_at lw_m8 169 rfl) rfl
theorem q1920 : (Jvm.Cond.methodLink "BrassInspectorLaw" (172 : Nat) ({ cls := "BrassInspectorLaw", name := "weightOf", desc := "(LBrassInspector;II[J)I" } : Jvm.MethodName)) ∈ lw_all := lw_g (lw_at lw_m8 170 rfl) rfl
theorem q1921 : (Jvm.Cond.static ({ cls := "BrassInspectorLaw", name := "weightOf", desc := "(LBrassInspector;II[J)I" } : Jvm.MethodName)) ∈ lw_all := lw_g (lw_at lw_m8 171 rfl) rfl
theorem q1922 : (Jvm.Cond.codeWith ({ cls := "BrassInspectorLaw", name := "weightOf", desc := "(LBrassInspector;II[J)I" } : Jvm.MethodName) method_13_code (5 : Nat) (Option.some Jvm.ClassFile.FieldType.int) [((0 : Nat), (10 : Nat), (13 : Nat), (13 : Nat)), ((0 : Nat), (10 : Nat), (17 : Nat), (15 : Nat))]) ∈ lw_all := lw_g (lw_at lw_m8 172 rfl) rfl
theorem q1923 : (Jvm.Cond.methodLink "BrassInspectorLaw" (51 : Nat) ({ cls := "BrassInspector", name := "weightOf", desc := "(II)I" } : Jvm.MethodName)) ∈ lw_all := lw_g (lw_at lw_m8 173 rfl) rfl
theorem q1924 : (Jvm.Cond.instanceMethod ({ cls := "BrassInspector", name := "weightOf", desc := "(II)I" } : Jvm.MethodName)) ∈ lw_all := lw_g (lw_at lw_m8 174 rfl) rfl
theorem q1925 : (Jvm.Cond.selects "BrassInspector" ({ cls := "BrassInspector", name := "weightOf", desc := "(II)I" } : Jvm.MethodName) ({ cls := "BrassInspector", name := "weightOf", desc := "(II)I" } : Jvm.MethodName)) ∈ lw_all := lw_g (lw_at lw_m8 175 rfl) rfl
theorem q1926 : (Jvm.Cond.code ({ cls := "BrassInspector", name := "weightOf", desc := "(II)I" } : Jvm.MethodName) prog_1_method_27_code (4 : Nat) (Option.some Jvm.ClassFile.FieldType.int)) ∈ lw_all := lw_g (lw_at lw_m8 176 rfl) rfl
theorem q1927 : (Jvm.Cond.methodLink "BrassInspector" (251 : Nat) ({ cls := "BrassInspector$Brass", name := "ounces", desc := "()I" } : Jvm.MethodName)) ∈ lw_all := lw_g (lw_at lw_m8 177 rfl) rfl
theorem q1928 : (Jvm.Cond.instanceMethod ({ cls := "BrassInspector$Brass", name := "ounces", desc := "()I" } : Jvm.MethodName)) ∈ lw_all := lw_g (lw_at lw_m8 178 rfl) rfl
theorem q1929 : (Jvm.Cond.selects "BrassInspector$Brass" ({ cls := "BrassInspector$Brass", name := "ounces", desc := "()I" } : Jvm.MethodName) ({ cls := "BrassInspector$Brass", name := "ounces", desc := "()I" } : Jvm.MethodName)) ∈ lw_all := lw_g (lw_at lw_m8 179 rfl) rfl
theorem q1930 : (Jvm.Cond.code ({ cls := "BrassInspector$Brass", name := "ounces", desc := "()I" } : Jvm.MethodName) prog_8_method_4_code (1 : Nat) (Option.some Jvm.ClassFile.FieldType.int)) ∈ lw_all := lw_g (lw_at lw_m8 180 rfl) rfl
theorem q1931 : (Jvm.Cond.methodLink "BrassInspector" (256 : Nat) ({ cls := "BrassInspector$Brass", name := "wear", desc := "()I" } : Jvm.MethodName)) ∈ lw_all := lw_g (lw_at lw_m8 181 rfl) rfl
theorem q1932 : (Jvm.Cond.methodLink "BrassInspector" (259 : Nat) ({ cls := "BrassInspector$Brass", name := "uses", desc := "()I" } : Jvm.MethodName)) ∈ lw_all := lw_g (lw_at lw_m8 182 rfl) rfl
theorem q1933 : (Jvm.Cond.instanceMethod ({ cls := "BrassInspector$Brass", name := "uses", desc := "()I" } : Jvm.MethodName)) ∈ lw_all := lw_g (lw_at lw_m8 183 rfl) rfl
theorem q1934 : (Jvm.Cond.selects "BrassInspector$Brass" ({ cls := "BrassInspector$Brass", name := "uses", desc := "()I" } : Jvm.MethodName) ({ cls := "BrassInspector$Brass", name := "uses", desc := "()I" } : Jvm.MethodName)) ∈ lw_all := lw_g (lw_at lw_m8 184 rfl) rfl
theorem q1935 : (Jvm.Cond.code ({ cls := "BrassInspector$Brass", name := "uses", desc := "()I" } : Jvm.MethodName) prog_8_method_6_code (1 : Nat) (Option.some Jvm.ClassFile.FieldType.int)) ∈ lw_all := lw_g (lw_at lw_m8 185 rfl) rfl
theorem q1936 : (Jvm.Cond.methodLink "BrassInspectorLaw" (175 : Nat) ({ cls := "BrassInspectorLaw", name := "bestWeight", desc := "(LBrassInspector;[J)I" } : Jvm.MethodName)) ∈ lw_all := lw_g (lw_at lw_m8 186 rfl) rfl
theorem q1937 : (Jvm.Cond.static ({ cls := "BrassInspectorLaw", name := "bestWeight", desc := "(LBrassInspector;[J)I" } : Jvm.MethodName)) ∈ lw_all := lw_g (lw_at lw_m8 187 rfl) rfl
theorem q1938 : (Jvm.Cond.codeWith ({ cls := "BrassInspectorLaw", name := "bestWeight", desc := "(LBrassInspector;[J)I" } : Jvm.MethodName) method_14_code (3 : Nat) (Option.some Jvm.ClassFile.FieldType.int) [((0 : Nat), (8 : Nat), (11 : Nat), (35 : Nat))]) ∈ lw_all := lw_g (lw_at lw_m8 188 rfl) rfl
theorem q1939 : (Jvm.Cond.methodLink "BrassInspectorLaw" (54 : Nat) ({ cls := "BrassInspector", name := "bestWeight", desc := "()I" } : Jvm.MethodName)) ∈ lw_all := lw_g (lw_at lw_m8 189 rfl) rfl
theorem q1940 : (Jvm.Cond.instanceMethod ({ cls := "BrassInspector", name := "bestWeight", desc := "()I" } : Jvm.MethodName)) ∈ lw_all := lw_g (lw_at lw_m8 190 rfl) rfl
theorem q1941 : (Jvm.Cond.selects "BrassInspector" ({ cls := "BrassInspector", name := "bestWeight", desc := "()I" } : Jvm.MethodName) ({ cls := "BrassInspector", name := "bestWeight", desc := "()I" } : Jvm.MethodName)) ∈ lw_all := lw_g (lw_at lw_m8 191 rfl) rfl
theorem q1942 : (Jvm.Cond.code ({ cls := "BrassInspector", name := "bestWeight", desc := "()I" } : Jvm.MethodName) prog_1_method_28_code (2 : Nat) (Option.some Jvm.ClassFile.FieldType.int)) ∈ lw_all := lw_g (lw_at lw_m8 192 rfl) rfl
theorem q1943 : (Jvm.Cond.methodLink "BrassInspector" (262 : Nat) ({ cls := "BrassInspector$Round", name := "bestWeight", desc := "()LBrassInspector$Brass;" } : Jvm.MethodName)) ∈ lw_all := lw_g (lw_at lw_m8 193 rfl) rfl
theorem q1944 : (Jvm.Cond.instanceMethod ({ cls := "BrassInspector$Round", name := "bestWeight", desc := "()LBrassInspector$Brass;" } : Jvm.MethodName)) ∈ lw_all := lw_g (lw_at lw_m8 194 rfl) rfl
theorem q1945 : (Jvm.Cond.selects "BrassInspector$Round" ({ cls := "BrassInspector$Round", name := "bestWeight", desc := "()LBrassInspector$Brass;" } : Jvm.MethodName) ({ cls := "BrassInspector$Round", name := "bestWeight", desc := "()LBrassInspector$Brass;" } : Jvm.MethodName)) ∈ lw_all := lw_g (lw_at lw_m8 195 rfl) rfl
theorem q1946 : (Jvm.Cond.code ({ cls := "BrassInspector$Round", name := "bestWeight", desc := "()LBrassInspector$Brass;" } : Jvm.MethodName) prog_13_method_19_code (4 : Nat) (Option.some (Jvm.ClassFile.FieldType.object "BrassInspector$Brass"))) ∈ lw_all := lw_g (lw_at lw_m8 196 rfl) rfl
theorem q1947 : (Jvm.Cond.methodLink "BrassInspector$Round" (119 : Nat) ({ cls := "BrassInspector$Brass", name := "isBetter", desc := "(LBrassInspector$Brass;)Z" } : Jvm.MethodName)) ∈ lw_all := lw_g (lw_at lw_m8 197 rfl) rfl
theorem q1948 : (Jvm.Cond.instanceMethod ({ cls := "BrassInspector$Brass", name := "isBetter", desc := "(LBrassInspector$Brass;)Z" } : Jvm.MethodName)) ∈ lw_all := lw_g (lw_at lw_m8 198 rfl) rfl
theorem q1949 : (Jvm.Cond.selects "BrassInspector$Brass" ({ cls := "BrassInspector$Brass", name := "isBetter", desc := "(LBrassInspector$Brass;)Z" } : Jvm.MethodName) ({ cls := "BrassInspector$Brass", name := "isBetter", desc := "(LBrassInspector$Brass;)Z" } : Jvm.MethodName)) ∈ lw_all := lw_g (lw_at lw_m8 199 rfl) rfl
theorem q1950 : (Jvm.Cond.code ({ cls := "BrassInspector$Brass", name := "isBetter", desc := "(LBrassInspector$Brass;)Z" } : Jvm.MethodName) prog_8_method_9_code (2 : Nat) (Option.some Jvm.ClassFile.FieldType.boolean)) ∈ lw_all := lw_g (lw_at lw_m8 200 rfl) rfl
theorem q1951 : (Jvm.Cond.methodLink "BrassInspector" (266 : Nat) ({ cls := "BrassInspector$Brass", name := "number", desc := "()I" } : Jvm.MethodName)) ∈ lw_all := lw_g (lw_at lw_m8 201 rfl) rfl
theorem q1952 : (Jvm.Cond.instanceMethod ({ cls := "BrassInspector$Brass", name := "number", desc := "()I" } : Jvm.MethodName)) ∈ lw_all := lw_g (lw_at lw_m8 202 rfl) rfl
theorem q1953 : (Jvm.Cond.selects "BrassInspector$Brass" ({ cls := "BrassInspector$Brass", name := "number", desc := "()I" } : Jvm.MethodName) ({ cls := "BrassInspector$Brass", name := "number", desc := "()I" } : Jvm.MethodName)) ∈ lw_all := lw_g (lw_at lw_m8 203 rfl) rfl
theorem q1954 : (Jvm.Cond.code ({ cls := "BrassInspector$Brass", name := "number", desc := "()I" } : Jvm.MethodName) prog_8_method_3_code (1 : Nat) (Option.some Jvm.ClassFile.FieldType.int)) ∈ lw_all := lw_g (lw_at lw_m8 204 rfl) rfl
theorem q1955 : (Jvm.Cond.methodLink "BrassInspectorLaw" (178 : Nat) ({ cls := "BrassInspectorLaw", name := "shows", desc := "(LBrassInspector;II[J)I" } : Jvm.MethodName)) ∈ lw_all := lw_g (lw_at lw_m8 205 rfl) rfl
theorem q1956 : (Jvm.Cond.static ({ cls := "BrassInspectorLaw", name := "shows", desc := "(LBrassInspector;II[J)I" } : Jvm.MethodName)) ∈ lw_all := lw_g (lw_at lw_m8 206 rfl) rfl
theorem q1957 : (Jvm.Cond.codeWith ({ cls := "BrassInspectorLaw", name := "shows", desc := "(LBrassInspector;II[J)I" } : Jvm.MethodName) method_15_code (5 : Nat) (Option.some Jvm.ClassFile.FieldType.int) [((0 : Nat), (10 : Nat), (13 : Nat), (13 : Nat))]) ∈ lw_all := lw_g (lw_at lw_m8 207 rfl) rfl
theorem q1958 : (Jvm.Cond.methodLink "BrassInspectorLaw" (57 : Nat) ({ cls := "BrassInspector", name := "shows", desc := "(II)I" } : Jvm.MethodName)) ∈ lw_all := lw_g (lw_at lw_m8 208 rfl) rfl
theorem q1959 : (Jvm.Cond.instanceMethod ({ cls := "BrassInspector", name := "shows", desc := "(II)I" } : Jvm.MethodName)) ∈ lw_all := lw_g (lw_at lw_m8 209 rfl) rfl
theorem q1960 : (Jvm.Cond.selects "BrassInspector" ({ cls := "BrassInspector", name := "shows", desc := "(II)I" } : Jvm.MethodName) ({ cls := "BrassInspector", name := "shows", desc := "(II)I" } : Jvm.MethodName)) ∈ lw_all := lw_g (lw_at lw_m8 210 rfl) rfl
theorem q1961 : (Jvm.Cond.code ({ cls := "BrassInspector", name := "shows", desc := "(II)I" } : Jvm.MethodName) prog_1_method_29_code (3 : Nat) (Option.some Jvm.ClassFile.FieldType.int)) ∈ lw_all := lw_g (lw_at lw_m8 211 rfl) rfl
theorem q1962 : (Jvm.Cond.methodLink "BrassInspector" (267 : Nat) ({ cls := "BrassInspector$Round$Trader", name := "shows", desc := "(LBrassInspector$Brass;)I" } : Jvm.MethodName)) ∈ lw_all := lw_g (lw_at lw_m8 212 rfl) rfl
theorem q1963 : (Jvm.Cond.methodLink "BrassInspectorLaw" (181 : Nat) ({ cls := "BrassInspectorLaw", name := "inspect", desc := "(LBrassInspector;II[J)I" } : Jvm.MethodName)) ∈ lw_all := lw_g (lw_at lw_m8 213 rfl) rfl
theorem q1964 : (Jvm.Cond.static ({ cls := "BrassInspectorLaw", name := "inspect", desc := "(LBrassInspector;II[J)I" } : Jvm.MethodName)) ∈ lw_all := lw_g (lw_at lw_m8 214 rfl) rfl
theorem q1965 : (Jvm.Cond.codeWith ({ cls := "BrassInspectorLaw", name := "inspect", desc := "(LBrassInspector;II[J)I" } : Jvm.MethodName) method_16_code (5 : Nat) (Option.some Jvm.ClassFile.FieldType.int) [((0 : Nat), (10 : Nat), (13 : Nat), (13 : Nat)), ((0 : Nat), (10 : Nat), (17 : Nat), (21 : Nat))]) ∈ lw_all := lw_g (lw_at lw_m8 215 rfl) rfl
theorem q1966 : (Jvm.Cond.methodLink "BrassInspectorLaw" (60 : Nat) ({ cls := "BrassInspector", name := "inspect", desc := "(II)I" } : Jvm.MethodName)) ∈ lw_all := lw_g (lw_at lw_m8 216 rfl) rfl
theorem q1967 : (Jvm.Cond.instanceMethod ({ cls := "BrassInspector", name := "inspect", desc := "(II)I" } : Jvm.MethodName)) ∈ lw_all := lw_g (lw_at lw_m8 217 rfl) rfl
theorem q1968 : (Jvm.Cond.selects "BrassInspector" ({ cls := "BrassInspector", name := "inspect", desc := "(II)I" } : Jvm.MethodName) ({ cls := "BrassInspector", name := "inspect", desc := "(II)I" } : Jvm.MethodName)) ∈ lw_all := lw_g (lw_at lw_m8 218 rfl) rfl
theorem q1969 : (Jvm.Cond.code ({ cls := "BrassInspector", name := "inspect", desc := "(II)I" } : Jvm.MethodName) prog_1_method_30_code (3 : Nat) (Option.some Jvm.ClassFile.FieldType.int)) ∈ lw_all := lw_g (lw_at lw_m8 219 rfl) rfl
theorem q1970 : (Jvm.Cond.stringRef "BrassInspector" (271 : Nat) "look") ∈ lw_tbl := lw_at lw_m8 220 rfl
theorem q1971 : (Jvm.Cond.methodLink "BrassInspectorLaw" (184 : Nat) ({ cls := "BrassInspectorLaw", name := "fine", desc := "(LBrassInspector;II[J)I" } : Jvm.MethodName)) ∈ lw_all := lw_g (lw_at lw_m8 221 rfl) rfl
theorem q1972 : (Jvm.Cond.static ({ cls := "BrassInspectorLaw", name := "fine", desc := "(LBrassInspector;II[J)I" } : Jvm.MethodName)) ∈ lw_all := lw_g (lw_at lw_m8 222 rfl) rfl
theorem q1973 : (Jvm.Cond.codeWith ({ cls := "BrassInspectorLaw", name := "fine", desc := "(LBrassInspector;II[J)I" } : Jvm.MethodName) method_17_code (5 : Nat) (Option.some Jvm.ClassFile.FieldType.int) [((0 : Nat), (10 : Nat), (13 : Nat), (13 : Nat))]) ∈ lw_all := lw_g (lw_at lw_m8 223 rfl) rfl
theorem q1974 : (Jvm.Cond.methodLink "BrassInspectorLaw" (63 : Nat) ({ cls := "BrassInspector", name := "fine", desc := "(II)I" } : Jvm.MethodName)) ∈ lw_all := lw_g (lw_at lw_m8 224 rfl) rfl
theorem q1975 : (Jvm.Cond.instanceMethod ({ cls := "BrassInspector", name := "fine", desc := "(II)I" } : Jvm.MethodName)) ∈ lw_all := lw_g (lw_at lw_m8 225 rfl) rfl
theorem q1976 : (Jvm.Cond.selects "BrassInspector" ({ cls := "BrassInspector", name := "fine", desc := "(II)I" } : Jvm.MethodName) ({ cls := "BrassInspector", name := "fine", desc := "(II)I" } : Jvm.MethodName)) ∈ lw_all := lw_g (lw_at lw_m8 226 rfl) rfl
theorem q1977 : (Jvm.Cond.code ({ cls := "BrassInspector", name := "fine", desc := "(II)I" } : Jvm.MethodName) prog_1_method_31_code (3 : Nat) (Option.some Jvm.ClassFile.FieldType.int)) ∈ lw_all := lw_g (lw_at lw_m8 227 rfl) rfl
theorem q1978 : (Jvm.Cond.methodLink "BrassInspector" (273 : Nat) ({ cls := "BrassInspector$Round$Trader", name := "fineFor", desc := "(LBrassInspector$Brass;)I" } : Jvm.MethodName)) ∈ lw_all := lw_g (lw_at lw_m8 228 rfl) rfl
theorem q1979 : (Jvm.Cond.methodLink "BrassInspectorLaw" (187 : Nat) ({ cls := "BrassInspectorLaw", name := "mend", desc := "(LBrassInspector;I[J)I" } : Jvm.MethodName)) ∈ lw_all := lw_g (lw_at lw_m8 229 rfl) rfl
theorem q1980 : (Jvm.Cond.static ({ cls := "BrassInspectorLaw", name := "mend", desc := "(LBrassInspector;I[J)I" } : Jvm.MethodName)) ∈ lw_all := lw_g (lw_at lw_m8 230 rfl) rfl
theorem q1981 : (Jvm.Cond.codeWith ({ cls := "BrassInspectorLaw", name := "mend", desc := "(LBrassInspector;I[J)I" } : Jvm.MethodName) method_18_code (4 : Nat) (Option.some Jvm.ClassFile.FieldType.int) [((0 : Nat), (9 : Nat), (12 : Nat), (13 : Nat)), ((0 : Nat), (9 : Nat), (15 : Nat), (21 : Nat))]) ∈ lw_all := lw_g (lw_at lw_m8 231 rfl) rfl
theorem q1982 : (Jvm.Cond.methodLink "BrassInspectorLaw" (66 : Nat) ({ cls := "BrassInspector", name := "mend", desc := "(I)I" } : Jvm.MethodName)) ∈ lw_all := lw_g (lw_at lw_m8 232 rfl) rfl
theorem q1983 : (Jvm.Cond.instanceMethod ({ cls := "BrassInspector", name := "mend", desc := "(I)I" } : Jvm.MethodName)) ∈ lw_all := lw_g (lw_at lw_m8 233 rfl) rfl
theorem q1984 : (Jvm.Cond.selects "BrassInspector" ({ cls := "BrassInspector", name := "mend", desc := "(I)I" } : Jvm.MethodName) ({ cls := "BrassInspector", name := "mend", desc := "(I)I" } : Jvm.MethodName)) ∈ lw_all := lw_g (lw_at lw_m8 234 rfl) rfl
theorem q1985 : (Jvm.Cond.code ({ cls := "BrassInspector", name := "mend", desc := "(I)I" } : Jvm.MethodName) prog_1_method_32_code (2 : Nat) (Option.some Jvm.ClassFile.FieldType.int)) ∈ lw_all := lw_g (lw_at lw_m8 235 rfl) rfl
theorem q1986 : (Jvm.Cond.stringRef "BrassInspector" (276 : Nat) "mend") ∈ lw_tbl := lw_at lw_m8 236 rfl
theorem q1987 : (Jvm.Cond.methodLink "BrassInspector" (278 : Nat) ({ cls := "BrassInspector$Order", name := "<init>", desc := "(Ljava/lang/String;I)V" } : Jvm.MethodName)) ∈ lw_all := lw_g (lw_at lw_m8 237 rfl) rfl
theorem q1988 : (Jvm.Cond.instanceMethod ({ cls := "BrassInspector$Order", name := "<init>", desc := "(Ljava/lang/String;I)V" } : Jvm.MethodName)) ∈ lw_all := lw_g (lw_at lw_m8 238 rfl) rfl
theorem q1989 : (Jvm.Cond.code ({ cls := "BrassInspector$Order", name := "<init>", desc := "(Ljava/lang/String;I)V" } : Jvm.MethodName) prog_10_method_1_code (3 : Nat) (Option.none : Option Jvm.ClassFile.FieldType)) ∈ lw_all := lw_g (lw_at lw_m8 239 rfl) rfl
theorem q1990 : (Jvm.Cond.methodLink "BrassInspector$Order" (3 : Nat) ({ cls := "BrassInspector$Order", name := "<init>", desc := "(Ljava/lang/String;II)V" } : Jvm.MethodName)) ∈ lw_all := lw_g (lw_at lw_m9 0 rfl) rfl
theorem q1991 : (Jvm.Cond.methodLink "BrassInspectorLaw" (190 : Nat) ({ cls := "BrassInspectorLaw", name := "shave", desc := "(LBrassInspector;II[J)I" } : Jvm.MethodName)) ∈ lw_all := lw_g (lw_at lw_m9 1 rfl) rfl
theorem q1992 : (Jvm.Cond.static ({ cls := "BrassInspectorLaw", name := "shave", desc := "(LBrassInspector;II[J)I" } : Jvm.MethodName)) ∈ lw_all := lw_g (lw_at lw_m9 2 rfl) rfl
theorem q1993 : (Jvm.Cond.codeWith ({ cls := "BrassInspectorLaw", name := "shave", desc := "(LBrassInspector;II[J)I" } : Jvm.MethodName) method_19_code (5 : Nat) (Option.some Jvm.ClassFile.FieldType.int) [((0 : Nat), (10 : Nat), (13 : Nat), (13 : Nat)), ((0 : Nat), (10 : Nat), (17 : Nat), (15 : Nat)), ((0 : Nat), (10 : Nat), (21 : Nat), (21 : Nat))]) ∈ lw_all := lw_g (lw_at lw_m9 3 rfl) rfl
theorem q1994 : (Jvm.Cond.methodLink "BrassInspectorLaw" (69 : Nat) ({ cls := "BrassInspector", name := "shave", desc := "(II)I" } : Jvm.MethodName)) ∈ lw_all := lw_g (lw_at lw_m9 4 rfl) rfl
theorem q1995 : (Jvm.Cond.instanceMethod ({ cls := "BrassInspector", name := "shave", desc := "(II)I" } : Jvm.MethodName)) ∈ lw_all := lw_g (lw_at lw_m9 5 rfl) rfl
theorem q1996 : (Jvm.Cond.selects "BrassInspector" ({ cls := "BrassInspector", name := "shave", desc := "(II)I" } : Jvm.MethodName) ({ cls := "BrassInspector", name := "shave", desc := "(II)I" } : Jvm.MethodName)) ∈ lw_all := lw_g (lw_at lw_m9 6 rfl) rfl
theorem q1997 : (Jvm.Cond.code ({ cls := "BrassInspector", name := "shave", desc := "(II)I" } : Jvm.MethodName) prog_1_method_33_code (3 : Nat) (Option.some Jvm.ClassFile.FieldType.int)) ∈ lw_all := lw_g (lw_at lw_m9 7 rfl) rfl
theorem q1998 : (Jvm.Cond.stringRef "BrassInspector" (281 : Nat) "shave") ∈ lw_tbl := lw_at lw_m9 8 rfl
theorem q1999 : (Jvm.Cond.methodLink "BrassInspectorLaw" (193 : Nat) ({ cls := "BrassInspectorLaw", name := "pay", desc := "(LBrassInspector;II[J)I" } : Jvm.MethodName)) ∈ lw_all := lw_g (lw_at lw_m9 9 rfl) rfl
theorem q2000 : (Jvm.Cond.static ({ cls := "BrassInspectorLaw", name := "pay", desc := "(LBrassInspector;II[J)I" } : Jvm.MethodName)) ∈ lw_all := lw_g (lw_at lw_m9 10 rfl) rfl
theorem q2001 : (Jvm.Cond.codeWith ({ cls := "BrassInspectorLaw", name := "pay", desc := "(LBrassInspector;II[J)I" } : Jvm.MethodName) method_20_code (5 : Nat) (Option.some Jvm.ClassFile.FieldType.int) [((0 : Nat), (10 : Nat), (13 : Nat), (13 : Nat)), ((0 : Nat), (10 : Nat), (17 : Nat), (15 : Nat)), ((0 : Nat), (10 : Nat), (21 : Nat), (21 : Nat))]) ∈ lw_all := lw_g (lw_at lw_m9 11 rfl) rfl
theorem q2002 : (Jvm.Cond.methodLink "BrassInspectorLaw" (72 : Nat) ({ cls := "BrassInspector", name := "pay", desc := "(II)I" } : Jvm.MethodName)) ∈ lw_all := lw_g (lw_at lw_m9 12 rfl) rfl
theorem q2003 : (Jvm.Cond.instanceMethod ({ cls := "BrassInspector", name := "pay", desc := "(II)I" } : Jvm.MethodName)) ∈ lw_all := lw_g (lw_at lw_m9 13 rfl) rfl
theorem q2004 : (Jvm.Cond.selects "BrassInspector" ({ cls := "BrassInspector", name := "pay", desc := "(II)I" } : Jvm.MethodName) ({ cls := "BrassInspector", name := "pay", desc := "(II)I" } : Jvm.MethodName)) ∈ lw_all := lw_g (lw_at lw_m9 14 rfl) rfl
theorem q2005 : (Jvm.Cond.code ({ cls := "BrassInspector", name := "pay", desc := "(II)I" } : Jvm.MethodName) prog_1_method_34_code (3 : Nat) (Option.some Jvm.ClassFile.FieldType.int)) ∈ lw_all := lw_g (lw_at lw_m9 15 rfl) rfl
theorem q2006 : (Jvm.Cond.stringRef "BrassInspector" (282 : Nat) "pay") ∈ lw_tbl := lw_at lw_m9 16 rfl
theorem q2007 : (Jvm.Cond.methodLink "BrassInspectorLaw" (196 : Nat) ({ cls := "BrassInspectorLaw", name := "pass", desc := "(LBrassInspector;I[J)I" } : Jvm.MethodName)) ∈ lw_all := lw_g (lw_at lw_m9 17 rfl) rfl
theorem q2008 : (Jvm.Cond.static ({ cls := "BrassInspectorLaw", name := "pass", desc := "(LBrassInspector;I[J)I" } : Jvm.MethodName)) ∈ lw_all := lw_g (lw_at lw_m9 18 rfl) rfl
theorem q2009 : (Jvm.Cond.codeWith ({ cls := "BrassInspectorLaw", name := "pass", desc := "(LBrassInspector;I[J)I" } : Jvm.MethodName) method_21_code (4 : Nat) (Option.some Jvm.ClassFile.FieldType.int) [((0 : Nat), (9 : Nat), (12 : Nat), (15 : Nat))]) ∈ lw_all := lw_g (lw_at lw_m9 19 rfl) rfl
theorem q2010 : (Jvm.Cond.methodLink "BrassInspectorLaw" (75 : Nat) ({ cls := "BrassInspector", name := "pass", desc := "(I)I" } : Jvm.MethodName)) ∈ lw_all := lw_g (lw_at lw_m9 20 rfl) rfl
theorem q2011 : (Jvm.Cond.instanceMethod ({ cls := "BrassInspector", name := "pass", desc := "(I)I" } : Jvm.MethodName)) ∈ lw_all := lw_g (lw_at lw_m9 21 rfl) rfl
theorem q2012 : (Jvm.Cond.selects "BrassInspector" ({ cls := "BrassInspector", name := "pass", desc := "(I)I" } : Jvm.MethodName) ({ cls := "BrassInspector", name := "pass", desc := "(I)I" } : Jvm.MethodName)) ∈ lw_all := lw_g (lw_at lw_m9 22 rfl) rfl
theorem q2013 : (Jvm.Cond.code ({ cls := "BrassInspector", name := "pass", desc := "(I)I" } : Jvm.MethodName) prog_1_method_35_code (2 : Nat) (Option.some Jvm.ClassFile.FieldType.int)) ∈ lw_all := lw_g (lw_at lw_m9 23 rfl) rfl
theorem q2014 : (Jvm.Cond.stringRef "BrassInspector" (284 : Nat) "days") ∈ lw_tbl := lw_at lw_m9 24 rfl
theorem q2015 : (Jvm.Cond.methodLink "BrassInspectorLaw" (199 : Nat) ({ cls := "BrassInspectorLaw", name := "falseIn", desc := "(LBrassInspector;I[J)I" } : Jvm.MethodName)) ∈ lw_all := lw_g (lw_at lw_m9 25 rfl) rfl
theorem q2016 : (Jvm.Cond.static ({ cls := "BrassInspectorLaw", name := "falseIn", desc := "(LBrassInspector;I[J)I" } : Jvm.MethodName)) ∈ lw_all := lw_g (lw_at lw_m9 26 rfl) rfl
theorem q2017 : (Jvm.Cond.codeWith ({ cls := "BrassInspectorLaw", name := "falseIn", desc := "(LBrassInspector;I[J)I" } : Jvm.MethodName) method_22_code (4 : Nat) (Option.some Jvm.ClassFile.FieldType.int) [((0 : Nat), (9 : Nat), (12 : Nat), (13 : Nat)), ((0 : Nat), (9 : Nat), (15 : Nat), (35 : Nat))]) ∈ lw_all := lw_g (lw_at lw_m9 27 rfl) rfl
theorem q2018 : (Jvm.Cond.methodLink "BrassInspectorLaw" (78 : Nat) ({ cls := "BrassInspector", name := "falseIn", desc := "(I)I" } : Jvm.MethodName)) ∈ lw_all := lw_g (lw_at lw_m9 28 rfl) rfl
theorem q2019 : (Jvm.Cond.instanceMethod ({ cls := "BrassInspector", name := "falseIn", desc := "(I)I" } : Jvm.MethodName)) ∈ lw_all := lw_g (lw_at lw_m9 29 rfl) rfl
theorem q2020 : (Jvm.Cond.selects "BrassInspector" ({ cls := "BrassInspector", name := "falseIn", desc := "(I)I" } : Jvm.MethodName) ({ cls := "BrassInspector", name := "falseIn", desc := "(I)I" } : Jvm.MethodName)) ∈ lw_all := lw_g (lw_at lw_m9 30 rfl) rfl
theorem q2021 : (Jvm.Cond.code ({ cls := "BrassInspector", name := "falseIn", desc := "(I)I" } : Jvm.MethodName) prog_1_method_36_code (3 : Nat) (Option.some Jvm.ClassFile.FieldType.int)) ∈ lw_all := lw_g (lw_at lw_m9 31 rfl) rfl
theorem q2022 : (Jvm.Cond.methodLink "BrassInspector" (286 : Nat) ({ cls := "BrassInspector$Round", name := "falseIn", desc := "(I)I" } : Jvm.MethodName)) ∈ lw_all := lw_g (lw_at lw_m9 32 rfl) rfl
theorem q2023 : (Jvm.Cond.instanceMethod ({ cls := "BrassInspector$Round", name := "falseIn", desc := "(I)I" } : Jvm.MethodName)) ∈ lw_all := lw_g (lw_at lw_m9 33 rfl) rfl
theorem q2024 : (Jvm.Cond.selects "BrassInspector$Round" ({ cls := "BrassInspector$Round", name := "falseIn", desc := "(I)I" } : Jvm.MethodName) ({ cls := "BrassInspector$Round", name := "falseIn", desc := "(I)I" } : Jvm.MethodName)) ∈ lw_all := lw_g (lw_at lw_m9 34 rfl) rfl
theorem q2025 : (Jvm.Cond.code ({ cls := "BrassInspector$Round", name := "falseIn", desc := "(I)I" } : Jvm.MethodName) prog_13_method_27_code (3 : Nat) (Option.some Jvm.ClassFile.FieldType.int)) ∈ lw_all := lw_g (lw_at lw_m9 35 rfl) rfl
theorem q2026 : (Jvm.Cond.methodLink "BrassInspector$Round" (210 : Nat) ({ cls := "BrassInspector$Round$Trader", name := "isFalse", desc := "()Z" } : Jvm.MethodName)) ∈ lw_all := lw_g (lw_at lw_m9 36 rfl) rfl
theorem q2027 : (Jvm.Cond.instanceMethod ({ cls := "BrassInspector$Round$Trader", name := "isFalse", desc := "()Z" } : Jvm.MethodName)) ∈ lw_all := lw_g (lw_at lw_m9 37 rfl) rfl
theorem q2028 : (Jvm.Cond.selects "BrassInspector$Round$Trader" ({ cls := "BrassInspector$Round$Trader", name := "isFalse", desc := "()Z" } : Jvm.MethodName) ({ cls := "BrassInspector$Round$Trader", name := "isFalse", desc := "()Z" } : Jvm.MethodName)) ∈ lw_all := lw_g (lw_at lw_m9 38 rfl) rfl
theorem q2029 : (Jvm.Cond.code ({ cls := "BrassInspector$Round$Trader", name := "isFalse", desc := "()Z" } : Jvm.MethodName) prog_17_method_30_code (1 : Nat) (Option.some Jvm.ClassFile.FieldType.boolean)) ∈ lw_all := lw_g (lw_at lw_m9 39 rfl) rfl
theorem q2030 : (Jvm.Cond.methodLink "BrassInspectorLaw" (202 : Nat) ({ cls := "BrassInspectorLaw", name := "loss", desc := "(LBrassInspector;I[J)I" } : Jvm.MethodName)) ∈ lw_all := lw_g (lw_at lw_m9 40 rfl) rfl
theorem q2031 : (Jvm.Cond.static ({ cls := "BrassInspectorLaw", name := "loss", desc := "(LBrassInspector;I[J)I" } : Jvm.MethodName)) ∈ lw_all := lw_g (lw_at lw_m9 41 rfl) rfl
theorem q2032 : (Jvm.Cond.codeWith ({ cls := "BrassInspectorLaw", name := "loss", desc := "(LBrassInspector;I[J)I" } : Jvm.MethodName) method_23_code (4 : Nat) (Option.some Jvm.ClassFile.FieldType.int) [((0 : Nat), (9 : Nat), (12 : Nat), (13 : Nat))]) ∈ lw_all := lw_g (lw_at lw_m9 42 rfl) rfl
theorem q2033 : (Jvm.Cond.methodLink "BrassInspectorLaw" (81 : Nat) ({ cls := "BrassInspector", name := "loss", desc := "(I)I" } : Jvm.MethodName)) ∈ lw_all := lw_g (lw_at lw_m9 43 rfl) rfl
theorem q2034 : (Jvm.Cond.instanceMethod ({ cls := "BrassInspector", name := "loss", desc := "(I)I" } : Jvm.MethodName)) ∈ lw_all := lw_g (lw_at lw_m9 44 rfl) rfl
theorem q2035 : (Jvm.Cond.selects "BrassInspector" ({ cls := "BrassInspector", name := "loss", desc := "(I)I" } : Jvm.MethodName) ({ cls := "BrassInspector", name := "loss", desc := "(I)I" } : Jvm.MethodName)) ∈ lw_all := lw_g (lw_at lw_m9 45 rfl) rfl
theorem q2036 : (Jvm.Cond.code ({ cls := "BrassInspector", name := "loss", desc := "(I)I" } : Jvm.MethodName) prog_1_method_37_code (2 : Nat) (Option.some Jvm.ClassFile.FieldType.int)) ∈ lw_all := lw_g (lw_at lw_m9 46 rfl) rfl
theorem q2037 : (Jvm.Cond.methodLink "BrassInspector" (289 : Nat) ({ cls := "BrassInspector$Round$Trader", name := "lossNow", desc := "()I" } : Jvm.MethodName)) ∈ lw_all := lw_g (lw_at lw_m9 47 rfl) rfl
theorem q2038 : (Jvm.Cond.methodLink "BrassInspectorLaw" (205 : Nat) ({ cls := "BrassInspectorLaw", name := "lossAgain", desc := "(LBrassInspector;I[J)I" } : Jvm.MethodName)) ∈ lw_all := lw_g (lw_at lw_m9 48 rfl) rfl
theorem q2039 : (Jvm.Cond.static ({ cls := "BrassInspectorLaw", name := "lossAgain", desc := "(LBrassInspector;I[J)I" } : Jvm.MethodName)) ∈ lw_all := lw_g (lw_at lw_m9 49 rfl) rfl
theorem q2040 : (Jvm.Cond.codeWith ({ cls := "BrassInspectorLaw", name := "lossAgain", desc := "(LBrassInspector;I[J)I" } : Jvm.MethodName) method_24_code (4 : Nat) (Option.some Jvm.ClassFile.FieldType.int) [((0 : Nat), (9 : Nat), (12 : Nat), (13 : Nat))]) ∈ lw_all := lw_g (lw_at lw_m9 50 rfl) rfl
theorem q2041 : (Jvm.Cond.methodLink "BrassInspectorLaw" (84 : Nat) ({ cls := "BrassInspector", name := "lossAgain", desc := "(I)I" } : Jvm.MethodName)) ∈ lw_all := lw_g (lw_at lw_m9 51 rfl) rfl
theorem q2042 : (Jvm.Cond.instanceMethod ({ cls := "BrassInspector", name := "lossAgain", desc := "(I)I" } : Jvm.MethodName)) ∈ lw_all := lw_g (lw_at lw_m9 52 rfl) rfl
theorem q2043 : (Jvm.Cond.selects "BrassInspector" ({ cls := "BrassInspector", name := "lossAgain", desc := "(I)I" } : Jvm.MethodName) ({ cls := "BrassInspector", name := "lossAgain", desc := "(I)I" } : Jvm.MethodName)) ∈ lw_all := lw_g (lw_at lw_m9 53 rfl) rfl
theorem q2044 : (Jvm.Cond.code ({ cls := "BrassInspector", name := "lossAgain", desc := "(I)I" } : Jvm.MethodName) prog_1_method_38_code (2 : Nat) (Option.some Jvm.ClassFile.FieldType.int)) ∈ lw_all := lw_g (lw_at lw_m9 54 rfl) rfl
theorem q2045 : (Jvm.Cond.methodLink "BrassInspector" (292 : Nat) ({ cls := "BrassInspector$Round$Trader", name := "lossAgain", desc := "()I" } : Jvm.MethodName)) ∈ lw_all := lw_g (lw_at lw_m9 55 rfl) rfl
theorem q2046 : (Jvm.Cond.instanceMethod ({ cls := "BrassInspector$Round$Trader", name := "lossAgain", desc := "()I" } : Jvm.MethodName)) ∈ lw_all := lw_g (lw_at lw_m9 56 rfl) rfl
theorem q2047 : (Jvm.Cond.selects "BrassInspector$Round$Trader" ({ cls := "BrassInspector$Round$Trader", name := "lossAgain", desc := "()I" } : Jvm.MethodName) ({ cls := "BrassInspector$Round$Trader", name := "lossAgain", desc := "()I" } : Jvm.MethodName)) ∈ lw_all := lw_g (lw_at lw_m9 57 rfl) rfl
theorem q2048 : (Jvm.Cond.code ({ cls := "BrassInspector$Round$Trader", name := "lossAgain", desc := "()I" } : Jvm.MethodName) prog_17_method_26_code (3 : Nat) (Option.some Jvm.ClassFile.FieldType.int)) ∈ lw_all := lw_g (lw_at lw_m9 58 rfl) rfl
theorem q2049 : (Jvm.Cond.methodLink "BrassInspectorLaw" (208 : Nat) ({ cls := "BrassInspectorLaw", name := "type", desc := "(LBrassInspector;C[J)I" } : Jvm.MethodName)) ∈ lw_all := lw_g (lw_at lw_m9 59 rfl) rfl
theorem q2050 : (Jvm.Cond.static ({ cls := "BrassInspectorLaw", name := "type", desc := "(LBrassInspector;C[J)I" } : Jvm.MethodName)) ∈ lw_all := lw_g (lw_at lw_m9 60 rfl) rfl
theorem q2051 : (Jvm.Cond.codeWith ({ cls := "BrassInspectorLaw", name := "type", desc := "(LBrassInspector;C[J)I" } : Jvm.MethodName) method_25_code (4 : Nat) (Option.some Jvm.ClassFile.FieldType.int) [((0 : Nat), (9 : Nat), (12 : Nat), (91 : Nat))]) ∈ lw_all := lw_g (lw_at lw_m9 61 rfl) rfl
theorem q2052 : (Jvm.Cond.classLink "BrassInspectorLaw" (91 : Nat) "java/lang/IllegalStateException") ∈ lw_all := lw_g (lw_at lw_m9 62 rfl) rfl
theorem q2053 : (Jvm.Cond.methodLink "BrassInspectorLaw" (87 : Nat) ({ cls := "BrassInspector", name := "type", desc := "(C)I" } : Jvm.MethodName)) ∈ lw_all := lw_g (lw_at lw_m9 63 rfl) rfl
theorem q2054 : (Jvm.Cond.instanceMethod ({ cls := "BrassInspector", name := "type", desc := "(C)I" } : Jvm.MethodName)) ∈ lw_all := lw_g (lw_at lw_m9 64 rfl) rfl
theorem q2055 : (Jvm.Cond.selects "BrassInspector" ({ cls := "BrassInspector", name := "type", desc := "(C)I" } : Jvm.MethodName) ({ cls := "BrassInspector", name := "type", desc := "(C)I" } : Jvm.MethodName)) ∈ lw_all := lw_g (lw_at lw_m9 65 rfl) rfl
theorem q2056 : (Jvm.Cond.code ({ cls := "BrassInspector", name := "type", desc := "(C)I" } : Jvm.MethodName) prog_1_method_39_code (2 : Nat) (Option.some Jvm.ClassFile.FieldType.int)) ∈ lw_all := lw_g (lw_at lw_m9 66 rfl) rfl
theorem q2057 : (Jvm.Cond.methodLink "BrassInspector" (295 : Nat) ({ cls := "java/lang/StringBuilder", name := "length", desc := "()I" } : Jvm.MethodName)) ∈ lw_all := lw_g (lw_at lw_m9 67 rfl) rfl
theorem q2058 : (Jvm.Cond.methodLink "BrassInspector" (298 : Nat) ({ cls := "BrassInspector", name := "requireState", desc := "(Z)V" } : Jvm.MethodName)) ∈ lw_all := lw_g (lw_at lw_m9 68 rfl) rfl
theorem q2059 : (Jvm.Cond.static ({ cls := "BrassInspector", name := "requireState", desc := "(Z)V" } : Jvm.MethodName)) ∈ lw_all := lw_g (lw_at lw_m9 69 rfl) rfl
theorem q2060 : (Jvm.Cond.code ({ cls := "BrassInspector", name := "requireState", desc := "(Z)V" } : Jvm.MethodName) prog_1_method_8_code (1 : Nat) (Option.none : Option Jvm.ClassFile.FieldType)) ∈ lw_all := lw_g (lw_at lw_m9 70 rfl) rfl
theorem q2061 : (Jvm.Cond.classLink "BrassInspector" (55 : Nat) "java/lang/IllegalStateException") ∈ lw_all := lw_g (lw_at lw_m9 71 rfl) rfl
theorem q2062 : (Jvm.Cond.methodLink "BrassInspector" (57 : Nat) ({ cls := "java/lang/IllegalStateException", name := "<init>", desc := "()V" } : Jvm.MethodName)) ∈ lw_all := lw_g (lw_at lw_m9 72 rfl) rfl
theorem q2063 : (Jvm.Cond.instanceMethod ({ cls := "java/lang/IllegalStateException", name := "<init>", desc := "()V" } : Jvm.MethodName)) ∈ lw_all := lw_g (lw_at lw_m9 73 rfl) rfl
theorem q2064 : (Jvm.Cond.code ({ cls := "java/lang/IllegalStateException", name := "<init>", desc := "()V" } : Jvm.MethodName) prog_32_method_1_code (1 : Nat) (Option.none : Option Jvm.ClassFile.FieldType)) ∈ lw_all := lw_g (lw_at lw_m9 74 rfl) rfl
theorem q2065 : (Jvm.Cond.methodLink "java/lang/IllegalStateException" (1 : Nat) ({ cls := "java/lang/RuntimeException", name := "<init>", desc := "()V" } : Jvm.MethodName)) ∈ lw_all := lw_g (lw_at lw_m9 75 rfl) rfl
theorem q2066 : (Jvm.Cond.methodLink "BrassInspector" (301 : Nat) ({ cls := "java/lang/StringBuilder", name := "append", desc := "(C)Ljava/lang/StringBuilder;" } : Jvm.MethodName)) ∈ lw_all := lw_g (lw_at lw_m9 76 rfl) rfl
theorem q2067 : (Jvm.Cond.instanceMethod ({ cls := "java/lang/StringBuilder", name := "append", desc := "(C)Ljava/lang/StringBuilder;" } : Jvm.MethodName)) ∈ lw_all := lw_g (lw_at lw_m9 77 rfl) rfl
theorem q2068 : (Jvm.Cond.selects "java/lang/StringBuilder" ({ cls := "java/lang/StringBuilder", name := "append", desc := "(C)Ljava/lang/StringBuilder;" } : Jvm.MethodName) ({ cls := "java/lang/StringBuilder", name := "append", desc := "(C)Ljava/lang/StringBuilder;" } : Jvm.MethodName)) ∈ lw_all := lw_g (lw_at lw_m9 78 rfl) rfl
theorem q2069 : (Jvm.Cond.code ({ cls := "java/lang/StringBuilder", name := "append", desc := "(C)Ljava/lang/StringBuilder;" } : Jvm.MethodName) prog_40_method_14_code (2 : Nat) (Option.some (Jvm.ClassFile.FieldType.object "java/lang/StringBuilder"))) ∈ lw_all := lw_g (lw_at lw_m9 79 rfl) rfl
theorem q2070 : (Jvm.Cond.methodLink "java/lang/StringBuilder" (50 : Nat) ({ cls := "java/lang/AbstractStringBuilder", name := "append", desc := "(C)Ljava/lang/AbstractStringBuilder;" } : Jvm.MethodName)) ∈ lw_all := lw_g (lw_at lw_m9 80 rfl) rfl
theorem q2071 : (Jvm.Cond.instanceMethod ({ cls := "java/lang/AbstractStringBuilder", name := "append", desc := "(C)Ljava/lang/AbstractStringBuilder;" } : Jvm.MethodName)) ∈ lw_all := lw_g (lw_at lw_m9 81 rfl) rfl
theorem q2072 : (Jvm.Cond.code ({ cls := "java/lang/AbstractStringBuilder", name := "append", desc := "(C)Ljava/lang/AbstractStringBuilder;" } : Jvm.MethodName) prog_22_method_31_code (2 : Nat) (Option.some (Jvm.ClassFile.FieldType.object "java/lang/AbstractStringBuilder"))) ∈ lw_all := lw_g (lw_at lw_m9 82 rfl) rfl
theorem q2073 : (Jvm.Cond.methodLink "java/lang/AbstractStringBuilder" (191 : Nat) ({ cls := "java/lang/StringLatin1", name := "canEncode", desc := "(C)Z" } : Jvm.MethodName)) ∈ lw_all := lw_g (lw_at lw_m9 83 rfl) rfl
theorem q2074 : (Jvm.Cond.static ({ cls := "java/lang/StringLatin1", name := "canEncode", desc := "(C)Z" } : Jvm.MethodName)) ∈ lw_all := lw_g (lw_at lw_m9 84 rfl) rfl
theorem q2075 : (Jvm.Cond.code ({ cls := "java/lang/StringLatin1", name := "canEncode", desc := "(C)Z" } : Jvm.MethodName) prog_42_method_3_code (1 : Nat) (Option.some Jvm.ClassFile.FieldType.boolean)) ∈ lw_all := lw_g (lw_at lw_m9 85 rfl) rfl
theorem q2076 : (Jvm.Cond.methodLink "java/lang/AbstractStringBuilder" (197 : Nat) ({ cls := "java/lang/StringUTF16", name := "putCharSB", desc := "([BII)V" } : Jvm.MethodName)) ∈ lw_all := lw_g (lw_at lw_m9 86 rfl) rfl
theorem q2077 : (Jvm.Cond.static ({ cls := "java/lang/StringUTF16", name := "putCharSB", desc := "([BII)V" } : Jvm.MethodName)) ∈ lw_all := lw_g (lw_at lw_m9 87 rfl) rfl
theorem q2078 : (Jvm.Cond.code ({ cls := "java/lang/StringUTF16", name := "putCharSB", desc := "([BII)V" } : Jvm.MethodName) prog_43_method_71_code (3 : Nat) (Option.none : Option Jvm.ClassFile.FieldType)) ∈ lw_all := lw_g (lw_at lw_m9 88 rfl) rfl
theorem q2079 : (Jvm.Cond.methodLink "java/lang/StringUTF16" (67 : Nat) ({ cls := "java/lang/StringUTF16", name := "checkIndex", desc := "(I[B)V" } : Jvm.MethodName)) ∈ lw_all := lw_g (lw_at lw_m9 89 rfl) rfl
theorem q2080 : (Jvm.Cond.static ({ cls := "java/lang/StringUTF16", name := "checkIndex", desc := "(I[B)V" } : Jvm.MethodName)) ∈ lw_all := lw_g (lw_at lw_m9 90 rfl) rfl
theorem q2081 : (Jvm.Cond.code ({ cls := "java/lang/StringUTF16", name := "checkIndex", desc := "(I[B)V" } : Jvm.MethodName) prog_43_method_91_code (2 : Nat) (Option.none : Option Jvm.ClassFile.FieldType)) ∈ lw_all := lw_g (lw_at lw_m9 91 rfl) rfl
theorem q2082 : (Jvm.Cond.methodLink "java/lang/StringUTF16" (414 : Nat) ({ cls := "java/lang/String", name := "checkIndex", desc := "(II)V" } : Jvm.MethodName)) ∈ lw_all := lw_g (lw_at lw_m9 92 rfl) rfl
theorem q2083 : (Jvm.Cond.static ({ cls := "java/lang/String", name := "checkIndex", desc := "(II)V" } : Jvm.MethodName)) ∈ lw_all := lw_g (lw_at lw_m9 93 rfl) rfl
theorem q2084 : (Jvm.Cond.code ({ cls := "java/lang/String", name := "checkIndex", desc := "(II)V" } : Jvm.MethodName) prog_39_method_155_code (2 : Nat) (Option.none : Option Jvm.ClassFile.FieldType)) ∈ lw_all := lw_g (lw_at lw_m9 94 rfl) rfl
theorem q2085 : (Jvm.Cond.methodLink "java/lang/String" (1059 : Nat) ({ cls := "jdk/internal/util/Preconditions", name := "checkIndex", desc := "(IILjava/util/function/BiFunction;)I" } : Jvm.MethodName)) ∈ lw_all := lw_g (lw_at lw_m9 95 rfl) rfl
theorem q2086 : (Jvm.Cond.methodLink "BrassInspectorLaw" (212 : Nat) ({ cls := "BrassInspectorLaw", name := "read", desc := "(LBrassInspector;[J)I" } : Jvm.MethodName)) ∈ lw_all := lw_g (lw_at lw_m9 96 rfl) rfl
theorem q2087 : (Jvm.Cond.static ({ cls := "BrassInspectorLaw", name := "read", desc := "(LBrassInspector;[J)I" } : Jvm.MethodName)) ∈ lw_all := lw_g (lw_at lw_m9 97 rfl) rfl
theorem q2088 : (Jvm.Cond.codeWith ({ cls := "BrassInspectorLaw", name := "read", desc := "(LBrassInspector;[J)I" } : Jvm.MethodName) method_26_code (3 : Nat) (Option.some Jvm.ClassFile.FieldType.int) [((0 : Nat), (8 : Nat), (11 : Nat), (15 : Nat)), ((0 : Nat), (8 : Nat), (14 : Nat), (21 : Nat))]) ∈ lw_all := lw_g (lw_at lw_m9 98 rfl) rfl
theorem q2089 : (Jvm.Cond.methodLink "BrassInspectorLaw" (93 : Nat) ({ cls := "BrassInspector", name := "read", desc := "()I" } : Jvm.MethodName)) ∈ lw_all := lw_g (lw_at lw_m9 99 rfl) rfl
theorem q2090 : (Jvm.Cond.instanceMethod ({ cls := "BrassInspector", name := "read", desc := "()I" } : Jvm.MethodName)) ∈ lw_all := lw_g (lw_at lw_m9 100 rfl) rfl
theorem q2091 : (Jvm.Cond.selects "BrassInspector" ({ cls := "BrassInspector", name := "read", desc := "()I" } : Jvm.MethodName) ({ cls := "BrassInspector", name := "read", desc := "()I" } : Jvm.MethodName)) ∈ lw_all := lw_g (lw_at lw_m9 101 rfl) rfl
theorem q2092 : (Jvm.Cond.codeWith ({ cls := "BrassInspector", name := "read", desc := "()I" } : Jvm.MethodName) prog_1_method_42_code (2 : Nat) (Option.some Jvm.ClassFile.FieldType.int) [((0 : Nat), (4 : Nat), (5 : Nat), (99 : Nat)), ((0 : Nat), (4 : Nat), (5 : Nat), (1 : Nat))]) ∈ lw_all := lw_g (lw_at lw_m9 102 rfl) rfl
theorem q2093 : (Jvm.Cond.methodLink "BrassInspector" (326 : Nat) ({ cls := "BrassInspector", name := "carriedOut", desc := "()I" } : Jvm.MethodName)) ∈ lw_all := lw_g (lw_at lw_m9 103 rfl) rfl
theorem q2094 : (Jvm.Cond.privateMethod ({ cls := "BrassInspector", name := "carriedOut", desc := "()I" } : Jvm.MethodName)) ∈ lw_tbl := lw_at lw_m9 104 rfl
theorem q2095 : (Jvm.Cond.instanceMethod ({ cls := "BrassInspector", name := "carriedOut", desc := "()I" } : Jvm.MethodName)) ∈ lw_all := lw_g (lw_at lw_m9 105 rfl) rfl
theorem q2096 : (Jvm.Cond.codeWith ({ cls := "BrassInspector", name := "carriedOut", desc := "()I" } : Jvm.MethodName) prog_1_method_41_code (4 : Nat) (Option.some Jvm.ClassFile.FieldType.int) [((0 : Nat), (26 : Nat), (36 : Nat), (0 : Nat))]) ∈ lw_all := lw_g (lw_at lw_m9 106 rfl) rfl
theorem q2097 : (Jvm.Cond.classLink "BrassInspector" (310 : Nat) "BrassInspector$Reader") ∈ lw_all := lw_g (lw_at lw_m9 107 rfl) rfl
theorem q2098 : (Jvm.Cond.instantiable "BrassInspector$Reader" (2 : Nat)) ∈ lw_all := lw_g (lw_at lw_m9 108 rfl) rfl
theorem q2099 : (Jvm.Cond.methodLinkNest "BrassInspector" (312 : Nat) ({ cls := "BrassInspector$Reader", name := "<init>", desc := "(LBrassInspector;)V" } : Jvm.MethodName) "BrassInspector") ∈ lw_tbl := lw_at lw_m9 109 rfl
theorem q2100 : (Jvm.Cond.instanceMethod ({ cls := "BrassInspector$Reader", name := "<init>", desc := "(LBrassInspector;)V" } : Jvm.MethodName)) ∈ lw_all := lw_g (lw_at lw_m9 110 rfl) rfl
theorem q2101 : (Jvm.Cond.code ({ cls := "BrassInspector$Reader", name := "<init>", desc := "(LBrassInspector;)V" } : Jvm.MethodName) prog_11_method_1_code (2 : Nat) (Option.none : Option Jvm.ClassFile.FieldType)) ∈ lw_all := lw_g (lw_at lw_m9 111 rfl) rfl
theorem q2102 : (Jvm.Cond.methodLink "BrassInspector$Reader" (7 : Nat) ({ cls := "java/lang/Object", name := "<init>", desc := "()V" } : Jvm.MethodName)) ∈ lw_all := lw_g (lw_at lw_m9 112 rfl) rfl
theorem q2103 : (Jvm.Cond.fieldLink "BrassInspector$Reader" (13 : Nat) "BrassInspector$Reader" "at" "I") ∈ lw_all := lw_g (lw_at lw_m9 113 rfl) rfl
theorem q2104 : (Jvm.Cond.fieldLink "BrassInspector$Reader" (1 : Nat) "BrassInspector$Reader" "this$0" "LBrassInspector;") ∈ lw_all := lw_g (lw_at lw_m9 114 rfl) rfl
theorem q2105 : (Jvm.Cond.lays "BrassInspector$Reader" "BrassInspector$Reader" "at" "I") ∈ lw_all := lw_g (lw_at lw_m9 115 rfl) rfl
theorem q2106 : (Jvm.Cond.soleField "BrassInspector$Reader" "at") ∈ lw_all := lw_g (lw_at lw_m9 116 rfl) rfl
theorem q2107 : (Jvm.Cond.laysFinal "BrassInspector$Reader" "BrassInspector$Reader" "this$0" "LBrassInspector;") ∈ lw_all := lw_g (lw_at lw_m9 117 rfl) rfl
theorem q2108 : (Jvm.Cond.soleField "BrassInspector$Reader" "this$0") ∈ lw_all := lw_g (lw_at lw_m9 118 rfl) rfl
theorem q2109 : (Jvm.Cond.superclass "BrassInspector$Reader" "java/lang/Object") ∈ lw_all := lw_g (lw_at lw_m9 119 rfl) rfl
theorem q2110 : (Jvm.Cond.methodLink "BrassInspector" (315 : Nat) ({ cls := "BrassInspector$Reader", name := "orders", desc := "()Ljava/util/List;" } : Jvm.MethodName)) ∈ lw_all := lw_g (lw_at lw_m9 120 rfl) rfl
theorem q2111 : (Jvm.Cond.instanceMethod ({ cls := "BrassInspector$Reader", name := "orders", desc := "()Ljava/util/List;" } : Jvm.MethodName)) ∈ lw_all := lw_g (lw_at lw_m9 121 rfl) rfl
theorem q2112 : (Jvm.Cond.selects "BrassInspector$Reader" ({ cls := "BrassInspector$Reader", name := "orders", desc := "()Ljava/util/List;" } : Jvm.MethodName) ({ cls := "BrassInspector$Reader", name := "orders", desc := "()Ljava/util/List;" } : Jvm.MethodName)) ∈ lw_all := lw_g (lw_at lw_m9 122 rfl) rfl
theorem q2113 : (Jvm.Cond.code ({ cls := "BrassInspector$Reader", name := "orders", desc := "()Ljava/util/List;" } : Jvm.MethodName) prog_11_method_12_code (2 : Nat) (Option.some (Jvm.ClassFile.FieldType.object "java/util/List"))) ∈ lw_all := lw_g (lw_at lw_m9 123 rfl) rfl
theorem q2114 : (Jvm.Cond.classLink "BrassInspector$Reader" (114 : Nat) "java/util/ArrayList") ∈ lw_all := lw_g (lw_at lw_m9 124 rfl) rfl
theorem q2115 : (Jvm.Cond.methodLink "BrassInspector$Reader" (116 : Nat) ({ cls := "java/util/ArrayList", name := "<init>", desc := "()V" } : Jvm.MethodName)) ∈ lw_all := lw_g (lw_at lw_m9 125 rfl) rfl
theorem q2116 : (Jvm.Cond.methodLink "BrassInspector$Reader" (117 : Nat) ({ cls := "BrassInspector$Reader", name := "order", desc := "()LBrassInspector$Order;" } : Jvm.MethodName)) ∈ lw_all := lw_g (lw_at lw_m9 126 rfl) rfl
theorem q2117 : (Jvm.Cond.privateMethod ({ cls := "BrassInspector$Reader", name := "order", desc := "()LBrassInspector$Order;" } : Jvm.MethodName)) ∈ lw_tbl := lw_at lw_m9 127 rfl
theorem q2118 : (Jvm.Cond.instanceMethod ({ cls := "BrassInspector$Reader", name := "order", desc := "()LBrassInspector$Order;" } : Jvm.MethodName)) ∈ lw_all := lw_g (lw_at lw_m9 128 rfl) rfl
theorem q2119 : (Jvm.Cond.code ({ cls := "BrassInspector$Reader", name := "order", desc := "()LBrassInspector$Order;" } : Jvm.MethodName) prog_11_method_11_code (5 : Nat) (Option.some (Jvm.ClassFile.FieldType.object "BrassInspector$Order"))) ∈ lw_all := lw_g (lw_at lw_m9 129 rfl) rfl
theorem q2120 : (Jvm.Cond.methodLink "BrassInspector$Reader" (79 : Nat) ({ cls := "BrassInspector$Reader", name := "word", desc := "()Ljava/lang/String;" } : Jvm.MethodName)) ∈ lw_all := lw_g (lw_at lw_m9 130 rfl) rfl
theorem q2121 : (Jvm.Cond.privateMethod ({ cls := "BrassInspector$Reader", name := "word", desc := "()Ljava/lang/String;" } : Jvm.MethodName)) ∈ lw_tbl := lw_at lw_m9 131 rfl
theorem q2122 : (Jvm.Cond.instanceMethod ({ cls := "BrassInspector$Reader", name := "word", desc := "()Ljava/lang/String;" } : Jvm.MethodName)) ∈ lw_all := lw_g (lw_at lw_m9 132 rfl) rfl
theorem q2123 : (Jvm.Cond.code ({ cls := "BrassInspector$Reader", name := "word", desc := "()Ljava/lang/String;" } : Jvm.MethodName) prog_11_method_9_code (3 : Nat) (Option.some (Jvm.ClassFile.FieldType.object "java/lang/String"))) ∈ lw_all := lw_g (lw_at lw_m9 133 rfl) rfl
theorem q2124 : (Jvm.Cond.methodLink "BrassInspector$Reader" (38 : Nat) ({ cls := "BrassInspector$Reader", name := "here", desc := "()C" } : Jvm.MethodName)) ∈ lw_all := lw_g (lw_at lw_m9 134 rfl) rfl
theorem q2125 : (Jvm.Cond.privateMethod ({ cls := "BrassInspector$Reader", name := "here", desc := "()C" } : Jvm.MethodName)) ∈ lw_tbl := lw_at lw_m9 135 rfl
theorem q2126 : (Jvm.Cond.instanceMethod ({ cls := "BrassInspector$Reader", name := "here", desc := "()C" } : Jvm.MethodName)) ∈ lw_all := lw_g (lw_at lw_m9 136 rfl) rfl
theorem q2127 : (Jvm.Cond.code ({ cls := "BrassInspector$Reader", name := "here", desc := "()C" } : Jvm.MethodName) prog_11_method_2_code (1 : Nat) (Option.some Jvm.ClassFile.FieldType.char)) ∈ lw_all := lw_g (lw_at lw_m9 137 rfl) rfl
theorem q2128 : (Jvm.Cond.methodLink "BrassInspector$Reader" (23 : Nat) ({ cls := "java/lang/StringBuilder", name := "length", desc := "()I" } : Jvm.MethodName)) ∈ lw_all := lw_g (lw_at lw_m9 138 rfl) rfl
theorem q2129 : (Jvm.Cond.methodLink "BrassInspector$Reader" (29 : Nat) ({ cls := "java/lang/StringBuilder", name := "charAt", desc := "(I)C" } : Jvm.MethodName)) ∈ lw_all := lw_g (lw_at lw_m9 139 rfl) rfl
theorem q2130 : (Jvm.Cond.instanceMethod ({ cls := "java/lang/StringBuilder", name := "charAt", desc := "(I)C" } : Jvm.MethodName)) ∈ lw_all := lw_g (lw_at lw_m9 140 rfl) rfl
theorem q2131 : (Jvm.Cond.selects "java/lang/StringBuilder" ({ cls := "java/lang/StringBuilder", name := "charAt", desc := "(I)C" } : Jvm.MethodName) ({ cls := "java/lang/StringBuilder", name := "charAt", desc := "(I)C" } : Jvm.MethodName)) ∈ lw_all := lw_g (lw_at lw_m9 141 rfl) rfl
theorem q2132 : (Jvm.Cond.code ({ cls := "java/lang/StringBuilder", name := "charAt", desc := "(I)C" } : Jvm.MethodName) prog_40_method_88_code (2 : Nat) (Option.some Jvm.ClassFile.FieldType.char)) ∈ lw_all := lw_g (lw_at lw_m9 142 rfl) rfl
theorem q2133 : (Jvm.Cond.methodLink "java/lang/StringBuilder" (329 : Nat) ({ cls := "java/lang/AbstractStringBuilder", name := "charAt", desc := "(I)C" } : Jvm.MethodName)) ∈ lw_all := lw_g (lw_at lw_m9 143 rfl) rfl
theorem q2134 : (Jvm.Cond.instanceMethod ({ cls := "java/lang/AbstractStringBuilder", name := "charAt", desc := "(I)C" } : Jvm.MethodName)) ∈ lw_all := lw_g (lw_at lw_m9 144 rfl) rfl
theorem q2135 : (Jvm.Cond.code ({ cls := "java/lang/AbstractStringBuilder", name := "charAt", desc := "(I)C" } : Jvm.MethodName) prog_22_method_14_code (5 : Nat) (Option.some Jvm.ClassFile.FieldType.char)) ∈ lw_all := lw_g (lw_at lw_m9 145 rfl) rfl
theorem q2136 : (Jvm.Cond.methodLink "java/lang/AbstractStringBuilder" (138 : Nat) ({ cls := "java/lang/Math", name := "min", desc := "(II)I" } : Jvm.MethodName)) ∈ lw_all := lw_g (lw_at lw_m9 146 rfl) rfl
theorem q2137 : (Jvm.Cond.methodLink "java/lang/AbstractStringBuilder" (144 : Nat) ({ cls := "java/lang/String", name := "checkIndex", desc := "(II)V" } : Jvm.MethodName)) ∈ lw_all := lw_g (lw_at lw_m9 147 rfl) rfl
theorem q2138 : (Jvm.Cond.methodLink "java/lang/AbstractStringBuilder" (148 : Nat) ({ cls := "java/lang/StringUTF16", name := "getChar", desc := "([BI)C" } : Jvm.MethodName)) ∈ lw_all := lw_g (lw_at lw_m9 148 rfl) rfl
theorem q2139 : (Jvm.Cond.methodLink "BrassInspector$Reader" (42 : Nat) ({ cls := "BrassInspector$Reader", name := "need", desc := "(Z)V" } : Jvm.MethodName)) ∈ lw_all := lw_g (lw_at lw_m9 149 rfl) rfl
theorem q2140 : (Jvm.Cond.privateMethod ({ cls := "BrassInspector$Reader", name := "need", desc := "(Z)V" } : Jvm.MethodName)) ∈ lw_tbl := lw_at lw_m9 150 rfl
theorem q2141 : (Jvm.Cond.instanceMethod ({ cls := "BrassInspector$Reader", name := "need", desc := "(Z)V" } : Jvm.MethodName)) ∈ lw_all := lw_g (lw_at lw_m9 151 rfl) rfl
theorem q2142 : (Jvm.Cond.code ({ cls := "BrassInspector$Reader", name := "need", desc := "(Z)V" } : Jvm.MethodName) prog_11_method_3_code (2 : Nat) (Option.none : Option Jvm.ClassFile.FieldType)) ∈ lw_all := lw_g (lw_at lw_m9 152 rfl) rfl
theorem q2143 : (Jvm.Cond.classLink "BrassInspector$Reader" (33 : Nat) "BrassInspector$TextError") ∈ lw_all := lw_g (lw_at lw_m9 153 rfl) rfl
theorem q2144 : (Jvm.Cond.instantiable "BrassInspector$TextError" (7 : Nat)) ∈ lw_all := lw_g (lw_at lw_m9 154 rfl) rfl
theorem q2145 : (Jvm.Cond.castable "BrassInspector$TextError" "BrassInspector$TextError") ∈ lw_tbl := lw_at lw_m9 155 rfl
theorem q2146 : (Jvm.Cond.selects "BrassInspector$TextError" ({ cls := "java/lang/Throwable", name := "fillInStackTrace", desc := "(I)Ljava/lang/Throwable;" } : Jvm.MethodName) ({ cls := "java/lang/Throwable", name := "fillInStackTrace", desc := "(I)Ljava/lang/Throwable;" } : Jvm.MethodName)) ∈ lw_all := lw_g (lw_at lw_m9 156 rfl) rfl
theorem q2147 : (Jvm.Cond.lays "BrassInspector$TextError" "java/lang/Throwable" "cause" "Ljava/lang/Throwable;") ∈ lw_all := lw_g (lw_at lw_m9 157 rfl) rfl
theorem q2148 : (Jvm.Cond.lays "BrassInspector$TextError" "java/lang/Throwable" "stackTrace" "[Ljava/lang/StackTraceElement;") ∈ lw_all := lw_g (lw_at lw_m9 158 rfl) rfl
theorem q2149 : (Jvm.Cond.lays "BrassInspector$TextError" "java/lang/Throwable" "suppressedExceptions" "Ljava/util/List;") ∈ lw_all := lw_g (lw_at lw_m9 159 rfl) rfl
theorem q2150 : (Jvm.Cond.lays "BrassInspector$TextError" "java/lang/Throwable" "detailMessage" "Ljava/lang/String;") ∈ lw_all := lw_g (lw_at lw_m9 160 rfl) rfl
theorem q2151 : (Jvm.Cond.lays "BrassInspector$TextError" "java/lang/Throwable" "backtrace" "Ljava/lang/Object;") ∈ lw_all := lw_g (lw_at lw_m9 161 rfl) rfl
theorem q2152 : (Jvm.Cond.methodLink "BrassInspector$Reader" (35 : Nat) ({ cls := "BrassInspector$TextError", name := "<init>", desc := "(I)V" } : Jvm.MethodName)) ∈ lw_all := lw_g (lw_at lw_m9 162 rfl) rfl
theorem q2153 : (Jvm.Cond.instanceMethod ({ cls := "BrassInspector$TextError", name := "<init>", desc := "(I)V" } : Jvm.MethodName)) ∈ lw_all := lw_g (lw_at lw_m9 163 rfl) rfl
theorem q2154 : (Jvm.Cond.code ({ cls := "BrassInspector$TextError", name := "<init>", desc := "(I)V" } : Jvm.MethodName) prog_18_method_1_code (2 : Nat) (Option.none : Option Jvm.ClassFile.FieldType)) ∈ lw_all := lw_g (lw_at lw_m9 164 rfl) rfl
theorem q2155 : (Jvm.Cond.methodLink "BrassInspector$TextError" (1 : Nat) ({ cls := "java/lang/Exception", name := "<init>", desc := "(Ljava/lang/String;Ljava/lang/Throwable;)V" } : Jvm.MethodName)) ∈ lw_all := lw_g (lw_at lw_m9 165 rfl) rfl
theorem q2156 : (Jvm.Cond.fieldLink "BrassInspector$TextError" (7 : Nat) "BrassInspector$TextError" "position" "I") ∈ lw_all := lw_g (lw_at lw_m9 166 rfl) rfl
theorem q2157 : (Jvm.Cond.laysFinal "BrassInspector$TextError" "BrassInspector$TextError" "position" "I") ∈ lw_all := lw_g (lw_at lw_m9 167 rfl) rfl
theorem q2158 : (Jvm.Cond.soleField "BrassInspector$TextError" "position") ∈ lw_all := lw_g (lw_at lw_m9 168 rfl) rfl
theorem q2159 : (Jvm.Cond.lays "BrassInspector$TextError" "java/lang/Throwable" "depth" "I") ∈ lw_all := lw_g (lw_at lw_m9 169 rfl) rfl
theorem q2160 : (Jvm.Cond.superclass "BrassInspector$TextError" "java/lang/Exception") ∈ lw_all := lw_g (lw_at lw_m9 170 rfl) rfl
theorem q2161 : (Jvm.Cond.stringRef "BrassInspector$Reader" (61 : Nat) "drift") ∈ lw_tbl := lw_at lw_m9 171 rfl
theorem q2162 : (Jvm.Cond.stringRef "BrassInspector$Reader" (63 : Nat) "days") ∈ lw_tbl := lw_at lw_m9 172 rfl
theorem q2163 : (Jvm.Cond.stringRef "BrassInspector$Reader" (65 : Nat) "lmsp") ∈ lw_tbl := lw_at lw_m9 173 rfl
theorem q2164 : (Jvm.Cond.methodLink "BrassInspector$Reader" (67 : Nat) ({ cls := "java/lang/String", name := "indexOf", desc := "(I)I" } : Jvm.MethodName)) ∈ lw_all := lw_g (lw_at lw_m9 174 rfl) rfl
theorem q2165 : (Jvm.Cond.instanceMethod ({ cls := "java/lang/String", name := "indexOf", desc := "(I)I" } : Jvm.MethodName)) ∈ lw_all := lw_g (lw_at lw_m9 175 rfl) rfl
theorem q2166 : (Jvm.Cond.selects "java/lang/String" ({ cls := "java/lang/String", name := "indexOf", desc := "(I)I" } : Jvm.MethodName) ({ cls := "java/lang/String", name := "indexOf", desc := "(I)I" } : Jvm.MethodName)) ∈ lw_all := lw_g (lw_at lw_m9 176 rfl) rfl
theorem q2167 : (Jvm.Cond.code ({ cls := "java/lang/String", name := "indexOf", desc := "(I)I" } : Jvm.MethodName) prog_39_method_79_code (2 : Nat) (Option.some Jvm.ClassFile.FieldType.int)) ∈ lw_all := lw_g (lw_at lw_m9 177 rfl) rfl
theorem q2168 : (Jvm.Cond.methodLink "java/lang/String" (633 : Nat) ({ cls := "java/lang/String", name := "indexOf", desc := "(II)I" } : Jvm.MethodName)) ∈ lw_all := lw_g (lw_at lw_m9 178 rfl) rfl
theorem q2169 : (Jvm.Cond.instanceMethod ({ cls := "java/lang/String", name := "indexOf", desc := "(II)I" } : Jvm.MethodName)) ∈ lw_all := lw_g (lw_at lw_m9 179 rfl) rfl
theorem q2170 : (Jvm.Cond.selects "java/lang/String" ({ cls := "java/lang/String", name := "indexOf", desc := "(II)I" } : Jvm.MethodName) ({ cls := "java/lang/String", name := "indexOf", desc := "(II)I" } : Jvm.MethodName)) ∈ lw_all := lw_g (lw_at lw_m9 180 rfl) rfl
theorem q2171 : (Jvm.Cond.code ({ cls := "java/lang/String", name := "indexOf", desc := "(II)I" } : Jvm.MethodName) prog_39_method_80_code (3 : Nat) (Option.some Jvm.ClassFile.FieldType.int)) ∈ lw_all := lw_g (lw_at lw_m9 181 rfl) rfl
theorem q2172 : (Jvm.Cond.methodLink "java/lang/String" (505 : Nat) ({ cls := "java/lang/String", name := "length", desc := "()I" } : Jvm.MethodName)) ∈ lw_all := lw_g (lw_at lw_m9 182 rfl) rfl
theorem q2173 : (Jvm.Cond.methodLink "java/lang/String" (637 : Nat) ({ cls := "java/lang/StringLatin1", name := "indexOf", desc := "([BIII)I" } : Jvm.MethodName)) ∈ lw_all := lw_g (lw_at lw_m9 183 rfl) rfl
theorem q2174 : (Jvm.Cond.static ({ cls := "java/lang/StringLatin1", name := "indexOf", desc := "([BIII)I" } : Jvm.MethodName)) ∈ lw_all := lw_g (lw_at lw_m9 184 rfl) rfl
theorem q2175 : (Jvm.Cond.code ({ cls := "java/lang/StringLatin1", name := "indexOf", desc := "([BIII)I" } : Jvm.MethodName) prog_42_method_22_code (4 : Nat) (Option.some Jvm.ClassFile.FieldType.int)) ∈ lw_all := lw_g (lw_at lw_m9 185 rfl) rfl
theorem q2176 : (Jvm.Cond.methodLink "java/lang/StringLatin1" (88 : Nat) ({ cls := "java/lang/StringLatin1", name := "canEncode", desc := "(I)Z" } : Jvm.MethodName)) ∈ lw_all := lw_g (lw_at lw_m9 186 rfl) rfl
theorem q2177 : (Jvm.Cond.static ({ cls := "java/lang/StringLatin1", name := "canEncode", desc := "(I)Z" } : Jvm.MethodName)) ∈ lw_all := lw_g (lw_at lw_m9 187 rfl) rfl
theorem q2178 : (Jvm.Cond.code ({ cls := "java/lang/StringLatin1", name := "canEncode", desc := "(I)Z" } : Jvm.MethodName) prog_42_method_4_code (1 : Nat) (Option.some Jvm.ClassFile.FieldType.boolean)) ∈ lw_all := lw_g (lw_at lw_m9 188 rfl) rfl
theorem q2179 : (Jvm.Cond.methodLink "java/lang/StringLatin1" (92 : Nat) ({ cls := "java/lang/Math", name := "max", desc := "(II)I" } : Jvm.MethodName)) ∈ lw_all := lw_g (lw_at lw_m9 189 rfl) rfl
theorem q2180 : (Jvm.Cond.methodLink "java/lang/StringLatin1" (38 : Nat) ({ cls := "java/lang/Math", name := "min", desc := "(II)I" } : Jvm.MethodName)) ∈ lw_all := lw_g (lw_at lw_m9 190 rfl) rfl
theorem q2181 : (Jvm.Cond.methodLink "java/lang/StringLatin1" (95 : Nat) ({ cls := "java/lang/StringLatin1", name := "indexOfChar", desc := "([BIII)I" } : Jvm.MethodName)) ∈ lw_all := lw_g (lw_at lw_m9 191 rfl) rfl
theorem q2182 : (Jvm.Cond.static ({ cls := "java/lang/StringLatin1", name := "indexOfChar", desc := "([BIII)I" } : Jvm.MethodName)) ∈ lw_all := lw_g (lw_at lw_m9 192 rfl) rfl
theorem q2183 : (Jvm.Cond.code ({ cls := "java/lang/StringLatin1", name := "indexOfChar", desc := "([BIII)I" } : Jvm.MethodName) prog_42_method_23_code (6 : Nat) (Option.some Jvm.ClassFile.FieldType.int)) ∈ lw_all := lw_g (lw_at lw_m9 193 rfl) rfl
theorem q2184 : (Jvm.Cond.methodLink "java/lang/String" (640 : Nat) ({ cls := "java/lang/StringUTF16", name := "indexOf", desc := "([BIII)I" } : Jvm.MethodName)) ∈ lw_all := lw_g (lw_at lw_m9 194 rfl) rfl
theorem q2185 : (Jvm.Cond.static ({ cls := "java/lang/StringUTF16", name := "indexOf", desc := "([BIII)I" } : Jvm.MethodName)) ∈ lw_all := lw_g (lw_at lw_m9 195 rfl) rfl
theorem q2186 : (Jvm.Cond.code ({ cls := "java/lang/StringUTF16", name := "indexOf", desc := "([BIII)I" } : Jvm.MethodName) prog_43_method_40_code (4 : Nat) (Option.some Jvm.ClassFile.FieldType.int)) ∈ lw_all := lw_g (lw_at lw_m9 196 rfl) rfl
theorem q2187 : (Jvm.Cond.methodLink "java/lang/StringUTF16" (224 : Nat) ({ cls := "java/lang/Math", name := "max", desc := "(II)I" } : Jvm.MethodName)) ∈ lw_all := lw_g (lw_at lw_m9 197 rfl) rfl
theorem q2188 : (Jvm.Cond.methodLink "java/lang/StringUTF16" (183 : Nat) ({ cls := "java/lang/Math", name := "min", desc := "(II)I" } : Jvm.MethodName)) ∈ lw_all := lw_g (lw_at lw_m9 198 rfl) rfl
theorem q2189 : (Jvm.Cond.constant "java/lang/StringUTF16" (227 : Nat) (65536 : Int32)) ∈ lw_all := lw_g (lw_at lw_m9 199 rfl) rfl
theorem q2190 : (Jvm.Cond.methodLink "java/lang/StringUTF16" (228 : Nat) ({ cls := "java/lang/StringUTF16", name := "indexOfChar", desc := "([BIII)I" } : Jvm.MethodName)) ∈ lw_all := lw_g (lw_at lw_m9 200 rfl) rfl
theorem q2191 : (Jvm.Cond.static ({ cls := "java/lang/StringUTF16", name := "indexOfChar", desc := "([BIII)I" } : Jvm.MethodName)) ∈ lw_all := lw_g (lw_at lw_m9 201 rfl) rfl
theorem q2192 : (Jvm.Cond.code ({ cls := "java/lang/StringUTF16", name := "indexOfChar", desc := "([BIII)I" } : Jvm.MethodName) prog_43_method_47_code (4 : Nat) (Option.some Jvm.ClassFile.FieldType.int)) ∈ lw_all := lw_g (lw_at lw_m9 202 rfl) rfl
theorem q2193 : (Jvm.Cond.methodLink "java/lang/StringUTF16" (244 : Nat) ({ cls := "java/lang/StringUTF16", name := "indexOfCharUnsafe", desc := "([BIII)I" } : Jvm.MethodName)) ∈ lw_all := lw_g (lw_at lw_m9 203 rfl) rfl
theorem q2194 : (Jvm.Cond.static ({ cls := "java/lang/StringUTF16", name := "indexOfCharUnsafe", desc := "([BIII)I" } : Jvm.MethodName)) ∈ lw_all := lw_g (lw_at lw_m9 204 rfl) rfl
theorem q2195 : (Jvm.Cond.code ({ cls := "java/lang/StringUTF16", name := "indexOfCharUnsafe", desc := "([BIII)I" } : Jvm.MethodName) prog_43_method_48_code (5 : Nat) (Option.some Jvm.ClassFile.FieldType.int)) ∈ lw_all := lw_g (lw_at lw_m9 205 rfl) rfl
theorem q2196 : (Jvm.Cond.methodLink "java/lang/StringUTF16" (232 : Nat) ({ cls := "java/lang/StringUTF16", name := "indexOfSupplementary", desc := "([BIII)I" } : Jvm.MethodName)) ∈ lw_all := lw_g (lw_at lw_m9 206 rfl) rfl
theorem q2197 : (Jvm.Cond.static ({ cls := "java/lang/StringUTF16", name := "indexOfSupplementary", desc := "([BIII)I" } : Jvm.MethodName)) ∈ lw_all := lw_g (lw_at lw_m9 207 rfl) rfl
theorem q2198 : (Jvm.Cond.code ({ cls := "java/lang/StringUTF16", name := "indexOfSupplementary", desc := "([BIII)I" } : Jvm.MethodName) prog_43_method_49_code (7 : Nat) (Option.some Jvm.ClassFile.FieldType.int)) ∈ lw_all := lw_g (lw_at lw_m9 208 rfl) rfl
theorem q2199 : (Jvm.Cond.methodLink "java/lang/StringUTF16" (164 : Nat) ({ cls := "java/lang/Character", name := "isValidCodePoint", desc := "(I)Z" } : Jvm.MethodName)) ∈ lw_all := lw_g (lw_at lw_m9 209 rfl) rfl
theorem q2200 : (Jvm.Cond.static ({ cls := "java/lang/Character", name := "isValidCodePoint", desc := "(I)Z" } : Jvm.MethodName)) ∈ lw_all := lw_g (lw_at lw_m9 210 rfl) rfl
theorem q2201 : (Jvm.Cond.code ({ cls := "java/lang/Character", name := "isValidCodePoint", desc := "(I)Z" } : Jvm.MethodName) prog_27_method_11_code (2 : Nat) (Option.some Jvm.ClassFile.FieldType.boolean)) ∈ lw_all := lw_g (lw_at lw_m9 211 rfl) rfl
theorem q2202 : (Jvm.Cond.methodLink "java/lang/StringUTF16" (157 : Nat) ({ cls := "java/lang/Character", name := "highSurrogate", desc := "(I)C" } : Jvm.MethodName)) ∈ lw_all := lw_g (lw_at lw_m9 212 rfl) rfl
theorem q2203 : (Jvm.Cond.static ({ cls := "java/lang/Character", name := "highSurrogate", desc := "(I)C" } : Jvm.MethodName)) ∈ lw_all := lw_g (lw_at lw_m9 213 rfl) rfl
theorem q2204 : (Jvm.Cond.code ({ cls := "java/lang/Character", name := "highSurrogate", desc := "(I)C" } : Jvm.MethodName) prog_27_method_28_code (1 : Nat) (Option.some Jvm.ClassFile.FieldType.char)) ∈ lw_all := lw_g (lw_at lw_m9 214 rfl) rfl
theorem q2205 : (Jvm.Cond.constant "java/lang/Character" (110 : Nat) (55232 : Int32)) ∈ lw_all := lw_g (lw_at lw_m9 215 rfl) rfl
theorem q2206 : (Jvm.Cond.methodLink "java/lang/StringUTF16" (161 : Nat) ({ cls := "java/lang/Character", name := "lowSurrogate", desc := "(I)C" } : Jvm.MethodName)) ∈ lw_all := lw_g (lw_at lw_m9 216 rfl) rfl
theorem q2207 : (Jvm.Cond.static ({ cls := "java/lang/Character", name := "lowSurrogate", desc := "(I)C" } : Jvm.MethodName)) ∈ lw_all := lw_g (lw_at lw_m9 217 rfl) rfl
theorem q2208 : (Jvm.Cond.code ({ cls := "java/lang/Character", name := "lowSurrogate", desc := "(I)C" } : Jvm.MethodName) prog_27_method_29_code (1 : Nat) (Option.some Jvm.ClassFile.FieldType.char)) ∈ lw_all := lw_g (lw_at lw_m9 218 rfl) rfl
theorem q2209 : (Jvm.Cond.constant "java/lang/Character" (76 : Nat) (56320 : Int32)) ∈ lw_all := lw_g (lw_at lw_m9 219 rfl) rfl
theorem q2210 : (Jvm.Cond.stringRef "BrassInspector$Reader" (71 : Nat) "look") ∈ lw_tbl := lw_at lw_m9 220 rfl
theorem q2211 : (Jvm.Cond.stringRef "BrassInspector$Reader" (73 : Nat) "mend") ∈ lw_tbl := lw_at lw_m9 221 rfl
theorem q2212 : (Jvm.Cond.stringRef "BrassInspector$Reader" (75 : Nat) "shave") ∈ lw_tbl := lw_at lw_m9 222 rfl
theorem q2213 : (Jvm.Cond.stringRef "BrassInspector$Reader" (77 : Nat) "pay") ∈ lw_tbl := lw_at lw_m9 223 rfl
theorem q2214 : (Jvm.Cond.methodLink "BrassInspector$Reader" (83 : Nat) ({ cls := "BrassInspector$Reader", name := "takeAll", desc := "(Ljava/lang/String;)V" } : Jvm.MethodName)) ∈ lw_all := lw_g (lw_at lw_m9 224 rfl) rfl
theorem q2215 : (Jvm.Cond.privateMethod ({ cls := "BrassInspector$Reader", name := "takeAll", desc := "(Ljava/lang/String;)V" } : Jvm.MethodName)) ∈ lw_tbl := lw_at lw_m9 225 rfl
theorem q2216 : (Jvm.Cond.instanceMethod ({ cls := "BrassInspector$Reader", name := "takeAll", desc := "(Ljava/lang/String;)V" } : Jvm.MethodName)) ∈ lw_all := lw_g (lw_at lw_m9 226 rfl) rfl
theorem q2217 : (Jvm.Cond.code ({ cls := "BrassInspector$Reader", name := "takeAll", desc := "(Ljava/lang/String;)V" } : Jvm.MethodName) prog_11_method_5_code (3 : Nat) (Option.none : Option Jvm.ClassFile.FieldType)) ∈ lw_all := lw_g (lw_at lw_m9 227 rfl) rfl
theorem q2218 : (Jvm.Cond.methodLink "BrassInspector$Reader" (46 : Nat) ({ cls := "java/lang/String", name := "length", desc := "()I" } : Jvm.MethodName)) ∈ lw_all := lw_g (lw_at lw_m9 228 rfl) rfl
theorem q2219 : (Jvm.Cond.methodLink "BrassInspector$Reader" (49 : Nat) ({ cls := "java/lang/String", name := "charAt", desc := "(I)C" } : Jvm.MethodName)) ∈ lw_all := lw_g (lw_at lw_m9 229 rfl) rfl
theorem q2220 : (Jvm.Cond.instanceMethod ({ cls := "java/lang/String", name := "charAt", desc := "(I)C" } : Jvm.MethodName)) ∈ lw_all := lw_g (lw_at lw_m9 230 rfl) rfl
theorem q2221 : (Jvm.Cond.selects "java/lang/String" ({ cls := "java/lang/String", name := "charAt", desc := "(I)C" } : Jvm.MethodName) ({ cls := "java/lang/String", name := "charAt", desc := "(I)C" } : Jvm.MethodName)) ∈ lw_all := lw_g (lw_at lw_m9 231 rfl) rfl
theorem q2222 : (Jvm.Cond.code ({ cls := "java/lang/String", name := "charAt", desc := "(I)C" } : Jvm.MethodName) prog_39_method_56_code (2 : Nat) (Option.some Jvm.ClassFile.FieldType.char)) ∈ lw_all := lw_g (lw_at lw_m9 232 rfl) rfl
theorem q2223 : (Jvm.Cond.methodLink "java/lang/String" (495 : Nat) ({ cls := "java/lang/StringLatin1", name := "charAt", desc := "([BI)C" } : Jvm.MethodName)) ∈ lw_all := lw_g (lw_at lw_m9 233 rfl) rfl
theorem q2224 : (Jvm.Cond.static ({ cls := "java/lang/StringLatin1", name := "charAt", desc := "([BI)C" } : Jvm.MethodName)) ∈ lw_all := lw_g (lw_at lw_m9 234 rfl) rfl
theorem q2225 : (Jvm.Cond.code ({ cls := "java/lang/StringLatin1", name := "charAt", desc := "([BI)C" } : Jvm.MethodName) prog_42_method_2_code (2 : Nat) (Option.some Jvm.ClassFile.FieldType.char)) ∈ lw_all := lw_g (lw_at lw_m9 235 rfl) rfl
theorem q2226 : (Jvm.Cond.methodLink "java/lang/StringLatin1" (9 : Nat) ({ cls := "java/lang/String", name := "checkIndex", desc := "(II)V" } : Jvm.MethodName)) ∈ lw_all := lw_g (lw_at lw_m9 236 rfl) rfl
theorem q2227 : (Jvm.Cond.methodLink "java/lang/String" (498 : Nat) ({ cls := "java/lang/StringUTF16", name := "charAt", desc := "([BI)C" } : Jvm.MethodName)) ∈ lw_all := lw_g (lw_at lw_m9 237 rfl) rfl
theorem q2228 : (Jvm.Cond.static ({ cls := "java/lang/StringUTF16", name := "charAt", desc := "([BI)C" } : Jvm.MethodName)) ∈ lw_all := lw_g (lw_at lw_m9 238 rfl) rfl
theorem q2229 : (Jvm.Cond.code ({ cls := "java/lang/StringUTF16", name := "charAt", desc := "([BI)C" } : Jvm.MethodName) prog_43_method_83_code (2 : Nat) (Option.some Jvm.ClassFile.FieldType.char)) ∈ lw_all := lw_g (lw_at lw_m9 239 rfl) rfl
theorem q2230 : (Jvm.Cond.methodLink "BrassInspector$Reader" (50 : Nat) ({ cls := "BrassInspector$Reader", name := "take", desc := "(C)V" } : Jvm.MethodName)) ∈ lw_all := lw_g (lw_at lw_m10 0 rfl) rfl
theorem q2231 : (Jvm.Cond.privateMethod ({ cls := "BrassInspector$Reader", name := "take", desc := "(C)V" } : Jvm.MethodName)) ∈ lw_tbl := lw_at lw_m10 1 rfl
theorem q2232 : (Jvm.Cond.instanceMethod ({ cls := "BrassInspector$Reader", name := "take", desc := "(C)V" } : Jvm.MethodName)) ∈ lw_all := lw_g (lw_at lw_m10 2 rfl) rfl
theorem q2233 : (Jvm.Cond.code ({ cls := "BrassInspector$Reader", name := "take", desc := "(C)V" } : Jvm.MethodName) prog_11_method_4_code (2 : Nat) (Option.none : Option Jvm.ClassFile.FieldType)) ∈ lw_all := lw_g (lw_at lw_m10 3 rfl) rfl
theorem q2234 : (Jvm.Cond.methodLink "BrassInspector$Reader" (87 : Nat) ({ cls := "java/lang/String", name := "equals", desc := "(Ljava/lang/Object;)Z" } : Jvm.MethodName)) ∈ lw_all := lw_g (lw_at lw_m10 4 rfl) rfl
theorem q2235 : (Jvm.Cond.classLink "BrassInspector$Reader" (91 : Nat) "BrassInspector$Order") ∈ lw_all := lw_g (lw_at lw_m10 5 rfl) rfl
theorem q2236 : (Jvm.Cond.methodLink "BrassInspector$Reader" (93 : Nat) ({ cls := "BrassInspector$Reader", name := "number", desc := "()I" } : Jvm.MethodName)) ∈ lw_all := lw_g (lw_at lw_m10 6 rfl) rfl
theorem q2237 : (Jvm.Cond.privateMethod ({ cls := "BrassInspector$Reader", name := "number", desc := "()I" } : Jvm.MethodName)) ∈ lw_tbl := lw_at lw_m10 7 rfl
theorem q2238 : (Jvm.Cond.instanceMethod ({ cls := "BrassInspector$Reader", name := "number", desc := "()I" } : Jvm.MethodName)) ∈ lw_all := lw_g (lw_at lw_m10 8 rfl) rfl
theorem q2239 : (Jvm.Cond.code ({ cls := "BrassInspector$Reader", name := "number", desc := "()I" } : Jvm.MethodName) prog_11_method_8_code (2 : Nat) (Option.some Jvm.ClassFile.FieldType.int)) ∈ lw_all := lw_g (lw_at lw_m10 9 rfl) rfl
theorem q2240 : (Jvm.Cond.methodLink "BrassInspector$Reader" (58 : Nat) ({ cls := "BrassInspector$Reader", name := "digit", desc := "()I" } : Jvm.MethodName)) ∈ lw_all := lw_g (lw_at lw_m10 10 rfl) rfl
theorem q2241 : (Jvm.Cond.privateMethod ({ cls := "BrassInspector$Reader", name := "digit", desc := "()I" } : Jvm.MethodName)) ∈ lw_tbl := lw_at lw_m10 11 rfl
theorem q2242 : (Jvm.Cond.instanceMethod ({ cls := "BrassInspector$Reader", name := "digit", desc := "()I" } : Jvm.MethodName)) ∈ lw_all := lw_g (lw_at lw_m10 12 rfl) rfl
theorem q2243 : (Jvm.Cond.code ({ cls := "BrassInspector$Reader", name := "digit", desc := "()I" } : Jvm.MethodName) prog_11_method_7_code (1 : Nat) (Option.some Jvm.ClassFile.FieldType.int)) ∈ lw_all := lw_g (lw_at lw_m10 13 rfl) rfl
theorem q2244 : (Jvm.Cond.methodLink "BrassInspector$Reader" (54 : Nat) ({ cls := "BrassInspector$Reader", name := "isDigit", desc := "()Z" } : Jvm.MethodName)) ∈ lw_all := lw_g (lw_at lw_m10 14 rfl) rfl
theorem q2245 : (Jvm.Cond.privateMethod ({ cls := "BrassInspector$Reader", name := "isDigit", desc := "()Z" } : Jvm.MethodName)) ∈ lw_tbl := lw_at lw_m10 15 rfl
theorem q2246 : (Jvm.Cond.instanceMethod ({ cls := "BrassInspector$Reader", name := "isDigit", desc := "()Z" } : Jvm.MethodName)) ∈ lw_all := lw_g (lw_at lw_m10 16 rfl) rfl
theorem q2247 : (Jvm.Cond.code ({ cls := "BrassInspector$Reader", name := "isDigit", desc := "()Z" } : Jvm.MethodName) prog_11_method_6_code (1 : Nat) (Option.some Jvm.ClassFile.FieldType.boolean)) ∈ lw_all := lw_g (lw_at lw_m10 17 rfl) rfl
theorem q2248 : (Jvm.Cond.methodLink "BrassInspector$Reader" (96 : Nat) ({ cls := "BrassInspector$Order", name := "<init>", desc := "(Ljava/lang/String;I)V" } : Jvm.MethodName)) ∈ lw_all := lw_g (lw_at lw_m10 18 rfl) rfl
theorem q2249 : (Jvm.Cond.methodLink "BrassInspector$Reader" (99 : Nat) ({ cls := "java/lang/String", name := "hashCode", desc := "()I" } : Jvm.MethodName)) ∈ lw_all := lw_g (lw_at lw_m10 19 rfl) rfl
theorem q2250 : (Jvm.Cond.stringRef "BrassInspector$Reader" (102 : Nat) " with ") ∈ lw_tbl := lw_at lw_m10 20 rfl
theorem q2251 : (Jvm.Cond.methodLink "BrassInspector$Reader" (104 : Nat) ({ cls := "BrassInspector$Order", name := "<init>", desc := "(Ljava/lang/String;II)V" } : Jvm.MethodName)) ∈ lw_all := lw_g (lw_at lw_m10 21 rfl) rfl
theorem q2252 : (Jvm.Cond.stringRef "BrassInspector$Reader" (107 : Nat) " by ") ∈ lw_tbl := lw_at lw_m10 22 rfl
theorem q2253 : (Jvm.Cond.stringRef "BrassInspector$Reader" (109 : Nat) " to ") ∈ lw_tbl := lw_at lw_m10 23 rfl
theorem q2254 : (Jvm.Cond.methodLink "BrassInspector$Reader" (111 : Nat) ({ cls := "BrassInspector$Reader", name := "signed", desc := "()I" } : Jvm.MethodName)) ∈ lw_all := lw_g (lw_at lw_m10 24 rfl) rfl
theorem q2255 : (Jvm.Cond.privateMethod ({ cls := "BrassInspector$Reader", name := "signed", desc := "()I" } : Jvm.MethodName)) ∈ lw_tbl := lw_at lw_m10 25 rfl
theorem q2256 : (Jvm.Cond.instanceMethod ({ cls := "BrassInspector$Reader", name := "signed", desc := "()I" } : Jvm.MethodName)) ∈ lw_all := lw_g (lw_at lw_m10 26 rfl) rfl
theorem q2257 : (Jvm.Cond.code ({ cls := "BrassInspector$Reader", name := "signed", desc := "()I" } : Jvm.MethodName) prog_11_method_10_code (3 : Nat) (Option.some Jvm.ClassFile.FieldType.int)) ∈ lw_all := lw_g (lw_at lw_m10 27 rfl) rfl
theorem q2258 : (Jvm.Cond.interfaceEntry "BrassInspector$Reader" (121 : Nat)) ∈ lw_tbl := lw_at lw_m10 28 rfl
theorem q2259 : (Jvm.Cond.methodLink "BrassInspector$Reader" (121 : Nat) ({ cls := "java/util/List", name := "add", desc := "(Ljava/lang/Object;)Z" } : Jvm.MethodName)) ∈ lw_all := lw_g (lw_at lw_m10 29 rfl) rfl
theorem q2260 : (Jvm.Cond.classLink "BrassInspector" (318 : Nat) "BrassInspector$6") ∈ lw_all := lw_g (lw_at lw_m10 30 rfl) rfl
theorem q2261 : (Jvm.Cond.instantiable "BrassInspector$6" (2 : Nat)) ∈ lw_all := lw_g (lw_at lw_m10 31 rfl) rfl
theorem q2262 : (Jvm.Cond.methodLink "BrassInspector" (320 : Nat) ({ cls := "BrassInspector$6", name := "<init>", desc := "(LBrassInspector;Ljava/util/List;)V" } : Jvm.MethodName)) ∈ lw_all := lw_g (lw_at lw_m10 32 rfl) rfl
theorem q2263 : (Jvm.Cond.instanceMethod ({ cls := "BrassInspector$6", name := "<init>", desc := "(LBrassInspector;Ljava/util/List;)V" } : Jvm.MethodName)) ∈ lw_all := lw_g (lw_at lw_m10 33 rfl) rfl
theorem q2264 : (Jvm.Cond.code ({ cls := "BrassInspector$6", name := "<init>", desc := "(LBrassInspector;Ljava/util/List;)V" } : Jvm.MethodName) prog_7_method_1_code (3 : Nat) (Option.none : Option Jvm.ClassFile.FieldType)) ∈ lw_all := lw_g (lw_at lw_m10 34 rfl) rfl
theorem q2265 : (Jvm.Cond.methodLinkNest "BrassInspector$6" (11 : Nat) ({ cls := "BrassInspector$Deed", name := "<init>", desc := "()V" } : Jvm.MethodName) "BrassInspector") ∈ lw_tbl := lw_at lw_m10 35 rfl
theorem q2266 : (Jvm.Cond.fieldLink "BrassInspector$6" (7 : Nat) "BrassInspector$6" "val$orders" "Ljava/util/List;") ∈ lw_all := lw_g (lw_at lw_m10 36 rfl) rfl
theorem q2267 : (Jvm.Cond.fieldLink "BrassInspector$6" (1 : Nat) "BrassInspector$6" "this$0" "LBrassInspector;") ∈ lw_all := lw_g (lw_at lw_m10 37 rfl) rfl
theorem q2268 : (Jvm.Cond.laysFinal "BrassInspector$6" "BrassInspector$6" "val$orders" "Ljava/util/List;") ∈ lw_all := lw_g (lw_at lw_m10 38 rfl) rfl
theorem q2269 : (Jvm.Cond.soleField "BrassInspector$6" "val$orders") ∈ lw_all := lw_g (lw_at lw_m10 39 rfl) rfl
theorem q2270 : (Jvm.Cond.laysFinal "BrassInspector$6" "BrassInspector$6" "this$0" "LBrassInspector;") ∈ lw_all := lw_g (lw_at lw_m10 40 rfl) rfl
theorem q2271 : (Jvm.Cond.soleField "BrassInspector$6" "this$0") ∈ lw_all := lw_g (lw_at lw_m10 41 rfl) rfl
theorem q2272 : (Jvm.Cond.superclass "BrassInspector$6" "BrassInspector$Deed") ∈ lw_all := lw_g (lw_at lw_m10 42 rfl) rfl
theorem q2273 : (Jvm.Cond.methodLink "BrassInspector" (323 : Nat) ({ cls := "java/lang/StringBuilder", name := "setLength", desc := "(I)V" } : Jvm.MethodName)) ∈ lw_all := lw_g (lw_at lw_m10 43 rfl) rfl
theorem q2274 : (Jvm.Cond.instanceMethod ({ cls := "java/lang/StringBuilder", name := "setLength", desc := "(I)V" } : Jvm.MethodName)) ∈ lw_all := lw_g (lw_at lw_m10 44 rfl) rfl
theorem q2275 : (Jvm.Cond.selects "java/lang/StringBuilder" ({ cls := "java/lang/StringBuilder", name := "setLength", desc := "(I)V" } : Jvm.MethodName) ({ cls := "java/lang/StringBuilder", name := "setLength", desc := "(I)V" } : Jvm.MethodName)) ∈ lw_all := lw_g (lw_at lw_m10 45 rfl) rfl
theorem q2276 : (Jvm.Cond.code ({ cls := "java/lang/StringBuilder", name := "setLength", desc := "(I)V" } : Jvm.MethodName) prog_40_method_89_code (2 : Nat) (Option.none : Option Jvm.ClassFile.FieldType)) ∈ lw_all := lw_g (lw_at lw_m10 46 rfl) rfl
theorem q2277 : (Jvm.Cond.methodLink "java/lang/StringBuilder" (333 : Nat) ({ cls := "java/lang/AbstractStringBuilder", name := "setLength", desc := "(I)V" } : Jvm.MethodName)) ∈ lw_all := lw_g (lw_at lw_m10 47 rfl) rfl
theorem q2278 : (Jvm.Cond.instanceMethod ({ cls := "java/lang/AbstractStringBuilder", name := "setLength", desc := "(I)V" } : Jvm.MethodName)) ∈ lw_all := lw_g (lw_at lw_m10 48 rfl) rfl
theorem q2279 : (Jvm.Cond.code ({ cls := "java/lang/AbstractStringBuilder", name := "setLength", desc := "(I)V" } : Jvm.MethodName) prog_22_method_13_code (2 : Nat) (Option.none : Option Jvm.ClassFile.FieldType)) ∈ lw_all := lw_g (lw_at lw_m10 49 rfl) rfl
theorem q2280 : (Jvm.Cond.classLink "java/lang/AbstractStringBuilder" (129 : Nat) "java/lang/StringIndexOutOfBoundsException") ∈ lw_all := lw_g (lw_at lw_m10 50 rfl) rfl
theorem q2281 : (Jvm.Cond.instantiable "java/lang/StringIndexOutOfBoundsException" (6 : Nat)) ∈ lw_all := lw_g (lw_at lw_m10 51 rfl) rfl
theorem q2282 : (Jvm.Cond.methodLink "java/lang/AbstractStringBuilder" (131 : Nat) ({ cls := "java/lang/StringIndexOutOfBoundsException", name := "<init>", desc := "(I)V" } : Jvm.MethodName)) ∈ lw_all := lw_g (lw_at lw_m10 52 rfl) rfl
theorem q2283 : (Jvm.Cond.instanceMethod ({ cls := "java/lang/StringIndexOutOfBoundsException", name := "<init>", desc := "(I)V" } : Jvm.MethodName)) ∈ lw_all := lw_g (lw_at lw_m10 53 rfl) rfl
theorem q2284 : (Jvm.Cond.code ({ cls := "java/lang/StringIndexOutOfBoundsException", name := "<init>", desc := "(I)V" } : Jvm.MethodName) prog_41_method_3_code (2 : Nat) (Option.none : Option Jvm.ClassFile.FieldType)) ∈ lw_all := lw_g (lw_at lw_m10 54 rfl) rfl
theorem q2285 : (Jvm.Cond.classLink "java/lang/StringIndexOutOfBoundsException" (10 : Nat) "java/lang/StringBuilder") ∈ lw_all := lw_g (lw_at lw_m10 55 rfl) rfl
theorem q2286 : (Jvm.Cond.methodLink "java/lang/StringIndexOutOfBoundsException" (12 : Nat) ({ cls := "java/lang/StringBuilder", name := "<init>", desc := "()V" } : Jvm.MethodName)) ∈ lw_all := lw_g (lw_at lw_m10 56 rfl) rfl
theorem q2287 : (Jvm.Cond.stringRef "java/lang/StringIndexOutOfBoundsException" (13 : Nat) "String index out of range: ") ∈ lw_tbl := lw_at lw_m10 57 rfl
theorem q2288 : (Jvm.Cond.methodLink "java/lang/StringIndexOutOfBoundsException" (15 : Nat) ({ cls := "java/lang/StringBuilder", name := "append", desc := "(Ljava/lang/String;)Ljava/lang/StringBuilder;" } : Jvm.MethodName)) ∈ lw_all := lw_g (lw_at lw_m10 58 rfl) rfl
theorem q2289 : (Jvm.Cond.methodLink "java/lang/StringIndexOutOfBoundsException" (19 : Nat) ({ cls := "java/lang/StringBuilder", name := "append", desc := "(I)Ljava/lang/StringBuilder;" } : Jvm.MethodName)) ∈ lw_all := lw_g (lw_at lw_m10 59 rfl) rfl
theorem q2290 : (Jvm.Cond.methodLink "java/lang/StringIndexOutOfBoundsException" (22 : Nat) ({ cls := "java/lang/StringBuilder", name := "toString", desc := "()Ljava/lang/String;" } : Jvm.MethodName)) ∈ lw_all := lw_g (lw_at lw_m10 60 rfl) rfl
theorem q2291 : (Jvm.Cond.methodLink "java/lang/StringIndexOutOfBoundsException" (7 : Nat) ({ cls := "java/lang/IndexOutOfBoundsException", name := "<init>", desc := "(Ljava/lang/String;)V" } : Jvm.MethodName)) ∈ lw_all := lw_g (lw_at lw_m10 61 rfl) rfl
theorem q2292 : (Jvm.Cond.lays "java/lang/StringIndexOutOfBoundsException" "java/lang/Throwable" "backtrace" "Ljava/lang/Object;") ∈ lw_all := lw_g (lw_at lw_m10 62 rfl) rfl
theorem q2293 : (Jvm.Cond.lays "java/lang/StringIndexOutOfBoundsException" "java/lang/Throwable" "detailMessage" "Ljava/lang/String;") ∈ lw_all := lw_g (lw_at lw_m10 63 rfl) rfl
theorem q2294 : (Jvm.Cond.lays "java/lang/StringIndexOutOfBoundsException" "java/lang/Throwable" "cause" "Ljava/lang/Throwable;") ∈ lw_all := lw_g (lw_at lw_m10 64 rfl) rfl
theorem q2295 : (Jvm.Cond.lays "java/lang/StringIndexOutOfBoundsException" "java/lang/Throwable" "stackTrace" "[Ljava/lang/StackTraceElement;") ∈ lw_all := lw_g (lw_at lw_m10 65 rfl) rfl
theorem q2296 : (Jvm.Cond.lays "java/lang/StringIndexOutOfBoundsException" "java/lang/Throwable" "depth" "I") ∈ lw_all := lw_g (lw_at lw_m10 66 rfl) rfl
theorem q2297 : (Jvm.Cond.lays "java/lang/StringIndexOutOfBoundsException" "java/lang/Throwable" "suppressedExceptions" "Ljava/util/List;") ∈ lw_all := lw_g (lw_at lw_m10 67 rfl) rfl
theorem q2298 : (Jvm.Cond.superclass "java/lang/StringIndexOutOfBoundsException" "java/lang/IndexOutOfBoundsException") ∈ lw_all := lw_g (lw_at lw_m10 68 rfl) rfl
theorem q2299 : (Jvm.Cond.methodLink "java/lang/AbstractStringBuilder" (133 : Nat) ({ cls := "java/lang/StringLatin1", name := "fillNull", desc := "([BII)V" } : Jvm.MethodName)) ∈ lw_all := lw_g (lw_at lw_m10 69 rfl) rfl
theorem q2300 : (Jvm.Cond.static ({ cls := "java/lang/StringLatin1", name := "fillNull", desc := "([BII)V" } : Jvm.MethodName)) ∈ lw_all := lw_g (lw_at lw_m10 70 rfl) rfl
theorem q2301 : (Jvm.Cond.code ({ cls := "java/lang/StringLatin1", name := "fillNull", desc := "([BII)V" } : Jvm.MethodName) prog_42_method_48_code (3 : Nat) (Option.none : Option Jvm.ClassFile.FieldType)) ∈ lw_all := lw_g (lw_at lw_m10 71 rfl) rfl
theorem q2302 : (Jvm.Cond.methodLink "java/lang/StringLatin1" (236 : Nat) ({ cls := "java/util/Arrays", name := "fill", desc := "([BIIB)V" } : Jvm.MethodName)) ∈ lw_all := lw_g (lw_at lw_m10 72 rfl) rfl
theorem q2303 : (Jvm.Cond.static ({ cls := "java/util/Arrays", name := "fill", desc := "([BIIB)V" } : Jvm.MethodName)) ∈ lw_all := lw_g (lw_at lw_m10 73 rfl) rfl
theorem q2304 : (Jvm.Cond.code ({ cls := "java/util/Arrays", name := "fill", desc := "([BIIB)V" } : Jvm.MethodName) prog_58_method_110_code (5 : Nat) (Option.none : Option Jvm.ClassFile.FieldType)) ∈ lw_all := lw_g (lw_at lw_m10 74 rfl) rfl
theorem q2305 : (Jvm.Cond.methodLink "java/util/Arrays" (13 : Nat) ({ cls := "java/util/Arrays", name := "rangeCheck", desc := "(III)V" } : Jvm.MethodName)) ∈ lw_all := lw_g (lw_at lw_m10 75 rfl) rfl
theorem q2306 : (Jvm.Cond.static ({ cls := "java/util/Arrays", name := "rangeCheck", desc := "(III)V" } : Jvm.MethodName)) ∈ lw_all := lw_g (lw_at lw_m10 76 rfl) rfl
theorem q2307 : (Jvm.Cond.code ({ cls := "java/util/Arrays", name := "rangeCheck", desc := "(III)V" } : Jvm.MethodName) prog_58_method_30_code (3 : Nat) (Option.none : Option Jvm.ClassFile.FieldType)) ∈ lw_all := lw_g (lw_at lw_m10 77 rfl) rfl
theorem q2308 : (Jvm.Cond.stringRef "java/util/Arrays" (48 : Nat) "fromIndex(") ∈ lw_tbl := lw_at lw_m10 78 rfl
theorem q2309 : (Jvm.Cond.stringRef "java/util/Arrays" (57 : Nat) ") > toIndex(") ∈ lw_tbl := lw_at lw_m10 79 rfl
theorem q2310 : (Jvm.Cond.stringRef "java/util/Arrays" (59 : Nat) ")") ∈ lw_tbl := lw_at lw_m10 80 rfl
theorem q2311 : (Jvm.Cond.classLink "java/util/Arrays" (68 : Nat) "java/lang/ArrayIndexOutOfBoundsException") ∈ lw_all := lw_g (lw_at lw_m10 81 rfl) rfl
theorem q2312 : (Jvm.Cond.methodLink "java/util/Arrays" (70 : Nat) ({ cls := "java/lang/ArrayIndexOutOfBoundsException", name := "<init>", desc := "(I)V" } : Jvm.MethodName)) ∈ lw_all := lw_g (lw_at lw_m10 82 rfl) rfl
theorem q2313 : (Jvm.Cond.instanceMethod ({ cls := "java/lang/ArrayIndexOutOfBoundsException", name := "<init>", desc := "(I)V" } : Jvm.MethodName)) ∈ lw_all := lw_g (lw_at lw_m10 83 rfl) rfl
theorem q2314 : (Jvm.Cond.code ({ cls := "java/lang/ArrayIndexOutOfBoundsException", name := "<init>", desc := "(I)V" } : Jvm.MethodName) prog_25_method_3_code (2 : Nat) (Option.none : Option Jvm.ClassFile.FieldType)) ∈ lw_all := lw_g (lw_at lw_m10 84 rfl) rfl
theorem q2315 : (Jvm.Cond.classLink "java/lang/ArrayIndexOutOfBoundsException" (10 : Nat) "java/lang/StringBuilder") ∈ lw_all := lw_g (lw_at lw_m10 85 rfl) rfl
theorem q2316 : (Jvm.Cond.methodLink "java/lang/ArrayIndexOutOfBoundsException" (12 : Nat) ({ cls := "java/lang/StringBuilder", name := "<init>", desc := "()V" } : Jvm.MethodName)) ∈ lw_all := lw_g (lw_at lw_m10 86 rfl) rfl
theorem q2317 : (Jvm.Cond.stringRef "java/lang/ArrayIndexOutOfBoundsException" (13 : Nat) "Array index out of range: ") ∈ lw_tbl := lw_at lw_m10 87 rfl
theorem q2318 : (Jvm.Cond.methodLink "java/lang/ArrayIndexOutOfBoundsException" (15 : Nat) ({ cls := "java/lang/StringBuilder", name := "append", desc := "(Ljava/lang/String;)Ljava/lang/StringBuilder;" } : Jvm.MethodName)) ∈ lw_all := lw_g (lw_at lw_m10 88 rfl) rfl
theorem q2319 : (Jvm.Cond.methodLink "java/lang/ArrayIndexOutOfBoundsException" (19 : Nat) ({ cls := "java/lang/StringBuilder", name := "append", desc := "(I)Ljava/lang/StringBuilder;" } : Jvm.MethodName)) ∈ lw_all := lw_g (lw_at lw_m10 89 rfl) rfl
theorem q2320 : (Jvm.Cond.methodLink "java/lang/ArrayIndexOutOfBoundsException" (22 : Nat) ({ cls := "java/lang/StringBuilder", name := "toString", desc := "()Ljava/lang/String;" } : Jvm.MethodName)) ∈ lw_all := lw_g (lw_at lw_m10 90 rfl) rfl
theorem q2321 : (Jvm.Cond.methodLink "java/lang/AbstractStringBuilder" (137 : Nat) ({ cls := "java/lang/StringUTF16", name := "fillNull", desc := "([BII)V" } : Jvm.MethodName)) ∈ lw_all := lw_g (lw_at lw_m10 91 rfl) rfl
theorem q2322 : (Jvm.Cond.static ({ cls := "java/lang/StringUTF16", name := "fillNull", desc := "([BII)V" } : Jvm.MethodName)) ∈ lw_all := lw_g (lw_at lw_m10 92 rfl) rfl
theorem q2323 : (Jvm.Cond.code ({ cls := "java/lang/StringUTF16", name := "fillNull", desc := "([BII)V" } : Jvm.MethodName) prog_43_method_70_code (3 : Nat) (Option.none : Option Jvm.ClassFile.FieldType)) ∈ lw_all := lw_g (lw_at lw_m10 93 rfl) rfl
theorem q2324 : (Jvm.Cond.methodLink "java/lang/StringUTF16" (380 : Nat) ({ cls := "java/util/Arrays", name := "fill", desc := "([BIIB)V" } : Jvm.MethodName)) ∈ lw_all := lw_g (lw_at lw_m10 94 rfl) rfl
theorem q2325 : (Jvm.Cond.methodLink "BrassInspectorLaw" (215 : Nat) ({ cls := "BrassInspectorLaw", name := "errorPosition", desc := "(LBrassInspector;[J)I" } : Jvm.MethodName)) ∈ lw_all := lw_g (lw_at lw_m10 95 rfl) rfl
theorem q2326 : (Jvm.Cond.static ({ cls := "BrassInspectorLaw", name := "errorPosition", desc := "(LBrassInspector;[J)I" } : Jvm.MethodName)) ∈ lw_all := lw_g (lw_at lw_m10 96 rfl) rfl
theorem q2327 : (Jvm.Cond.codeWith ({ cls := "BrassInspectorLaw", name := "errorPosition", desc := "(LBrassInspector;[J)I" } : Jvm.MethodName) method_27_code (3 : Nat) (Option.some Jvm.ClassFile.FieldType.int) [((0 : Nat), (8 : Nat), (11 : Nat), (35 : Nat))]) ∈ lw_all := lw_g (lw_at lw_m10 97 rfl) rfl
theorem q2328 : (Jvm.Cond.methodLink "BrassInspectorLaw" (96 : Nat) ({ cls := "BrassInspector", name := "errorPosition", desc := "()I" } : Jvm.MethodName)) ∈ lw_all := lw_g (lw_at lw_m10 98 rfl) rfl
theorem q2329 : (Jvm.Cond.instanceMethod ({ cls := "BrassInspector", name := "errorPosition", desc := "()I" } : Jvm.MethodName)) ∈ lw_all := lw_g (lw_at lw_m10 99 rfl) rfl
theorem q2330 : (Jvm.Cond.selects "BrassInspector" ({ cls := "BrassInspector", name := "errorPosition", desc := "()I" } : Jvm.MethodName) ({ cls := "BrassInspector", name := "errorPosition", desc := "()I" } : Jvm.MethodName)) ∈ lw_all := lw_g (lw_at lw_m10 100 rfl) rfl
theorem q2331 : (Jvm.Cond.code ({ cls := "BrassInspector", name := "errorPosition", desc := "()I" } : Jvm.MethodName) prog_1_method_43_code (1 : Nat) (Option.some Jvm.ClassFile.FieldType.int)) ∈ lw_all := lw_g (lw_at lw_m10 101 rfl) rfl
theorem q2332 : (Jvm.Cond.methodLink "BrassInspectorLaw" (218 : Nat) ({ cls := "BrassInspectorLaw", name := "refusal", desc := "(LBrassInspector;IZ[J)I" } : Jvm.MethodName)) ∈ lw_all := lw_g (lw_at lw_m10 102 rfl) rfl
theorem q2333 : (Jvm.Cond.static ({ cls := "BrassInspectorLaw", name := "refusal", desc := "(LBrassInspector;IZ[J)I" } : Jvm.MethodName)) ∈ lw_all := lw_g (lw_at lw_m10 103 rfl) rfl
theorem q2334 : (Jvm.Cond.codeWith ({ cls := "BrassInspectorLaw", name := "refusal", desc := "(LBrassInspector;IZ[J)I" } : Jvm.MethodName) method_28_code (5 : Nat) (Option.some Jvm.ClassFile.FieldType.int) [((0 : Nat), (10 : Nat), (13 : Nat), (15 : Nat)), ((0 : Nat), (10 : Nat), (17 : Nat), (35 : Nat))]) ∈ lw_all := lw_g (lw_at lw_m10 104 rfl) rfl
theorem q2335 : (Jvm.Cond.methodLink "BrassInspectorLaw" (99 : Nat) ({ cls := "BrassInspector", name := "refusal", desc := "(IZ)I" } : Jvm.MethodName)) ∈ lw_all := lw_g (lw_at lw_m10 105 rfl) rfl
theorem q2336 : (Jvm.Cond.instanceMethod ({ cls := "BrassInspector", name := "refusal", desc := "(IZ)I" } : Jvm.MethodName)) ∈ lw_all := lw_g (lw_at lw_m10 106 rfl) rfl
theorem q2337 : (Jvm.Cond.selects "BrassInspector" ({ cls := "BrassInspector", name := "refusal", desc := "(IZ)I" } : Jvm.MethodName) ({ cls := "BrassInspector", name := "refusal", desc := "(IZ)I" } : Jvm.MethodName)) ∈ lw_all := lw_g (lw_at lw_m10 107 rfl) rfl
theorem q2338 : (Jvm.Cond.code ({ cls := "BrassInspector", name := "refusal", desc := "(IZ)I" } : Jvm.MethodName) prog_1_method_44_code (4 : Nat) (Option.some Jvm.ClassFile.FieldType.int)) ∈ lw_all := lw_g (lw_at lw_m10 108 rfl) rfl
theorem q2339 : (Jvm.Cond.methodLink "BrassInspector" (329 : Nat) ({ cls := "BrassInspector$Refusal", name := "at", desc := "(I)LBrassInspector$Refusal;" } : Jvm.MethodName)) ∈ lw_all := lw_g (lw_at lw_m10 109 rfl) rfl
theorem q2340 : (Jvm.Cond.instanceMethod ({ cls := "BrassInspector$Refusal", name := "at", desc := "(I)LBrassInspector$Refusal;" } : Jvm.MethodName)) ∈ lw_all := lw_g (lw_at lw_m10 110 rfl) rfl
theorem q2341 : (Jvm.Cond.selects "BrassInspector$Refusal" ({ cls := "BrassInspector$Refusal", name := "at", desc := "(I)LBrassInspector$Refusal;" } : Jvm.MethodName) ({ cls := "BrassInspector$Refusal", name := "at", desc := "(I)LBrassInspector$Refusal;" } : Jvm.MethodName)) ∈ lw_all := lw_g (lw_at lw_m10 111 rfl) rfl
theorem q2342 : (Jvm.Cond.code ({ cls := "BrassInspector$Refusal", name := "at", desc := "(I)LBrassInspector$Refusal;" } : Jvm.MethodName) prog_12_method_5_code (4 : Nat) (Option.some (Jvm.ClassFile.FieldType.object "BrassInspector$Refusal"))) ∈ lw_all := lw_g (lw_at lw_m10 112 rfl) rfl
theorem q2343 : (Jvm.Cond.methodLink "BrassInspector$Refusal" (19 : Nat) ({ cls := "java/lang/Throwable", name := "getCause", desc := "()Ljava/lang/Throwable;" } : Jvm.MethodName)) ∈ lw_all := lw_g (lw_at lw_m10 113 rfl) rfl
theorem q2344 : (Jvm.Cond.instanceMethod ({ cls := "java/lang/Throwable", name := "getCause", desc := "()Ljava/lang/Throwable;" } : Jvm.MethodName)) ∈ lw_all := lw_g (lw_at lw_m10 114 rfl) rfl
theorem q2345 : (Jvm.Cond.sameMethod "java/lang/Throwable" "java/lang/Throwable" "getCause" "()Ljava/lang/Throwable;") ∈ lw_all := lw_g (lw_at lw_m10 115 rfl) rfl
theorem q2346 : (Jvm.Cond.selects "BrassInspector$Refusal" ({ cls := "java/lang/Throwable", name := "getCause", desc := "()Ljava/lang/Throwable;" } : Jvm.MethodName) ({ cls := "java/lang/Throwable", name := "getCause", desc := "()Ljava/lang/Throwable;" } : Jvm.MethodName)) ∈ lw_all := lw_g (lw_at lw_m10 116 rfl) rfl
theorem q2347 : (Jvm.Cond.selects "BrassInspector$TextError" ({ cls := "java/lang/Throwable", name := "getCause", desc := "()Ljava/lang/Throwable;" } : Jvm.MethodName) ({ cls := "java/lang/Throwable", name := "getCause", desc := "()Ljava/lang/Throwable;" } : Jvm.MethodName)) ∈ lw_all := lw_g (lw_at lw_m10 117 rfl) rfl
theorem q2348 : (Jvm.Cond.selects "java/lang/ArithmeticException" ({ cls := "java/lang/Throwable", name := "getCause", desc := "()Ljava/lang/Throwable;" } : Jvm.MethodName) ({ cls := "java/lang/Throwable", name := "getCause", desc := "()Ljava/lang/Throwable;" } : Jvm.MethodName)) ∈ lw_all := lw_g (lw_at lw_m10 118 rfl) rfl
theorem q2349 : (Jvm.Cond.selects "java/lang/ArrayIndexOutOfBoundsException" ({ cls := "java/lang/Throwable", name := "getCause", desc := "()Ljava/lang/Throwable;" } : Jvm.MethodName) ({ cls := "java/lang/Throwable", name := "getCause", desc := "()Ljava/lang/Throwable;" } : Jvm.MethodName)) ∈ lw_all := lw_g (lw_at lw_m10 119 rfl) rfl
theorem q2350 : (Jvm.Cond.selects "java/lang/IllegalArgumentException" ({ cls := "java/lang/Throwable", name := "getCause", desc := "()Ljava/lang/Throwable;" } : Jvm.MethodName) ({ cls := "java/lang/Throwable", name := "getCause", desc := "()Ljava/lang/Throwable;" } : Jvm.MethodName)) ∈ lw_all := lw_g (lw_at lw_m10 120 rfl) rfl
theorem q2351 : (Jvm.Cond.selects "java/lang/IllegalStateException" ({ cls := "java/lang/Throwable", name := "getCause", desc := "()Ljava/lang/Throwable;" } : Jvm.MethodName) ({ cls := "java/lang/Throwable", name := "getCause", desc := "()Ljava/lang/Throwable;" } : Jvm.MethodName)) ∈ lw_all := lw_g (lw_at lw_m10 121 rfl) rfl
theorem q2352 : (Jvm.Cond.selects "java/lang/IndexOutOfBoundsException" ({ cls := "java/lang/Throwable", name := "getCause", desc := "()Ljava/lang/Throwable;" } : Jvm.MethodName) ({ cls := "java/lang/Throwable", name := "getCause", desc := "()Ljava/lang/Throwable;" } : Jvm.MethodName)) ∈ lw_all := lw_g (lw_at lw_m10 122 rfl) rfl
theorem q2353 : (Jvm.Cond.selects "java/lang/StringIndexOutOfBoundsException" ({ cls := "java/lang/Throwable", name := "getCause", desc := "()Ljava/lang/Throwable;" } : Jvm.MethodName) ({ cls := "java/lang/Throwable", name := "getCause", desc := "()Ljava/lang/Throwable;" } : Jvm.MethodName)) ∈ lw_all := lw_g (lw_at lw_m10 123 rfl) rfl
theorem q2354 : (Jvm.Cond.selects "java/lang/UnsupportedOperationException" ({ cls := "java/lang/Throwable", name := "getCause", desc := "()Ljava/lang/Throwable;" } : Jvm.MethodName) ({ cls := "java/lang/Throwable", name := "getCause", desc := "()Ljava/lang/Throwable;" } : Jvm.MethodName)) ∈ lw_all := lw_g (lw_at lw_m10 124 rfl) rfl
theorem q2355 : (Jvm.Cond.selects "java/util/NoSuchElementException" ({ cls := "java/lang/Throwable", name := "getCause", desc := "()Ljava/lang/Throwable;" } : Jvm.MethodName) ({ cls := "java/lang/Throwable", name := "getCause", desc := "()Ljava/lang/Throwable;" } : Jvm.MethodName)) ∈ lw_all := lw_g (lw_at lw_m10 125 rfl) rfl
theorem q2356 : (Jvm.Cond.codeSync ({ cls := "java/lang/Throwable", name := "getCause", desc := "()Ljava/lang/Throwable;" } : Jvm.MethodName) prog_46_method_8_code (1 : Nat) (Option.some (Jvm.ClassFile.FieldType.object "java/lang/Throwable"))) ∈ lw_all := lw_g (lw_at lw_m10 126 rfl) rfl
theorem q2357 : (Jvm.Cond.classLink "BrassInspector$Refusal" (8 : Nat) "BrassInspector$Refusal") ∈ lw_all := lw_g (lw_at lw_m10 127 rfl) rfl
theorem q2358 : (Jvm.Cond.methodLink "BrassInspector" (333 : Nat) ({ cls := "BrassInspector$Refusal", name := "detail", desc := "()I" } : Jvm.MethodName)) ∈ lw_all := lw_g (lw_at lw_m10 128 rfl) rfl
theorem q2359 : (Jvm.Cond.instanceMethod ({ cls := "BrassInspector$Refusal", name := "detail", desc := "()I" } : Jvm.MethodName)) ∈ lw_all := lw_g (lw_at lw_m10 129 rfl) rfl
theorem q2360 : (Jvm.Cond.selects "BrassInspector$Refusal" ({ cls := "BrassInspector$Refusal", name := "detail", desc := "()I" } : Jvm.MethodName) ({ cls := "BrassInspector$Refusal", name := "detail", desc := "()I" } : Jvm.MethodName)) ∈ lw_all := lw_g (lw_at lw_m10 130 rfl) rfl
theorem q2361 : (Jvm.Cond.code ({ cls := "BrassInspector$Refusal", name := "detail", desc := "()I" } : Jvm.MethodName) prog_12_method_4_code (1 : Nat) (Option.some Jvm.ClassFile.FieldType.int)) ∈ lw_all := lw_g (lw_at lw_m10 131 rfl) rfl
theorem q2362 : (Jvm.Cond.methodLink "BrassInspector" (336 : Nat) ({ cls := "BrassInspector$Refusal", name := "reason", desc := "()I" } : Jvm.MethodName)) ∈ lw_all := lw_g (lw_at lw_m10 132 rfl) rfl
theorem q2363 : (Jvm.Cond.instanceMethod ({ cls := "BrassInspector$Refusal", name := "reason", desc := "()I" } : Jvm.MethodName)) ∈ lw_all := lw_g (lw_at lw_m10 133 rfl) rfl
theorem q2364 : (Jvm.Cond.selects "BrassInspector$Refusal" ({ cls := "BrassInspector$Refusal", name := "reason", desc := "()I" } : Jvm.MethodName) ({ cls := "BrassInspector$Refusal", name := "reason", desc := "()I" } : Jvm.MethodName)) ∈ lw_all := lw_g (lw_at lw_m10 134 rfl) rfl
theorem q2365 : (Jvm.Cond.code ({ cls := "BrassInspector$Refusal", name := "reason", desc := "()I" } : Jvm.MethodName) prog_12_method_3_code (1 : Nat) (Option.some Jvm.ClassFile.FieldType.int)) ∈ lw_all := lw_g (lw_at lw_m10 135 rfl) rfl
theorem q2366 : (Jvm.Cond.methodLink "BrassInspectorLaw" (222 : Nat) ({ cls := "BrassInspectorLaw", name := "describe", desc := "(LBrassInspector;I[J)I" } : Jvm.MethodName)) ∈ lw_all := lw_g (lw_at lw_m10 136 rfl) rfl
theorem q2367 : (Jvm.Cond.static ({ cls := "BrassInspectorLaw", name := "describe", desc := "(LBrassInspector;I[J)I" } : Jvm.MethodName)) ∈ lw_all := lw_g (lw_at lw_m10 137 rfl) rfl
theorem q2368 : (Jvm.Cond.codeWith ({ cls := "BrassInspectorLaw", name := "describe", desc := "(LBrassInspector;I[J)I" } : Jvm.MethodName) method_29_code (4 : Nat) (Option.some Jvm.ClassFile.FieldType.int) [((0 : Nat), (9 : Nat), (12 : Nat), (13 : Nat))]) ∈ lw_all := lw_g (lw_at lw_m10 138 rfl) rfl
theorem q2369 : (Jvm.Cond.methodLink "BrassInspectorLaw" (103 : Nat) ({ cls := "BrassInspector", name := "describe", desc := "(I)I" } : Jvm.MethodName)) ∈ lw_all := lw_g (lw_at lw_m10 139 rfl) rfl
theorem q2370 : (Jvm.Cond.instanceMethod ({ cls := "BrassInspector", name := "describe", desc := "(I)I" } : Jvm.MethodName)) ∈ lw_all := lw_g (lw_at lw_m10 140 rfl) rfl
theorem q2371 : (Jvm.Cond.selects "BrassInspector" ({ cls := "BrassInspector", name := "describe", desc := "(I)I" } : Jvm.MethodName) ({ cls := "BrassInspector", name := "describe", desc := "(I)I" } : Jvm.MethodName)) ∈ lw_all := lw_g (lw_at lw_m10 141 rfl) rfl
theorem q2372 : (Jvm.Cond.code ({ cls := "BrassInspector", name := "describe", desc := "(I)I" } : Jvm.MethodName) prog_1_method_45_code (3 : Nat) (Option.some Jvm.ClassFile.FieldType.int)) ∈ lw_all := lw_g (lw_at lw_m10 142 rfl) rfl
theorem q2373 : (Jvm.Cond.methodLink "BrassInspector" (339 : Nat) ({ cls := "BrassInspector$Round$Trader", name := "write", desc := "(Ljava/lang/StringBuilder;)V" } : Jvm.MethodName)) ∈ lw_all := lw_g (lw_at lw_m10 143 rfl) rfl
theorem q2374 : (Jvm.Cond.instanceMethod ({ cls := "BrassInspector$Round$Trader", name := "write", desc := "(Ljava/lang/StringBuilder;)V" } : Jvm.MethodName)) ∈ lw_all := lw_g (lw_at lw_m10 144 rfl) rfl
theorem q2375 : (Jvm.Cond.selects "BrassInspector$Round$Trader" ({ cls := "BrassInspector$Round$Trader", name := "write", desc := "(Ljava/lang/StringBuilder;)V" } : Jvm.MethodName) ({ cls := "BrassInspector$Round$Trader", name := "write", desc := "(Ljava/lang/StringBuilder;)V" } : Jvm.MethodName)) ∈ lw_all := lw_g (lw_at lw_m10 145 rfl) rfl
theorem q2376 : (Jvm.Cond.code ({ cls := "BrassInspector$Round$Trader", name := "write", desc := "(Ljava/lang/StringBuilder;)V" } : Jvm.MethodName) prog_17_method_31_code (2 : Nat) (Option.none : Option Jvm.ClassFile.FieldType)) ∈ lw_all := lw_g (lw_at lw_m10 146 rfl) rfl
theorem q2377 : (Jvm.Cond.methodLink "BrassInspector$Round$Trader" (108 : Nat) ({ cls := "java/lang/StringBuilder", name := "append", desc := "(I)Ljava/lang/StringBuilder;" } : Jvm.MethodName)) ∈ lw_all := lw_g (lw_at lw_m10 147 rfl) rfl
theorem q2378 : (Jvm.Cond.methodLink "BrassInspector$Round$Trader" (114 : Nat) ({ cls := "java/lang/StringBuilder", name := "append", desc := "(C)Ljava/lang/StringBuilder;" } : Jvm.MethodName)) ∈ lw_all := lw_g (lw_at lw_m10 148 rfl) rfl
theorem q2379 : (Jvm.Cond.stringRef "BrassInspector$Round$Trader" (117 : Nat) " seal ") ∈ lw_tbl := lw_at lw_m10 149 rfl
theorem q2380 : (Jvm.Cond.methodLink "BrassInspector$Round$Trader" (119 : Nat) ({ cls := "java/lang/StringBuilder", name := "append", desc := "(Ljava/lang/String;)Ljava/lang/StringBuilder;" } : Jvm.MethodName)) ∈ lw_all := lw_g (lw_at lw_m10 150 rfl) rfl
theorem q2381 : (Jvm.Cond.methodLink "BrassInspector$Round$Trader" (122 : Nat) ({ cls := "BrassInspector$Round$Trader", name := "isBarred", desc := "()Z" } : Jvm.MethodName)) ∈ lw_all := lw_g (lw_at lw_m10 151 rfl) rfl
theorem q2382 : (Jvm.Cond.stringRef "BrassInspector$Round$Trader" (125 : Nat) " barred") ∈ lw_tbl := lw_at lw_m10 152 rfl
theorem q2383 : (Jvm.Cond.stringRef "BrassInspector$Round$Trader" (127 : Nat) "") ∈ lw_tbl := lw_at lw_m10 153 rfl
theorem q2384 : (Jvm.Cond.methodLink "BrassInspector" (343 : Nat) ({ cls := "java/lang/StringBuilder", name := "toString", desc := "()Ljava/lang/String;" } : Jvm.MethodName)) ∈ lw_all := lw_g (lw_at lw_m10 154 rfl) rfl
theorem q2385 : (Jvm.Cond.methodLink "BrassInspector" (347 : Nat) ({ cls := "java/lang/String", name := "length", desc := "()I" } : Jvm.MethodName)) ∈ lw_all := lw_g (lw_at lw_m10 155 rfl) rfl
theorem q2386 : (Jvm.Cond.methodLink "BrassInspectorLaw" (225 : Nat) ({ cls := "BrassInspectorLaw", name := "written", desc := "(LBrassInspector;I[J)I" } : Jvm.MethodName)) ∈ lw_all := lw_g (lw_at lw_m10 156 rfl) rfl
theorem q2387 : (Jvm.Cond.static ({ cls := "BrassInspectorLaw", name := "written", desc := "(LBrassInspector;I[J)I" } : Jvm.MethodName)) ∈ lw_all := lw_g (lw_at lw_m10 157 rfl) rfl
theorem q2388 : (Jvm.Cond.codeWith ({ cls := "BrassInspectorLaw", name := "written", desc := "(LBrassInspector;I[J)I" } : Jvm.MethodName) method_30_code (4 : Nat) (Option.some Jvm.ClassFile.FieldType.int) [((0 : Nat), (9 : Nat), (12 : Nat), (35 : Nat))]) ∈ lw_all := lw_g (lw_at lw_m10 158 rfl) rfl
theorem q2389 : (Jvm.Cond.methodLink "BrassInspectorLaw" (106 : Nat) ({ cls := "BrassInspector", name := "written", desc := "(I)C" } : Jvm.MethodName)) ∈ lw_all := lw_g (lw_at lw_m10 159 rfl) rfl
theorem q2390 : (Jvm.Cond.instanceMethod ({ cls := "BrassInspector", name := "written", desc := "(I)C" } : Jvm.MethodName)) ∈ lw_all := lw_g (lw_at lw_m10 160 rfl) rfl
theorem q2391 : (Jvm.Cond.selects "BrassInspector" ({ cls := "BrassInspector", name := "written", desc := "(I)C" } : Jvm.MethodName) ({ cls := "BrassInspector", name := "written", desc := "(I)C" } : Jvm.MethodName)) ∈ lw_all := lw_g (lw_at lw_m10 161 rfl) rfl
theorem q2392 : (Jvm.Cond.code ({ cls := "BrassInspector", name := "written", desc := "(I)C" } : Jvm.MethodName) prog_1_method_46_code (2 : Nat) (Option.some Jvm.ClassFile.FieldType.char)) ∈ lw_all := lw_g (lw_at lw_m10 162 rfl) rfl
theorem q2393 : (Jvm.Cond.methodLink "BrassInspector" (350 : Nat) ({ cls := "java/lang/String", name := "charAt", desc := "(I)C" } : Jvm.MethodName)) ∈ lw_all := lw_g (lw_at lw_m10 163 rfl) rfl
theorem q2394 : (Jvm.Cond.methodLink "BrassInspectorLaw" (228 : Nat) ({ cls := "BrassInspectorLaw", name := "account", desc := "(LBrassInspector;I[J)I" } : Jvm.MethodName)) ∈ lw_all := lw_g (lw_at lw_m10 164 rfl) rfl
theorem q2395 : (Jvm.Cond.static ({ cls := "BrassInspectorLaw", name := "account", desc := "(LBrassInspector;I[J)I" } : Jvm.MethodName)) ∈ lw_all := lw_g (lw_at lw_m10 165 rfl) rfl
theorem q2396 : (Jvm.Cond.codeWith ({ cls := "BrassInspectorLaw", name := "account", desc := "(LBrassInspector;I[J)I" } : Jvm.MethodName) method_31_code (4 : Nat) (Option.some Jvm.ClassFile.FieldType.int) [((0 : Nat), (9 : Nat), (12 : Nat), (15 : Nat))]) ∈ lw_all := lw_g (lw_at lw_m10 166 rfl) rfl
theorem q2397 : (Jvm.Cond.methodLink "BrassInspectorLaw" (110 : Nat) ({ cls := "BrassInspector", name := "account", desc := "(I)I" } : Jvm.MethodName)) ∈ lw_all := lw_g (lw_at lw_m10 167 rfl) rfl
theorem q2398 : (Jvm.Cond.instanceMethod ({ cls := "BrassInspector", name := "account", desc := "(I)I" } : Jvm.MethodName)) ∈ lw_all := lw_g (lw_at lw_m10 168 rfl) rfl
theorem q2399 : (Jvm.Cond.selects "BrassInspector" ({ cls := "BrassInspector", name := "account", desc := "(I)I" } : Jvm.MethodName) ({ cls := "BrassInspector", name := "account", desc := "(I)I" } : Jvm.MethodName)) ∈ lw_all := lw_g (lw_at lw_m10 169 rfl) rfl
theorem q2400 : (Jvm.Cond.code ({ cls := "BrassInspector", name := "account", desc := "(I)I" } : Jvm.MethodName) prog_1_method_47_code (2 : Nat) (Option.some Jvm.ClassFile.FieldType.int)) ∈ lw_all := lw_g (lw_at lw_m10 170 rfl) rfl
theorem q2401 : (Jvm.Cond.methodLink "BrassInspector" (357 : Nat) ({ cls := "BrassInspector$Round", name := "seals", desc := "()I" } : Jvm.MethodName)) ∈ lw_all := lw_g (lw_at lw_m10 171 rfl) rfl
theorem q2402 : (Jvm.Cond.instanceMethod ({ cls := "BrassInspector$Round", name := "seals", desc := "()I" } : Jvm.MethodName)) ∈ lw_all := lw_g (lw_at lw_m10 172 rfl) rfl
theorem q2403 : (Jvm.Cond.selects "BrassInspector$Round" ({ cls := "BrassInspector$Round", name := "seals", desc := "()I" } : Jvm.MethodName) ({ cls := "BrassInspector$Round", name := "seals", desc := "()I" } : Jvm.MethodName)) ∈ lw_all := lw_g (lw_at lw_m10 173 rfl) rfl
theorem q2404 : (Jvm.Cond.code ({ cls := "BrassInspector$Round", name := "seals", desc := "()I" } : Jvm.MethodName) prog_13_method_30_code (3 : Nat) (Option.some Jvm.ClassFile.FieldType.int)) ∈ lw_all := lw_g (lw_at lw_m10 174 rfl) rfl
theorem q2405 : (Jvm.Cond.methodLink "BrassInspector$Round" (216 : Nat) ({ cls := "BrassInspector$Round", name := "sealsOf", desc := "(I)I" } : Jvm.MethodName)) ∈ lw_all := lw_g (lw_at lw_m10 175 rfl) rfl
theorem q2406 : (Jvm.Cond.methodLink "BrassInspector" (360 : Nat) ({ cls := "BrassInspector$Round", name := "barred", desc := "()I" } : Jvm.MethodName)) ∈ lw_all := lw_g (lw_at lw_m10 176 rfl) rfl
theorem q2407 : (Jvm.Cond.instanceMethod ({ cls := "BrassInspector$Round", name := "barred", desc := "()I" } : Jvm.MethodName)) ∈ lw_all := lw_g (lw_at lw_m10 177 rfl) rfl
theorem q2408 : (Jvm.Cond.selects "BrassInspector$Round" ({ cls := "BrassInspector$Round", name := "barred", desc := "()I" } : Jvm.MethodName) ({ cls := "BrassInspector$Round", name := "barred", desc := "()I" } : Jvm.MethodName)) ∈ lw_all := lw_g (lw_at lw_m10 178 rfl) rfl
theorem q2409 : (Jvm.Cond.code ({ cls := "BrassInspector$Round", name := "barred", desc := "()I" } : Jvm.MethodName) prog_13_method_31_code (4 : Nat) (Option.some Jvm.ClassFile.FieldType.int)) ∈ lw_all := lw_g (lw_at lw_m10 179 rfl) rfl
theorem q2410 : (Jvm.Cond.methodLink "BrassInspector" (363 : Nat) ({ cls := "BrassInspector$Round", name := "inspections", desc := "()I" } : Jvm.MethodName)) ∈ lw_all := lw_g (lw_at lw_m10 180 rfl) rfl
theorem q2411 : (Jvm.Cond.instanceMethod ({ cls := "BrassInspector$Round", name := "inspections", desc := "()I" } : Jvm.MethodName)) ∈ lw_all := lw_g (lw_at lw_m10 181 rfl) rfl
theorem q2412 : (Jvm.Cond.selects "BrassInspector$Round" ({ cls := "BrassInspector$Round", name := "inspections", desc := "()I" } : Jvm.MethodName) ({ cls := "BrassInspector$Round", name := "inspections", desc := "()I" } : Jvm.MethodName)) ∈ lw_all := lw_g (lw_at lw_m10 182 rfl) rfl
theorem q2413 : (Jvm.Cond.code ({ cls := "BrassInspector$Round", name := "inspections", desc := "()I" } : Jvm.MethodName) prog_13_method_13_code (1 : Nat) (Option.some Jvm.ClassFile.FieldType.int)) ∈ lw_all := lw_g (lw_at lw_m10 183 rfl) rfl
theorem q2414 : (Jvm.Cond.methodLink "BrassInspector" (366 : Nat) ({ cls := "BrassInspector$Round", name := "finesOfTraders", desc := "()I" } : Jvm.MethodName)) ∈ lw_all := lw_g (lw_at lw_m10 184 rfl) rfl
theorem q2415 : (Jvm.Cond.instanceMethod ({ cls := "BrassInspector$Round", name := "finesOfTraders", desc := "()I" } : Jvm.MethodName)) ∈ lw_all := lw_g (lw_at lw_m10 185 rfl) rfl
theorem q2416 : (Jvm.Cond.selects "BrassInspector$Round" ({ cls := "BrassInspector$Round", name := "finesOfTraders", desc := "()I" } : Jvm.MethodName) ({ cls := "BrassInspector$Round", name := "finesOfTraders", desc := "()I" } : Jvm.MethodName)) ∈ lw_all := lw_g (lw_at lw_m10 186 rfl) rfl
theorem q2417 : (Jvm.Cond.code ({ cls := "BrassInspector$Round", name := "finesOfTraders", desc := "()I" } : Jvm.MethodName) prog_13_method_32_code (4 : Nat) (Option.some Jvm.ClassFile.FieldType.int)) ∈ lw_all := lw_g (lw_at lw_m10 187 rfl) rfl
theorem q2418 : (Jvm.Cond.methodLink "BrassInspector$Round" (219 : Nat) ({ cls := "BrassInspector$Round$Trader", name := "fined", desc := "()I" } : Jvm.MethodName)) ∈ lw_all := lw_g (lw_at lw_m10 188 rfl) rfl
theorem q2419 : (Jvm.Cond.methodLink "BrassInspector" (369 : Nat) ({ cls := "BrassInspector$Round", name := "ofTraders", desc := "(I)I" } : Jvm.MethodName)) ∈ lw_all := lw_g (lw_at lw_m10 189 rfl) rfl
theorem q2420 : (Jvm.Cond.instanceMethod ({ cls := "BrassInspector$Round", name := "ofTraders", desc := "(I)I" } : Jvm.MethodName)) ∈ lw_all := lw_g (lw_at lw_m10 190 rfl) rfl
theorem q2421 : (Jvm.Cond.selects "BrassInspector$Round" ({ cls := "BrassInspector$Round", name := "ofTraders", desc := "(I)I" } : Jvm.MethodName) ({ cls := "BrassInspector$Round", name := "ofTraders", desc := "(I)I" } : Jvm.MethodName)) ∈ lw_all := lw_g (lw_at lw_m10 191 rfl) rfl
theorem q2422 : (Jvm.Cond.code ({ cls := "BrassInspector$Round", name := "ofTraders", desc := "(I)I" } : Jvm.MethodName) prog_13_method_33_code (5 : Nat) (Option.some Jvm.ClassFile.FieldType.int)) ∈ lw_all := lw_g (lw_at lw_m10 192 rfl) rfl
theorem q2423 : (Jvm.Cond.methodLink "BrassInspector" (372 : Nat) ({ cls := "BrassInspector$Round", name := "lost", desc := "()I" } : Jvm.MethodName)) ∈ lw_all := lw_g (lw_at lw_m10 193 rfl) rfl
theorem q2424 : (Jvm.Cond.instanceMethod ({ cls := "BrassInspector$Round", name := "lost", desc := "()I" } : Jvm.MethodName)) ∈ lw_all := lw_g (lw_at lw_m10 194 rfl) rfl
theorem q2425 : (Jvm.Cond.selects "BrassInspector$Round" ({ cls := "BrassInspector$Round", name := "lost", desc := "()I" } : Jvm.MethodName) ({ cls := "BrassInspector$Round", name := "lost", desc := "()I" } : Jvm.MethodName)) ∈ lw_all := lw_g (lw_at lw_m10 195 rfl) rfl
theorem q2426 : (Jvm.Cond.code ({ cls := "BrassInspector$Round", name := "lost", desc := "()I" } : Jvm.MethodName) prog_13_method_14_code (1 : Nat) (Option.some Jvm.ClassFile.FieldType.int)) ∈ lw_all := lw_g (lw_at lw_m10 196 rfl) rfl
theorem q2427 : (Jvm.Cond.methodLink "BrassInspector" (375 : Nat) ({ cls := "BrassInspector$Round", name := "wear", desc := "()I" } : Jvm.MethodName)) ∈ lw_all := lw_g (lw_at lw_m10 197 rfl) rfl
theorem q2428 : (Jvm.Cond.instanceMethod ({ cls := "BrassInspector$Round", name := "wear", desc := "()I" } : Jvm.MethodName)) ∈ lw_all := lw_g (lw_at lw_m10 198 rfl) rfl
theorem q2429 : (Jvm.Cond.selects "BrassInspector$Round" ({ cls := "BrassInspector$Round", name := "wear", desc := "()I" } : Jvm.MethodName) ({ cls := "BrassInspector$Round", name := "wear", desc := "()I" } : Jvm.MethodName)) ∈ lw_all := lw_g (lw_at lw_m10 199 rfl) rfl
theorem q2430 : (Jvm.Cond.code ({ cls := "BrassInspector$Round", name := "wear", desc := "()I" } : Jvm.MethodName) prog_13_method_34_code (4 : Nat) (Option.some Jvm.ClassFile.FieldType.int)) ∈ lw_all := lw_g (lw_at lw_m10 200 rfl) rfl
theorem q2431 : (Jvm.Cond.methodLink "BrassInspectorLaw" (235 : Nat) ({ cls := "BrassInspectorLaw", name := "meanError", desc := "(LBrassInspector;[D)I" } : Jvm.MethodName)) ∈ lw_all := lw_g (lw_at lw_m10 201 rfl) rfl
theorem q2432 : (Jvm.Cond.static ({ cls := "BrassInspectorLaw", name := "meanError", desc := "(LBrassInspector;[D)I" } : Jvm.MethodName)) ∈ lw_all := lw_g (lw_at lw_m10 202 rfl) rfl
theorem q2433 : (Jvm.Cond.codeWith ({ cls := "BrassInspectorLaw", name := "meanError", desc := "(LBrassInspector;[D)I" } : Jvm.MethodName) method_32_code (3 : Nat) (Option.some Jvm.ClassFile.FieldType.int) [((0 : Nat), (7 : Nat), (10 : Nat), (117 : Nat))]) ∈ lw_all := lw_g (lw_at lw_m10 203 rfl) rfl
theorem q2434 : (Jvm.Cond.classLink "BrassInspectorLaw" (117 : Nat) "java/lang/ArithmeticException") ∈ lw_all := lw_g (lw_at lw_m10 204 rfl) rfl
theorem q2435 : (Jvm.Cond.instantiable "java/lang/ArithmeticException" (6 : Nat)) ∈ lw_all := lw_g (lw_at lw_m10 205 rfl) rfl
theorem q2436 : (Jvm.Cond.instanceMethod ({ cls := "java/lang/ArithmeticException", name := "<init>", desc := "(Ljava/lang/String;)V" } : Jvm.MethodName)) ∈ lw_all := lw_g (lw_at lw_m10 206 rfl) rfl
theorem q2437 : (Jvm.Cond.code ({ cls := "java/lang/ArithmeticException", name := "<init>", desc := "(Ljava/lang/String;)V" } : Jvm.MethodName) prog_24_method_2_code (2 : Nat) (Option.none : Option Jvm.ClassFile.FieldType)) ∈ lw_all := lw_g (lw_at lw_m10 207 rfl) rfl
theorem q2438 : (Jvm.Cond.methodLink "java/lang/ArithmeticException" (7 : Nat) ({ cls := "java/lang/RuntimeException", name := "<init>", desc := "(Ljava/lang/String;)V" } : Jvm.MethodName)) ∈ lw_all := lw_g (lw_at lw_m10 208 rfl) rfl
theorem q2439 : (Jvm.Cond.lays "java/lang/ArithmeticException" "java/lang/Throwable" "backtrace" "Ljava/lang/Object;") ∈ lw_all := lw_g (lw_at lw_m10 209 rfl) rfl
theorem q2440 : (Jvm.Cond.lays "java/lang/ArithmeticException" "java/lang/Throwable" "detailMessage" "Ljava/lang/String;") ∈ lw_all := lw_g (lw_at lw_m10 210 rfl) rfl
theorem q2441 : (Jvm.Cond.lays "java/lang/ArithmeticException" "java/lang/Throwable" "cause" "Ljava/lang/Throwable;") ∈ lw_all := lw_g (lw_at lw_m10 211 rfl) rfl
theorem q2442 : (Jvm.Cond.lays "java/lang/ArithmeticException" "java/lang/Throwable" "stackTrace" "[Ljava/lang/StackTraceElement;") ∈ lw_all := lw_g (lw_at lw_m10 212 rfl) rfl
theorem q2443 : (Jvm.Cond.lays "java/lang/ArithmeticException" "java/lang/Throwable" "depth" "I") ∈ lw_all := lw_g (lw_at lw_m10 213 rfl) rfl
theorem q2444 : (Jvm.Cond.lays "java/lang/ArithmeticException" "java/lang/Throwable" "suppressedExceptions" "Ljava/util/List;") ∈ lw_all := lw_g (lw_at lw_m10 214 rfl) rfl
theorem q2445 : (Jvm.Cond.superclass "java/lang/ArithmeticException" "java/lang/RuntimeException") ∈ lw_all := lw_g (lw_at lw_m10 215 rfl) rfl
theorem q2446 : (Jvm.Cond.castable "java/lang/ArithmeticException" "java/lang/ArithmeticException") ∈ lw_tbl := lw_at lw_m10 216 rfl
theorem q2447 : (Jvm.Cond.selects "java/lang/ArithmeticException" ({ cls := "java/lang/Throwable", name := "fillInStackTrace", desc := "(I)Ljava/lang/Throwable;" } : Jvm.MethodName) ({ cls := "java/lang/Throwable", name := "fillInStackTrace", desc := "(I)Ljava/lang/Throwable;" } : Jvm.MethodName)) ∈ lw_all := lw_g (lw_at lw_m10 217 rfl) rfl
theorem q2448 : (Jvm.Cond.methodLink "BrassInspectorLaw" (113 : Nat) ({ cls := "BrassInspector", name := "meanError", desc := "()D" } : Jvm.MethodName)) ∈ lw_all := lw_g (lw_at lw_m10 218 rfl) rfl
theorem q2449 : (Jvm.Cond.instanceMethod ({ cls := "BrassInspector", name := "meanError", desc := "()D" } : Jvm.MethodName)) ∈ lw_all := lw_g (lw_at lw_m10 219 rfl) rfl
theorem q2450 : (Jvm.Cond.selects "BrassInspector" ({ cls := "BrassInspector", name := "meanError", desc := "()D" } : Jvm.MethodName) ({ cls := "BrassInspector", name := "meanError", desc := "()D" } : Jvm.MethodName)) ∈ lw_all := lw_g (lw_at lw_m10 220 rfl) rfl
theorem q2451 : (Jvm.Cond.code ({ cls := "BrassInspector", name := "meanError", desc := "()D" } : Jvm.MethodName) prog_1_method_50_code (2 : Nat) (Option.some Jvm.ClassFile.FieldType.double)) ∈ lw_all := lw_g (lw_at lw_m10 221 rfl) rfl
theorem q2452 : (Jvm.Cond.methodLink "BrassInspector" (382 : Nat) ({ cls := "BrassInspector", name := "tradersMany", desc := "()I" } : Jvm.MethodName)) ∈ lw_all := lw_g (lw_at lw_m10 222 rfl) rfl
theorem q2453 : (Jvm.Cond.privateMethod ({ cls := "BrassInspector", name := "tradersMany", desc := "()I" } : Jvm.MethodName)) ∈ lw_tbl := lw_at lw_m10 223 rfl
theorem q2454 : (Jvm.Cond.instanceMethod ({ cls := "BrassInspector", name := "tradersMany", desc := "()I" } : Jvm.MethodName)) ∈ lw_all := lw_g (lw_at lw_m10 224 rfl) rfl
theorem q2455 : (Jvm.Cond.code ({ cls := "BrassInspector", name := "tradersMany", desc := "()I" } : Jvm.MethodName) prog_1_method_49_code (2 : Nat) (Option.some Jvm.ClassFile.FieldType.int)) ∈ lw_all := lw_g (lw_at lw_m10 225 rfl) rfl
theorem q2456 : (Jvm.Cond.classLink "BrassInspector" (379 : Nat) "java/lang/ArithmeticException") ∈ lw_all := lw_g (lw_at lw_m10 226 rfl) rfl
theorem q2457 : (Jvm.Cond.methodLink "BrassInspector" (381 : Nat) ({ cls := "java/lang/ArithmeticException", name := "<init>", desc := "()V" } : Jvm.MethodName)) ∈ lw_all := lw_g (lw_at lw_m10 227 rfl) rfl
theorem q2458 : (Jvm.Cond.instanceMethod ({ cls := "java/lang/ArithmeticException", name := "<init>", desc := "()V" } : Jvm.MethodName)) ∈ lw_all := lw_g (lw_at lw_m10 228 rfl) rfl
theorem q2459 : (Jvm.Cond.code ({ cls := "java/lang/ArithmeticException", name := "<init>", desc := "()V" } : Jvm.MethodName) prog_24_method_1_code (1 : Nat) (Option.none : Option Jvm.ClassFile.FieldType)) ∈ lw_all := lw_g (lw_at lw_m10 229 rfl) rfl
theorem q2460 : (Jvm.Cond.methodLink "java/lang/ArithmeticException" (1 : Nat) ({ cls := "java/lang/RuntimeException", name := "<init>", desc := "()V" } : Jvm.MethodName)) ∈ lw_all := lw_g (lw_at lw_m10 230 rfl) rfl
theorem q2461 : (Jvm.Cond.methodLink "BrassInspectorLaw" (239 : Nat) ({ cls := "BrassInspectorLaw", name := "sealedShare", desc := "(LBrassInspector;[D)I" } : Jvm.MethodName)) ∈ lw_all := lw_g (lw_at lw_m10 231 rfl) rfl
theorem q2462 : (Jvm.Cond.static ({ cls := "BrassInspectorLaw", name := "sealedShare", desc := "(LBrassInspector;[D)I" } : Jvm.MethodName)) ∈ lw_all := lw_g (lw_at lw_m10 232 rfl) rfl
theorem q2463 : (Jvm.Cond.codeWith ({ cls := "BrassInspectorLaw", name := "sealedShare", desc := "(LBrassInspector;[D)I" } : Jvm.MethodName) method_33_code (3 : Nat) (Option.some Jvm.ClassFile.FieldType.int) [((0 : Nat), (8 : Nat), (11 : Nat), (117 : Nat))]) ∈ lw_all := lw_g (lw_at lw_m10 233 rfl) rfl
theorem q2464 : (Jvm.Cond.methodLink "BrassInspectorLaw" (119 : Nat) ({ cls := "BrassInspector", name := "sealedShare", desc := "()F" } : Jvm.MethodName)) ∈ lw_all := lw_g (lw_at lw_m10 234 rfl) rfl
theorem q2465 : (Jvm.Cond.instanceMethod ({ cls := "BrassInspector", name := "sealedShare", desc := "()F" } : Jvm.MethodName)) ∈ lw_all := lw_g (lw_at lw_m10 235 rfl) rfl
theorem q2466 : (Jvm.Cond.selects "BrassInspector" ({ cls := "BrassInspector", name := "sealedShare", desc := "()F" } : Jvm.MethodName) ({ cls := "BrassInspector", name := "sealedShare", desc := "()F" } : Jvm.MethodName)) ∈ lw_all := lw_g (lw_at lw_m10 236 rfl) rfl
theorem q2467 : (Jvm.Cond.code ({ cls := "BrassInspector", name := "sealedShare", desc := "()F" } : Jvm.MethodName) prog_1_method_51_code (2 : Nat) (Option.some Jvm.ClassFile.FieldType.float)) ∈ lw_all := lw_g (lw_at lw_m10 237 rfl) rfl
theorem q2468 : (Jvm.Cond.methodLink "BrassInspectorLaw" (242 : Nat) ({ cls := "BrassInspectorLaw", name := "undo", desc := "(LBrassInspector;[J)I" } : Jvm.MethodName)) ∈ lw_all := lw_g (lw_at lw_m10 238 rfl) rfl
theorem q2469 : (Jvm.Cond.static ({ cls := "BrassInspectorLaw", name := "undo", desc := "(LBrassInspector;[J)I" } : Jvm.MethodName)) ∈ lw_all := lw_g (lw_at lw_m10 239 rfl) rfl
theorem q2470 : (Jvm.Cond.codeWith ({ cls := "BrassInspectorLaw", name := "undo", desc := "(LBrassInspector;[J)I" } : Jvm.MethodName) method_34_code (3 : Nat) (Option.some Jvm.ClassFile.FieldType.int) [((0 : Nat), (8 : Nat), (11 : Nat), (91 : Nat))]) ∈ lw_all := lw_g (lw_at lw_m11 0 rfl) rfl
theorem q2471 : (Jvm.Cond.methodLink "BrassInspectorLaw" (123 : Nat) ({ cls := "BrassInspector", name := "undo", desc := "()I" } : Jvm.MethodName)) ∈ lw_all := lw_g (lw_at lw_m11 1 rfl) rfl
theorem q2472 : (Jvm.Cond.instanceMethod ({ cls := "BrassInspector", name := "undo", desc := "()I" } : Jvm.MethodName)) ∈ lw_all := lw_g (lw_at lw_m11 2 rfl) rfl
theorem q2473 : (Jvm.Cond.selects "BrassInspector" ({ cls := "BrassInspector", name := "undo", desc := "()I" } : Jvm.MethodName) ({ cls := "BrassInspector", name := "undo", desc := "()I" } : Jvm.MethodName)) ∈ lw_all := lw_g (lw_at lw_m11 3 rfl) rfl
theorem q2474 : (Jvm.Cond.code ({ cls := "BrassInspector", name := "undo", desc := "()I" } : Jvm.MethodName) prog_1_method_52_code (1 : Nat) (Option.some Jvm.ClassFile.FieldType.int)) ∈ lw_all := lw_g (lw_at lw_m11 4 rfl) rfl
theorem q2475 : (Jvm.Cond.methodLink "BrassInspector" (385 : Nat) ({ cls := "java/util/LinkedList", name := "isEmpty", desc := "()Z" } : Jvm.MethodName)) ∈ lw_all := lw_g (lw_at lw_m11 5 rfl) rfl
theorem q2476 : (Jvm.Cond.sameMethod "java/util/LinkedList" "java/util/AbstractCollection" "isEmpty" "()Z") ∈ lw_all := lw_g (lw_at lw_m11 6 rfl) rfl
theorem q2477 : (Jvm.Cond.declares ({ cls := "java/util/AbstractCollection", name := "isEmpty", desc := "()Z" } : Jvm.MethodName)) ∈ lw_tbl := lw_at lw_m11 7 rfl
theorem q2478 : (Jvm.Cond.selects "java/util/LinkedList" ({ cls := "java/util/LinkedList", name := "isEmpty", desc := "()Z" } : Jvm.MethodName) ({ cls := "java/util/AbstractCollection", name := "isEmpty", desc := "()Z" } : Jvm.MethodName)) ∈ lw_all := lw_g (lw_at lw_m11 8 rfl) rfl
theorem q2479 : (Jvm.Cond.instanceMethod ({ cls := "java/util/AbstractCollection", name := "isEmpty", desc := "()Z" } : Jvm.MethodName)) ∈ lw_all := lw_g (lw_at lw_m11 9 rfl) rfl
theorem q2480 : (Jvm.Cond.code ({ cls := "java/util/AbstractCollection", name := "isEmpty", desc := "()Z" } : Jvm.MethodName) prog_50_method_4_code (1 : Nat) (Option.some Jvm.ClassFile.FieldType.boolean)) ∈ lw_all := lw_g (lw_at lw_m11 10 rfl) rfl
theorem q2481 : (Jvm.Cond.methodLink "java/util/AbstractCollection" (7 : Nat) ({ cls := "java/util/AbstractCollection", name := "size", desc := "()I" } : Jvm.MethodName)) ∈ lw_all := lw_g (lw_at lw_m11 11 rfl) rfl
theorem q2482 : (Jvm.Cond.methodLink "BrassInspector" (388 : Nat) ({ cls := "java/util/LinkedList", name := "removeLast", desc := "()Ljava/lang/Object;" } : Jvm.MethodName)) ∈ lw_all := lw_g (lw_at lw_m11 12 rfl) rfl
theorem q2483 : (Jvm.Cond.instanceMethod ({ cls := "java/util/LinkedList", name := "removeLast", desc := "()Ljava/lang/Object;" } : Jvm.MethodName)) ∈ lw_all := lw_g (lw_at lw_m11 13 rfl) rfl
theorem q2484 : (Jvm.Cond.selects "java/util/LinkedList" ({ cls := "java/util/LinkedList", name := "removeLast", desc := "()Ljava/lang/Object;" } : Jvm.MethodName) ({ cls := "java/util/LinkedList", name := "removeLast", desc := "()Ljava/lang/Object;" } : Jvm.MethodName)) ∈ lw_all := lw_g (lw_at lw_m11 14 rfl) rfl
theorem q2485 : (Jvm.Cond.code ({ cls := "java/util/LinkedList", name := "removeLast", desc := "()Ljava/lang/Object;" } : Jvm.MethodName) prog_62_method_12_code (2 : Nat) (Option.some (Jvm.ClassFile.FieldType.object "java/lang/Object"))) ∈ lw_all := lw_g (lw_at lw_m11 15 rfl) rfl
theorem q2486 : (Jvm.Cond.methodLink "java/util/LinkedList" (50 : Nat) ({ cls := "java/util/LinkedList", name := "unlinkLast", desc := "(Ljava/util/LinkedList$Node;)Ljava/lang/Object;" } : Jvm.MethodName)) ∈ lw_all := lw_g (lw_at lw_m11 16 rfl) rfl
theorem q2487 : (Jvm.Cond.privateMethod ({ cls := "java/util/LinkedList", name := "unlinkLast", desc := "(Ljava/util/LinkedList$Node;)Ljava/lang/Object;" } : Jvm.MethodName)) ∈ lw_tbl := lw_at lw_m11 17 rfl
theorem q2488 : (Jvm.Cond.instanceMethod ({ cls := "java/util/LinkedList", name := "unlinkLast", desc := "(Ljava/util/LinkedList$Node;)Ljava/lang/Object;" } : Jvm.MethodName)) ∈ lw_all := lw_g (lw_at lw_m11 18 rfl) rfl
theorem q2489 : (Jvm.Cond.code ({ cls := "java/util/LinkedList", name := "unlinkLast", desc := "(Ljava/util/LinkedList$Node;)Ljava/lang/Object;" } : Jvm.MethodName) prog_62_method_7_code (4 : Nat) (Option.some (Jvm.ClassFile.FieldType.object "java/lang/Object"))) ∈ lw_all := lw_g (lw_at lw_m11 19 rfl) rfl
theorem q2490 : (Jvm.Cond.methodLink "BrassInspectorLaw" (249 : Nat) ({ cls := "BrassInspectorLaw", name := "restore", desc := "(LBrassInspector;[J)I" } : Jvm.MethodName)) ∈ lw_all := lw_g (lw_at lw_m11 20 rfl) rfl
theorem q2491 : (Jvm.Cond.static ({ cls := "BrassInspectorLaw", name := "restore", desc := "(LBrassInspector;[J)I" } : Jvm.MethodName)) ∈ lw_all := lw_g (lw_at lw_m11 21 rfl) rfl
theorem q2492 : (Jvm.Cond.codeWith ({ cls := "BrassInspectorLaw", name := "restore", desc := "(LBrassInspector;[J)I" } : Jvm.MethodName) method_35_code (3 : Nat) (Option.some Jvm.ClassFile.FieldType.int) [((0 : Nat), (8 : Nat), (11 : Nat), (91 : Nat))]) ∈ lw_all := lw_g (lw_at lw_m11 22 rfl) rfl
theorem q2493 : (Jvm.Cond.methodLink "BrassInspectorLaw" (126 : Nat) ({ cls := "BrassInspector", name := "restore", desc := "()I" } : Jvm.MethodName)) ∈ lw_all := lw_g (lw_at lw_m11 23 rfl) rfl
theorem q2494 : (Jvm.Cond.instanceMethod ({ cls := "BrassInspector", name := "restore", desc := "()I" } : Jvm.MethodName)) ∈ lw_all := lw_g (lw_at lw_m11 24 rfl) rfl
theorem q2495 : (Jvm.Cond.selects "BrassInspector" ({ cls := "BrassInspector", name := "restore", desc := "()I" } : Jvm.MethodName) ({ cls := "BrassInspector", name := "restore", desc := "()I" } : Jvm.MethodName)) ∈ lw_all := lw_g (lw_at lw_m11 25 rfl) rfl
theorem q2496 : (Jvm.Cond.code ({ cls := "BrassInspector", name := "restore", desc := "()I" } : Jvm.MethodName) prog_1_method_54_code (1 : Nat) (Option.some Jvm.ClassFile.FieldType.int)) ∈ lw_all := lw_g (lw_at lw_m11 26 rfl) rfl
theorem q2497 : (Jvm.Cond.methodLink "BrassInspector" (394 : Nat) ({ cls := "java/util/LinkedList", name := "clear", desc := "()V" } : Jvm.MethodName)) ∈ lw_all := lw_g (lw_at lw_m11 27 rfl) rfl
theorem q2498 : (Jvm.Cond.instanceMethod ({ cls := "java/util/LinkedList", name := "clear", desc := "()V" } : Jvm.MethodName)) ∈ lw_all := lw_g (lw_at lw_m11 28 rfl) rfl
theorem q2499 : (Jvm.Cond.selects "java/util/LinkedList" ({ cls := "java/util/LinkedList", name := "clear", desc := "()V" } : Jvm.MethodName) ({ cls := "java/util/LinkedList", name := "clear", desc := "()V" } : Jvm.MethodName)) ∈ lw_all := lw_g (lw_at lw_m11 29 rfl) rfl
theorem q2500 : (Jvm.Cond.code ({ cls := "java/util/LinkedList", name := "clear", desc := "()V" } : Jvm.MethodName) prog_62_method_21_code (3 : Nat) (Option.none : Option Jvm.ClassFile.FieldType)) ∈ lw_all := lw_g (lw_at lw_m11 30 rfl) rfl
theorem q2501 : (Jvm.Cond.classLink "BrassInspectorLaw" (130 : Nat) "BrassInspectorModel") ∈ lw_all := lw_g (lw_at lw_m11 31 rfl) rfl
theorem q2502 : (Jvm.Cond.instantiable "BrassInspectorModel" (23 : Nat)) ∈ lw_all := lw_g (lw_at lw_m11 32 rfl) rfl
theorem q2503 : (Jvm.Cond.methodLink "BrassInspectorLaw" (132 : Nat) ({ cls := "BrassInspectorModel", name := "<init>", desc := "()V" } : Jvm.MethodName)) ∈ lw_all := lw_g (lw_at lw_m11 33 rfl) rfl
theorem q2504 : (Jvm.Cond.instanceMethod ({ cls := "BrassInspectorModel", name := "<init>", desc := "()V" } : Jvm.MethodName)) ∈ lw_all := lw_g (lw_at lw_m11 34 rfl) rfl
theorem q2505 : (Jvm.Cond.code ({ cls := "BrassInspectorModel", name := "<init>", desc := "()V" } : Jvm.MethodName) prog_20_method_1_code (2 : Nat) (Option.none : Option Jvm.ClassFile.FieldType)) ∈ lw_all := lw_g (lw_at lw_m11 35 rfl) rfl
theorem q2506 : (Jvm.Cond.methodLink "BrassInspectorModel" (1 : Nat) ({ cls := "java/lang/Object", name := "<init>", desc := "()V" } : Jvm.MethodName)) ∈ lw_all := lw_g (lw_at lw_m11 36 rfl) rfl
theorem q2507 : (Jvm.Cond.fieldLink "BrassInspectorModel" (41 : Nat) "BrassInspectorModel" "thrown" "I") ∈ lw_all := lw_g (lw_at lw_m11 37 rfl) rfl
theorem q2508 : (Jvm.Cond.fieldLink "BrassInspectorModel" (7 : Nat) "BrassInspectorModel" "s" "[I") ∈ lw_all := lw_g (lw_at lw_m11 38 rfl) rfl
theorem q2509 : (Jvm.Cond.fieldLink "BrassInspectorModel" (13 : Nat) "BrassInspectorModel" "frame" "[I") ∈ lw_all := lw_g (lw_at lw_m11 39 rfl) rfl
theorem q2510 : (Jvm.Cond.fieldLink "BrassInspectorModel" (16 : Nat) "BrassInspectorModel" "saved" "[I") ∈ lw_all := lw_g (lw_at lw_m11 40 rfl) rfl
theorem q2511 : (Jvm.Cond.fieldLink "BrassInspectorModel" (19 : Nat) "BrassInspectorModel" "history" "[I") ∈ lw_all := lw_g (lw_at lw_m11 41 rfl) rfl
theorem q2512 : (Jvm.Cond.fieldLink "BrassInspectorModel" (44 : Nat) "BrassInspectorModel" "kept" "I") ∈ lw_all := lw_g (lw_at lw_m11 42 rfl) rfl
theorem q2513 : (Jvm.Cond.fieldLink "BrassInspectorModel" (245 : Nat) "BrassInspectorModel" "hasSaved" "Z") ∈ lw_all := lw_g (lw_at lw_m11 43 rfl) rfl
theorem q2514 : (Jvm.Cond.fieldLink "BrassInspectorModel" (22 : Nat) "BrassInspectorModel" "text" "[I") ∈ lw_all := lw_g (lw_at lw_m11 44 rfl) rfl
theorem q2515 : (Jvm.Cond.fieldLink "BrassInspectorModel" (25 : Nat) "BrassInspectorModel" "told" "[I") ∈ lw_all := lw_g (lw_at lw_m11 45 rfl) rfl
theorem q2516 : (Jvm.Cond.fieldLink "BrassInspectorModel" (28 : Nat) "BrassInspectorModel" "out" "[I") ∈ lw_all := lw_g (lw_at lw_m11 46 rfl) rfl
theorem q2517 : (Jvm.Cond.fieldLink "BrassInspectorModel" (31 : Nat) "BrassInspectorModel" "why" "[I") ∈ lw_all := lw_g (lw_at lw_m11 47 rfl) rfl
theorem q2518 : (Jvm.Cond.fieldLink "BrassInspectorModel" (34 : Nat) "BrassInspectorModel" "detail" "[I") ∈ lw_all := lw_g (lw_at lw_m11 48 rfl) rfl
theorem q2519 : (Jvm.Cond.fieldLink "BrassInspectorModel" (152 : Nat) "BrassInspectorModel" "length" "I") ∈ lw_all := lw_g (lw_at lw_m11 49 rfl) rfl
theorem q2520 : (Jvm.Cond.fieldLink "BrassInspectorModel" (222 : Nat) "BrassInspectorModel" "outLength" "I") ∈ lw_all := lw_g (lw_at lw_m11 50 rfl) rfl
theorem q2521 : (Jvm.Cond.fieldLink "BrassInspectorModel" (37 : Nat) "BrassInspectorModel" "faultAt" "I") ∈ lw_all := lw_g (lw_at lw_m11 51 rfl) rfl
theorem q2522 : (Jvm.Cond.fieldLink "BrassInspectorModel" (47 : Nat) "BrassInspectorModel" "about" "I") ∈ lw_all := lw_g (lw_at lw_m11 52 rfl) rfl
theorem q2523 : (Jvm.Cond.fieldLink "BrassInspectorModel" (50 : Nat) "BrassInspectorModel" "cause" "I") ∈ lw_all := lw_g (lw_at lw_m11 53 rfl) rfl
theorem q2524 : (Jvm.Cond.fieldLink "BrassInspectorModel" (53 : Nat) "BrassInspectorModel" "causeOf" "I") ∈ lw_all := lw_g (lw_at lw_m11 54 rfl) rfl
theorem q2525 : (Jvm.Cond.fieldLink "BrassInspectorModel" (56 : Nat) "BrassInspectorModel" "answer" "I") ∈ lw_all := lw_g (lw_at lw_m11 55 rfl) rfl
theorem q2526 : (Jvm.Cond.fieldLink "BrassInspectorModel" (155 : Nat) "BrassInspectorModel" "spot" "I") ∈ lw_all := lw_g (lw_at lw_m11 56 rfl) rfl
theorem q2527 : (Jvm.Cond.fieldLink "BrassInspectorModel" (158 : Nat) "BrassInspectorModel" "end" "I") ∈ lw_all := lw_g (lw_at lw_m11 57 rfl) rfl
theorem q2528 : (Jvm.Cond.fieldLink "BrassInspectorModel" (180 : Nat) "BrassInspectorModel" "orders" "I") ∈ lw_all := lw_g (lw_at lw_m11 58 rfl) rfl
theorem q2529 : (Jvm.Cond.fieldLink "BrassInspectorModel" (161 : Nat) "BrassInspectorModel" "isWrong" "Z") ∈ lw_all := lw_g (lw_at lw_m11 59 rfl) rfl
theorem q2530 : (Jvm.Cond.lays "BrassInspectorModel" "BrassInspectorModel" "thrown" "I") ∈ lw_all := lw_g (lw_at lw_m11 60 rfl) rfl
theorem q2531 : (Jvm.Cond.soleField "BrassInspectorModel" "thrown") ∈ lw_all := lw_g (lw_at lw_m11 61 rfl) rfl
theorem q2532 : (Jvm.Cond.laysFinal "BrassInspectorModel" "BrassInspectorModel" "s" "[I") ∈ lw_all := lw_g (lw_at lw_m11 62 rfl) rfl
theorem q2533 : (Jvm.Cond.soleField "BrassInspectorModel" "s") ∈ lw_all := lw_g (lw_at lw_m11 63 rfl) rfl
theorem q2534 : (Jvm.Cond.laysFinal "BrassInspectorModel" "BrassInspectorModel" "frame" "[I") ∈ lw_all := lw_g (lw_at lw_m11 64 rfl) rfl
theorem q2535 : (Jvm.Cond.soleField "BrassInspectorModel" "frame") ∈ lw_all := lw_g (lw_at lw_m11 65 rfl) rfl
theorem q2536 : (Jvm.Cond.laysFinal "BrassInspectorModel" "BrassInspectorModel" "saved" "[I") ∈ lw_all := lw_g (lw_at lw_m11 66 rfl) rfl
theorem q2537 : (Jvm.Cond.soleField "BrassInspectorModel" "saved") ∈ lw_all := lw_g (lw_at lw_m11 67 rfl) rfl
theorem q2538 : (Jvm.Cond.laysFinal "BrassInspectorModel" "BrassInspectorModel" "history" "[I") ∈ lw_all := lw_g (lw_at lw_m11 68 rfl) rfl
theorem q2539 : (Jvm.Cond.soleField "BrassInspectorModel" "history") ∈ lw_all := lw_g (lw_at lw_m11 69 rfl) rfl
theorem q2540 : (Jvm.Cond.lays "BrassInspectorModel" "BrassInspectorModel" "kept" "I") ∈ lw_all := lw_g (lw_at lw_m11 70 rfl) rfl
theorem q2541 : (Jvm.Cond.soleField "BrassInspectorModel" "kept") ∈ lw_all := lw_g (lw_at lw_m11 71 rfl) rfl
theorem q2542 : (Jvm.Cond.lays "BrassInspectorModel" "BrassInspectorModel" "hasSaved" "Z") ∈ lw_all := lw_g (lw_at lw_m11 72 rfl) rfl
theorem q2543 : (Jvm.Cond.soleField "BrassInspectorModel" "hasSaved") ∈ lw_all := lw_g (lw_at lw_m11 73 rfl) rfl
theorem q2544 : (Jvm.Cond.laysFinal "BrassInspectorModel" "BrassInspectorModel" "text" "[I") ∈ lw_all := lw_g (lw_at lw_m11 74 rfl) rfl
theorem q2545 : (Jvm.Cond.soleField "BrassInspectorModel" "text") ∈ lw_all := lw_g (lw_at lw_m11 75 rfl) rfl
theorem q2546 : (Jvm.Cond.laysFinal "BrassInspectorModel" "BrassInspectorModel" "told" "[I") ∈ lw_all := lw_g (lw_at lw_m11 76 rfl) rfl
theorem q2547 : (Jvm.Cond.soleField "BrassInspectorModel" "told") ∈ lw_all := lw_g (lw_at lw_m11 77 rfl) rfl
theorem q2548 : (Jvm.Cond.laysFinal "BrassInspectorModel" "BrassInspectorModel" "out" "[I") ∈ lw_all := lw_g (lw_at lw_m11 78 rfl) rfl
theorem q2549 : (Jvm.Cond.soleField "BrassInspectorModel" "out") ∈ lw_all := lw_g (lw_at lw_m11 79 rfl) rfl
theorem q2550 : (Jvm.Cond.laysFinal "BrassInspectorModel" "BrassInspectorModel" "why" "[I") ∈ lw_all := lw_g (lw_at lw_m11 80 rfl) rfl
theorem q2551 : (Jvm.Cond.soleField "BrassInspectorModel" "why") ∈ lw_all := lw_g (lw_at lw_m11 81 rfl) rfl
theorem q2552 : (Jvm.Cond.laysFinal "BrassInspectorModel" "BrassInspectorModel" "detail" "[I") ∈ lw_all := lw_g (lw_at lw_m11 82 rfl) rfl
theorem q2553 : (Jvm.Cond.soleField "BrassInspectorModel" "detail") ∈ lw_all := lw_g (lw_at lw_m11 83 rfl) rfl
theorem q2554 : (Jvm.Cond.lays "BrassInspectorModel" "BrassInspectorModel" "length" "I") ∈ lw_all := lw_g (lw_at lw_m11 84 rfl) rfl
theorem q2555 : (Jvm.Cond.soleField "BrassInspectorModel" "length") ∈ lw_all := lw_g (lw_at lw_m11 85 rfl) rfl
theorem q2556 : (Jvm.Cond.lays "BrassInspectorModel" "BrassInspectorModel" "outLength" "I") ∈ lw_all := lw_g (lw_at lw_m11 86 rfl) rfl
theorem q2557 : (Jvm.Cond.soleField "BrassInspectorModel" "outLength") ∈ lw_all := lw_g (lw_at lw_m11 87 rfl) rfl
theorem q2558 : (Jvm.Cond.lays "BrassInspectorModel" "BrassInspectorModel" "faultAt" "I") ∈ lw_all := lw_g (lw_at lw_m11 88 rfl) rfl
theorem q2559 : (Jvm.Cond.soleField "BrassInspectorModel" "faultAt") ∈ lw_all := lw_g (lw_at lw_m11 89 rfl) rfl
theorem q2560 : (Jvm.Cond.lays "BrassInspectorModel" "BrassInspectorModel" "about" "I") ∈ lw_all := lw_g (lw_at lw_m11 90 rfl) rfl
theorem q2561 : (Jvm.Cond.soleField "BrassInspectorModel" "about") ∈ lw_all := lw_g (lw_at lw_m11 91 rfl) rfl
theorem q2562 : (Jvm.Cond.lays "BrassInspectorModel" "BrassInspectorModel" "cause" "I") ∈ lw_all := lw_g (lw_at lw_m11 92 rfl) rfl
theorem q2563 : (Jvm.Cond.soleField "BrassInspectorModel" "cause") ∈ lw_all := lw_g (lw_at lw_m11 93 rfl) rfl
theorem q2564 : (Jvm.Cond.lays "BrassInspectorModel" "BrassInspectorModel" "causeOf" "I") ∈ lw_all := lw_g (lw_at lw_m11 94 rfl) rfl
theorem q2565 : (Jvm.Cond.soleField "BrassInspectorModel" "causeOf") ∈ lw_all := lw_g (lw_at lw_m11 95 rfl) rfl
theorem q2566 : (Jvm.Cond.lays "BrassInspectorModel" "BrassInspectorModel" "answer" "I") ∈ lw_all := lw_g (lw_at lw_m11 96 rfl) rfl
theorem q2567 : (Jvm.Cond.soleField "BrassInspectorModel" "answer") ∈ lw_all := lw_g (lw_at lw_m11 97 rfl) rfl
theorem q2568 : (Jvm.Cond.lays "BrassInspectorModel" "BrassInspectorModel" "spot" "I") ∈ lw_all := lw_g (lw_at lw_m11 98 rfl) rfl
theorem q2569 : (Jvm.Cond.soleField "BrassInspectorModel" "spot") ∈ lw_all := lw_g (lw_at lw_m11 99 rfl) rfl
theorem q2570 : (Jvm.Cond.lays "BrassInspectorModel" "BrassInspectorModel" "end" "I") ∈ lw_all := lw_g (lw_at lw_m11 100 rfl) rfl
theorem q2571 : (Jvm.Cond.soleField "BrassInspectorModel" "end") ∈ lw_all := lw_g (lw_at lw_m11 101 rfl) rfl
theorem q2572 : (Jvm.Cond.lays "BrassInspectorModel" "BrassInspectorModel" "orders" "I") ∈ lw_all := lw_g (lw_at lw_m11 102 rfl) rfl
theorem q2573 : (Jvm.Cond.soleField "BrassInspectorModel" "orders") ∈ lw_all := lw_g (lw_at lw_m11 103 rfl) rfl
theorem q2574 : (Jvm.Cond.lays "BrassInspectorModel" "BrassInspectorModel" "isWrong" "Z") ∈ lw_all := lw_g (lw_at lw_m11 104 rfl) rfl
theorem q2575 : (Jvm.Cond.soleField "BrassInspectorModel" "isWrong") ∈ lw_all := lw_g (lw_at lw_m11 105 rfl) rfl
theorem q2576 : (Jvm.Cond.superclass "BrassInspectorModel" "java/lang/Object") ∈ lw_all := lw_g (lw_at lw_m11 106 rfl) rfl
theorem q2577 : (Jvm.Cond.methodLink "BrassInspectorLaw" (139 : Nat) ({ cls := "BrassInspectorModel", name := "thrown", desc := "()I" } : Jvm.MethodName)) ∈ lw_all := lw_g (lw_at lw_m11 107 rfl) rfl
theorem q2578 : (Jvm.Cond.instanceMethod ({ cls := "BrassInspectorModel", name := "thrown", desc := "()I" } : Jvm.MethodName)) ∈ lw_all := lw_g (lw_at lw_m11 108 rfl) rfl
theorem q2579 : (Jvm.Cond.selects "BrassInspectorModel" ({ cls := "BrassInspectorModel", name := "thrown", desc := "()I" } : Jvm.MethodName) ({ cls := "BrassInspectorModel", name := "thrown", desc := "()I" } : Jvm.MethodName)) ∈ lw_all := lw_g (lw_at lw_m11 109 rfl) rfl
theorem q2580 : (Jvm.Cond.code ({ cls := "BrassInspectorModel", name := "thrown", desc := "()I" } : Jvm.MethodName) prog_20_method_2_code (1 : Nat) (Option.some Jvm.ClassFile.FieldType.int)) ∈ lw_all := lw_g (lw_at lw_m11 110 rfl) rfl
theorem q2581 : (Jvm.Cond.methodLink "BrassInspectorLaw" (138 : Nat) ({ cls := "BrassInspectorModel", name := "rate", desc := "(II)I" } : Jvm.MethodName)) ∈ lw_all := lw_g (lw_at lw_m11 111 rfl) rfl
theorem q2582 : (Jvm.Cond.instanceMethod ({ cls := "BrassInspectorModel", name := "rate", desc := "(II)I" } : Jvm.MethodName)) ∈ lw_all := lw_g (lw_at lw_m11 112 rfl) rfl
theorem q2583 : (Jvm.Cond.selects "BrassInspectorModel" ({ cls := "BrassInspectorModel", name := "rate", desc := "(II)I" } : Jvm.MethodName) ({ cls := "BrassInspectorModel", name := "rate", desc := "(II)I" } : Jvm.MethodName)) ∈ lw_all := lw_g (lw_at lw_m11 113 rfl) rfl
theorem q2584 : (Jvm.Cond.code ({ cls := "BrassInspectorModel", name := "rate", desc := "(II)I" } : Jvm.MethodName) prog_20_method_28_code (4 : Nat) (Option.some Jvm.ClassFile.FieldType.int)) ∈ lw_all := lw_g (lw_at lw_m11 114 rfl) rfl
theorem q2585 : (Jvm.Cond.methodLink "BrassInspectorModel" (107 : Nat) ({ cls := "BrassInspectorModel", name := "remembers", desc := "()V" } : Jvm.MethodName)) ∈ lw_all := lw_g (lw_at lw_m11 115 rfl) rfl
theorem q2586 : (Jvm.Cond.privateMethod ({ cls := "BrassInspectorModel", name := "remembers", desc := "()V" } : Jvm.MethodName)) ∈ lw_tbl := lw_at lw_m11 116 rfl
theorem q2587 : (Jvm.Cond.instanceMethod ({ cls := "BrassInspectorModel", name := "remembers", desc := "()V" } : Jvm.MethodName)) ∈ lw_all := lw_g (lw_at lw_m11 117 rfl) rfl
theorem q2588 : (Jvm.Cond.code ({ cls := "BrassInspectorModel", name := "remembers", desc := "()V" } : Jvm.MethodName) prog_20_method_5_code (2 : Nat) (Option.none : Option Jvm.ClassFile.FieldType)) ∈ lw_all := lw_g (lw_at lw_m11 118 rfl) rfl
theorem q2589 : (Jvm.Cond.methodLink "BrassInspectorModel" (110 : Nat) ({ cls := "BrassInspectorModel", name := "isFair", desc := "(I)Z" } : Jvm.MethodName)) ∈ lw_all := lw_g (lw_at lw_m11 119 rfl) rfl
theorem q2590 : (Jvm.Cond.static ({ cls := "BrassInspectorModel", name := "isFair", desc := "(I)Z" } : Jvm.MethodName)) ∈ lw_all := lw_g (lw_at lw_m11 120 rfl) rfl
theorem q2591 : (Jvm.Cond.code ({ cls := "BrassInspectorModel", name := "isFair", desc := "(I)Z" } : Jvm.MethodName) prog_20_method_13_code (1 : Nat) (Option.some Jvm.ClassFile.FieldType.boolean)) ∈ lw_all := lw_g (lw_at lw_m11 121 rfl) rfl
theorem q2592 : (Jvm.Cond.methodLink "BrassInspectorModel" (70 : Nat) ({ cls := "BrassInspectorModel", name := "in", desc := "(III)Z" } : Jvm.MethodName)) ∈ lw_all := lw_g (lw_at lw_m11 122 rfl) rfl
theorem q2593 : (Jvm.Cond.static ({ cls := "BrassInspectorModel", name := "in", desc := "(III)Z" } : Jvm.MethodName)) ∈ lw_all := lw_g (lw_at lw_m11 123 rfl) rfl
theorem q2594 : (Jvm.Cond.code ({ cls := "BrassInspectorModel", name := "in", desc := "(III)Z" } : Jvm.MethodName) prog_20_method_4_code (3 : Nat) (Option.some Jvm.ClassFile.FieldType.boolean)) ∈ lw_all := lw_g (lw_at lw_m11 124 rfl) rfl
theorem q2595 : (Jvm.Cond.methodLink "BrassInspectorModel" (67 : Nat) ({ cls := "BrassInspectorModel", name := "fails", desc := "(I)I" } : Jvm.MethodName)) ∈ lw_all := lw_g (lw_at lw_m11 125 rfl) rfl
theorem q2596 : (Jvm.Cond.privateMethod ({ cls := "BrassInspectorModel", name := "fails", desc := "(I)I" } : Jvm.MethodName)) ∈ lw_tbl := lw_at lw_m11 126 rfl
theorem q2597 : (Jvm.Cond.instanceMethod ({ cls := "BrassInspectorModel", name := "fails", desc := "(I)I" } : Jvm.MethodName)) ∈ lw_all := lw_g (lw_at lw_m11 127 rfl) rfl
theorem q2598 : (Jvm.Cond.code ({ cls := "BrassInspectorModel", name := "fails", desc := "(I)I" } : Jvm.MethodName) prog_20_method_3_code (2 : Nat) (Option.some Jvm.ClassFile.FieldType.int)) ∈ lw_all := lw_g (lw_at lw_m11 128 rfl) rfl
theorem q2599 : (Jvm.Cond.methodLink "BrassInspectorModel" (59 : Nat) ({ cls := "BrassInspectorModel", name := "changed", desc := "(I)I" } : Jvm.MethodName)) ∈ lw_all := lw_g (lw_at lw_m11 129 rfl) rfl
theorem q2600 : (Jvm.Cond.privateMethod ({ cls := "BrassInspectorModel", name := "changed", desc := "(I)I" } : Jvm.MethodName)) ∈ lw_tbl := lw_at lw_m11 130 rfl
theorem q2601 : (Jvm.Cond.instanceMethod ({ cls := "BrassInspectorModel", name := "changed", desc := "(I)I" } : Jvm.MethodName)) ∈ lw_all := lw_g (lw_at lw_m11 131 rfl) rfl
theorem q2602 : (Jvm.Cond.code ({ cls := "BrassInspectorModel", name := "changed", desc := "(I)I" } : Jvm.MethodName) prog_20_method_6_code (3 : Nat) (Option.some Jvm.ClassFile.FieldType.int)) ∈ lw_all := lw_g (lw_at lw_m11 132 rfl) rfl
theorem q2603 : (Jvm.Cond.methodLink "BrassInspectorLaw" (145 : Nat) ({ cls := "BrassInspectorModel", name := "trader", desc := "(III)I" } : Jvm.MethodName)) ∈ lw_all := lw_g (lw_at lw_m11 133 rfl) rfl
theorem q2604 : (Jvm.Cond.instanceMethod ({ cls := "BrassInspectorModel", name := "trader", desc := "(III)I" } : Jvm.MethodName)) ∈ lw_all := lw_g (lw_at lw_m11 134 rfl) rfl
theorem q2605 : (Jvm.Cond.selects "BrassInspectorModel" ({ cls := "BrassInspectorModel", name := "trader", desc := "(III)I" } : Jvm.MethodName) ({ cls := "BrassInspectorModel", name := "trader", desc := "(III)I" } : Jvm.MethodName)) ∈ lw_all := lw_g (lw_at lw_m11 135 rfl) rfl
theorem q2606 : (Jvm.Cond.code ({ cls := "BrassInspectorModel", name := "trader", desc := "(III)I" } : Jvm.MethodName) prog_20_method_29_code (5 : Nat) (Option.some Jvm.ClassFile.FieldType.int)) ∈ lw_all := lw_g (lw_at lw_m11 136 rfl) rfl
theorem q2607 : (Jvm.Cond.methodLink "BrassInspectorModel" (95 : Nat) ({ cls := "BrassInspectorModel", name := "refused", desc := "(II)I" } : Jvm.MethodName)) ∈ lw_all := lw_g (lw_at lw_m11 137 rfl) rfl
theorem q2608 : (Jvm.Cond.privateMethod ({ cls := "BrassInspectorModel", name := "refused", desc := "(II)I" } : Jvm.MethodName)) ∈ lw_tbl := lw_at lw_m11 138 rfl
theorem q2609 : (Jvm.Cond.instanceMethod ({ cls := "BrassInspectorModel", name := "refused", desc := "(II)I" } : Jvm.MethodName)) ∈ lw_all := lw_g (lw_at lw_m11 139 rfl) rfl
theorem q2610 : (Jvm.Cond.code ({ cls := "BrassInspectorModel", name := "refused", desc := "(II)I" } : Jvm.MethodName) prog_20_method_7_code (3 : Nat) (Option.some Jvm.ClassFile.FieldType.int)) ∈ lw_all := lw_g (lw_at lw_m11 140 rfl) rfl
theorem q2611 : (Jvm.Cond.methodLink "BrassInspectorModel" (113 : Nat) ({ cls := "BrassInspectorModel", name := "ends", desc := "(II)I" } : Jvm.MethodName)) ∈ lw_all := lw_g (lw_at lw_m11 141 rfl) rfl
theorem q2612 : (Jvm.Cond.privateMethod ({ cls := "BrassInspectorModel", name := "ends", desc := "(II)I" } : Jvm.MethodName)) ∈ lw_tbl := lw_at lw_m11 142 rfl
theorem q2613 : (Jvm.Cond.instanceMethod ({ cls := "BrassInspectorModel", name := "ends", desc := "(II)I" } : Jvm.MethodName)) ∈ lw_all := lw_g (lw_at lw_m11 143 rfl) rfl
theorem q2614 : (Jvm.Cond.code ({ cls := "BrassInspectorModel", name := "ends", desc := "(II)I" } : Jvm.MethodName) prog_20_method_10_code (3 : Nat) (Option.some Jvm.ClassFile.FieldType.int)) ∈ lw_all := lw_g (lw_at lw_m11 144 rfl) rfl
theorem q2615 : (Jvm.Cond.methodLink "BrassInspectorModel" (63 : Nat) ({ cls := "BrassInspectorModel", name := "keeps", desc := "(II)V" } : Jvm.MethodName)) ∈ lw_all := lw_g (lw_at lw_m11 145 rfl) rfl
theorem q2616 : (Jvm.Cond.privateMethod ({ cls := "BrassInspectorModel", name := "keeps", desc := "(II)V" } : Jvm.MethodName)) ∈ lw_tbl := lw_at lw_m11 146 rfl
theorem q2617 : (Jvm.Cond.instanceMethod ({ cls := "BrassInspectorModel", name := "keeps", desc := "(II)V" } : Jvm.MethodName)) ∈ lw_all := lw_g (lw_at lw_m11 147 rfl) rfl
theorem q2618 : (Jvm.Cond.code ({ cls := "BrassInspectorModel", name := "keeps", desc := "(II)V" } : Jvm.MethodName) prog_20_method_9_code (3 : Nat) (Option.none : Option Jvm.ClassFile.FieldType)) ∈ lw_all := lw_g (lw_at lw_m11 148 rfl) rfl
theorem q2619 : (Jvm.Cond.methodLink "BrassInspectorLaw" (148 : Nat) ({ cls := "BrassInspectorModel", name := "drift", desc := "(II)I" } : Jvm.MethodName)) ∈ lw_all := lw_g (lw_at lw_m11 149 rfl) rfl
theorem q2620 : (Jvm.Cond.instanceMethod ({ cls := "BrassInspectorModel", name := "drift", desc := "(II)I" } : Jvm.MethodName)) ∈ lw_all := lw_g (lw_at lw_m11 150 rfl) rfl
theorem q2621 : (Jvm.Cond.selects "BrassInspectorModel" ({ cls := "BrassInspectorModel", name := "drift", desc := "(II)I" } : Jvm.MethodName) ({ cls := "BrassInspectorModel", name := "drift", desc := "(II)I" } : Jvm.MethodName)) ∈ lw_all := lw_g (lw_at lw_m11 151 rfl) rfl
theorem q2622 : (Jvm.Cond.code ({ cls := "BrassInspectorModel", name := "drift", desc := "(II)I" } : Jvm.MethodName) prog_20_method_30_code (3 : Nat) (Option.some Jvm.ClassFile.FieldType.int)) ∈ lw_all := lw_g (lw_at lw_m11 152 rfl) rfl
theorem q2623 : (Jvm.Cond.methodLink "BrassInspectorModel" (116 : Nat) ({ cls := "BrassInspectorModel", name := "isTrader", desc := "(I)Z" } : Jvm.MethodName)) ∈ lw_all := lw_g (lw_at lw_m11 153 rfl) rfl
theorem q2624 : (Jvm.Cond.privateMethod ({ cls := "BrassInspectorModel", name := "isTrader", desc := "(I)Z" } : Jvm.MethodName)) ∈ lw_tbl := lw_at lw_m11 154 rfl
theorem q2625 : (Jvm.Cond.instanceMethod ({ cls := "BrassInspectorModel", name := "isTrader", desc := "(I)Z" } : Jvm.MethodName)) ∈ lw_all := lw_g (lw_at lw_m11 155 rfl) rfl
theorem q2626 : (Jvm.Cond.code ({ cls := "BrassInspectorModel", name := "isTrader", desc := "(I)Z" } : Jvm.MethodName) prog_20_method_11_code (2 : Nat) (Option.some Jvm.ClassFile.FieldType.boolean)) ∈ lw_all := lw_g (lw_at lw_m11 156 rfl) rfl
theorem q2627 : (Jvm.Cond.methodLink "BrassInspectorModel" (119 : Nat) ({ cls := "BrassInspectorModel", name := "drifts", desc := "(II)I" } : Jvm.MethodName)) ∈ lw_all := lw_g (lw_at lw_m11 157 rfl) rfl
theorem q2628 : (Jvm.Cond.privateMethod ({ cls := "BrassInspectorModel", name := "drifts", desc := "(II)I" } : Jvm.MethodName)) ∈ lw_tbl := lw_at lw_m11 158 rfl
theorem q2629 : (Jvm.Cond.instanceMethod ({ cls := "BrassInspectorModel", name := "drifts", desc := "(II)I" } : Jvm.MethodName)) ∈ lw_all := lw_g (lw_at lw_m11 159 rfl) rfl
theorem q2630 : (Jvm.Cond.code ({ cls := "BrassInspectorModel", name := "drifts", desc := "(II)I" } : Jvm.MethodName) prog_20_method_25_code (4 : Nat) (Option.some Jvm.ClassFile.FieldType.int)) ∈ lw_all := lw_g (lw_at lw_m11 160 rfl) rfl
theorem q2631 : (Jvm.Cond.methodLink "BrassInspectorModel" (101 : Nat) ({ cls := "BrassInspectorModel", name := "done", desc := "(I)I" } : Jvm.MethodName)) ∈ lw_all := lw_g (lw_at lw_m11 161 rfl) rfl
theorem q2632 : (Jvm.Cond.privateMethod ({ cls := "BrassInspectorModel", name := "done", desc := "(I)I" } : Jvm.MethodName)) ∈ lw_tbl := lw_at lw_m11 162 rfl
theorem q2633 : (Jvm.Cond.instanceMethod ({ cls := "BrassInspectorModel", name := "done", desc := "(I)I" } : Jvm.MethodName)) ∈ lw_all := lw_g (lw_at lw_m11 163 rfl) rfl
theorem q2634 : (Jvm.Cond.code ({ cls := "BrassInspectorModel", name := "done", desc := "(I)I" } : Jvm.MethodName) prog_20_method_8_code (2 : Nat) (Option.some Jvm.ClassFile.FieldType.int)) ∈ lw_all := lw_g (lw_at lw_m11 164 rfl) rfl
theorem q2635 : (Jvm.Cond.methodLink "BrassInspectorLaw" (151 : Nat) ({ cls := "BrassInspectorModel", name := "coins", desc := "(II)I" } : Jvm.MethodName)) ∈ lw_all := lw_g (lw_at lw_m11 165 rfl) rfl
theorem q2636 : (Jvm.Cond.instanceMethod ({ cls := "BrassInspectorModel", name := "coins", desc := "(II)I" } : Jvm.MethodName)) ∈ lw_all := lw_g (lw_at lw_m11 166 rfl) rfl
theorem q2637 : (Jvm.Cond.selects "BrassInspectorModel" ({ cls := "BrassInspectorModel", name := "coins", desc := "(II)I" } : Jvm.MethodName) ({ cls := "BrassInspectorModel", name := "coins", desc := "(II)I" } : Jvm.MethodName)) ∈ lw_all := lw_g (lw_at lw_m11 167 rfl) rfl
theorem q2638 : (Jvm.Cond.code ({ cls := "BrassInspectorModel", name := "coins", desc := "(II)I" } : Jvm.MethodName) prog_20_method_31_code (3 : Nat) (Option.some Jvm.ClassFile.FieldType.int)) ∈ lw_all := lw_g (lw_at lw_m11 168 rfl) rfl
theorem q2639 : (Jvm.Cond.methodLink "BrassInspectorLaw" (154 : Nat) ({ cls := "BrassInspectorModel", name := "traderOf", desc := "(II)I" } : Jvm.MethodName)) ∈ lw_all := lw_g (lw_at lw_m11 169 rfl) rfl
theorem q2640 : (Jvm.Cond.instanceMethod ({ cls := "BrassInspectorModel", name := "traderOf", desc := "(II)I" } : Jvm.MethodName)) ∈ lw_all := lw_g (lw_at lw_m11 170 rfl) rfl
theorem q2641 : (Jvm.Cond.selects "BrassInspectorModel" ({ cls := "BrassInspectorModel", name := "traderOf", desc := "(II)I" } : Jvm.MethodName) ({ cls := "BrassInspectorModel", name := "traderOf", desc := "(II)I" } : Jvm.MethodName)) ∈ lw_all := lw_g (lw_at lw_m11 171 rfl) rfl
theorem q2642 : (Jvm.Cond.code ({ cls := "BrassInspectorModel", name := "traderOf", desc := "(II)I" } : Jvm.MethodName) prog_20_method_32_code (3 : Nat) (Option.some Jvm.ClassFile.FieldType.int)) ∈ lw_all := lw_g (lw_at lw_m11 172 rfl) rfl
theorem q2643 : (Jvm.Cond.methodLink "BrassInspectorModel" (78 : Nat) ({ cls := "BrassInspectorModel", name := "isBarred", desc := "(I)Z" } : Jvm.MethodName)) ∈ lw_all := lw_g (lw_at lw_m11 173 rfl) rfl
theorem q2644 : (Jvm.Cond.privateMethod ({ cls := "BrassInspectorModel", name := "isBarred", desc := "(I)Z" } : Jvm.MethodName)) ∈ lw_tbl := lw_at lw_m11 174 rfl
theorem q2645 : (Jvm.Cond.instanceMethod ({ cls := "BrassInspectorModel", name := "isBarred", desc := "(I)Z" } : Jvm.MethodName)) ∈ lw_all := lw_g (lw_at lw_m11 175 rfl) rfl
theorem q2646 : (Jvm.Cond.code ({ cls := "BrassInspectorModel", name := "isBarred", desc := "(I)Z" } : Jvm.MethodName) prog_20_method_17_code (2 : Nat) (Option.some Jvm.ClassFile.FieldType.boolean)) ∈ lw_all := lw_g (lw_at lw_m11 176 rfl) rfl
theorem q2647 : (Jvm.Cond.methodLink "BrassInspectorLaw" (157 : Nat) ({ cls := "BrassInspectorModel", name := "traderAt", desc := "(II)I" } : Jvm.MethodName)) ∈ lw_all := lw_g (lw_at lw_m11 177 rfl) rfl
theorem q2648 : (Jvm.Cond.instanceMethod ({ cls := "BrassInspectorModel", name := "traderAt", desc := "(II)I" } : Jvm.MethodName)) ∈ lw_all := lw_g (lw_at lw_m11 178 rfl) rfl
theorem q2649 : (Jvm.Cond.selects "BrassInspectorModel" ({ cls := "BrassInspectorModel", name := "traderAt", desc := "(II)I" } : Jvm.MethodName) ({ cls := "BrassInspectorModel", name := "traderAt", desc := "(II)I" } : Jvm.MethodName)) ∈ lw_all := lw_g (lw_at lw_m11 179 rfl) rfl
theorem q2650 : (Jvm.Cond.code ({ cls := "BrassInspectorModel", name := "traderAt", desc := "(II)I" } : Jvm.MethodName) prog_20_method_34_code (3 : Nat) (Option.some Jvm.ClassFile.FieldType.int)) ∈ lw_all := lw_g (lw_at lw_m11 180 rfl) rfl
theorem q2651 : (Jvm.Cond.methodLink "BrassInspectorModel" (122 : Nat) ({ cls := "BrassInspectorModel", name := "place", desc := "(II)I" } : Jvm.MethodName)) ∈ lw_all := lw_g (lw_at lw_m11 181 rfl) rfl
theorem q2652 : (Jvm.Cond.privateMethod ({ cls := "BrassInspectorModel", name := "place", desc := "(II)I" } : Jvm.MethodName)) ∈ lw_tbl := lw_at lw_m11 182 rfl
theorem q2653 : (Jvm.Cond.instanceMethod ({ cls := "BrassInspectorModel", name := "place", desc := "(II)I" } : Jvm.MethodName)) ∈ lw_all := lw_g (lw_at lw_m11 183 rfl) rfl
theorem q2654 : (Jvm.Cond.code ({ cls := "BrassInspectorModel", name := "place", desc := "(II)I" } : Jvm.MethodName) prog_20_method_33_code (5 : Nat) (Option.some Jvm.ClassFile.FieldType.int)) ∈ lw_all := lw_g (lw_at lw_m11 184 rfl) rfl
theorem q2655 : (Jvm.Cond.methodLink "BrassInspectorLaw" (160 : Nat) ({ cls := "BrassInspectorModel", name := "fairOf", desc := "(II)I" } : Jvm.MethodName)) ∈ lw_all := lw_g (lw_at lw_m11 185 rfl) rfl
theorem q2656 : (Jvm.Cond.instanceMethod ({ cls := "BrassInspectorModel", name := "fairOf", desc := "(II)I" } : Jvm.MethodName)) ∈ lw_all := lw_g (lw_at lw_m11 186 rfl) rfl
theorem q2657 : (Jvm.Cond.selects "BrassInspectorModel" ({ cls := "BrassInspectorModel", name := "fairOf", desc := "(II)I" } : Jvm.MethodName) ({ cls := "BrassInspectorModel", name := "fairOf", desc := "(II)I" } : Jvm.MethodName)) ∈ lw_all := lw_g (lw_at lw_m11 187 rfl) rfl
theorem q2658 : (Jvm.Cond.code ({ cls := "BrassInspectorModel", name := "fairOf", desc := "(II)I" } : Jvm.MethodName) prog_20_method_37_code (3 : Nat) (Option.some Jvm.ClassFile.FieldType.int)) ∈ lw_all := lw_g (lw_at lw_m11 188 rfl) rfl
theorem q2659 : (Jvm.Cond.methodLink "BrassInspectorModel" (125 : Nat) ({ cls := "BrassInspectorModel", name := "tradersOf", desc := "(I)I" } : Jvm.MethodName)) ∈ lw_all := lw_g (lw_at lw_m11 189 rfl) rfl
theorem q2660 : (Jvm.Cond.privateMethod ({ cls := "BrassInspectorModel", name := "tradersOf", desc := "(I)I" } : Jvm.MethodName)) ∈ lw_tbl := lw_at lw_m11 190 rfl
theorem q2661 : (Jvm.Cond.instanceMethod ({ cls := "BrassInspectorModel", name := "tradersOf", desc := "(I)I" } : Jvm.MethodName)) ∈ lw_all := lw_g (lw_at lw_m11 191 rfl) rfl
theorem q2662 : (Jvm.Cond.code ({ cls := "BrassInspectorModel", name := "tradersOf", desc := "(I)I" } : Jvm.MethodName) prog_20_method_36_code (4 : Nat) (Option.some Jvm.ClassFile.FieldType.int)) ∈ lw_all := lw_g (lw_at lw_m11 192 rfl) rfl
theorem q2663 : (Jvm.Cond.methodLink "BrassInspectorModel" (128 : Nat) ({ cls := "BrassInspectorModel", name := "seals", desc := "(I)I" } : Jvm.MethodName)) ∈ lw_all := lw_g (lw_at lw_m11 193 rfl) rfl
theorem q2664 : (Jvm.Cond.privateMethod ({ cls := "BrassInspectorModel", name := "seals", desc := "(I)I" } : Jvm.MethodName)) ∈ lw_tbl := lw_at lw_m11 194 rfl
theorem q2665 : (Jvm.Cond.instanceMethod ({ cls := "BrassInspectorModel", name := "seals", desc := "(I)I" } : Jvm.MethodName)) ∈ lw_all := lw_g (lw_at lw_m11 195 rfl) rfl
theorem q2666 : (Jvm.Cond.code ({ cls := "BrassInspectorModel", name := "seals", desc := "(I)I" } : Jvm.MethodName) prog_20_method_35_code (4 : Nat) (Option.some Jvm.ClassFile.FieldType.int)) ∈ lw_all := lw_g (lw_at lw_m11 196 rfl) rfl
theorem q2667 : (Jvm.Cond.methodLink "BrassInspectorModel" (74 : Nat) ({ cls := "BrassInspectorModel", name := "fairNow", desc := "()I" } : Jvm.MethodName)) ∈ lw_all := lw_g (lw_at lw_m11 197 rfl) rfl
theorem q2668 : (Jvm.Cond.privateMethod ({ cls := "BrassInspectorModel", name := "fairNow", desc := "()I" } : Jvm.MethodName)) ∈ lw_tbl := lw_at lw_m11 198 rfl
theorem q2669 : (Jvm.Cond.instanceMethod ({ cls := "BrassInspectorModel", name := "fairNow", desc := "()I" } : Jvm.MethodName)) ∈ lw_all := lw_g (lw_at lw_m11 199 rfl) rfl
theorem q2670 : (Jvm.Cond.code ({ cls := "BrassInspectorModel", name := "fairNow", desc := "()I" } : Jvm.MethodName) prog_20_method_14_code (1 : Nat) (Option.some Jvm.ClassFile.FieldType.int)) ∈ lw_all := lw_g (lw_at lw_m11 200 rfl) rfl
theorem q2671 : (Jvm.Cond.methodLink "BrassInspectorLaw" (164 : Nat) ({ cls := "BrassInspectorModel", name := "next", desc := "()I" } : Jvm.MethodName)) ∈ lw_all := lw_g (lw_at lw_m11 201 rfl) rfl
theorem q2672 : (Jvm.Cond.instanceMethod ({ cls := "BrassInspectorModel", name := "next", desc := "()I" } : Jvm.MethodName)) ∈ lw_all := lw_g (lw_at lw_m11 202 rfl) rfl
theorem q2673 : (Jvm.Cond.selects "BrassInspectorModel" ({ cls := "BrassInspectorModel", name := "next", desc := "()I" } : Jvm.MethodName) ({ cls := "BrassInspectorModel", name := "next", desc := "()I" } : Jvm.MethodName)) ∈ lw_all := lw_g (lw_at lw_m11 203 rfl) rfl
theorem q2674 : (Jvm.Cond.code ({ cls := "BrassInspectorModel", name := "next", desc := "()I" } : Jvm.MethodName) prog_20_method_38_code (4 : Nat) (Option.some Jvm.ClassFile.FieldType.int)) ∈ lw_all := lw_g (lw_at lw_m11 204 rfl) rfl
theorem q2675 : (Jvm.Cond.methodLink "BrassInspectorLaw" (168 : Nat) ({ cls := "BrassInspectorModel", name := "weight", desc := "(I)I" } : Jvm.MethodName)) ∈ lw_all := lw_g (lw_at lw_m11 205 rfl) rfl
theorem q2676 : (Jvm.Cond.instanceMethod ({ cls := "BrassInspectorModel", name := "weight", desc := "(I)I" } : Jvm.MethodName)) ∈ lw_all := lw_g (lw_at lw_m11 206 rfl) rfl
theorem q2677 : (Jvm.Cond.selects "BrassInspectorModel" ({ cls := "BrassInspectorModel", name := "weight", desc := "(I)I" } : Jvm.MethodName) ({ cls := "BrassInspectorModel", name := "weight", desc := "(I)I" } : Jvm.MethodName)) ∈ lw_all := lw_g (lw_at lw_m11 207 rfl) rfl
theorem q2678 : (Jvm.Cond.code ({ cls := "BrassInspectorModel", name := "weight", desc := "(I)I" } : Jvm.MethodName) prog_20_method_39_code (3 : Nat) (Option.some Jvm.ClassFile.FieldType.int)) ∈ lw_all := lw_g (lw_at lw_m11 208 rfl) rfl
theorem q2679 : (Jvm.Cond.methodLink "BrassInspectorLaw" (171 : Nat) ({ cls := "BrassInspectorModel", name := "polish", desc := "(I)I" } : Jvm.MethodName)) ∈ lw_all := lw_g (lw_at lw_m11 209 rfl) rfl
theorem q2680 : (Jvm.Cond.instanceMethod ({ cls := "BrassInspectorModel", name := "polish", desc := "(I)I" } : Jvm.MethodName)) ∈ lw_all := lw_g (lw_at lw_m11 210 rfl) rfl
theorem q2681 : (Jvm.Cond.selects "BrassInspectorModel" ({ cls := "BrassInspectorModel", name := "polish", desc := "(I)I" } : Jvm.MethodName) ({ cls := "BrassInspectorModel", name := "polish", desc := "(I)I" } : Jvm.MethodName)) ∈ lw_all := lw_g (lw_at lw_m11 211 rfl) rfl
theorem q2682 : (Jvm.Cond.code ({ cls := "BrassInspectorModel", name := "polish", desc := "(I)I" } : Jvm.MethodName) prog_20_method_40_code (3 : Nat) (Option.some Jvm.ClassFile.FieldType.int)) ∈ lw_all := lw_g (lw_at lw_m11 212 rfl) rfl
theorem q2683 : (Jvm.Cond.methodLink "BrassInspectorModel" (131 : Nat) ({ cls := "BrassInspectorModel", name := "isWeight", desc := "(I)Z" } : Jvm.MethodName)) ∈ lw_all := lw_g (lw_at lw_m11 213 rfl) rfl
theorem q2684 : (Jvm.Cond.privateMethod ({ cls := "BrassInspectorModel", name := "isWeight", desc := "(I)Z" } : Jvm.MethodName)) ∈ lw_tbl := lw_at lw_m11 214 rfl
theorem q2685 : (Jvm.Cond.instanceMethod ({ cls := "BrassInspectorModel", name := "isWeight", desc := "(I)Z" } : Jvm.MethodName)) ∈ lw_all := lw_g (lw_at lw_m11 215 rfl) rfl
theorem q2686 : (Jvm.Cond.code ({ cls := "BrassInspectorModel", name := "isWeight", desc := "(I)Z" } : Jvm.MethodName) prog_20_method_12_code (2 : Nat) (Option.some Jvm.ClassFile.FieldType.boolean)) ∈ lw_all := lw_g (lw_at lw_m11 216 rfl) rfl
theorem q2687 : (Jvm.Cond.methodLink "BrassInspectorLaw" (174 : Nat) ({ cls := "BrassInspectorModel", name := "weightOf", desc := "(II)I" } : Jvm.MethodName)) ∈ lw_all := lw_g (lw_at lw_m11 217 rfl) rfl
theorem q2688 : (Jvm.Cond.instanceMethod ({ cls := "BrassInspectorModel", name := "weightOf", desc := "(II)I" } : Jvm.MethodName)) ∈ lw_all := lw_g (lw_at lw_m11 218 rfl) rfl
theorem q2689 : (Jvm.Cond.selects "BrassInspectorModel" ({ cls := "BrassInspectorModel", name := "weightOf", desc := "(II)I" } : Jvm.MethodName) ({ cls := "BrassInspectorModel", name := "weightOf", desc := "(II)I" } : Jvm.MethodName)) ∈ lw_all := lw_g (lw_at lw_m11 219 rfl) rfl
theorem q2690 : (Jvm.Cond.code ({ cls := "BrassInspectorModel", name := "weightOf", desc := "(II)I" } : Jvm.MethodName) prog_20_method_41_code (3 : Nat) (Option.some Jvm.ClassFile.FieldType.int)) ∈ lw_all := lw_g (lw_at lw_m11 220 rfl) rfl
theorem q2691 : (Jvm.Cond.methodLink "BrassInspectorLaw" (177 : Nat) ({ cls := "BrassInspectorModel", name := "bestWeight", desc := "()I" } : Jvm.MethodName)) ∈ lw_all := lw_g (lw_at lw_m11 221 rfl) rfl
theorem q2692 : (Jvm.Cond.instanceMethod ({ cls := "BrassInspectorModel", name := "bestWeight", desc := "()I" } : Jvm.MethodName)) ∈ lw_all := lw_g (lw_at lw_m11 222 rfl) rfl
theorem q2693 : (Jvm.Cond.selects "BrassInspectorModel" ({ cls := "BrassInspectorModel", name := "bestWeight", desc := "()I" } : Jvm.MethodName) ({ cls := "BrassInspectorModel", name := "bestWeight", desc := "()I" } : Jvm.MethodName)) ∈ lw_all := lw_g (lw_at lw_m11 223 rfl) rfl
theorem q2694 : (Jvm.Cond.code ({ cls := "BrassInspectorModel", name := "bestWeight", desc := "()I" } : Jvm.MethodName) prog_20_method_42_code (3 : Nat) (Option.some Jvm.ClassFile.FieldType.int)) ∈ lw_all := lw_g (lw_at lw_m11 224 rfl) rfl
theorem q2695 : (Jvm.Cond.methodLink "BrassInspectorLaw" (180 : Nat) ({ cls := "BrassInspectorModel", name := "shows", desc := "(II)I" } : Jvm.MethodName)) ∈ lw_all := lw_g (lw_at lw_m11 225 rfl) rfl
theorem q2696 : (Jvm.Cond.instanceMethod ({ cls := "BrassInspectorModel", name := "shows", desc := "(II)I" } : Jvm.MethodName)) ∈ lw_all := lw_g (lw_at lw_m11 226 rfl) rfl
theorem q2697 : (Jvm.Cond.selects "BrassInspectorModel" ({ cls := "BrassInspectorModel", name := "shows", desc := "(II)I" } : Jvm.MethodName) ({ cls := "BrassInspectorModel", name := "shows", desc := "(II)I" } : Jvm.MethodName)) ∈ lw_all := lw_g (lw_at lw_m11 227 rfl) rfl
theorem q2698 : (Jvm.Cond.code ({ cls := "BrassInspectorModel", name := "shows", desc := "(II)I" } : Jvm.MethodName) prog_20_method_43_code (3 : Nat) (Option.some Jvm.ClassFile.FieldType.int)) ∈ lw_all := lw_g (lw_at lw_m11 228 rfl) rfl
theorem q2699 : (Jvm.Cond.methodLink "BrassInspectorModel" (92 : Nat) ({ cls := "BrassInspectorModel", name := "showsBy", desc := "(II)I" } : Jvm.MethodName)) ∈ lw_all := lw_g (lw_at lw_m11 229 rfl) rfl
theorem q2700 : (Jvm.Cond.privateMethod ({ cls := "BrassInspectorModel", name := "showsBy", desc := "(II)I" } : Jvm.MethodName)) ∈ lw_tbl := lw_at lw_m11 230 rfl
theorem q2701 : (Jvm.Cond.instanceMethod ({ cls := "BrassInspectorModel", name := "showsBy", desc := "(II)I" } : Jvm.MethodName)) ∈ lw_all := lw_g (lw_at lw_m11 231 rfl) rfl
theorem q2702 : (Jvm.Cond.code ({ cls := "BrassInspectorModel", name := "showsBy", desc := "(II)I" } : Jvm.MethodName) prog_20_method_20_code (3 : Nat) (Option.some Jvm.ClassFile.FieldType.int)) ∈ lw_all := lw_g (lw_at lw_m11 232 rfl) rfl
theorem q2703 : (Jvm.Cond.methodLink "BrassInspectorLaw" (183 : Nat) ({ cls := "BrassInspectorModel", name := "inspect", desc := "(II)I" } : Jvm.MethodName)) ∈ lw_all := lw_g (lw_at lw_m11 233 rfl) rfl
theorem q2704 : (Jvm.Cond.instanceMethod ({ cls := "BrassInspectorModel", name := "inspect", desc := "(II)I" } : Jvm.MethodName)) ∈ lw_all := lw_g (lw_at lw_m11 234 rfl) rfl
theorem q2705 : (Jvm.Cond.selects "BrassInspectorModel" ({ cls := "BrassInspectorModel", name := "inspect", desc := "(II)I" } : Jvm.MethodName) ({ cls := "BrassInspectorModel", name := "inspect", desc := "(II)I" } : Jvm.MethodName)) ∈ lw_all := lw_g (lw_at lw_m11 235 rfl) rfl
theorem q2706 : (Jvm.Cond.code ({ cls := "BrassInspectorModel", name := "inspect", desc := "(II)I" } : Jvm.MethodName) prog_20_method_44_code (3 : Nat) (Option.some Jvm.ClassFile.FieldType.int)) ∈ lw_all := lw_g (lw_at lw_m11 236 rfl) rfl
theorem q2707 : (Jvm.Cond.methodLink "BrassInspectorModel" (134 : Nat) ({ cls := "BrassInspectorModel", name := "inspects", desc := "(II)I" } : Jvm.MethodName)) ∈ lw_all := lw_g (lw_at lw_m11 237 rfl) rfl
theorem q2708 : (Jvm.Cond.privateMethod ({ cls := "BrassInspectorModel", name := "inspects", desc := "(II)I" } : Jvm.MethodName)) ∈ lw_tbl := lw_at lw_m11 238 rfl
theorem q2709 : (Jvm.Cond.instanceMethod ({ cls := "BrassInspectorModel", name := "inspects", desc := "(II)I" } : Jvm.MethodName)) ∈ lw_all := lw_g (lw_at lw_m11 239 rfl) rfl
theorem q2710 : (Jvm.Cond.code ({ cls := "BrassInspectorModel", name := "inspects", desc := "(II)I" } : Jvm.MethodName) prog_20_method_22_code (6 : Nat) (Option.some Jvm.ClassFile.FieldType.int)) ∈ lw_all := lw_g (lw_at lw_m12 0 rfl) rfl
theorem q2711 : (Jvm.Cond.methodLink "BrassInspectorModel" (98 : Nat) ({ cls := "BrassInspectorModel", name := "fineBy", desc := "(II)I" } : Jvm.MethodName)) ∈ lw_all := lw_g (lw_at lw_m12 1 rfl) rfl
theorem q2712 : (Jvm.Cond.privateMethod ({ cls := "BrassInspectorModel", name := "fineBy", desc := "(II)I" } : Jvm.MethodName)) ∈ lw_tbl := lw_at lw_m12 2 rfl
theorem q2713 : (Jvm.Cond.instanceMethod ({ cls := "BrassInspectorModel", name := "fineBy", desc := "(II)I" } : Jvm.MethodName)) ∈ lw_all := lw_g (lw_at lw_m12 3 rfl) rfl
theorem q2714 : (Jvm.Cond.code ({ cls := "BrassInspectorModel", name := "fineBy", desc := "(II)I" } : Jvm.MethodName) prog_20_method_21_code (7 : Nat) (Option.some Jvm.ClassFile.FieldType.int)) ∈ lw_all := lw_g (lw_at lw_m12 4 rfl) rfl
theorem q2715 : (Jvm.Cond.methodLink "BrassInspectorLaw" (186 : Nat) ({ cls := "BrassInspectorModel", name := "fine", desc := "(II)I" } : Jvm.MethodName)) ∈ lw_all := lw_g (lw_at lw_m12 5 rfl) rfl
theorem q2716 : (Jvm.Cond.instanceMethod ({ cls := "BrassInspectorModel", name := "fine", desc := "(II)I" } : Jvm.MethodName)) ∈ lw_all := lw_g (lw_at lw_m12 6 rfl) rfl
theorem q2717 : (Jvm.Cond.selects "BrassInspectorModel" ({ cls := "BrassInspectorModel", name := "fine", desc := "(II)I" } : Jvm.MethodName) ({ cls := "BrassInspectorModel", name := "fine", desc := "(II)I" } : Jvm.MethodName)) ∈ lw_all := lw_g (lw_at lw_m12 7 rfl) rfl
theorem q2718 : (Jvm.Cond.code ({ cls := "BrassInspectorModel", name := "fine", desc := "(II)I" } : Jvm.MethodName) prog_20_method_45_code (3 : Nat) (Option.some Jvm.ClassFile.FieldType.int)) ∈ lw_all := lw_g (lw_at lw_m12 8 rfl) rfl
theorem q2719 : (Jvm.Cond.methodLink "BrassInspectorLaw" (189 : Nat) ({ cls := "BrassInspectorModel", name := "mend", desc := "(I)I" } : Jvm.MethodName)) ∈ lw_all := lw_g (lw_at lw_m12 9 rfl) rfl
theorem q2720 : (Jvm.Cond.instanceMethod ({ cls := "BrassInspectorModel", name := "mend", desc := "(I)I" } : Jvm.MethodName)) ∈ lw_all := lw_g (lw_at lw_m12 10 rfl) rfl
theorem q2721 : (Jvm.Cond.selects "BrassInspectorModel" ({ cls := "BrassInspectorModel", name := "mend", desc := "(I)I" } : Jvm.MethodName) ({ cls := "BrassInspectorModel", name := "mend", desc := "(I)I" } : Jvm.MethodName)) ∈ lw_all := lw_g (lw_at lw_m12 11 rfl) rfl
theorem q2722 : (Jvm.Cond.code ({ cls := "BrassInspectorModel", name := "mend", desc := "(I)I" } : Jvm.MethodName) prog_20_method_46_code (2 : Nat) (Option.some Jvm.ClassFile.FieldType.int)) ∈ lw_all := lw_g (lw_at lw_m12 12 rfl) rfl
theorem q2723 : (Jvm.Cond.methodLink "BrassInspectorModel" (137 : Nat) ({ cls := "BrassInspectorModel", name := "mends", desc := "(I)I" } : Jvm.MethodName)) ∈ lw_all := lw_g (lw_at lw_m12 13 rfl) rfl
theorem q2724 : (Jvm.Cond.privateMethod ({ cls := "BrassInspectorModel", name := "mends", desc := "(I)I" } : Jvm.MethodName)) ∈ lw_tbl := lw_at lw_m12 14 rfl
theorem q2725 : (Jvm.Cond.instanceMethod ({ cls := "BrassInspectorModel", name := "mends", desc := "(I)I" } : Jvm.MethodName)) ∈ lw_all := lw_g (lw_at lw_m12 15 rfl) rfl
theorem q2726 : (Jvm.Cond.code ({ cls := "BrassInspectorModel", name := "mends", desc := "(I)I" } : Jvm.MethodName) prog_20_method_23_code (3 : Nat) (Option.some Jvm.ClassFile.FieldType.int)) ∈ lw_all := lw_g (lw_at lw_m12 16 rfl) rfl
theorem q2727 : (Jvm.Cond.methodLink "BrassInspectorLaw" (192 : Nat) ({ cls := "BrassInspectorModel", name := "shave", desc := "(II)I" } : Jvm.MethodName)) ∈ lw_all := lw_g (lw_at lw_m12 17 rfl) rfl
theorem q2728 : (Jvm.Cond.instanceMethod ({ cls := "BrassInspectorModel", name := "shave", desc := "(II)I" } : Jvm.MethodName)) ∈ lw_all := lw_g (lw_at lw_m12 18 rfl) rfl
theorem q2729 : (Jvm.Cond.selects "BrassInspectorModel" ({ cls := "BrassInspectorModel", name := "shave", desc := "(II)I" } : Jvm.MethodName) ({ cls := "BrassInspectorModel", name := "shave", desc := "(II)I" } : Jvm.MethodName)) ∈ lw_all := lw_g (lw_at lw_m12 19 rfl) rfl
theorem q2730 : (Jvm.Cond.code ({ cls := "BrassInspectorModel", name := "shave", desc := "(II)I" } : Jvm.MethodName) prog_20_method_47_code (3 : Nat) (Option.some Jvm.ClassFile.FieldType.int)) ∈ lw_all := lw_g (lw_at lw_m12 20 rfl) rfl
theorem q2731 : (Jvm.Cond.methodLink "BrassInspectorModel" (140 : Nat) ({ cls := "BrassInspectorModel", name := "shaves", desc := "(II)I" } : Jvm.MethodName)) ∈ lw_all := lw_g (lw_at lw_m12 21 rfl) rfl
theorem q2732 : (Jvm.Cond.privateMethod ({ cls := "BrassInspectorModel", name := "shaves", desc := "(II)I" } : Jvm.MethodName)) ∈ lw_tbl := lw_at lw_m12 22 rfl
theorem q2733 : (Jvm.Cond.instanceMethod ({ cls := "BrassInspectorModel", name := "shaves", desc := "(II)I" } : Jvm.MethodName)) ∈ lw_all := lw_g (lw_at lw_m12 23 rfl) rfl
theorem q2734 : (Jvm.Cond.code ({ cls := "BrassInspectorModel", name := "shaves", desc := "(II)I" } : Jvm.MethodName) prog_20_method_24_code (3 : Nat) (Option.some Jvm.ClassFile.FieldType.int)) ∈ lw_all := lw_g (lw_at lw_m12 24 rfl) rfl
theorem q2735 : (Jvm.Cond.methodLink "BrassInspectorLaw" (195 : Nat) ({ cls := "BrassInspectorModel", name := "pay", desc := "(II)I" } : Jvm.MethodName)) ∈ lw_all := lw_g (lw_at lw_m12 25 rfl) rfl
theorem q2736 : (Jvm.Cond.instanceMethod ({ cls := "BrassInspectorModel", name := "pay", desc := "(II)I" } : Jvm.MethodName)) ∈ lw_all := lw_g (lw_at lw_m12 26 rfl) rfl
theorem q2737 : (Jvm.Cond.selects "BrassInspectorModel" ({ cls := "BrassInspectorModel", name := "pay", desc := "(II)I" } : Jvm.MethodName) ({ cls := "BrassInspectorModel", name := "pay", desc := "(II)I" } : Jvm.MethodName)) ∈ lw_all := lw_g (lw_at lw_m12 27 rfl) rfl
theorem q2738 : (Jvm.Cond.code ({ cls := "BrassInspectorModel", name := "pay", desc := "(II)I" } : Jvm.MethodName) prog_20_method_48_code (3 : Nat) (Option.some Jvm.ClassFile.FieldType.int)) ∈ lw_all := lw_g (lw_at lw_m12 28 rfl) rfl
theorem q2739 : (Jvm.Cond.methodLink "BrassInspectorModel" (143 : Nat) ({ cls := "BrassInspectorModel", name := "pays", desc := "(II)I" } : Jvm.MethodName)) ∈ lw_all := lw_g (lw_at lw_m12 29 rfl) rfl
theorem q2740 : (Jvm.Cond.privateMethod ({ cls := "BrassInspectorModel", name := "pays", desc := "(II)I" } : Jvm.MethodName)) ∈ lw_tbl := lw_at lw_m12 30 rfl
theorem q2741 : (Jvm.Cond.instanceMethod ({ cls := "BrassInspectorModel", name := "pays", desc := "(II)I" } : Jvm.MethodName)) ∈ lw_all := lw_g (lw_at lw_m12 31 rfl) rfl
theorem q2742 : (Jvm.Cond.code ({ cls := "BrassInspectorModel", name := "pays", desc := "(II)I" } : Jvm.MethodName) prog_20_method_26_code (4 : Nat) (Option.some Jvm.ClassFile.FieldType.int)) ∈ lw_all := lw_g (lw_at lw_m12 32 rfl) rfl
theorem q2743 : (Jvm.Cond.methodLink "BrassInspectorLaw" (198 : Nat) ({ cls := "BrassInspectorModel", name := "pass", desc := "(I)I" } : Jvm.MethodName)) ∈ lw_all := lw_g (lw_at lw_m12 33 rfl) rfl
theorem q2744 : (Jvm.Cond.instanceMethod ({ cls := "BrassInspectorModel", name := "pass", desc := "(I)I" } : Jvm.MethodName)) ∈ lw_all := lw_g (lw_at lw_m12 34 rfl) rfl
theorem q2745 : (Jvm.Cond.selects "BrassInspectorModel" ({ cls := "BrassInspectorModel", name := "pass", desc := "(I)I" } : Jvm.MethodName) ({ cls := "BrassInspectorModel", name := "pass", desc := "(I)I" } : Jvm.MethodName)) ∈ lw_all := lw_g (lw_at lw_m12 35 rfl) rfl
theorem q2746 : (Jvm.Cond.code ({ cls := "BrassInspectorModel", name := "pass", desc := "(I)I" } : Jvm.MethodName) prog_20_method_49_code (2 : Nat) (Option.some Jvm.ClassFile.FieldType.int)) ∈ lw_all := lw_g (lw_at lw_m12 36 rfl) rfl
theorem q2747 : (Jvm.Cond.methodLink "BrassInspectorModel" (146 : Nat) ({ cls := "BrassInspectorModel", name := "passes", desc := "(I)I" } : Jvm.MethodName)) ∈ lw_all := lw_g (lw_at lw_m12 37 rfl) rfl
theorem q2748 : (Jvm.Cond.privateMethod ({ cls := "BrassInspectorModel", name := "passes", desc := "(I)I" } : Jvm.MethodName)) ∈ lw_tbl := lw_at lw_m12 38 rfl
theorem q2749 : (Jvm.Cond.instanceMethod ({ cls := "BrassInspectorModel", name := "passes", desc := "(I)I" } : Jvm.MethodName)) ∈ lw_all := lw_g (lw_at lw_m12 39 rfl) rfl
theorem q2750 : (Jvm.Cond.code ({ cls := "BrassInspectorModel", name := "passes", desc := "(I)I" } : Jvm.MethodName) prog_20_method_27_code (4 : Nat) (Option.some Jvm.ClassFile.FieldType.int)) ∈ lw_all := lw_g (lw_at lw_m12 40 rfl) rfl
theorem q2751 : (Jvm.Cond.methodLink "BrassInspectorModel" (104 : Nat) ({ cls := "BrassInspectorModel", name := "dayGoes", desc := "()I" } : Jvm.MethodName)) ∈ lw_all := lw_g (lw_at lw_m12 41 rfl) rfl
theorem q2752 : (Jvm.Cond.privateMethod ({ cls := "BrassInspectorModel", name := "dayGoes", desc := "()I" } : Jvm.MethodName)) ∈ lw_tbl := lw_at lw_m12 42 rfl
theorem q2753 : (Jvm.Cond.instanceMethod ({ cls := "BrassInspectorModel", name := "dayGoes", desc := "()I" } : Jvm.MethodName)) ∈ lw_all := lw_g (lw_at lw_m12 43 rfl) rfl
theorem q2754 : (Jvm.Cond.code ({ cls := "BrassInspectorModel", name := "dayGoes", desc := "()I" } : Jvm.MethodName) prog_20_method_19_code (3 : Nat) (Option.some Jvm.ClassFile.FieldType.int)) ∈ lw_all := lw_g (lw_at lw_m12 44 rfl) rfl
theorem q2755 : (Jvm.Cond.methodLink "BrassInspectorModel" (82 : Nat) ({ cls := "BrassInspectorModel", name := "lossOf", desc := "(I)I" } : Jvm.MethodName)) ∈ lw_all := lw_g (lw_at lw_m12 45 rfl) rfl
theorem q2756 : (Jvm.Cond.privateMethod ({ cls := "BrassInspectorModel", name := "lossOf", desc := "(I)I" } : Jvm.MethodName)) ∈ lw_tbl := lw_at lw_m12 46 rfl
theorem q2757 : (Jvm.Cond.instanceMethod ({ cls := "BrassInspectorModel", name := "lossOf", desc := "(I)I" } : Jvm.MethodName)) ∈ lw_all := lw_g (lw_at lw_m12 47 rfl) rfl
theorem q2758 : (Jvm.Cond.code ({ cls := "BrassInspectorModel", name := "lossOf", desc := "(I)I" } : Jvm.MethodName) prog_20_method_16_code (2 : Nat) (Option.some Jvm.ClassFile.FieldType.int)) ∈ lw_all := lw_g (lw_at lw_m12 48 rfl) rfl
theorem q2759 : (Jvm.Cond.methodLink "BrassInspectorModel" (85 : Nat) ({ cls := "BrassInspectorModel", name := "gets", desc := "(II)V" } : Jvm.MethodName)) ∈ lw_all := lw_g (lw_at lw_m12 49 rfl) rfl
theorem q2760 : (Jvm.Cond.privateMethod ({ cls := "BrassInspectorModel", name := "gets", desc := "(II)V" } : Jvm.MethodName)) ∈ lw_tbl := lw_at lw_m12 50 rfl
theorem q2761 : (Jvm.Cond.instanceMethod ({ cls := "BrassInspectorModel", name := "gets", desc := "(II)V" } : Jvm.MethodName)) ∈ lw_all := lw_g (lw_at lw_m12 51 rfl) rfl
theorem q2762 : (Jvm.Cond.code ({ cls := "BrassInspectorModel", name := "gets", desc := "(II)V" } : Jvm.MethodName) prog_20_method_15_code (5 : Nat) (Option.none : Option Jvm.ClassFile.FieldType)) ∈ lw_all := lw_g (lw_at lw_m12 52 rfl) rfl
theorem q2763 : (Jvm.Cond.methodLink "BrassInspectorModel" (88 : Nat) ({ cls := "BrassInspectorModel", name := "drifted", desc := "(II)I" } : Jvm.MethodName)) ∈ lw_all := lw_g (lw_at lw_m12 53 rfl) rfl
theorem q2764 : (Jvm.Cond.static ({ cls := "BrassInspectorModel", name := "drifted", desc := "(II)I" } : Jvm.MethodName)) ∈ lw_all := lw_g (lw_at lw_m12 54 rfl) rfl
theorem q2765 : (Jvm.Cond.code ({ cls := "BrassInspectorModel", name := "drifted", desc := "(II)I" } : Jvm.MethodName) prog_20_method_18_code (3 : Nat) (Option.some Jvm.ClassFile.FieldType.int)) ∈ lw_all := lw_g (lw_at lw_m12 55 rfl) rfl
theorem q2766 : (Jvm.Cond.methodLink "BrassInspectorLaw" (201 : Nat) ({ cls := "BrassInspectorModel", name := "falseIn", desc := "(I)I" } : Jvm.MethodName)) ∈ lw_all := lw_g (lw_at lw_m12 56 rfl) rfl
theorem q2767 : (Jvm.Cond.instanceMethod ({ cls := "BrassInspectorModel", name := "falseIn", desc := "(I)I" } : Jvm.MethodName)) ∈ lw_all := lw_g (lw_at lw_m12 57 rfl) rfl
theorem q2768 : (Jvm.Cond.selects "BrassInspectorModel" ({ cls := "BrassInspectorModel", name := "falseIn", desc := "(I)I" } : Jvm.MethodName) ({ cls := "BrassInspectorModel", name := "falseIn", desc := "(I)I" } : Jvm.MethodName)) ∈ lw_all := lw_g (lw_at lw_m12 58 rfl) rfl
theorem q2769 : (Jvm.Cond.code ({ cls := "BrassInspectorModel", name := "falseIn", desc := "(I)I" } : Jvm.MethodName) prog_20_method_50_code (4 : Nat) (Option.some Jvm.ClassFile.FieldType.int)) ∈ lw_all := lw_g (lw_at lw_m12 59 rfl) rfl
theorem q2770 : (Jvm.Cond.methodLink "BrassInspectorLaw" (204 : Nat) ({ cls := "BrassInspectorModel", name := "loss", desc := "(I)I" } : Jvm.MethodName)) ∈ lw_all := lw_g (lw_at lw_m12 60 rfl) rfl
theorem q2771 : (Jvm.Cond.instanceMethod ({ cls := "BrassInspectorModel", name := "loss", desc := "(I)I" } : Jvm.MethodName)) ∈ lw_all := lw_g (lw_at lw_m12 61 rfl) rfl
theorem q2772 : (Jvm.Cond.selects "BrassInspectorModel" ({ cls := "BrassInspectorModel", name := "loss", desc := "(I)I" } : Jvm.MethodName) ({ cls := "BrassInspectorModel", name := "loss", desc := "(I)I" } : Jvm.MethodName)) ∈ lw_all := lw_g (lw_at lw_m12 62 rfl) rfl
theorem q2773 : (Jvm.Cond.code ({ cls := "BrassInspectorModel", name := "loss", desc := "(I)I" } : Jvm.MethodName) prog_20_method_51_code (2 : Nat) (Option.some Jvm.ClassFile.FieldType.int)) ∈ lw_all := lw_g (lw_at lw_m12 63 rfl) rfl
theorem q2774 : (Jvm.Cond.methodLink "BrassInspectorLaw" (207 : Nat) ({ cls := "BrassInspectorModel", name := "lossAgain", desc := "(I)I" } : Jvm.MethodName)) ∈ lw_all := lw_g (lw_at lw_m12 64 rfl) rfl
theorem q2775 : (Jvm.Cond.instanceMethod ({ cls := "BrassInspectorModel", name := "lossAgain", desc := "(I)I" } : Jvm.MethodName)) ∈ lw_all := lw_g (lw_at lw_m12 65 rfl) rfl
theorem q2776 : (Jvm.Cond.selects "BrassInspectorModel" ({ cls := "BrassInspectorModel", name := "lossAgain", desc := "(I)I" } : Jvm.MethodName) ({ cls := "BrassInspectorModel", name := "lossAgain", desc := "(I)I" } : Jvm.MethodName)) ∈ lw_all := lw_g (lw_at lw_m12 66 rfl) rfl
theorem q2777 : (Jvm.Cond.code ({ cls := "BrassInspectorModel", name := "lossAgain", desc := "(I)I" } : Jvm.MethodName) prog_20_method_52_code (2 : Nat) (Option.some Jvm.ClassFile.FieldType.int)) ∈ lw_all := lw_g (lw_at lw_m12 67 rfl) rfl
theorem q2778 : (Jvm.Cond.methodLink "BrassInspectorModel" (149 : Nat) ({ cls := "BrassInspectorModel", name := "loss", desc := "(I)I" } : Jvm.MethodName)) ∈ lw_all := lw_g (lw_at lw_m12 68 rfl) rfl
theorem q2779 : (Jvm.Cond.methodLink "BrassInspectorLaw" (211 : Nat) ({ cls := "BrassInspectorModel", name := "type", desc := "(C)I" } : Jvm.MethodName)) ∈ lw_all := lw_g (lw_at lw_m12 69 rfl) rfl
theorem q2780 : (Jvm.Cond.instanceMethod ({ cls := "BrassInspectorModel", name := "type", desc := "(C)I" } : Jvm.MethodName)) ∈ lw_all := lw_g (lw_at lw_m12 70 rfl) rfl
theorem q2781 : (Jvm.Cond.selects "BrassInspectorModel" ({ cls := "BrassInspectorModel", name := "type", desc := "(C)I" } : Jvm.MethodName) ({ cls := "BrassInspectorModel", name := "type", desc := "(C)I" } : Jvm.MethodName)) ∈ lw_all := lw_g (lw_at lw_m12 71 rfl) rfl
theorem q2782 : (Jvm.Cond.code ({ cls := "BrassInspectorModel", name := "type", desc := "(C)I" } : Jvm.MethodName) prog_20_method_53_code (2 : Nat) (Option.some Jvm.ClassFile.FieldType.int)) ∈ lw_all := lw_g (lw_at lw_m12 72 rfl) rfl
theorem q2783 : (Jvm.Cond.methodLink "BrassInspectorLaw" (214 : Nat) ({ cls := "BrassInspectorModel", name := "read", desc := "()I" } : Jvm.MethodName)) ∈ lw_all := lw_g (lw_at lw_m12 73 rfl) rfl
theorem q2784 : (Jvm.Cond.instanceMethod ({ cls := "BrassInspectorModel", name := "read", desc := "()I" } : Jvm.MethodName)) ∈ lw_all := lw_g (lw_at lw_m12 74 rfl) rfl
theorem q2785 : (Jvm.Cond.selects "BrassInspectorModel" ({ cls := "BrassInspectorModel", name := "read", desc := "()I" } : Jvm.MethodName) ({ cls := "BrassInspectorModel", name := "read", desc := "()I" } : Jvm.MethodName)) ∈ lw_all := lw_g (lw_at lw_m12 75 rfl) rfl
theorem q2786 : (Jvm.Cond.code ({ cls := "BrassInspectorModel", name := "read", desc := "()I" } : Jvm.MethodName) prog_20_method_61_code (4 : Nat) (Option.some Jvm.ClassFile.FieldType.int)) ∈ lw_all := lw_g (lw_at lw_m12 76 rfl) rfl
theorem q2787 : (Jvm.Cond.methodLink "BrassInspectorModel" (216 : Nat) ({ cls := "BrassInspectorModel", name := "readsOne", desc := "()V" } : Jvm.MethodName)) ∈ lw_all := lw_g (lw_at lw_m12 77 rfl) rfl
theorem q2788 : (Jvm.Cond.privateMethod ({ cls := "BrassInspectorModel", name := "readsOne", desc := "()V" } : Jvm.MethodName)) ∈ lw_tbl := lw_at lw_m12 78 rfl
theorem q2789 : (Jvm.Cond.instanceMethod ({ cls := "BrassInspectorModel", name := "readsOne", desc := "()V" } : Jvm.MethodName)) ∈ lw_all := lw_g (lw_at lw_m12 79 rfl) rfl
theorem q2790 : (Jvm.Cond.code ({ cls := "BrassInspectorModel", name := "readsOne", desc := "()V" } : Jvm.MethodName) prog_20_method_59_code (1 : Nat) (Option.none : Option Jvm.ClassFile.FieldType)) ∈ lw_all := lw_g (lw_at lw_m12 80 rfl) rfl
theorem q2791 : (Jvm.Cond.methodLink "BrassInspectorModel" (165 : Nat) ({ cls := "BrassInspectorModel", name := "here", desc := "()I" } : Jvm.MethodName)) ∈ lw_all := lw_g (lw_at lw_m12 81 rfl) rfl
theorem q2792 : (Jvm.Cond.privateMethod ({ cls := "BrassInspectorModel", name := "here", desc := "()I" } : Jvm.MethodName)) ∈ lw_tbl := lw_at lw_m12 82 rfl
theorem q2793 : (Jvm.Cond.instanceMethod ({ cls := "BrassInspectorModel", name := "here", desc := "()I" } : Jvm.MethodName)) ∈ lw_all := lw_g (lw_at lw_m12 83 rfl) rfl
theorem q2794 : (Jvm.Cond.code ({ cls := "BrassInspectorModel", name := "here", desc := "()I" } : Jvm.MethodName) prog_20_method_54_code (1 : Nat) (Option.some Jvm.ClassFile.FieldType.int)) ∈ lw_all := lw_g (lw_at lw_m12 84 rfl) rfl
theorem q2795 : (Jvm.Cond.stringRef "BrassInspectorModel" (190 : Nat) "look ") ∈ lw_tbl := lw_at lw_m12 85 rfl
theorem q2796 : (Jvm.Cond.stringRef "BrassInspectorModel" (192 : Nat) " with ") ∈ lw_tbl := lw_at lw_m12 86 rfl
theorem q2797 : (Jvm.Cond.methodLink "BrassInspectorModel" (194 : Nat) ({ cls := "BrassInspectorModel", name := "orderOf", desc := "(ILjava/lang/String;ILjava/lang/String;I)V" } : Jvm.MethodName)) ∈ lw_all := lw_g (lw_at lw_m12 87 rfl) rfl
theorem q2798 : (Jvm.Cond.privateMethod ({ cls := "BrassInspectorModel", name := "orderOf", desc := "(ILjava/lang/String;ILjava/lang/String;I)V" } : Jvm.MethodName)) ∈ lw_tbl := lw_at lw_m12 88 rfl
theorem q2799 : (Jvm.Cond.instanceMethod ({ cls := "BrassInspectorModel", name := "orderOf", desc := "(ILjava/lang/String;ILjava/lang/String;I)V" } : Jvm.MethodName)) ∈ lw_all := lw_g (lw_at lw_m12 89 rfl) rfl
theorem q2800 : (Jvm.Cond.code ({ cls := "BrassInspectorModel", name := "orderOf", desc := "(ILjava/lang/String;ILjava/lang/String;I)V" } : Jvm.MethodName) prog_20_method_58_code (7 : Nat) (Option.none : Option Jvm.ClassFile.FieldType)) ∈ lw_all := lw_g (lw_at lw_m12 90 rfl) rfl
theorem q2801 : (Jvm.Cond.methodLink "BrassInspectorModel" (183 : Nat) ({ cls := "BrassInspectorModel", name := "word", desc := "(Ljava/lang/String;I)V" } : Jvm.MethodName)) ∈ lw_all := lw_g (lw_at lw_m12 91 rfl) rfl
theorem q2802 : (Jvm.Cond.privateMethod ({ cls := "BrassInspectorModel", name := "word", desc := "(Ljava/lang/String;I)V" } : Jvm.MethodName)) ∈ lw_tbl := lw_at lw_m12 92 rfl
theorem q2803 : (Jvm.Cond.instanceMethod ({ cls := "BrassInspectorModel", name := "word", desc := "(Ljava/lang/String;I)V" } : Jvm.MethodName)) ∈ lw_all := lw_g (lw_at lw_m12 93 rfl) rfl
theorem q2804 : (Jvm.Cond.code ({ cls := "BrassInspectorModel", name := "word", desc := "(Ljava/lang/String;I)V" } : Jvm.MethodName) prog_20_method_56_code (4 : Nat) (Option.none : Option Jvm.ClassFile.FieldType)) ∈ lw_all := lw_g (lw_at lw_m12 94 rfl) rfl
theorem q2805 : (Jvm.Cond.methodLink "BrassInspectorModel" (168 : Nat) ({ cls := "java/lang/String", name := "length", desc := "()I" } : Jvm.MethodName)) ∈ lw_all := lw_g (lw_at lw_m12 95 rfl) rfl
theorem q2806 : (Jvm.Cond.methodLink "BrassInspectorModel" (172 : Nat) ({ cls := "java/lang/String", name := "charAt", desc := "(I)C" } : Jvm.MethodName)) ∈ lw_all := lw_g (lw_at lw_m12 96 rfl) rfl
theorem q2807 : (Jvm.Cond.methodLink "BrassInspectorModel" (176 : Nat) ({ cls := "BrassInspectorModel", name := "must", desc := "(I)V" } : Jvm.MethodName)) ∈ lw_all := lw_g (lw_at lw_m12 97 rfl) rfl
theorem q2808 : (Jvm.Cond.privateMethod ({ cls := "BrassInspectorModel", name := "must", desc := "(I)V" } : Jvm.MethodName)) ∈ lw_tbl := lw_at lw_m12 98 rfl
theorem q2809 : (Jvm.Cond.instanceMethod ({ cls := "BrassInspectorModel", name := "must", desc := "(I)V" } : Jvm.MethodName)) ∈ lw_all := lw_g (lw_at lw_m12 99 rfl) rfl
theorem q2810 : (Jvm.Cond.code ({ cls := "BrassInspectorModel", name := "must", desc := "(I)V" } : Jvm.MethodName) prog_20_method_55_code (2 : Nat) (Option.none : Option Jvm.ClassFile.FieldType)) ∈ lw_all := lw_g (lw_at lw_m12 100 rfl) rfl
theorem q2811 : (Jvm.Cond.methodLink "BrassInspectorModel" (187 : Nat) ({ cls := "BrassInspectorModel", name := "digitsOf", desc := "(II)V" } : Jvm.MethodName)) ∈ lw_all := lw_g (lw_at lw_m12 101 rfl) rfl
theorem q2812 : (Jvm.Cond.privateMethod ({ cls := "BrassInspectorModel", name := "digitsOf", desc := "(II)V" } : Jvm.MethodName)) ∈ lw_tbl := lw_at lw_m12 102 rfl
theorem q2813 : (Jvm.Cond.instanceMethod ({ cls := "BrassInspectorModel", name := "digitsOf", desc := "(II)V" } : Jvm.MethodName)) ∈ lw_all := lw_g (lw_at lw_m12 103 rfl) rfl
theorem q2814 : (Jvm.Cond.code ({ cls := "BrassInspectorModel", name := "digitsOf", desc := "(II)V" } : Jvm.MethodName) prog_20_method_57_code (5 : Nat) (Option.none : Option Jvm.ClassFile.FieldType)) ∈ lw_all := lw_g (lw_at lw_m12 104 rfl) rfl
theorem q2815 : (Jvm.Cond.stringRef "BrassInspectorModel" (198 : Nat) "mend ") ∈ lw_tbl := lw_at lw_m12 105 rfl
theorem q2816 : (Jvm.Cond.stringRef "BrassInspectorModel" (200 : Nat) "") ∈ lw_tbl := lw_at lw_m12 106 rfl
theorem q2817 : (Jvm.Cond.stringRef "BrassInspectorModel" (202 : Nat) "shave ") ∈ lw_tbl := lw_at lw_m12 107 rfl
theorem q2818 : (Jvm.Cond.stringRef "BrassInspectorModel" (204 : Nat) " by ") ∈ lw_tbl := lw_at lw_m12 108 rfl
theorem q2819 : (Jvm.Cond.stringRef "BrassInspectorModel" (206 : Nat) "pay ") ∈ lw_tbl := lw_at lw_m12 109 rfl
theorem q2820 : (Jvm.Cond.stringRef "BrassInspectorModel" (208 : Nat) " ") ∈ lw_tbl := lw_at lw_m12 110 rfl
theorem q2821 : (Jvm.Cond.stringRef "BrassInspectorModel" (210 : Nat) "drift ") ∈ lw_tbl := lw_at lw_m12 111 rfl
theorem q2822 : (Jvm.Cond.stringRef "BrassInspectorModel" (212 : Nat) " to ") ∈ lw_tbl := lw_at lw_m12 112 rfl
theorem q2823 : (Jvm.Cond.stringRef "BrassInspectorModel" (214 : Nat) "days ") ∈ lw_tbl := lw_at lw_m12 113 rfl
theorem q2824 : (Jvm.Cond.methodLink "BrassInspectorModel" (219 : Nat) ({ cls := "BrassInspectorModel", name := "does", desc := "(I)I" } : Jvm.MethodName)) ∈ lw_all := lw_g (lw_at lw_m12 114 rfl) rfl
theorem q2825 : (Jvm.Cond.privateMethod ({ cls := "BrassInspectorModel", name := "does", desc := "(I)I" } : Jvm.MethodName)) ∈ lw_tbl := lw_at lw_m12 115 rfl
theorem q2826 : (Jvm.Cond.instanceMethod ({ cls := "BrassInspectorModel", name := "does", desc := "(I)I" } : Jvm.MethodName)) ∈ lw_all := lw_g (lw_at lw_m12 116 rfl) rfl
theorem q2827 : (Jvm.Cond.code ({ cls := "BrassInspectorModel", name := "does", desc := "(I)I" } : Jvm.MethodName) prog_20_method_60_code (5 : Nat) (Option.some Jvm.ClassFile.FieldType.int)) ∈ lw_all := lw_g (lw_at lw_m12 117 rfl) rfl
theorem q2828 : (Jvm.Cond.methodLink "BrassInspectorLaw" (217 : Nat) ({ cls := "BrassInspectorModel", name := "errorPosition", desc := "()I" } : Jvm.MethodName)) ∈ lw_all := lw_g (lw_at lw_m12 118 rfl) rfl
theorem q2829 : (Jvm.Cond.instanceMethod ({ cls := "BrassInspectorModel", name := "errorPosition", desc := "()I" } : Jvm.MethodName)) ∈ lw_all := lw_g (lw_at lw_m12 119 rfl) rfl
theorem q2830 : (Jvm.Cond.selects "BrassInspectorModel" ({ cls := "BrassInspectorModel", name := "errorPosition", desc := "()I" } : Jvm.MethodName) ({ cls := "BrassInspectorModel", name := "errorPosition", desc := "()I" } : Jvm.MethodName)) ∈ lw_all := lw_g (lw_at lw_m12 120 rfl) rfl
theorem q2831 : (Jvm.Cond.code ({ cls := "BrassInspectorModel", name := "errorPosition", desc := "()I" } : Jvm.MethodName) prog_20_method_62_code (1 : Nat) (Option.some Jvm.ClassFile.FieldType.int)) ∈ lw_all := lw_g (lw_at lw_m12 121 rfl) rfl
theorem q2832 : (Jvm.Cond.methodLink "BrassInspectorLaw" (221 : Nat) ({ cls := "BrassInspectorModel", name := "refusal", desc := "(IZ)I" } : Jvm.MethodName)) ∈ lw_all := lw_g (lw_at lw_m12 122 rfl) rfl
theorem q2833 : (Jvm.Cond.instanceMethod ({ cls := "BrassInspectorModel", name := "refusal", desc := "(IZ)I" } : Jvm.MethodName)) ∈ lw_all := lw_g (lw_at lw_m12 123 rfl) rfl
theorem q2834 : (Jvm.Cond.selects "BrassInspectorModel" ({ cls := "BrassInspectorModel", name := "refusal", desc := "(IZ)I" } : Jvm.MethodName) ({ cls := "BrassInspectorModel", name := "refusal", desc := "(IZ)I" } : Jvm.MethodName)) ∈ lw_all := lw_g (lw_at lw_m12 124 rfl) rfl
theorem q2835 : (Jvm.Cond.code ({ cls := "BrassInspectorModel", name := "refusal", desc := "(IZ)I" } : Jvm.MethodName) prog_20_method_63_code (3 : Nat) (Option.some Jvm.ClassFile.FieldType.int)) ∈ lw_all := lw_g (lw_at lw_m12 125 rfl) rfl
theorem q2836 : (Jvm.Cond.methodLink "BrassInspectorLaw" (224 : Nat) ({ cls := "BrassInspectorModel", name := "describe", desc := "(I)I" } : Jvm.MethodName)) ∈ lw_all := lw_g (lw_at lw_m12 126 rfl) rfl
theorem q2837 : (Jvm.Cond.instanceMethod ({ cls := "BrassInspectorModel", name := "describe", desc := "(I)I" } : Jvm.MethodName)) ∈ lw_all := lw_g (lw_at lw_m12 127 rfl) rfl
theorem q2838 : (Jvm.Cond.selects "BrassInspectorModel" ({ cls := "BrassInspectorModel", name := "describe", desc := "(I)I" } : Jvm.MethodName) ({ cls := "BrassInspectorModel", name := "describe", desc := "(I)I" } : Jvm.MethodName)) ∈ lw_all := lw_g (lw_at lw_m12 128 rfl) rfl
theorem q2839 : (Jvm.Cond.code ({ cls := "BrassInspectorModel", name := "describe", desc := "(I)I" } : Jvm.MethodName) prog_20_method_67_code (2 : Nat) (Option.some Jvm.ClassFile.FieldType.int)) ∈ lw_all := lw_g (lw_at lw_m12 129 rfl) rfl
theorem q2840 : (Jvm.Cond.methodLink "BrassInspectorModel" (228 : Nat) ({ cls := "BrassInspectorModel", name := "putsNumber", desc := "(I)V" } : Jvm.MethodName)) ∈ lw_all := lw_g (lw_at lw_m12 130 rfl) rfl
theorem q2841 : (Jvm.Cond.privateMethod ({ cls := "BrassInspectorModel", name := "putsNumber", desc := "(I)V" } : Jvm.MethodName)) ∈ lw_tbl := lw_at lw_m12 131 rfl
theorem q2842 : (Jvm.Cond.instanceMethod ({ cls := "BrassInspectorModel", name := "putsNumber", desc := "(I)V" } : Jvm.MethodName)) ∈ lw_all := lw_g (lw_at lw_m12 132 rfl) rfl
theorem q2843 : (Jvm.Cond.code ({ cls := "BrassInspectorModel", name := "putsNumber", desc := "(I)V" } : Jvm.MethodName) prog_20_method_65_code (4 : Nat) (Option.none : Option Jvm.ClassFile.FieldType)) ∈ lw_all := lw_g (lw_at lw_m12 133 rfl) rfl
theorem q2844 : (Jvm.Cond.methodLink "BrassInspectorModel" (225 : Nat) ({ cls := "BrassInspectorModel", name := "puts", desc := "(I)V" } : Jvm.MethodName)) ∈ lw_all := lw_g (lw_at lw_m12 134 rfl) rfl
theorem q2845 : (Jvm.Cond.privateMethod ({ cls := "BrassInspectorModel", name := "puts", desc := "(I)V" } : Jvm.MethodName)) ∈ lw_tbl := lw_at lw_m12 135 rfl
theorem q2846 : (Jvm.Cond.instanceMethod ({ cls := "BrassInspectorModel", name := "puts", desc := "(I)V" } : Jvm.MethodName)) ∈ lw_all := lw_g (lw_at lw_m12 136 rfl) rfl
theorem q2847 : (Jvm.Cond.code ({ cls := "BrassInspectorModel", name := "puts", desc := "(I)V" } : Jvm.MethodName) prog_20_method_64_code (2 : Nat) (Option.none : Option Jvm.ClassFile.FieldType)) ∈ lw_all := lw_g (lw_at lw_m12 137 rfl) rfl
theorem q2848 : (Jvm.Cond.stringRef "BrassInspectorModel" (231 : Nat) " seal ") ∈ lw_tbl := lw_at lw_m12 138 rfl
theorem q2849 : (Jvm.Cond.methodLink "BrassInspectorModel" (233 : Nat) ({ cls := "BrassInspectorModel", name := "putsWord", desc := "(Ljava/lang/String;)V" } : Jvm.MethodName)) ∈ lw_all := lw_g (lw_at lw_m12 139 rfl) rfl
theorem q2850 : (Jvm.Cond.privateMethod ({ cls := "BrassInspectorModel", name := "putsWord", desc := "(Ljava/lang/String;)V" } : Jvm.MethodName)) ∈ lw_tbl := lw_at lw_m12 140 rfl
theorem q2851 : (Jvm.Cond.instanceMethod ({ cls := "BrassInspectorModel", name := "putsWord", desc := "(Ljava/lang/String;)V" } : Jvm.MethodName)) ∈ lw_all := lw_g (lw_at lw_m12 141 rfl) rfl
theorem q2852 : (Jvm.Cond.code ({ cls := "BrassInspectorModel", name := "putsWord", desc := "(Ljava/lang/String;)V" } : Jvm.MethodName) prog_20_method_66_code (3 : Nat) (Option.none : Option Jvm.ClassFile.FieldType)) ∈ lw_all := lw_g (lw_at lw_m12 142 rfl) rfl
theorem q2853 : (Jvm.Cond.stringRef "BrassInspectorModel" (237 : Nat) " barred") ∈ lw_tbl := lw_at lw_m12 143 rfl
theorem q2854 : (Jvm.Cond.methodLink "BrassInspectorLaw" (227 : Nat) ({ cls := "BrassInspectorModel", name := "written", desc := "(I)C" } : Jvm.MethodName)) ∈ lw_all := lw_g (lw_at lw_m12 144 rfl) rfl
theorem q2855 : (Jvm.Cond.instanceMethod ({ cls := "BrassInspectorModel", name := "written", desc := "(I)C" } : Jvm.MethodName)) ∈ lw_all := lw_g (lw_at lw_m12 145 rfl) rfl
theorem q2856 : (Jvm.Cond.selects "BrassInspectorModel" ({ cls := "BrassInspectorModel", name := "written", desc := "(I)C" } : Jvm.MethodName) ({ cls := "BrassInspectorModel", name := "written", desc := "(I)C" } : Jvm.MethodName)) ∈ lw_all := lw_g (lw_at lw_m12 146 rfl) rfl
theorem q2857 : (Jvm.Cond.code ({ cls := "BrassInspectorModel", name := "written", desc := "(I)C" } : Jvm.MethodName) prog_20_method_68_code (2 : Nat) (Option.some Jvm.ClassFile.FieldType.char)) ∈ lw_all := lw_g (lw_at lw_m12 147 rfl) rfl
theorem q2858 : (Jvm.Cond.methodLink "BrassInspectorLaw" (230 : Nat) ({ cls := "BrassInspectorModel", name := "account", desc := "(I)I" } : Jvm.MethodName)) ∈ lw_all := lw_g (lw_at lw_m12 148 rfl) rfl
theorem q2859 : (Jvm.Cond.instanceMethod ({ cls := "BrassInspectorModel", name := "account", desc := "(I)I" } : Jvm.MethodName)) ∈ lw_all := lw_g (lw_at lw_m12 149 rfl) rfl
theorem q2860 : (Jvm.Cond.selects "BrassInspectorModel" ({ cls := "BrassInspectorModel", name := "account", desc := "(I)I" } : Jvm.MethodName) ({ cls := "BrassInspectorModel", name := "account", desc := "(I)I" } : Jvm.MethodName)) ∈ lw_all := lw_g (lw_at lw_m12 150 rfl) rfl
theorem q2861 : (Jvm.Cond.code ({ cls := "BrassInspectorModel", name := "account", desc := "(I)I" } : Jvm.MethodName) prog_20_method_71_code (2 : Nat) (Option.some Jvm.ClassFile.FieldType.int)) ∈ lw_all := lw_g (lw_at lw_m12 151 rfl) rfl
theorem q2862 : (Jvm.Cond.methodLink "BrassInspectorModel" (239 : Nat) ({ cls := "BrassInspectorModel", name := "barred", desc := "()I" } : Jvm.MethodName)) ∈ lw_all := lw_g (lw_at lw_m12 152 rfl) rfl
theorem q2863 : (Jvm.Cond.privateMethod ({ cls := "BrassInspectorModel", name := "barred", desc := "()I" } : Jvm.MethodName)) ∈ lw_tbl := lw_at lw_m12 153 rfl
theorem q2864 : (Jvm.Cond.instanceMethod ({ cls := "BrassInspectorModel", name := "barred", desc := "()I" } : Jvm.MethodName)) ∈ lw_all := lw_g (lw_at lw_m12 154 rfl) rfl
theorem q2865 : (Jvm.Cond.code ({ cls := "BrassInspectorModel", name := "barred", desc := "()I" } : Jvm.MethodName) prog_20_method_70_code (3 : Nat) (Option.some Jvm.ClassFile.FieldType.int)) ∈ lw_all := lw_g (lw_at lw_m12 155 rfl) rfl
theorem q2866 : (Jvm.Cond.methodLink "BrassInspectorModel" (242 : Nat) ({ cls := "BrassInspectorModel", name := "sum", desc := "(II)I" } : Jvm.MethodName)) ∈ lw_all := lw_g (lw_at lw_m12 156 rfl) rfl
theorem q2867 : (Jvm.Cond.privateMethod ({ cls := "BrassInspectorModel", name := "sum", desc := "(II)I" } : Jvm.MethodName)) ∈ lw_tbl := lw_at lw_m12 157 rfl
theorem q2868 : (Jvm.Cond.instanceMethod ({ cls := "BrassInspectorModel", name := "sum", desc := "(II)I" } : Jvm.MethodName)) ∈ lw_all := lw_g (lw_at lw_m12 158 rfl) rfl
theorem q2869 : (Jvm.Cond.code ({ cls := "BrassInspectorModel", name := "sum", desc := "(II)I" } : Jvm.MethodName) prog_20_method_69_code (5 : Nat) (Option.some Jvm.ClassFile.FieldType.int)) ∈ lw_all := lw_g (lw_at lw_m12 159 rfl) rfl
theorem q2870 : (Jvm.Cond.methodLink "BrassInspectorLaw" (234 : Nat) ({ cls := "BrassInspectorModel", name := "finesAgain", desc := "()I" } : Jvm.MethodName)) ∈ lw_all := lw_g (lw_at lw_m12 160 rfl) rfl
theorem q2871 : (Jvm.Cond.instanceMethod ({ cls := "BrassInspectorModel", name := "finesAgain", desc := "()I" } : Jvm.MethodName)) ∈ lw_all := lw_g (lw_at lw_m12 161 rfl) rfl
theorem q2872 : (Jvm.Cond.selects "BrassInspectorModel" ({ cls := "BrassInspectorModel", name := "finesAgain", desc := "()I" } : Jvm.MethodName) ({ cls := "BrassInspectorModel", name := "finesAgain", desc := "()I" } : Jvm.MethodName)) ∈ lw_all := lw_g (lw_at lw_m12 162 rfl) rfl
theorem q2873 : (Jvm.Cond.code ({ cls := "BrassInspectorModel", name := "finesAgain", desc := "()I" } : Jvm.MethodName) prog_20_method_72_code (1 : Nat) (Option.some Jvm.ClassFile.FieldType.int)) ∈ lw_all := lw_g (lw_at lw_m12 163 rfl) rfl
theorem q2874 : (Jvm.Cond.methodLink "BrassInspectorLaw" (238 : Nat) ({ cls := "BrassInspectorModel", name := "meanError", desc := "()D" } : Jvm.MethodName)) ∈ lw_all := lw_g (lw_at lw_m12 164 rfl) rfl
theorem q2875 : (Jvm.Cond.instanceMethod ({ cls := "BrassInspectorModel", name := "meanError", desc := "()D" } : Jvm.MethodName)) ∈ lw_all := lw_g (lw_at lw_m12 165 rfl) rfl
theorem q2876 : (Jvm.Cond.selects "BrassInspectorModel" ({ cls := "BrassInspectorModel", name := "meanError", desc := "()D" } : Jvm.MethodName) ({ cls := "BrassInspectorModel", name := "meanError", desc := "()D" } : Jvm.MethodName)) ∈ lw_all := lw_g (lw_at lw_m12 166 rfl) rfl
theorem q2877 : (Jvm.Cond.code ({ cls := "BrassInspectorModel", name := "meanError", desc := "()D" } : Jvm.MethodName) prog_20_method_73_code (1 : Nat) (Option.some Jvm.ClassFile.FieldType.double)) ∈ lw_all := lw_g (lw_at lw_m12 167 rfl) rfl
theorem q2878 : (Jvm.Cond.methodLink "BrassInspectorLaw" (241 : Nat) ({ cls := "BrassInspectorModel", name := "sealedShare", desc := "()F" } : Jvm.MethodName)) ∈ lw_all := lw_g (lw_at lw_m12 168 rfl) rfl
theorem q2879 : (Jvm.Cond.instanceMethod ({ cls := "BrassInspectorModel", name := "sealedShare", desc := "()F" } : Jvm.MethodName)) ∈ lw_all := lw_g (lw_at lw_m12 169 rfl) rfl
theorem q2880 : (Jvm.Cond.selects "BrassInspectorModel" ({ cls := "BrassInspectorModel", name := "sealedShare", desc := "()F" } : Jvm.MethodName) ({ cls := "BrassInspectorModel", name := "sealedShare", desc := "()F" } : Jvm.MethodName)) ∈ lw_all := lw_g (lw_at lw_m12 170 rfl) rfl
theorem q2881 : (Jvm.Cond.code ({ cls := "BrassInspectorModel", name := "sealedShare", desc := "()F" } : Jvm.MethodName) prog_20_method_74_code (1 : Nat) (Option.some Jvm.ClassFile.FieldType.float)) ∈ lw_all := lw_g (lw_at lw_m12 171 rfl) rfl
theorem q2882 : (Jvm.Cond.methodLink "BrassInspectorLaw" (244 : Nat) ({ cls := "BrassInspectorModel", name := "undo", desc := "()I" } : Jvm.MethodName)) ∈ lw_all := lw_g (lw_at lw_m12 172 rfl) rfl
theorem q2883 : (Jvm.Cond.instanceMethod ({ cls := "BrassInspectorModel", name := "undo", desc := "()I" } : Jvm.MethodName)) ∈ lw_all := lw_g (lw_at lw_m12 173 rfl) rfl
theorem q2884 : (Jvm.Cond.selects "BrassInspectorModel" ({ cls := "BrassInspectorModel", name := "undo", desc := "()I" } : Jvm.MethodName) ({ cls := "BrassInspectorModel", name := "undo", desc := "()I" } : Jvm.MethodName)) ∈ lw_all := lw_g (lw_at lw_m12 174 rfl) rfl
theorem q2885 : (Jvm.Cond.code ({ cls := "BrassInspectorModel", name := "undo", desc := "()I" } : Jvm.MethodName) prog_20_method_75_code (2 : Nat) (Option.some Jvm.ClassFile.FieldType.int)) ∈ lw_all := lw_g (lw_at lw_m12 175 rfl) rfl
theorem q2886 : (Jvm.Cond.methodLink "BrassInspectorLaw" (248 : Nat) ({ cls := "BrassInspectorModel", name := "save", desc := "()I" } : Jvm.MethodName)) ∈ lw_all := lw_g (lw_at lw_m12 176 rfl) rfl
theorem q2887 : (Jvm.Cond.instanceMethod ({ cls := "BrassInspectorModel", name := "save", desc := "()I" } : Jvm.MethodName)) ∈ lw_all := lw_g (lw_at lw_m12 177 rfl) rfl
theorem q2888 : (Jvm.Cond.selects "BrassInspectorModel" ({ cls := "BrassInspectorModel", name := "save", desc := "()I" } : Jvm.MethodName) ({ cls := "BrassInspectorModel", name := "save", desc := "()I" } : Jvm.MethodName)) ∈ lw_all := lw_g (lw_at lw_m12 178 rfl) rfl
theorem q2889 : (Jvm.Cond.code ({ cls := "BrassInspectorModel", name := "save", desc := "()I" } : Jvm.MethodName) prog_20_method_76_code (2 : Nat) (Option.some Jvm.ClassFile.FieldType.int)) ∈ lw_all := lw_g (lw_at lw_m12 179 rfl) rfl
theorem q2890 : (Jvm.Cond.methodLink "BrassInspectorLaw" (251 : Nat) ({ cls := "BrassInspectorModel", name := "restore", desc := "()I" } : Jvm.MethodName)) ∈ lw_all := lw_g (lw_at lw_m12 180 rfl) rfl
theorem q2891 : (Jvm.Cond.instanceMethod ({ cls := "BrassInspectorModel", name := "restore", desc := "()I" } : Jvm.MethodName)) ∈ lw_all := lw_g (lw_at lw_m12 181 rfl) rfl
theorem q2892 : (Jvm.Cond.selects "BrassInspectorModel" ({ cls := "BrassInspectorModel", name := "restore", desc := "()I" } : Jvm.MethodName) ({ cls := "BrassInspectorModel", name := "restore", desc := "()I" } : Jvm.MethodName)) ∈ lw_all := lw_g (lw_at lw_m12 182 rfl) rfl
theorem q2893 : (Jvm.Cond.code ({ cls := "BrassInspectorModel", name := "restore", desc := "()I" } : Jvm.MethodName) prog_20_method_77_code (2 : Nat) (Option.some Jvm.ClassFile.FieldType.int)) ∈ lw_all := lw_g (lw_at lw_m12 183 rfl) rfl
theorem q2894 : (Jvm.Cond.arrayClass Jvm.ClassFile.FieldType.long) ∈ lw_all := lw_g (lw_at lw_m12 184 rfl) rfl
theorem q2895 : (Jvm.Cond.arrayClass Jvm.ClassFile.FieldType.double) ∈ lw_all := lw_g (lw_at lw_m12 185 rfl) rfl
theorem q2896 : (Jvm.Cond.sameMethod "java/lang/Throwable" "java/lang/Throwable" "fillInStackTrace" "(I)Ljava/lang/Throwable;") ∈ lw_all := lw_g (lw_at lw_m12 186 rfl) rfl
theorem q2897 : (Jvm.Cond.sameMethod "java/lang/AbstractStringBuilder" "java/lang/AbstractStringBuilder" "append" "(Ljava/lang/String;)Ljava/lang/AbstractStringBuilder;") ∈ lw_all := lw_g (lw_at lw_m12 187 rfl) rfl
theorem q2898 : (Jvm.Cond.sameMethod "java/lang/AbstractStringBuilder" "java/lang/AbstractStringBuilder" "appendNull" "()Ljava/lang/AbstractStringBuilder;") ∈ lw_all := lw_g (lw_at lw_m12 188 rfl) rfl
theorem q2899 : (Jvm.Cond.sameMethod "java/lang/AbstractStringBuilder" "java/lang/AbstractStringBuilder" "ensureCapacityInternal" "(I)V") ∈ lw_all := lw_g (lw_at lw_m12 189 rfl) rfl
theorem q2900 : (Jvm.Cond.sameMethod "java/lang/AbstractStringBuilder" "java/lang/AbstractStringBuilder" "newCapacity" "(I)I") ∈ lw_all := lw_g (lw_at lw_m12 190 rfl) rfl
theorem q2901 : (Jvm.Cond.sameMethod "java/lang/AbstractStringBuilder" "java/lang/AbstractStringBuilder" "putStringAt" "(ILjava/lang/String;)V") ∈ lw_all := lw_g (lw_at lw_m12 191 rfl) rfl
theorem q2902 : (Jvm.Cond.sameMethod "java/lang/AbstractStringBuilder" "java/lang/AbstractStringBuilder" "inflateIfNeededFor" "(Ljava/lang/String;)V") ∈ lw_all := lw_g (lw_at lw_m12 192 rfl) rfl
theorem q2903 : (Jvm.Cond.sameMethod "java/lang/AbstractStringBuilder" "java/lang/AbstractStringBuilder" "inflate" "()V") ∈ lw_all := lw_g (lw_at lw_m12 193 rfl) rfl
theorem q2904 : (Jvm.Cond.sameMethod "java/lang/AbstractStringBuilder" "java/lang/AbstractStringBuilder" "append" "(I)Ljava/lang/AbstractStringBuilder;") ∈ lw_all := lw_g (lw_at lw_m12 194 rfl) rfl
theorem q2905 : (Jvm.Cond.selects "BrassInspector$Round$OfFair$1" ({ cls := "BrassInspector$Round$OfFair$1", name := "hasNext", desc := "()Z" } : Jvm.MethodName) ({ cls := "BrassInspector$Round$OfFair$1", name := "hasNext", desc := "()Z" } : Jvm.MethodName)) ∈ lw_all := lw_g (lw_at lw_m12 195 rfl) rfl
theorem q2906 : (Jvm.Cond.selects "java/util/LinkedList$ListItr" ({ cls := "java/util/LinkedList$ListItr", name := "hasNext", desc := "()Z" } : Jvm.MethodName) ({ cls := "java/util/LinkedList$ListItr", name := "hasNext", desc := "()Z" } : Jvm.MethodName)) ∈ lw_all := lw_g (lw_at lw_m12 196 rfl) rfl
theorem q2907 : (Jvm.Cond.selects "java/util/LinkedList" ({ cls := "java/util/LinkedList", name := "size", desc := "()I" } : Jvm.MethodName) ({ cls := "java/util/LinkedList", name := "size", desc := "()I" } : Jvm.MethodName)) ∈ lw_all := lw_g (lw_at lw_m12 197 rfl) rfl
theorem q2908 : (Jvm.Cond.selects "java/lang/StringBuilder" ({ cls := "java/lang/StringBuilder", name := "length", desc := "()I" } : Jvm.MethodName) ({ cls := "java/lang/StringBuilder", name := "length", desc := "()I" } : Jvm.MethodName)) ∈ lw_all := lw_g (lw_at lw_m12 198 rfl) rfl
theorem q2909 : (Jvm.Cond.sameMethod "java/lang/AbstractStringBuilder" "java/lang/AbstractStringBuilder" "append" "(C)Ljava/lang/AbstractStringBuilder;") ∈ lw_all := lw_g (lw_at lw_m12 199 rfl) rfl
theorem q2910 : (Jvm.Cond.sameMethod "java/lang/AbstractStringBuilder" "java/lang/AbstractStringBuilder" "charAt" "(I)C") ∈ lw_all := lw_g (lw_at lw_m12 200 rfl) rfl
theorem q2911 : (Jvm.Cond.sameMethod "java/lang/AbstractStringBuilder" "java/lang/AbstractStringBuilder" "setLength" "(I)V") ∈ lw_all := lw_g (lw_at lw_m12 201 rfl) rfl
theorem q2912 : (Jvm.Cond.sameMethod "java/util/AbstractCollection" "java/util/AbstractCollection" "size" "()I") ∈ lw_all := lw_g (lw_at lw_m12 202 rfl) rfl
theorem q2913 : (Jvm.Cond.selects "java/util/ArrayList" ({ cls := "java/util/AbstractCollection", name := "size", desc := "()I" } : Jvm.MethodName) ({ cls := "java/util/ArrayList", name := "size", desc := "()I" } : Jvm.MethodName)) ∈ lw_all := lw_g (lw_at lw_m12 203 rfl) rfl
theorem q2914 : (Jvm.Cond.selects "java/util/LinkedList" ({ cls := "java/util/AbstractCollection", name := "size", desc := "()I" } : Jvm.MethodName) ({ cls := "java/util/LinkedList", name := "size", desc := "()I" } : Jvm.MethodName)) ∈ lw_all := lw_g (lw_at lw_m12 204 rfl) rfl
theorem q2915 : (Jvm.Cond.initialized "java/lang/Object") ∈ lw_all := lw_g (lw_at lw_m12 205 rfl) rfl
theorem q2916 : (Jvm.Cond.castable "java/lang/ArrayIndexOutOfBoundsException" "java/lang/IndexOutOfBoundsException") ∈ lw_tbl := lw_at lw_m12 206 rfl
theorem q2917 : (Jvm.Cond.castable "java/lang/StringIndexOutOfBoundsException" "java/lang/IndexOutOfBoundsException") ∈ lw_tbl := lw_at lw_m12 207 rfl
theorem q2918 : (Jvm.Cond.castable "BrassInspector$1" "BrassInspector$Deed") ∈ lw_tbl := lw_at lw_m12 208 rfl
theorem q2919 : (Jvm.Cond.castable "BrassInspector$2" "BrassInspector$Deed") ∈ lw_tbl := lw_at lw_m12 209 rfl
theorem q2920 : (Jvm.Cond.castable "BrassInspector$3" "BrassInspector$Deed") ∈ lw_tbl := lw_at lw_m12 210 rfl
theorem q2921 : (Jvm.Cond.castable "BrassInspector$4" "BrassInspector$Deed") ∈ lw_tbl := lw_at lw_m12 211 rfl
theorem q2922 : (Jvm.Cond.castable "BrassInspector$5" "BrassInspector$Deed") ∈ lw_tbl := lw_at lw_m12 212 rfl
theorem q2923 : (Jvm.Cond.castable "BrassInspector$6" "BrassInspector$Deed") ∈ lw_tbl := lw_at lw_m12 213 rfl
theorem q2924 : (Jvm.Cond.castable "BrassInspector$Order" "BrassInspector$Deed") ∈ lw_tbl := lw_at lw_m12 214 rfl
theorem q2925 : (Jvm.Cond.castable "BrassInspector" "java/lang/Object") ∈ lw_tbl := lw_at lw_m12 215 rfl
theorem q2926 : (Jvm.Cond.castable "BrassInspector$Round" "java/lang/Object") ∈ lw_tbl := lw_at lw_m12 216 rfl
theorem q2927 : (Jvm.Cond.castable "java/util/ArrayList" "java/lang/Object") ∈ lw_tbl := lw_at lw_m12 217 rfl
theorem q2928 : (Jvm.Cond.castable "java/util/LinkedList" "java/lang/Object") ∈ lw_tbl := lw_at lw_m12 218 rfl
theorem q2929 : (Jvm.Cond.castable "java/lang/StringBuilder" "java/lang/Object") ∈ lw_tbl := lw_at lw_m12 219 rfl
theorem q2930 : (Jvm.Cond.castable "BrassInspectorModel" "java/lang/Object") ∈ lw_tbl := lw_at lw_m12 220 rfl
theorem q2931 : (Jvm.Cond.castable "java/lang/ArrayIndexOutOfBoundsException" "java/lang/Object") ∈ lw_tbl := lw_at lw_m12 221 rfl
theorem q2932 : (Jvm.Cond.castable "java/lang/IndexOutOfBoundsException" "java/lang/Object") ∈ lw_tbl := lw_at lw_m12 222 rfl
theorem q2933 : (Jvm.Cond.castable "java/lang/IllegalArgumentException" "java/lang/Object") ∈ lw_tbl := lw_at lw_m12 223 rfl
theorem q2934 : (Jvm.Cond.castable "BrassInspector$1" "java/lang/Object") ∈ lw_tbl := lw_at lw_m12 224 rfl
theorem q2935 : (Jvm.Cond.castable "java/util/ArrayList$Itr" "java/lang/Object") ∈ lw_tbl := lw_at lw_m12 225 rfl
theorem q2936 : (Jvm.Cond.castable "java/lang/String" "java/lang/Object") ∈ lw_tbl := lw_at lw_m12 226 rfl
theorem q2937 : (Jvm.Cond.castable "java/util/AbstractList$ListItr" "java/lang/Object") ∈ lw_tbl := lw_at lw_m12 227 rfl
theorem q2938 : (Jvm.Cond.castable "java/util/ArrayList$ListItr" "java/lang/Object") ∈ lw_tbl := lw_at lw_m12 228 rfl
theorem q2939 : (Jvm.Cond.castable "java/util/LinkedList$ListItr" "java/lang/Object") ∈ lw_tbl := lw_at lw_m12 229 rfl
theorem q2940 : (Jvm.Cond.castable "java/util/NoSuchElementException" "java/lang/Object") ∈ lw_tbl := lw_at lw_m12 230 rfl
theorem q2941 : (Jvm.Cond.castable "BrassInspector$Round$Trader" "java/lang/Object") ∈ lw_tbl := lw_at lw_m12 231 rfl
theorem q2942 : (Jvm.Cond.castable "java/util/LinkedList$Node" "java/lang/Object") ∈ lw_tbl := lw_at lw_m12 232 rfl
theorem q2943 : (Jvm.Cond.castable "BrassInspector$Brass" "java/lang/Object") ∈ lw_tbl := lw_at lw_m12 233 rfl
theorem q2944 : (Jvm.Cond.castable "java/lang/UnsupportedOperationException" "java/lang/Object") ∈ lw_tbl := lw_at lw_m12 234 rfl
theorem q2945 : (Jvm.Cond.castable "BrassInspector$2" "java/lang/Object") ∈ lw_tbl := lw_at lw_m12 235 rfl
theorem q2946 : (Jvm.Cond.castable "BrassInspector$Refusal" "java/lang/Object") ∈ lw_tbl := lw_at lw_m12 236 rfl
theorem q2947 : (Jvm.Cond.castable "BrassInspector$Order" "java/lang/Object") ∈ lw_tbl := lw_at lw_m12 237 rfl
theorem q2948 : (Jvm.Cond.castable "BrassInspector$3" "java/lang/Object") ∈ lw_tbl := lw_at lw_m12 238 rfl
theorem q2949 : (Jvm.Cond.castable "BrassInspector$Round$OfFair" "java/lang/Object") ∈ lw_tbl := lw_at lw_m12 239 rfl
theorem q2950 : (Jvm.Cond.castable "BrassInspector$Round$OfFair$1" "java/lang/Object") ∈ lw_tbl := lw_at lw_m13 0 rfl
theorem q2951 : (Jvm.Cond.castable "BrassInspector$Round$1Rest" "java/lang/Object") ∈ lw_tbl := lw_at lw_m13 1 rfl
theorem q2952 : (Jvm.Cond.castable "BrassInspector$4" "java/lang/Object") ∈ lw_tbl := lw_at lw_m13 2 rfl
theorem q2953 : (Jvm.Cond.castable "BrassInspector$5" "java/lang/Object") ∈ lw_tbl := lw_at lw_m13 3 rfl
theorem q2954 : (Jvm.Cond.castable "java/lang/IllegalStateException" "java/lang/Object") ∈ lw_tbl := lw_at lw_m13 4 rfl
theorem q2955 : (Jvm.Cond.castable "BrassInspector$Reader" "java/lang/Object") ∈ lw_tbl := lw_at lw_m13 5 rfl
theorem q2956 : (Jvm.Cond.castable "BrassInspector$TextError" "java/lang/Object") ∈ lw_tbl := lw_at lw_m13 6 rfl
theorem q2957 : (Jvm.Cond.castable "java/lang/System$2" "java/lang/Object") ∈ lw_tbl := lw_at lw_m13 7 rfl
theorem q2958 : (Jvm.Cond.castable "BrassInspector$6" "java/lang/Object") ∈ lw_tbl := lw_at lw_m13 8 rfl
theorem q2959 : (Jvm.Cond.castable "java/lang/StringIndexOutOfBoundsException" "java/lang/Object") ∈ lw_tbl := lw_at lw_m13 9 rfl
theorem q2960 : (Jvm.Cond.castable "java/lang/ArithmeticException" "java/lang/Object") ∈ lw_tbl := lw_at lw_m13 10 rfl
theorem q2961 : (Jvm.Cond.castable "java/lang/Throwable" "java/lang/Object") ∈ lw_tbl := lw_at lw_m13 11 rfl
theorem q2962 : (Jvm.Cond.sameMethod "[Ljava/lang/Object;" "java/lang/Object" "getClass" "()Ljava/lang/Class;") ∈ lw_all := lw_g (lw_at lw_m13 12 rfl) rfl
theorem q2963 : (Jvm.Cond.selects "[Ljava/lang/Object;" ({ cls := "java/lang/Object", name := "getClass", desc := "()Ljava/lang/Class;" } : Jvm.MethodName) ({ cls := "java/lang/Object", name := "getClass", desc := "()Ljava/lang/Class;" } : Jvm.MethodName)) ∈ lw_all := lw_g (lw_at lw_m13 13 rfl) rfl
theorem q2964 : (Jvm.Cond.declares ({ cls := "java/lang/Object", name := "getClass", desc := "()Ljava/lang/Class;" } : Jvm.MethodName)) ∈ lw_tbl := lw_at lw_m13 14 rfl
theorem q2965 : (Jvm.Cond.castable "[I" "java/lang/Object") ∈ lw_tbl := lw_at lw_m13 15 rfl
theorem q2966 : (Jvm.Cond.castable "[B" "java/lang/Object") ∈ lw_tbl := lw_at lw_m13 16 rfl
theorem q2967 : (Jvm.Cond.castable "[Ljava/lang/Object;" "java/lang/Object") ∈ lw_tbl := lw_at lw_m13 17 rfl
theorem q2968 : (Jvm.Cond.castable "[J" "java/lang/Object") ∈ lw_tbl := lw_at lw_m13 18 rfl
theorem q2969 : (Jvm.Cond.castable "[D" "java/lang/Object") ∈ lw_tbl := lw_at lw_m13 19 rfl
theorem q2970 : (Jvm.Cond.arrayClass Jvm.ClassFile.FieldType.char) ∈ lw_all := lw_g (lw_at lw_m13 20 rfl) rfl
theorem q2971 : (Jvm.Cond.arrayClass Jvm.ClassFile.FieldType.short) ∈ lw_all := lw_g (lw_at lw_m13 21 rfl) rfl
theorem q2972 : (Jvm.Cond.fieldLink "java/util/AbstractList$ListItr" (1 : Nat) "java/util/AbstractList$ListItr" "this$0" "Ljava/util/AbstractList;") ∈ lw_all := lw_g (lw_at lw_m13 22 rfl) rfl
theorem q2973 : (Jvm.Cond.fieldLink "java/util/AbstractList$Itr" (1 : Nat) "java/util/AbstractList$Itr" "this$0" "Ljava/util/AbstractList;") ∈ lw_all := lw_g (lw_at lw_m13 23 rfl) rfl
theorem q2974 : (Jvm.Cond.fieldLink "java/util/AbstractList$Itr" (13 : Nat) "java/util/AbstractList$Itr" "cursor" "I") ∈ lw_all := lw_g (lw_at lw_m13 24 rfl) rfl
theorem q2975 : (Jvm.Cond.fieldLink "java/util/AbstractList$Itr" (17 : Nat) "java/util/AbstractList$Itr" "lastRet" "I") ∈ lw_all := lw_g (lw_at lw_m13 25 rfl) rfl
theorem q2976 : (Jvm.Cond.fieldLink "java/util/AbstractList$Itr" (25 : Nat) "java/util/AbstractList$Itr" "expectedModCount" "I") ∈ lw_all := lw_g (lw_at lw_m13 26 rfl) rfl
theorem q2977 : (Jvm.Cond.fieldLink "java/util/AbstractList$ListItr" (13 : Nat) "java/util/AbstractList$ListItr" "cursor" "I") ∈ lw_all := lw_g (lw_at lw_m13 27 rfl) rfl
theorem q2978 : (Jvm.Cond.sameField "java/util/AbstractList$ListItr" "java/util/AbstractList$Itr" "cursor" "I") ∈ lw_all := lw_g (lw_at lw_m13 28 rfl) rfl
