set_option maxRecDepth 100000
theorem q163 : (Jvm.Cond.initialized "FollowingRefsLaw") ∈ lw_all := lw_g (lw_at lw_m1 0 rfl) rfl
theorem q164 : (Jvm.Cond.initialized "FollowingRefs") ∈ lw_all := lw_g (lw_at lw_m1 1 rfl) rfl
theorem q165 : (Jvm.Cond.initialized "FollowingRefs$Schema") ∈ lw_all := lw_g (lw_at lw_m1 2 rfl) rfl
theorem q166 : (Jvm.Cond.initialized "java/util/AbstractCollection") ∈ lw_all := lw_g (lw_at lw_m1 3 rfl) rfl
theorem q167 : (Jvm.Cond.initialized "java/util/AbstractList") ∈ lw_all := lw_g (lw_at lw_m1 4 rfl) rfl
theorem q168 : (Jvm.Cond.initialized "java/util/ArrayList") ∈ lw_all := lw_g (lw_at lw_m1 5 rfl) rfl
theorem q169 : (Jvm.Cond.initialized "FollowingRefs$Store") ∈ lw_all := lw_g (lw_at lw_m1 6 rfl) rfl
theorem q170 : (Jvm.Cond.initialized "java/util/BitSet") ∈ lw_all := lw_g (lw_at lw_m1 7 rfl) rfl
theorem q171 : (Jvm.Cond.initialized "FollowingRefs$Plan") ∈ lw_all := lw_g (lw_at lw_m1 8 rfl) rfl
theorem q172 : (Jvm.Cond.initialized "java/util/Arrays") ∈ lw_all := lw_g (lw_at lw_m1 9 rfl) rfl
theorem q173 : (Jvm.Cond.initialized "java/util/AbstractSequentialList") ∈ lw_all := lw_g (lw_at lw_m1 10 rfl) rfl
theorem q174 : (Jvm.Cond.initialized "java/util/LinkedList") ∈ lw_all := lw_g (lw_at lw_m1 11 rfl) rfl
theorem q175 : (Jvm.Cond.initialized "FollowingRefs$Kept") ∈ lw_all := lw_g (lw_at lw_m1 12 rfl) rfl
theorem q176 : (Jvm.Cond.initialized "FollowingRefsModel") ∈ lw_all := lw_g (lw_at lw_m1 13 rfl) rfl
theorem q177 : (Jvm.Cond.initialized "FollowingRefs$Reader") ∈ lw_all := lw_g (lw_at lw_m1 14 rfl) rfl
theorem q178 : (Jvm.Cond.initialized "FollowingRefs$SchemaReader") ∈ lw_all := lw_g (lw_at lw_m1 15 rfl) rfl
theorem q179 : (Jvm.Cond.initialized "java/lang/AbstractStringBuilder") ∈ lw_all := lw_g (lw_at lw_m1 16 rfl) rfl
theorem q180 : (Jvm.Cond.initialized "java/lang/StringBuilder") ∈ lw_all := lw_g (lw_at lw_m1 17 rfl) rfl
theorem q181 : (Jvm.Cond.initialized "java/lang/String") ∈ lw_all := lw_g (lw_at lw_m1 18 rfl) rfl
theorem q182 : (Jvm.Cond.initialized "java/lang/StringUTF16") ∈ lw_all := lw_g (lw_at lw_m1 19 rfl) rfl
theorem q183 : (Jvm.Cond.initialized "jdk/internal/util/ArraysSupport") ∈ lw_all := lw_g (lw_at lw_m1 20 rfl) rfl
theorem q184 : (Jvm.Cond.initialized "java/lang/Math") ∈ lw_all := lw_g (lw_at lw_m1 21 rfl) rfl
theorem q185 : (Jvm.Cond.initialized "java/lang/System") ∈ lw_all := lw_g (lw_at lw_m1 22 rfl) rfl
theorem q186 : (Jvm.Cond.initialized "java/lang/StringLatin1") ∈ lw_all := lw_g (lw_at lw_m1 23 rfl) rfl
theorem q187 : (Jvm.Cond.initialized "jdk/internal/util/Preconditions") ∈ lw_all := lw_g (lw_at lw_m1 24 rfl) rfl
theorem q188 : (Jvm.Cond.initialized "java/lang/Throwable") ∈ lw_all := lw_g (lw_at lw_m1 25 rfl) rfl
theorem q189 : (Jvm.Cond.initialized "java/lang/Exception") ∈ lw_all := lw_g (lw_at lw_m1 26 rfl) rfl
theorem q190 : (Jvm.Cond.initialized "FollowingRefs$Fault") ∈ lw_all := lw_g (lw_at lw_m1 27 rfl) rfl
theorem q191 : (Jvm.Cond.initialized "java/util/Objects") ∈ lw_all := lw_g (lw_at lw_m1 28 rfl) rfl
theorem q192 : (Jvm.Cond.initialized "FollowingRefs$Table") ∈ lw_all := lw_g (lw_at lw_m1 29 rfl) rfl
theorem q193 : (Jvm.Cond.initialized "FollowingRefs$Of") ∈ lw_all := lw_g (lw_at lw_m1 30 rfl) rfl
theorem q194 : (Jvm.Cond.initialized "jdk/internal/misc/Unsafe") ∈ lw_all := lw_g (lw_at lw_m1 31 rfl) rfl
theorem q196 : (Jvm.Cond.initialized "java/lang/Number") ∈ lw_all := lw_g (lw_at lw_m1 33 rfl) rfl
theorem q197 : (Jvm.Cond.initialized "java/lang/Long") ∈ lw_all := lw_g (lw_at lw_m1 34 rfl) rfl
theorem q198 : (Jvm.Cond.initialized "java/lang/Integer") ∈ lw_all := lw_g (lw_at lw_m1 35 rfl) rfl
theorem q199 : (Jvm.Cond.initialized "FollowingRefs$Ref") ∈ lw_all := lw_g (lw_at lw_m1 36 rfl) rfl
theorem q200 : (Jvm.Cond.initialized "FollowingRefs$Check") ∈ lw_all := lw_g (lw_at lw_m1 37 rfl) rfl
theorem q201 : (Jvm.Cond.initialized "FollowingRefs$StatementReader") ∈ lw_all := lw_g (lw_at lw_m1 38 rfl) rfl
theorem q202 : (Jvm.Cond.initialized "FollowingRefs$Statement") ∈ lw_all := lw_g (lw_at lw_m1 39 rfl) rfl
theorem q203 : (Jvm.Cond.initialized "FollowingRefs$Inserts") ∈ lw_all := lw_g (lw_at lw_m1 40 rfl) rfl
theorem q204 : (Jvm.Cond.initialized "FollowingRefs$Finds") ∈ lw_all := lw_g (lw_at lw_m1 41 rfl) rfl
theorem q205 : (Jvm.Cond.initialized "FollowingRefs$Deletes") ∈ lw_all := lw_g (lw_at lw_m1 42 rfl) rfl
theorem q206 : (Jvm.Cond.initialized "FollowingRefs$When") ∈ lw_all := lw_g (lw_at lw_m1 43 rfl) rfl
theorem q207 : (Jvm.Cond.initialized "FollowingRefs$Sets") ∈ lw_all := lw_g (lw_at lw_m1 44 rfl) rfl
theorem q208 : (Jvm.Cond.initialized "FollowingRefs$Verdict") ∈ lw_all := lw_g (lw_at lw_m1 45 rfl) rfl
theorem q209 : (Jvm.Cond.initialized "java/util/ArrayDeque") ∈ lw_all := lw_g (lw_at lw_m1 46 rfl) rfl
theorem q210 : (Jvm.Cond.initialized "java/util/ArrayDeque$DeqIterator") ∈ lw_all := lw_g (lw_at lw_m1 47 rfl) rfl
theorem q211 : (Jvm.Cond.initialized "java/lang/RuntimeException") ∈ lw_all := lw_g (lw_at lw_m1 48 rfl) rfl
theorem q212 : (Jvm.Cond.initialized "java/util/NoSuchElementException") ∈ lw_all := lw_g (lw_at lw_m1 49 rfl) rfl
theorem q213 : (Jvm.Cond.initialized "java/util/ArrayList$Itr") ∈ lw_all := lw_g (lw_at lw_m1 50 rfl) rfl
theorem q214 : (Jvm.Cond.initialized "java/lang/IllegalStateException") ∈ lw_all := lw_g (lw_at lw_m1 51 rfl) rfl
theorem q215 : (Jvm.Cond.initialized "java/util/ConcurrentModificationException") ∈ lw_all := lw_g (lw_at lw_m1 52 rfl) rfl
theorem q216 : (Jvm.Cond.initialized "FollowingRefs$Row") ∈ lw_all := lw_g (lw_at lw_m1 53 rfl) rfl
theorem q217 : (Jvm.Cond.initialized "FollowingRefs$Violation") ∈ lw_all := lw_g (lw_at lw_m1 54 rfl) rfl
theorem q218 : (Jvm.Cond.initialized "java/util/LinkedList$Node") ∈ lw_all := lw_g (lw_at lw_m1 55 rfl) rfl
theorem q219 : (Jvm.Cond.initialized "java/util/Collections") ∈ lw_all := lw_g (lw_at lw_m1 56 rfl) rfl
theorem q221 : (Jvm.Cond.initialized "java/util/ComparableTimSort") ∈ lw_all := lw_g (lw_at lw_m1 58 rfl) rfl
theorem q222 : (Jvm.Cond.initialized "java/util/TimSort") ∈ lw_all := lw_g (lw_at lw_m1 59 rfl) rfl
theorem q223 : (Jvm.Cond.initialized "java/util/ArrayList$ListItr") ∈ lw_all := lw_g (lw_at lw_m1 60 rfl) rfl
theorem q226 : (Jvm.Cond.initialized "java/util/LinkedList$ListItr") ∈ lw_all := lw_g (lw_at lw_m1 63 rfl) rfl
theorem q227 : (Jvm.Cond.initialized "FollowingRefs$Act") ∈ lw_all := lw_g (lw_at lw_m1 64 rfl) rfl
theorem q228 : (Jvm.Cond.initialized "FollowingRefs$Turns") ∈ lw_all := lw_g (lw_at lw_m1 65 rfl) rfl
theorem q230 : (Jvm.Cond.initialized "FollowingRefs$BookReader") ∈ lw_all := lw_g (lw_at lw_m1 67 rfl) rfl
theorem q231 : (Jvm.Cond.initialized "FollowingRefs$States") ∈ lw_all := lw_g (lw_at lw_m1 68 rfl) rfl
theorem q232 : (Jvm.Cond.initialized "FollowingRefs$SentenceReader") ∈ lw_all := lw_g (lw_at lw_m1 69 rfl) rfl
theorem q233 : (Jvm.Cond.initialized "FollowingRefs$Cond") ∈ lw_all := lw_g (lw_at lw_m1 70 rfl) rfl
theorem q234 : (Jvm.Cond.initialized "FollowingRefs$Not") ∈ lw_all := lw_g (lw_at lw_m1 71 rfl) rfl
theorem q235 : (Jvm.Cond.initialized "FollowingRefs$IsWhat") ∈ lw_all := lw_g (lw_at lw_m1 72 rfl) rfl
theorem q236 : (Jvm.Cond.initialized "FollowingRefs$InTable") ∈ lw_all := lw_g (lw_at lw_m1 73 rfl) rfl
theorem q237 : (Jvm.Cond.initialized "FollowingRefs$Than") ∈ lw_all := lw_g (lw_at lw_m1 74 rfl) rfl
theorem q238 : (Jvm.Cond.initialized "FollowingRefs$Two") ∈ lw_all := lw_g (lw_at lw_m1 75 rfl) rfl
theorem q239 : (Jvm.Cond.classLink "FollowingRefsLaw" (8 : Nat) "FollowingRefs") ∈ lw_all := lw_g (lw_at lw_m1 76 rfl) rfl
theorem q240 : (Jvm.Cond.instantiable "FollowingRefs" (18 : Nat)) ∈ lw_all := lw_g (lw_at lw_m1 77 rfl) rfl
theorem q241 : (Jvm.Cond.methodLink "FollowingRefsLaw" (22 : Nat) ({ cls := "FollowingRefs", name := "<init>", desc := "()V" } : Jvm.MethodName)) ∈ lw_all := lw_g (lw_at lw_m1 78 rfl) rfl
theorem q242 : (Jvm.Cond.instanceMethod ({ cls := "FollowingRefs", name := "<init>", desc := "()V" } : Jvm.MethodName)) ∈ lw_all := lw_g (lw_at lw_m1 79 rfl) rfl
theorem q243 : (Jvm.Cond.code ({ cls := "FollowingRefs", name := "<init>", desc := "()V" } : Jvm.MethodName) prog_1_method_5_code (2 : Nat) (Option.none : Option Jvm.ClassFile.FieldType)) ∈ lw_all := lw_g (lw_at lw_m1 80 rfl) rfl
theorem q244 : (Jvm.Cond.methodLink "FollowingRefs" (13 : Nat) ({ cls := "java/lang/Object", name := "<init>", desc := "()V" } : Jvm.MethodName)) ∈ lw_all := lw_g (lw_at lw_m1 81 rfl) rfl
theorem q245 : (Jvm.Cond.instanceMethod ({ cls := "java/lang/Object", name := "<init>", desc := "()V" } : Jvm.MethodName)) ∈ lw_all := lw_g (lw_at lw_m1 82 rfl) rfl
theorem q246 : (Jvm.Cond.code ({ cls := "java/lang/Object", name := "<init>", desc := "()V" } : Jvm.MethodName) object_method_1_code (1 : Nat) (Option.none : Option Jvm.ClassFile.FieldType)) ∈ lw_all := lw_g (lw_at lw_m1 83 rfl) rfl
theorem q247 : (Jvm.Cond.classLink "FollowingRefs" (20 : Nat) "FollowingRefs$Schema") ∈ lw_all := lw_g (lw_at lw_m1 84 rfl) rfl
theorem q248 : (Jvm.Cond.instantiable "FollowingRefs$Schema" (5 : Nat)) ∈ lw_all := lw_g (lw_at lw_m1 85 rfl) rfl
theorem q249 : (Jvm.Cond.methodLinkNest "FollowingRefs" (22 : Nat) ({ cls := "FollowingRefs$Schema", name := "<init>", desc := "()V" } : Jvm.MethodName) "FollowingRefs") ∈ lw_tbl := lw_at lw_m1 86 rfl
theorem q250 : (Jvm.Cond.instanceMethod ({ cls := "FollowingRefs$Schema", name := "<init>", desc := "()V" } : Jvm.MethodName)) ∈ lw_all := lw_g (lw_at lw_m1 87 rfl) rfl
theorem q251 : (Jvm.Cond.code ({ cls := "FollowingRefs$Schema", name := "<init>", desc := "()V" } : Jvm.MethodName) prog_19_method_1_code (1 : Nat) (Option.none : Option Jvm.ClassFile.FieldType)) ∈ lw_all := lw_g (lw_at lw_m1 88 rfl) rfl
theorem q252 : (Jvm.Cond.methodLink "FollowingRefs$Schema" (3 : Nat) ({ cls := "java/lang/Object", name := "<init>", desc := "()V" } : Jvm.MethodName)) ∈ lw_all := lw_g (lw_at lw_m1 89 rfl) rfl
theorem q253 : (Jvm.Cond.classLink "FollowingRefs$Schema" (9 : Nat) "java/util/ArrayList") ∈ lw_all := lw_g (lw_at lw_m1 90 rfl) rfl
theorem q254 : (Jvm.Cond.instantiable "java/util/ArrayList" (3 : Nat)) ∈ lw_all := lw_g (lw_at lw_m1 91 rfl) rfl
theorem q255 : (Jvm.Cond.methodLink "FollowingRefs$Schema" (11 : Nat) ({ cls := "java/util/ArrayList", name := "<init>", desc := "()V" } : Jvm.MethodName)) ∈ lw_all := lw_g (lw_at lw_m1 92 rfl) rfl
theorem q256 : (Jvm.Cond.instanceMethod ({ cls := "java/util/ArrayList", name := "<init>", desc := "()V" } : Jvm.MethodName)) ∈ lw_all := lw_g (lw_at lw_m1 93 rfl) rfl
theorem q257 : (Jvm.Cond.code ({ cls := "java/util/ArrayList", name := "<init>", desc := "()V" } : Jvm.MethodName) prog_66_method_2_code (1 : Nat) (Option.none : Option Jvm.ClassFile.FieldType)) ∈ lw_all := lw_g (lw_at lw_m1 94 rfl) rfl
theorem q258 : (Jvm.Cond.methodLink "java/util/ArrayList" (1 : Nat) ({ cls := "java/util/AbstractList", name := "<init>", desc := "()V" } : Jvm.MethodName)) ∈ lw_all := lw_g (lw_at lw_m1 95 rfl) rfl
theorem q259 : (Jvm.Cond.instanceMethod ({ cls := "java/util/AbstractList", name := "<init>", desc := "()V" } : Jvm.MethodName)) ∈ lw_all := lw_g (lw_at lw_m1 96 rfl) rfl
theorem q260 : (Jvm.Cond.code ({ cls := "java/util/AbstractList", name := "<init>", desc := "()V" } : Jvm.MethodName) prog_60_method_1_code (1 : Nat) (Option.none : Option Jvm.ClassFile.FieldType)) ∈ lw_all := lw_g (lw_at lw_m1 97 rfl) rfl
theorem q261 : (Jvm.Cond.methodLink "java/util/AbstractList" (1 : Nat) ({ cls := "java/util/AbstractCollection", name := "<init>", desc := "()V" } : Jvm.MethodName)) ∈ lw_all := lw_g (lw_at lw_m1 98 rfl) rfl
theorem q262 : (Jvm.Cond.instanceMethod ({ cls := "java/util/AbstractCollection", name := "<init>", desc := "()V" } : Jvm.MethodName)) ∈ lw_all := lw_g (lw_at lw_m1 99 rfl) rfl
theorem q263 : (Jvm.Cond.code ({ cls := "java/util/AbstractCollection", name := "<init>", desc := "()V" } : Jvm.MethodName) prog_59_method_1_code (1 : Nat) (Option.none : Option Jvm.ClassFile.FieldType)) ∈ lw_all := lw_g (lw_at lw_m1 100 rfl) rfl
theorem q264 : (Jvm.Cond.methodLink "java/util/AbstractCollection" (1 : Nat) ({ cls := "java/lang/Object", name := "<init>", desc := "()V" } : Jvm.MethodName)) ∈ lw_all := lw_g (lw_at lw_m1 101 rfl) rfl
theorem q265 : (Jvm.Cond.fieldLink "java/util/ArrayList" (39 : Nat) "java/util/ArrayList" "DEFAULTCAPACITY_EMPTY_ELEMENTDATA" "[Ljava/lang/Object;") ∈ lw_all := lw_g (lw_at lw_m1 102 rfl) rfl
theorem q267 : (Jvm.Cond.fieldLink "java/util/ArrayList" (9 : Nat) "java/util/ArrayList" "elementData" "[Ljava/lang/Object;") ∈ lw_all := lw_g (lw_at lw_m1 104 rfl) rfl
theorem q268 : (Jvm.Cond.fieldLink "java/util/ArrayList$Itr" (37 : Nat) "java/util/ArrayList" "elementData" "[Ljava/lang/Object;") ∈ lw_all := lw_g (lw_at lw_m1 105 rfl) rfl
theorem q269 : (Jvm.Cond.fieldLinkNest "java/util/ArrayList$Itr" (28 : Nat) "java/util/ArrayList" "size" "I" "java/util/ArrayList") ∈ lw_tbl := lw_at lw_m1 106 rfl
theorem q270 : (Jvm.Cond.fieldLink "java/util/ArrayList" (48 : Nat) "java/util/ArrayList" "size" "I") ∈ lw_all := lw_g (lw_at lw_m1 107 rfl) rfl
theorem q271 : (Jvm.Cond.fieldLink "java/util/AbstractList" (7 : Nat) "java/util/AbstractList" "modCount" "I") ∈ lw_all := lw_g (lw_at lw_m1 108 rfl) rfl
theorem q272 : (Jvm.Cond.fieldLink "java/util/LinkedList$ListItr" (13 : Nat) "java/util/LinkedList" "modCount" "I") ∈ lw_all := lw_g (lw_at lw_m1 109 rfl) rfl
theorem q273 : (Jvm.Cond.sameField "java/util/LinkedList" "java/util/AbstractList" "modCount" "I") ∈ lw_all := lw_g (lw_at lw_m1 110 rfl) rfl
theorem q274 : (Jvm.Cond.fieldLink "java/util/ArrayList$Itr" (17 : Nat) "java/util/ArrayList" "modCount" "I") ∈ lw_all := lw_g (lw_at lw_m1 111 rfl) rfl
theorem q275 : (Jvm.Cond.sameField "java/util/ArrayList" "java/util/AbstractList" "modCount" "I") ∈ lw_all := lw_g (lw_at lw_m1 112 rfl) rfl
theorem q276 : (Jvm.Cond.fieldLink "java/util/AbstractList$Itr" (20 : Nat) "java/util/AbstractList" "modCount" "I") ∈ lw_all := lw_g (lw_at lw_m1 113 rfl) rfl
theorem q277 : (Jvm.Cond.fieldLink "java/util/LinkedList" (33 : Nat) "java/util/LinkedList" "modCount" "I") ∈ lw_all := lw_g (lw_at lw_m1 114 rfl) rfl
theorem q278 : (Jvm.Cond.fieldLink "java/util/AbstractList$ListItr" (45 : Nat) "java/util/AbstractList" "modCount" "I") ∈ lw_all := lw_g (lw_at lw_m1 115 rfl) rfl
theorem q279 : (Jvm.Cond.fieldLink "java/util/ArrayList" (63 : Nat) "java/util/ArrayList" "modCount" "I") ∈ lw_all := lw_g (lw_at lw_m1 116 rfl) rfl
theorem q280 : (Jvm.Cond.lays "java/util/ArrayList" "java/util/ArrayList" "elementData" "[Ljava/lang/Object;") ∈ lw_all := lw_g (lw_at lw_m1 117 rfl) rfl
theorem q282 : (Jvm.Cond.lays "java/util/ArrayList" "java/util/ArrayList" "size" "I") ∈ lw_all := lw_g (lw_at lw_m1 119 rfl) rfl
theorem q284 : (Jvm.Cond.lays "java/util/ArrayList" "java/util/AbstractList" "modCount" "I") ∈ lw_all := lw_g (lw_at lw_m1 121 rfl) rfl
theorem q287 : (Jvm.Cond.arrayClass Jvm.ClassFile.FieldType.byte) ∈ lw_all := lw_g (lw_at lw_m1 124 rfl) rfl
theorem q288 : (Jvm.Cond.fieldLinkNest "FollowingRefs$SchemaReader" (33 : Nat) "FollowingRefs$Schema" "lines" "I" "FollowingRefs") ∈ lw_tbl := lw_at lw_m1 125 rfl
theorem q289 : (Jvm.Cond.fieldLinkNest "FollowingRefs" (120 : Nat) "FollowingRefs$Schema" "lines" "I" "FollowingRefs") ∈ lw_tbl := lw_at lw_m1 126 rfl
theorem q290 : (Jvm.Cond.fieldLink "FollowingRefs$Schema" (12 : Nat) "FollowingRefs$Schema" "tables" "Ljava/util/ArrayList;") ∈ lw_all := lw_g (lw_at lw_m1 127 rfl) rfl
theorem q291 : (Jvm.Cond.fieldLinkNest "FollowingRefs$IsWhat" (21 : Nat) "FollowingRefs$Schema" "tables" "Ljava/util/ArrayList;" "FollowingRefs") ∈ lw_tbl := lw_at lw_m1 128 rfl
theorem q292 : (Jvm.Cond.fieldLinkNest "FollowingRefs$Than" (43 : Nat) "FollowingRefs$Schema" "tables" "Ljava/util/ArrayList;" "FollowingRefs") ∈ lw_tbl := lw_at lw_m1 129 rfl
theorem q293 : (Jvm.Cond.fieldLinkNest "FollowingRefs$SentenceReader" (48 : Nat) "FollowingRefs$Schema" "tables" "Ljava/util/ArrayList;" "FollowingRefs") ∈ lw_tbl := lw_at lw_m1 130 rfl
theorem q294 : (Jvm.Cond.fieldLinkNest "FollowingRefs$SchemaReader" (69 : Nat) "FollowingRefs$Schema" "tables" "Ljava/util/ArrayList;" "FollowingRefs") ∈ lw_tbl := lw_at lw_m1 131 rfl
theorem q295 : (Jvm.Cond.fieldLinkNest "FollowingRefs$Plan" (67 : Nat) "FollowingRefs$Schema" "tables" "Ljava/util/ArrayList;" "FollowingRefs") ∈ lw_tbl := lw_at lw_m1 132 rfl
theorem q296 : (Jvm.Cond.fieldLinkNest "FollowingRefs$Store" (110 : Nat) "FollowingRefs$Schema" "tables" "Ljava/util/ArrayList;" "FollowingRefs") ∈ lw_tbl := lw_at lw_m1 133 rfl
theorem q297 : (Jvm.Cond.fieldLinkNest "FollowingRefs" (135 : Nat) "FollowingRefs$Schema" "tables" "Ljava/util/ArrayList;" "FollowingRefs") ∈ lw_tbl := lw_at lw_m1 134 rfl
theorem q298 : (Jvm.Cond.fieldLinkNest "FollowingRefs$Reader" (114 : Nat) "FollowingRefs$Schema" "tables" "Ljava/util/ArrayList;" "FollowingRefs") ∈ lw_tbl := lw_at lw_m1 135 rfl
theorem q299 : (Jvm.Cond.fieldLink "FollowingRefs$Schema" (18 : Nat) "FollowingRefs$Schema" "keys" "Ljava/util/ArrayList;") ∈ lw_all := lw_g (lw_at lw_m1 136 rfl) rfl
theorem q300 : (Jvm.Cond.fieldLinkNest "FollowingRefs$SchemaReader" (113 : Nat) "FollowingRefs$Schema" "keys" "Ljava/util/ArrayList;" "FollowingRefs") ∈ lw_tbl := lw_at lw_m1 137 rfl
theorem q301 : (Jvm.Cond.fieldLinkNest "FollowingRefs$Store" (135 : Nat) "FollowingRefs$Schema" "keys" "Ljava/util/ArrayList;" "FollowingRefs") ∈ lw_tbl := lw_at lw_m1 138 rfl
theorem q302 : (Jvm.Cond.fieldLinkNest "FollowingRefs" (288 : Nat) "FollowingRefs$Schema" "keys" "Ljava/util/ArrayList;" "FollowingRefs") ∈ lw_tbl := lw_at lw_m1 139 rfl
theorem q303 : (Jvm.Cond.fieldLink "FollowingRefs$Schema" (21 : Nat) "FollowingRefs$Schema" "refs" "Ljava/util/ArrayList;") ∈ lw_all := lw_g (lw_at lw_m1 140 rfl) rfl
theorem q304 : (Jvm.Cond.fieldLinkNest "FollowingRefs$Store" (97 : Nat) "FollowingRefs$Schema" "refs" "Ljava/util/ArrayList;" "FollowingRefs") ∈ lw_tbl := lw_at lw_m1 141 rfl
theorem q305 : (Jvm.Cond.fieldLinkNest "FollowingRefs$Plan" (134 : Nat) "FollowingRefs$Schema" "refs" "Ljava/util/ArrayList;" "FollowingRefs") ∈ lw_tbl := lw_at lw_m1 142 rfl
theorem q306 : (Jvm.Cond.fieldLinkNest "FollowingRefs$SchemaReader" (134 : Nat) "FollowingRefs$Schema" "refs" "Ljava/util/ArrayList;" "FollowingRefs") ∈ lw_tbl := lw_at lw_m1 143 rfl
theorem q307 : (Jvm.Cond.fieldLinkNest "FollowingRefs" (274 : Nat) "FollowingRefs$Schema" "refs" "Ljava/util/ArrayList;" "FollowingRefs") ∈ lw_tbl := lw_at lw_m1 144 rfl
theorem q308 : (Jvm.Cond.fieldLink "FollowingRefs$Schema" (24 : Nat) "FollowingRefs$Schema" "checks" "Ljava/util/ArrayList;") ∈ lw_all := lw_g (lw_at lw_m1 145 rfl) rfl
theorem q309 : (Jvm.Cond.fieldLinkNest "FollowingRefs$Store" (149 : Nat) "FollowingRefs$Schema" "checks" "Ljava/util/ArrayList;" "FollowingRefs") ∈ lw_tbl := lw_at lw_m1 146 rfl
theorem q310 : (Jvm.Cond.fieldLinkNest "FollowingRefs$SchemaReader" (188 : Nat) "FollowingRefs$Schema" "checks" "Ljava/util/ArrayList;" "FollowingRefs") ∈ lw_tbl := lw_at lw_m1 147 rfl
theorem q311 : (Jvm.Cond.fieldLinkNest "FollowingRefs" (489 : Nat) "FollowingRefs$Schema" "checks" "Ljava/util/ArrayList;" "FollowingRefs") ∈ lw_tbl := lw_at lw_m1 148 rfl
theorem q312 : (Jvm.Cond.lays "FollowingRefs$Schema" "FollowingRefs$Schema" "lines" "I") ∈ lw_all := lw_g (lw_at lw_m1 149 rfl) rfl
theorem q314 : (Jvm.Cond.laysFinal "FollowingRefs$Schema" "FollowingRefs$Schema" "tables" "Ljava/util/ArrayList;") ∈ lw_all := lw_g (lw_at lw_m1 151 rfl) rfl
theorem q316 : (Jvm.Cond.laysFinal "FollowingRefs$Schema" "FollowingRefs$Schema" "keys" "Ljava/util/ArrayList;") ∈ lw_all := lw_g (lw_at lw_m1 153 rfl) rfl
theorem q318 : (Jvm.Cond.laysFinal "FollowingRefs$Schema" "FollowingRefs$Schema" "refs" "Ljava/util/ArrayList;") ∈ lw_all := lw_g (lw_at lw_m1 155 rfl) rfl
theorem q320 : (Jvm.Cond.laysFinal "FollowingRefs$Schema" "FollowingRefs$Schema" "checks" "Ljava/util/ArrayList;") ∈ lw_all := lw_g (lw_at lw_m1 157 rfl) rfl
theorem q323 : (Jvm.Cond.classLink "FollowingRefs" (27 : Nat) "FollowingRefs$Store") ∈ lw_all := lw_g (lw_at lw_m1 160 rfl) rfl
theorem q324 : (Jvm.Cond.instantiable "FollowingRefs$Store" (7 : Nat)) ∈ lw_all := lw_g (lw_at lw_m1 161 rfl) rfl
theorem q325 : (Jvm.Cond.methodLinkNest "FollowingRefs" (29 : Nat) ({ cls := "FollowingRefs$Store", name := "<init>", desc := "()V" } : Jvm.MethodName) "FollowingRefs") ∈ lw_tbl := lw_at lw_m1 162 rfl
theorem q326 : (Jvm.Cond.instanceMethod ({ cls := "FollowingRefs$Store", name := "<init>", desc := "()V" } : Jvm.MethodName)) ∈ lw_all := lw_g (lw_at lw_m1 163 rfl) rfl
theorem q327 : (Jvm.Cond.code ({ cls := "FollowingRefs$Store", name := "<init>", desc := "()V" } : Jvm.MethodName) prog_26_method_1_code (1 : Nat) (Option.none : Option Jvm.ClassFile.FieldType)) ∈ lw_all := lw_g (lw_at lw_m1 164 rfl) rfl
theorem q328 : (Jvm.Cond.methodLink "FollowingRefs$Store" (3 : Nat) ({ cls := "java/lang/Object", name := "<init>", desc := "()V" } : Jvm.MethodName)) ∈ lw_all := lw_g (lw_at lw_m1 165 rfl) rfl
theorem q329 : (Jvm.Cond.classLink "FollowingRefs$Store" (9 : Nat) "java/util/ArrayList") ∈ lw_all := lw_g (lw_at lw_m1 166 rfl) rfl
theorem q330 : (Jvm.Cond.methodLink "FollowingRefs$Store" (11 : Nat) ({ cls := "java/util/ArrayList", name := "<init>", desc := "(I)V" } : Jvm.MethodName)) ∈ lw_all := lw_g (lw_at lw_m1 167 rfl) rfl
theorem q331 : (Jvm.Cond.instanceMethod ({ cls := "java/util/ArrayList", name := "<init>", desc := "(I)V" } : Jvm.MethodName)) ∈ lw_all := lw_g (lw_at lw_m1 168 rfl) rfl
theorem q332 : (Jvm.Cond.code ({ cls := "java/util/ArrayList", name := "<init>", desc := "(I)V" } : Jvm.MethodName) prog_66_method_1_code (2 : Nat) (Option.none : Option Jvm.ClassFile.FieldType)) ∈ lw_all := lw_g (lw_at lw_m1 169 rfl) rfl
theorem q333 : (Jvm.Cond.classLink "java/util/ArrayList" (7 : Nat) "java/lang/Object") ∈ lw_all := lw_g (lw_at lw_m1 170 rfl) rfl
theorem q334 : (Jvm.Cond.arrayOver (Jvm.ClassFile.FieldType.object "java/lang/Object")) ∈ lw_tbl := lw_at lw_m1 171 rfl
theorem q335 : (Jvm.Cond.fieldLink "java/util/ArrayList" (15 : Nat) "java/util/ArrayList" "EMPTY_ELEMENTDATA" "[Ljava/lang/Object;") ∈ lw_all := lw_g (lw_at lw_m1 172 rfl) rfl
theorem q337 : (Jvm.Cond.classLink "FollowingRefs$Store" (26 : Nat) "java/util/BitSet") ∈ lw_all := lw_g (lw_at lw_m1 174 rfl) rfl
theorem q338 : (Jvm.Cond.instantiable "java/util/BitSet" (3 : Nat)) ∈ lw_all := lw_g (lw_at lw_m1 175 rfl) rfl
theorem q339 : (Jvm.Cond.methodLink "FollowingRefs$Store" (28 : Nat) ({ cls := "java/util/BitSet", name := "<init>", desc := "()V" } : Jvm.MethodName)) ∈ lw_all := lw_g (lw_at lw_m1 176 rfl) rfl
theorem q340 : (Jvm.Cond.instanceMethod ({ cls := "java/util/BitSet", name := "<init>", desc := "()V" } : Jvm.MethodName)) ∈ lw_all := lw_g (lw_at lw_m1 177 rfl) rfl
theorem q341 : (Jvm.Cond.code ({ cls := "java/util/BitSet", name := "<init>", desc := "()V" } : Jvm.MethodName) prog_71_method_4_code (1 : Nat) (Option.none : Option Jvm.ClassFile.FieldType)) ∈ lw_all := lw_g (lw_at lw_m1 178 rfl) rfl
theorem q342 : (Jvm.Cond.methodLink "java/util/BitSet" (21 : Nat) ({ cls := "java/lang/Object", name := "<init>", desc := "()V" } : Jvm.MethodName)) ∈ lw_all := lw_g (lw_at lw_m1 179 rfl) rfl
theorem q343 : (Jvm.Cond.methodLink "java/util/BitSet" (27 : Nat) ({ cls := "java/util/BitSet", name := "initWords", desc := "(I)V" } : Jvm.MethodName)) ∈ lw_all := lw_g (lw_at lw_m1 180 rfl) rfl
theorem q345 : (Jvm.Cond.instanceMethod ({ cls := "java/util/BitSet", name := "initWords", desc := "(I)V" } : Jvm.MethodName)) ∈ lw_all := lw_g (lw_at lw_m1 182 rfl) rfl
theorem q346 : (Jvm.Cond.code ({ cls := "java/util/BitSet", name := "initWords", desc := "(I)V" } : Jvm.MethodName) prog_71_method_6_code (2 : Nat) (Option.none : Option Jvm.ClassFile.FieldType)) ∈ lw_all := lw_g (lw_at lw_m1 183 rfl) rfl
theorem q347 : (Jvm.Cond.methodLink "java/util/BitSet" (52 : Nat) ({ cls := "java/util/BitSet", name := "wordIndex", desc := "(I)I" } : Jvm.MethodName)) ∈ lw_all := lw_g (lw_at lw_m1 184 rfl) rfl
theorem q348 : (Jvm.Cond.static ({ cls := "java/util/BitSet", name := "wordIndex", desc := "(I)I" } : Jvm.MethodName)) ∈ lw_all := lw_g (lw_at lw_m1 185 rfl) rfl
theorem q349 : (Jvm.Cond.code ({ cls := "java/util/BitSet", name := "wordIndex", desc := "(I)I" } : Jvm.MethodName) prog_71_method_1_code (1 : Nat) (Option.some Jvm.ClassFile.FieldType.int)) ∈ lw_all := lw_g (lw_at lw_m1 186 rfl) rfl
theorem q350 : (Jvm.Cond.fieldLink "java/util/BitSet" (11 : Nat) "java/util/BitSet" "words" "[J") ∈ lw_all := lw_g (lw_at lw_m1 187 rfl) rfl
theorem q351 : (Jvm.Cond.fieldLink "java/util/BitSet" (7 : Nat) "java/util/BitSet" "wordsInUse" "I") ∈ lw_all := lw_g (lw_at lw_m1 188 rfl) rfl
theorem q352 : (Jvm.Cond.fieldLink "java/util/BitSet" (24 : Nat) "java/util/BitSet" "sizeIsSticky" "Z") ∈ lw_all := lw_g (lw_at lw_m1 189 rfl) rfl
theorem q353 : (Jvm.Cond.lays "java/util/BitSet" "java/util/BitSet" "words" "[J") ∈ lw_all := lw_g (lw_at lw_m1 190 rfl) rfl
theorem q355 : (Jvm.Cond.lays "java/util/BitSet" "java/util/BitSet" "wordsInUse" "I") ∈ lw_all := lw_g (lw_at lw_m1 192 rfl) rfl
theorem q357 : (Jvm.Cond.lays "java/util/BitSet" "java/util/BitSet" "sizeIsSticky" "Z") ∈ lw_all := lw_g (lw_at lw_m1 194 rfl) rfl
theorem q360 : (Jvm.Cond.arrayClass Jvm.ClassFile.FieldType.long) ∈ lw_all := lw_g (lw_at lw_m1 197 rfl) rfl
theorem q361 : (Jvm.Cond.fieldLink "FollowingRefs$Store" (33 : Nat) "FollowingRefs$Store" "s" "LFollowingRefs$Schema;") ∈ lw_all := lw_g (lw_at lw_m1 198 rfl) rfl
theorem q362 : (Jvm.Cond.fieldLinkNest "FollowingRefs$IsWhat" (15 : Nat) "FollowingRefs$Store" "s" "LFollowingRefs$Schema;" "FollowingRefs") ∈ lw_tbl := lw_at lw_m1 199 rfl
theorem q363 : (Jvm.Cond.fieldLinkNest "FollowingRefs$Than" (37 : Nat) "FollowingRefs$Store" "s" "LFollowingRefs$Schema;" "FollowingRefs") ∈ lw_tbl := lw_at lw_m1 200 rfl
theorem q364 : (Jvm.Cond.fieldLinkNest "FollowingRefs$Plan" (61 : Nat) "FollowingRefs$Store" "s" "LFollowingRefs$Schema;" "FollowingRefs") ∈ lw_tbl := lw_at lw_m1 201 rfl
theorem q365 : (Jvm.Cond.fieldLink "FollowingRefs$Store" (37 : Nat) "FollowingRefs$Store" "inserted" "I") ∈ lw_all := lw_g (lw_at lw_m1 202 rfl) rfl
theorem q366 : (Jvm.Cond.fieldLinkNest "FollowingRefs$Inserts" (27 : Nat) "FollowingRefs$Store" "inserted" "I" "FollowingRefs") ∈ lw_tbl := lw_at lw_m1 203 rfl
theorem q367 : (Jvm.Cond.fieldLinkNest "FollowingRefs$Statement" (29 : Nat) "FollowingRefs$Store" "inserted" "I" "FollowingRefs") ∈ lw_tbl := lw_at lw_m1 204 rfl
theorem q368 : (Jvm.Cond.fieldLinkNest "FollowingRefs" (249 : Nat) "FollowingRefs$Store" "inserted" "I" "FollowingRefs") ∈ lw_tbl := lw_at lw_m1 205 rfl
theorem q369 : (Jvm.Cond.fieldLinkNest "FollowingRefs$Turns" (13 : Nat) "FollowingRefs$Store" "isOn" "Z" "FollowingRefs") ∈ lw_tbl := lw_at lw_m1 206 rfl
theorem q370 : (Jvm.Cond.fieldLink "FollowingRefs$Store" (41 : Nat) "FollowingRefs$Store" "isOn" "Z") ∈ lw_all := lw_g (lw_at lw_m1 207 rfl) rfl
theorem q371 : (Jvm.Cond.fieldLinkNest "FollowingRefs$Statement" (45 : Nat) "FollowingRefs$Store" "isOn" "Z" "FollowingRefs") ∈ lw_tbl := lw_at lw_m1 208 rfl
theorem q372 : (Jvm.Cond.fieldLinkNest "FollowingRefs" (239 : Nat) "FollowingRefs$Store" "isOn" "Z" "FollowingRefs") ∈ lw_tbl := lw_at lw_m1 209 rfl
theorem q373 : (Jvm.Cond.fieldLink "FollowingRefs$Store" (14 : Nat) "FollowingRefs$Store" "rows" "Ljava/util/ArrayList;") ∈ lw_all := lw_g (lw_at lw_m1 210 rfl) rfl
theorem q374 : (Jvm.Cond.fieldLinkNest "FollowingRefs$Inserts" (15 : Nat) "FollowingRefs$Store" "rows" "Ljava/util/ArrayList;" "FollowingRefs") ∈ lw_tbl := lw_at lw_m1 211 rfl
theorem q375 : (Jvm.Cond.fieldLinkNest "FollowingRefs$Statement" (16 : Nat) "FollowingRefs$Store" "rows" "Ljava/util/ArrayList;" "FollowingRefs") ∈ lw_tbl := lw_at lw_m1 212 rfl
theorem q376 : (Jvm.Cond.fieldLinkNest "FollowingRefs$Finds" (43 : Nat) "FollowingRefs$Store" "rows" "Ljava/util/ArrayList;" "FollowingRefs") ∈ lw_tbl := lw_at lw_m1 213 rfl
theorem q377 : (Jvm.Cond.fieldLinkNest "FollowingRefs$Plan" (119 : Nat) "FollowingRefs$Store" "rows" "Ljava/util/ArrayList;" "FollowingRefs") ∈ lw_tbl := lw_at lw_m1 214 rfl
theorem q378 : (Jvm.Cond.fieldLinkNest "FollowingRefs" (246 : Nat) "FollowingRefs$Store" "rows" "Ljava/util/ArrayList;" "FollowingRefs") ∈ lw_tbl := lw_at lw_m1 215 rfl
theorem q379 : (Jvm.Cond.fieldLink "FollowingRefs$Store" (20 : Nat) "FollowingRefs$Store" "ahead" "Ljava/util/ArrayList;") ∈ lw_all := lw_g (lw_at lw_m1 216 rfl) rfl
theorem q380 : (Jvm.Cond.fieldLink "FollowingRefs$Store" (23 : Nat) "FollowingRefs$Store" "was" "Ljava/util/ArrayList;") ∈ lw_all := lw_g (lw_at lw_m1 217 rfl) rfl
theorem q381 : (Jvm.Cond.fieldLinkNest "FollowingRefs$Statement" (22 : Nat) "FollowingRefs$Store" "was" "Ljava/util/ArrayList;" "FollowingRefs") ∈ lw_tbl := lw_at lw_m1 218 rfl
theorem q382 : (Jvm.Cond.fieldLink "FollowingRefs$Store" (29 : Nat) "FollowingRefs$Store" "broken" "Ljava/util/BitSet;") ∈ lw_all := lw_g (lw_at lw_m1 219 rfl) rfl
theorem q383 : (Jvm.Cond.fieldLinkNest "FollowingRefs$IsWhat" (59 : Nat) "FollowingRefs$Store" "broken" "Ljava/util/BitSet;" "FollowingRefs") ∈ lw_tbl := lw_at lw_m1 220 rfl
theorem q384 : (Jvm.Cond.lays "FollowingRefs$Store" "FollowingRefs$Store" "s" "LFollowingRefs$Schema;") ∈ lw_all := lw_g (lw_at lw_m1 221 rfl) rfl
theorem q386 : (Jvm.Cond.lays "FollowingRefs$Store" "FollowingRefs$Store" "inserted" "I") ∈ lw_all := lw_g (lw_at lw_m1 223 rfl) rfl
theorem q388 : (Jvm.Cond.lays "FollowingRefs$Store" "FollowingRefs$Store" "isOn" "Z") ∈ lw_all := lw_g (lw_at lw_m1 225 rfl) rfl
theorem q390 : (Jvm.Cond.laysFinal "FollowingRefs$Store" "FollowingRefs$Store" "rows" "Ljava/util/ArrayList;") ∈ lw_all := lw_g (lw_at lw_m1 227 rfl) rfl
theorem q392 : (Jvm.Cond.laysFinal "FollowingRefs$Store" "FollowingRefs$Store" "ahead" "Ljava/util/ArrayList;") ∈ lw_all := lw_g (lw_at lw_m1 229 rfl) rfl
theorem q394 : (Jvm.Cond.laysFinal "FollowingRefs$Store" "FollowingRefs$Store" "was" "Ljava/util/ArrayList;") ∈ lw_all := lw_g (lw_at lw_m1 231 rfl) rfl
theorem q396 : (Jvm.Cond.laysFinal "FollowingRefs$Store" "FollowingRefs$Store" "broken" "Ljava/util/BitSet;") ∈ lw_all := lw_g (lw_at lw_m1 233 rfl) rfl
theorem q399 : (Jvm.Cond.methodLink "FollowingRefs" (30 : Nat) ({ cls := "FollowingRefs$Store", name := "begin", desc := "(LFollowingRefs$Schema;)LFollowingRefs$Store;" } : Jvm.MethodName)) ∈ lw_all := lw_g (lw_at lw_m1 236 rfl) rfl
theorem q400 : (Jvm.Cond.instanceMethod ({ cls := "FollowingRefs$Store", name := "begin", desc := "(LFollowingRefs$Schema;)LFollowingRefs$Store;" } : Jvm.MethodName)) ∈ lw_all := lw_g (lw_at lw_m1 237 rfl) rfl
theorem q401 : (Jvm.Cond.selects "FollowingRefs$Store" ({ cls := "FollowingRefs$Store", name := "begin", desc := "(LFollowingRefs$Schema;)LFollowingRefs$Store;" } : Jvm.MethodName) ({ cls := "FollowingRefs$Store", name := "begin", desc := "(LFollowingRefs$Schema;)LFollowingRefs$Store;" } : Jvm.MethodName)) ∈ lw_all := lw_g (lw_at lw_m1 238 rfl) rfl
theorem q402 : (Jvm.Cond.code ({ cls := "FollowingRefs$Store", name := "begin", desc := "(LFollowingRefs$Schema;)LFollowingRefs$Store;" } : Jvm.MethodName) prog_26_method_2_code (2 : Nat) (Option.some (Jvm.ClassFile.FieldType.object "FollowingRefs$Store"))) ∈ lw_all := lw_g (lw_at lw_m1 239 rfl) rfl
theorem q403 : (Jvm.Cond.methodLink "FollowingRefs$Store" (45 : Nat) ({ cls := "java/util/ArrayList", name := "clear", desc := "()V" } : Jvm.MethodName)) ∈ lw_all := lw_g (lw_at lw_m2 0 rfl) rfl
theorem q404 : (Jvm.Cond.instanceMethod ({ cls := "java/util/ArrayList", name := "clear", desc := "()V" } : Jvm.MethodName)) ∈ lw_all := lw_g (lw_at lw_m2 1 rfl) rfl
theorem q405 : (Jvm.Cond.selects "java/util/ArrayList" ({ cls := "java/util/ArrayList", name := "clear", desc := "()V" } : Jvm.MethodName) ({ cls := "java/util/ArrayList", name := "clear", desc := "()V" } : Jvm.MethodName)) ∈ lw_all := lw_g (lw_at lw_m2 2 rfl) rfl
theorem q406 : (Jvm.Cond.code ({ cls := "java/util/ArrayList", name := "clear", desc := "()V" } : Jvm.MethodName) prog_66_method_40_code (4 : Nat) (Option.none : Option Jvm.ClassFile.FieldType)) ∈ lw_all := lw_g (lw_at lw_m2 3 rfl) rfl
theorem q407 : (Jvm.Cond.classLink "FollowingRefs" (41 : Nat) "FollowingRefs$Plan") ∈ lw_all := lw_g (lw_at lw_m2 4 rfl) rfl
theorem q408 : (Jvm.Cond.instantiable "FollowingRefs$Plan" (6 : Nat)) ∈ lw_all := lw_g (lw_at lw_m2 5 rfl) rfl
theorem q409 : (Jvm.Cond.methodLinkNest "FollowingRefs" (43 : Nat) ({ cls := "FollowingRefs$Plan", name := "<init>", desc := "()V" } : Jvm.MethodName) "FollowingRefs") ∈ lw_tbl := lw_at lw_m2 6 rfl
theorem q410 : (Jvm.Cond.instanceMethod ({ cls := "FollowingRefs$Plan", name := "<init>", desc := "()V" } : Jvm.MethodName)) ∈ lw_all := lw_g (lw_at lw_m2 7 rfl) rfl
theorem q411 : (Jvm.Cond.code ({ cls := "FollowingRefs$Plan", name := "<init>", desc := "()V" } : Jvm.MethodName) prog_15_method_1_code (1 : Nat) (Option.none : Option Jvm.ClassFile.FieldType)) ∈ lw_all := lw_g (lw_at lw_m2 8 rfl) rfl
theorem q412 : (Jvm.Cond.methodLink "FollowingRefs$Plan" (3 : Nat) ({ cls := "java/lang/Object", name := "<init>", desc := "()V" } : Jvm.MethodName)) ∈ lw_all := lw_g (lw_at lw_m2 9 rfl) rfl
theorem q413 : (Jvm.Cond.classLink "FollowingRefs$Plan" (9 : Nat) "java/util/BitSet") ∈ lw_all := lw_g (lw_at lw_m2 10 rfl) rfl
theorem q414 : (Jvm.Cond.methodLink "FollowingRefs$Plan" (11 : Nat) ({ cls := "java/util/BitSet", name := "<init>", desc := "()V" } : Jvm.MethodName)) ∈ lw_all := lw_g (lw_at lw_m2 11 rfl) rfl
theorem q415 : (Jvm.Cond.fieldLink "FollowingRefs$Plan" (25 : Nat) "FollowingRefs$Plan" "st" "LFollowingRefs$Store;") ∈ lw_all := lw_g (lw_at lw_m2 12 rfl) rfl
theorem q416 : (Jvm.Cond.fieldLink "FollowingRefs$Plan" (12 : Nat) "FollowingRefs$Plan" "going" "Ljava/util/BitSet;") ∈ lw_all := lw_g (lw_at lw_m2 13 rfl) rfl
theorem q417 : (Jvm.Cond.fieldLinkNest "FollowingRefs$Finds" (73 : Nat) "FollowingRefs$Plan" "going" "Ljava/util/BitSet;" "FollowingRefs") ∈ lw_tbl := lw_at lw_m2 14 rfl
theorem q418 : (Jvm.Cond.fieldLinkNest "FollowingRefs" (202 : Nat) "FollowingRefs$Plan" "going" "Ljava/util/BitSet;" "FollowingRefs") ∈ lw_tbl := lw_at lw_m2 15 rfl
theorem q419 : (Jvm.Cond.fieldLink "FollowingRefs$Plan" (18 : Nat) "FollowingRefs$Plan" "wanted" "[I") ∈ lw_all := lw_g (lw_at lw_m2 16 rfl) rfl
theorem q420 : (Jvm.Cond.fieldLink "FollowingRefs$Plan" (22 : Nat) "FollowingRefs$Plan" "steps" "[I") ∈ lw_all := lw_g (lw_at lw_m2 17 rfl) rfl
theorem q421 : (Jvm.Cond.fieldLinkNest "FollowingRefs" (215 : Nat) "FollowingRefs$Plan" "steps" "[I" "FollowingRefs") ∈ lw_tbl := lw_at lw_m2 18 rfl
theorem q422 : (Jvm.Cond.fieldLink "FollowingRefs$Plan" (38 : Nat) "FollowingRefs$Plan" "clashes" "Z") ∈ lw_all := lw_g (lw_at lw_m2 19 rfl) rfl
theorem q423 : (Jvm.Cond.fieldLinkNest "FollowingRefs$Finds" (84 : Nat) "FollowingRefs$Plan" "clashes" "Z" "FollowingRefs") ∈ lw_tbl := lw_at lw_m2 20 rfl
theorem q424 : (Jvm.Cond.fieldLink "FollowingRefs$Plan" (58 : Nat) "FollowingRefs$Plan" "isMore" "Z") ∈ lw_all := lw_g (lw_at lw_m2 21 rfl) rfl
theorem q425 : (Jvm.Cond.lays "FollowingRefs$Plan" "FollowingRefs$Plan" "st" "LFollowingRefs$Store;") ∈ lw_all := lw_g (lw_at lw_m2 22 rfl) rfl
theorem q427 : (Jvm.Cond.laysFinal "FollowingRefs$Plan" "FollowingRefs$Plan" "going" "Ljava/util/BitSet;") ∈ lw_all := lw_g (lw_at lw_m2 24 rfl) rfl
theorem q429 : (Jvm.Cond.laysFinal "FollowingRefs$Plan" "FollowingRefs$Plan" "wanted" "[I") ∈ lw_all := lw_g (lw_at lw_m2 26 rfl) rfl
theorem q431 : (Jvm.Cond.laysFinal "FollowingRefs$Plan" "FollowingRefs$Plan" "steps" "[I") ∈ lw_all := lw_g (lw_at lw_m2 28 rfl) rfl
theorem q433 : (Jvm.Cond.lays "FollowingRefs$Plan" "FollowingRefs$Plan" "clashes" "Z") ∈ lw_all := lw_g (lw_at lw_m2 30 rfl) rfl
theorem q435 : (Jvm.Cond.lays "FollowingRefs$Plan" "FollowingRefs$Plan" "isMore" "Z") ∈ lw_all := lw_g (lw_at lw_m2 32 rfl) rfl
theorem q438 : (Jvm.Cond.arrayClass Jvm.ClassFile.FieldType.int) ∈ lw_all := lw_g (lw_at lw_m2 35 rfl) rfl
theorem q439 : (Jvm.Cond.methodLink "FollowingRefs" (44 : Nat) ({ cls := "FollowingRefs$Plan", name := "begin", desc := "(LFollowingRefs$Store;)LFollowingRefs$Plan;" } : Jvm.MethodName)) ∈ lw_all := lw_g (lw_at lw_m2 36 rfl) rfl
theorem q440 : (Jvm.Cond.instanceMethod ({ cls := "FollowingRefs$Plan", name := "begin", desc := "(LFollowingRefs$Store;)LFollowingRefs$Plan;" } : Jvm.MethodName)) ∈ lw_all := lw_g (lw_at lw_m2 37 rfl) rfl
theorem q441 : (Jvm.Cond.selects "FollowingRefs$Plan" ({ cls := "FollowingRefs$Plan", name := "begin", desc := "(LFollowingRefs$Store;)LFollowingRefs$Plan;" } : Jvm.MethodName) ({ cls := "FollowingRefs$Plan", name := "begin", desc := "(LFollowingRefs$Store;)LFollowingRefs$Plan;" } : Jvm.MethodName)) ∈ lw_all := lw_g (lw_at lw_m2 38 rfl) rfl
theorem q442 : (Jvm.Cond.code ({ cls := "FollowingRefs$Plan", name := "begin", desc := "(LFollowingRefs$Store;)LFollowingRefs$Plan;" } : Jvm.MethodName) prog_15_method_2_code (2 : Nat) (Option.some (Jvm.ClassFile.FieldType.object "FollowingRefs$Plan"))) ∈ lw_all := lw_g (lw_at lw_m2 39 rfl) rfl
theorem q443 : (Jvm.Cond.methodLink "FollowingRefs$Plan" (29 : Nat) ({ cls := "java/util/BitSet", name := "clear", desc := "()V" } : Jvm.MethodName)) ∈ lw_all := lw_g (lw_at lw_m2 40 rfl) rfl
theorem q444 : (Jvm.Cond.instanceMethod ({ cls := "java/util/BitSet", name := "clear", desc := "()V" } : Jvm.MethodName)) ∈ lw_all := lw_g (lw_at lw_m2 41 rfl) rfl
theorem q445 : (Jvm.Cond.selects "java/util/BitSet" ({ cls := "java/util/BitSet", name := "clear", desc := "()V" } : Jvm.MethodName) ({ cls := "java/util/BitSet", name := "clear", desc := "()V" } : Jvm.MethodName)) ∈ lw_all := lw_g (lw_at lw_m2 42 rfl) rfl
theorem q446 : (Jvm.Cond.code ({ cls := "java/util/BitSet", name := "clear", desc := "()V" } : Jvm.MethodName) prog_71_method_25_code (1 : Nat) (Option.none : Option Jvm.ClassFile.FieldType)) ∈ lw_all := lw_g (lw_at lw_m2 43 rfl) rfl
theorem q447 : (Jvm.Cond.methodLink "FollowingRefs$Plan" (32 : Nat) ({ cls := "java/util/Arrays", name := "fill", desc := "([II)V" } : Jvm.MethodName)) ∈ lw_all := lw_g (lw_at lw_m2 44 rfl) rfl
theorem q448 : (Jvm.Cond.static ({ cls := "java/util/Arrays", name := "fill", desc := "([II)V" } : Jvm.MethodName)) ∈ lw_all := lw_g (lw_at lw_m2 45 rfl) rfl
theorem q449 : (Jvm.Cond.code ({ cls := "java/util/Arrays", name := "fill", desc := "([II)V" } : Jvm.MethodName) prog_69_method_103_code (4 : Nat) (Option.none : Option Jvm.ClassFile.FieldType)) ∈ lw_all := lw_g (lw_at lw_m2 46 rfl) rfl
theorem q450 : (Jvm.Cond.arrayOver (Jvm.ClassFile.FieldType.object "FollowingRefs$Store")) ∈ lw_tbl := lw_at lw_m2 47 rfl
theorem q451 : (Jvm.Cond.classLink "FollowingRefs" (58 : Nat) "java/util/LinkedList") ∈ lw_all := lw_g (lw_at lw_m2 48 rfl) rfl
theorem q452 : (Jvm.Cond.instantiable "java/util/LinkedList" (4 : Nat)) ∈ lw_all := lw_g (lw_at lw_m2 49 rfl) rfl
theorem q453 : (Jvm.Cond.methodLink "FollowingRefs" (60 : Nat) ({ cls := "java/util/LinkedList", name := "<init>", desc := "()V" } : Jvm.MethodName)) ∈ lw_all := lw_g (lw_at lw_m2 50 rfl) rfl
theorem q454 : (Jvm.Cond.instanceMethod ({ cls := "java/util/LinkedList", name := "<init>", desc := "()V" } : Jvm.MethodName)) ∈ lw_all := lw_g (lw_at lw_m2 51 rfl) rfl
theorem q455 : (Jvm.Cond.code ({ cls := "java/util/LinkedList", name := "<init>", desc := "()V" } : Jvm.MethodName) prog_79_method_1_code (1 : Nat) (Option.none : Option Jvm.ClassFile.FieldType)) ∈ lw_all := lw_g (lw_at lw_m2 52 rfl) rfl
theorem q456 : (Jvm.Cond.methodLink "java/util/LinkedList" (1 : Nat) ({ cls := "java/util/AbstractSequentialList", name := "<init>", desc := "()V" } : Jvm.MethodName)) ∈ lw_all := lw_g (lw_at lw_m2 53 rfl) rfl
theorem q457 : (Jvm.Cond.instanceMethod ({ cls := "java/util/AbstractSequentialList", name := "<init>", desc := "()V" } : Jvm.MethodName)) ∈ lw_all := lw_g (lw_at lw_m2 54 rfl) rfl
theorem q458 : (Jvm.Cond.code ({ cls := "java/util/AbstractSequentialList", name := "<init>", desc := "()V" } : Jvm.MethodName) prog_63_method_1_code (1 : Nat) (Option.none : Option Jvm.ClassFile.FieldType)) ∈ lw_all := lw_g (lw_at lw_m2 55 rfl) rfl
theorem q459 : (Jvm.Cond.methodLink "java/util/AbstractSequentialList" (1 : Nat) ({ cls := "java/util/AbstractList", name := "<init>", desc := "()V" } : Jvm.MethodName)) ∈ lw_all := lw_g (lw_at lw_m2 56 rfl) rfl
theorem q460 : (Jvm.Cond.fieldLink "java/util/LinkedList" (7 : Nat) "java/util/LinkedList" "size" "I") ∈ lw_all := lw_g (lw_at lw_m2 57 rfl) rfl
theorem q461 : (Jvm.Cond.fieldLink "java/util/LinkedList$ListItr" (22 : Nat) "java/util/LinkedList" "size" "I") ∈ lw_all := lw_g (lw_at lw_m2 58 rfl) rfl
theorem q462 : (Jvm.Cond.fieldLink "java/util/LinkedList" (18 : Nat) "java/util/LinkedList" "first" "Ljava/util/LinkedList$Node;") ∈ lw_all := lw_g (lw_at lw_m2 59 rfl) rfl
theorem q463 : (Jvm.Cond.fieldLink "java/util/LinkedList" (27 : Nat) "java/util/LinkedList" "last" "Ljava/util/LinkedList$Node;") ∈ lw_all := lw_g (lw_at lw_m2 60 rfl) rfl
theorem q464 : (Jvm.Cond.lays "java/util/LinkedList" "java/util/LinkedList" "size" "I") ∈ lw_all := lw_g (lw_at lw_m2 61 rfl) rfl
theorem q466 : (Jvm.Cond.lays "java/util/LinkedList" "java/util/LinkedList" "first" "Ljava/util/LinkedList$Node;") ∈ lw_all := lw_g (lw_at lw_m2 63 rfl) rfl
theorem q468 : (Jvm.Cond.lays "java/util/LinkedList" "java/util/LinkedList" "last" "Ljava/util/LinkedList$Node;") ∈ lw_all := lw_g (lw_at lw_m2 65 rfl) rfl
theorem q470 : (Jvm.Cond.lays "java/util/LinkedList" "java/util/AbstractList" "modCount" "I") ∈ lw_all := lw_g (lw_at lw_m2 67 rfl) rfl
theorem q472 : (Jvm.Cond.classLink "FollowingRefs" (65 : Nat) "java/util/ArrayList") ∈ lw_all := lw_g (lw_at lw_m2 69 rfl) rfl
theorem q473 : (Jvm.Cond.methodLink "FollowingRefs" (67 : Nat) ({ cls := "java/util/ArrayList", name := "<init>", desc := "()V" } : Jvm.MethodName)) ∈ lw_all := lw_g (lw_at lw_m2 70 rfl) rfl
theorem q475 : (Jvm.Cond.classLink "FollowingRefs" (82 : Nat) "FollowingRefs$Kept") ∈ lw_all := lw_g (lw_at lw_m2 72 rfl) rfl
theorem q476 : (Jvm.Cond.arrayOver (Jvm.ClassFile.FieldType.object "FollowingRefs$Kept")) ∈ lw_tbl := lw_at lw_m2 73 rfl
theorem q477 : (Jvm.Cond.instantiable "FollowingRefs$Kept" (3 : Nat)) ∈ lw_all := lw_g (lw_at lw_m2 74 rfl) rfl
theorem q478 : (Jvm.Cond.methodLinkNest "FollowingRefs" (84 : Nat) ({ cls := "FollowingRefs$Kept", name := "<init>", desc := "()V" } : Jvm.MethodName) "FollowingRefs") ∈ lw_tbl := lw_at lw_m2 75 rfl
theorem q479 : (Jvm.Cond.instanceMethod ({ cls := "FollowingRefs$Kept", name := "<init>", desc := "()V" } : Jvm.MethodName)) ∈ lw_all := lw_g (lw_at lw_m2 76 rfl) rfl
theorem q480 : (Jvm.Cond.code ({ cls := "FollowingRefs$Kept", name := "<init>", desc := "()V" } : Jvm.MethodName) prog_12_method_1_code (1 : Nat) (Option.none : Option Jvm.ClassFile.FieldType)) ∈ lw_all := lw_g (lw_at lw_m2 77 rfl) rfl
theorem q481 : (Jvm.Cond.methodLink "FollowingRefs$Kept" (1 : Nat) ({ cls := "java/lang/Object", name := "<init>", desc := "()V" } : Jvm.MethodName)) ∈ lw_all := lw_g (lw_at lw_m2 78 rfl) rfl
theorem q482 : (Jvm.Cond.classLink "FollowingRefs$Kept" (7 : Nat) "FollowingRefs$Store") ∈ lw_all := lw_g (lw_at lw_m2 79 rfl) rfl
theorem q483 : (Jvm.Cond.methodLinkNest "FollowingRefs$Kept" (9 : Nat) ({ cls := "FollowingRefs$Store", name := "<init>", desc := "()V" } : Jvm.MethodName) "FollowingRefs") ∈ lw_tbl := lw_at lw_m2 80 rfl
theorem q484 : (Jvm.Cond.fieldLinkNest "FollowingRefs" (484 : Nat) "FollowingRefs$Kept" "schema" "LFollowingRefs$Schema;" "FollowingRefs") ∈ lw_tbl := lw_at lw_m2 81 rfl
theorem q485 : (Jvm.Cond.fieldLinkNest "FollowingRefs" (485 : Nat) "FollowingRefs$Kept" "sentence" "LFollowingRefs$Cond;" "FollowingRefs") ∈ lw_tbl := lw_at lw_m2 82 rfl
theorem q486 : (Jvm.Cond.fieldLink "FollowingRefs$Kept" (10 : Nat) "FollowingRefs$Kept" "store" "LFollowingRefs$Store;") ∈ lw_all := lw_g (lw_at lw_m2 83 rfl) rfl
theorem q487 : (Jvm.Cond.fieldLinkNest "FollowingRefs" (486 : Nat) "FollowingRefs$Kept" "store" "LFollowingRefs$Store;" "FollowingRefs") ∈ lw_tbl := lw_at lw_m2 84 rfl
theorem q488 : (Jvm.Cond.lays "FollowingRefs$Kept" "FollowingRefs$Kept" "schema" "LFollowingRefs$Schema;") ∈ lw_all := lw_g (lw_at lw_m2 85 rfl) rfl
theorem q490 : (Jvm.Cond.lays "FollowingRefs$Kept" "FollowingRefs$Kept" "sentence" "LFollowingRefs$Cond;") ∈ lw_all := lw_g (lw_at lw_m2 87 rfl) rfl
theorem q492 : (Jvm.Cond.laysFinal "FollowingRefs$Kept" "FollowingRefs$Kept" "store" "LFollowingRefs$Store;") ∈ lw_all := lw_g (lw_at lw_m2 89 rfl) rfl
theorem q495 : (Jvm.Cond.fieldLink "FollowingRefs" (16 : Nat) "FollowingRefs" "tape" "[B") ∈ lw_all := lw_g (lw_at lw_m2 92 rfl) rfl
theorem q496 : (Jvm.Cond.fieldLink "FollowingRefs" (89 : Nat) "FollowingRefs" "taped" "I") ∈ lw_all := lw_g (lw_at lw_m2 93 rfl) rfl
theorem q497 : (Jvm.Cond.fieldLink "FollowingRefs" (101 : Nat) "FollowingRefs" "fault" "I") ∈ lw_all := lw_g (lw_at lw_m2 94 rfl) rfl
theorem q498 : (Jvm.Cond.fieldLink "FollowingRefs" (23 : Nat) "FollowingRefs" "schema" "LFollowingRefs$Schema;") ∈ lw_all := lw_g (lw_at lw_m2 95 rfl) rfl
theorem q499 : (Jvm.Cond.fieldLink "FollowingRefs" (34 : Nat) "FollowingRefs" "now" "LFollowingRefs$Store;") ∈ lw_all := lw_g (lw_at lw_m2 96 rfl) rfl
theorem q500 : (Jvm.Cond.fieldLink "FollowingRefs" (38 : Nat) "FollowingRefs" "trial" "LFollowingRefs$Store;") ∈ lw_all := lw_g (lw_at lw_m2 97 rfl) rfl
theorem q501 : (Jvm.Cond.fieldLink "FollowingRefs" (47 : Nat) "FollowingRefs" "plan" "LFollowingRefs$Plan;") ∈ lw_all := lw_g (lw_at lw_m2 98 rfl) rfl
theorem q502 : (Jvm.Cond.fieldLink "FollowingRefs" (51 : Nat) "FollowingRefs" "side" "LFollowingRefs$Plan;") ∈ lw_all := lw_g (lw_at lw_m2 99 rfl) rfl
theorem q503 : (Jvm.Cond.fieldLink "FollowingRefs" (113 : Nat) "FollowingRefs" "sentence" "LFollowingRefs$Cond;") ∈ lw_all := lw_g (lw_at lw_m2 100 rfl) rfl
theorem q504 : (Jvm.Cond.fieldLink "FollowingRefs" (54 : Nat) "FollowingRefs" "before" "[LFollowingRefs$Store;") ∈ lw_all := lw_g (lw_at lw_m2 101 rfl) rfl
theorem q505 : (Jvm.Cond.fieldLink "FollowingRefs" (117 : Nat) "FollowingRefs" "befores" "I") ∈ lw_all := lw_g (lw_at lw_m2 102 rfl) rfl
theorem q506 : (Jvm.Cond.fieldLink "FollowingRefs" (168 : Nat) "FollowingRefs" "verdict" "LFollowingRefs$Verdict;") ∈ lw_all := lw_g (lw_at lw_m2 103 rfl) rfl
theorem q507 : (Jvm.Cond.fieldLink "FollowingRefs" (61 : Nat) "FollowingRefs" "violated" "Ljava/util/LinkedList;") ∈ lw_all := lw_g (lw_at lw_m2 104 rfl) rfl
theorem q508 : (Jvm.Cond.fieldLink "FollowingRefs" (68 : Nat) "FollowingRefs" "order" "Ljava/util/ArrayList;") ∈ lw_all := lw_g (lw_at lw_m2 105 rfl) rfl
theorem q509 : (Jvm.Cond.fieldLink "FollowingRefs" (74 : Nat) "FollowingRefs" "tag" "Ljava/lang/String;") ∈ lw_all := lw_g (lw_at lw_m2 106 rfl) rfl
theorem q510 : (Jvm.Cond.fieldLink "FollowingRefs" (406 : Nat) "FollowingRefs" "seed" "I") ∈ lw_all := lw_g (lw_at lw_m2 107 rfl) rfl
theorem q511 : (Jvm.Cond.fieldLink "FollowingRefs" (78 : Nat) "FollowingRefs" "told" "[I") ∈ lw_all := lw_g (lw_at lw_m2 108 rfl) rfl
theorem q512 : (Jvm.Cond.fieldLink "FollowingRefs" (85 : Nat) "FollowingRefs" "kept" "[LFollowingRefs$Kept;") ∈ lw_all := lw_g (lw_at lw_m2 109 rfl) rfl
theorem q513 : (Jvm.Cond.laysFinal "FollowingRefs" "FollowingRefs" "tape" "[B") ∈ lw_all := lw_g (lw_at lw_m2 110 rfl) rfl
theorem q515 : (Jvm.Cond.lays "FollowingRefs" "FollowingRefs" "taped" "I") ∈ lw_all := lw_g (lw_at lw_m2 112 rfl) rfl
theorem q517 : (Jvm.Cond.lays "FollowingRefs" "FollowingRefs" "fault" "I") ∈ lw_all := lw_g (lw_at lw_m2 114 rfl) rfl
theorem q519 : (Jvm.Cond.lays "FollowingRefs" "FollowingRefs" "schema" "LFollowingRefs$Schema;") ∈ lw_all := lw_g (lw_at lw_m2 116 rfl) rfl
theorem q521 : (Jvm.Cond.laysFinal "FollowingRefs" "FollowingRefs" "now" "LFollowingRefs$Store;") ∈ lw_all := lw_g (lw_at lw_m2 118 rfl) rfl
theorem q523 : (Jvm.Cond.laysFinal "FollowingRefs" "FollowingRefs" "trial" "LFollowingRefs$Store;") ∈ lw_all := lw_g (lw_at lw_m2 120 rfl) rfl
theorem q525 : (Jvm.Cond.laysFinal "FollowingRefs" "FollowingRefs" "plan" "LFollowingRefs$Plan;") ∈ lw_all := lw_g (lw_at lw_m2 122 rfl) rfl
theorem q527 : (Jvm.Cond.laysFinal "FollowingRefs" "FollowingRefs" "side" "LFollowingRefs$Plan;") ∈ lw_all := lw_g (lw_at lw_m2 124 rfl) rfl
theorem q529 : (Jvm.Cond.lays "FollowingRefs" "FollowingRefs" "sentence" "LFollowingRefs$Cond;") ∈ lw_all := lw_g (lw_at lw_m2 126 rfl) rfl
theorem q531 : (Jvm.Cond.laysFinal "FollowingRefs" "FollowingRefs" "before" "[LFollowingRefs$Store;") ∈ lw_all := lw_g (lw_at lw_m2 128 rfl) rfl
theorem q533 : (Jvm.Cond.lays "FollowingRefs" "FollowingRefs" "befores" "I") ∈ lw_all := lw_g (lw_at lw_m2 130 rfl) rfl
theorem q535 : (Jvm.Cond.lays "FollowingRefs" "FollowingRefs" "verdict" "LFollowingRefs$Verdict;") ∈ lw_all := lw_g (lw_at lw_m2 132 rfl) rfl
theorem q537 : (Jvm.Cond.lays "FollowingRefs" "FollowingRefs" "violated" "Ljava/util/LinkedList;") ∈ lw_all := lw_g (lw_at lw_m2 134 rfl) rfl
theorem q539 : (Jvm.Cond.laysFinal "FollowingRefs" "FollowingRefs" "order" "Ljava/util/ArrayList;") ∈ lw_all := lw_g (lw_at lw_m2 136 rfl) rfl
theorem q541 : (Jvm.Cond.lays "FollowingRefs" "FollowingRefs" "tag" "Ljava/lang/String;") ∈ lw_all := lw_g (lw_at lw_m2 138 rfl) rfl
theorem q543 : (Jvm.Cond.lays "FollowingRefs" "FollowingRefs" "seed" "I") ∈ lw_all := lw_g (lw_at lw_m2 140 rfl) rfl
theorem q545 : (Jvm.Cond.laysFinal "FollowingRefs" "FollowingRefs" "told" "[I") ∈ lw_all := lw_g (lw_at lw_m2 142 rfl) rfl
theorem q547 : (Jvm.Cond.laysFinal "FollowingRefs" "FollowingRefs" "kept" "[LFollowingRefs$Kept;") ∈ lw_all := lw_g (lw_at lw_m2 144 rfl) rfl
theorem q550 : (Jvm.Cond.methodLink "FollowingRefsLaw" (26 : Nat) ({ cls := "FollowingRefs", name := "feed", desc := "(IIIII)I" } : Jvm.MethodName)) ∈ lw_all := lw_g (lw_at lw_m2 147 rfl) rfl
theorem q551 : (Jvm.Cond.instanceMethod ({ cls := "FollowingRefs", name := "feed", desc := "(IIIII)I" } : Jvm.MethodName)) ∈ lw_all := lw_g (lw_at lw_m2 148 rfl) rfl
theorem q552 : (Jvm.Cond.selects "FollowingRefs" ({ cls := "FollowingRefs", name := "feed", desc := "(IIIII)I" } : Jvm.MethodName) ({ cls := "FollowingRefs", name := "feed", desc := "(IIIII)I" } : Jvm.MethodName)) ∈ lw_all := lw_g (lw_at lw_m2 149 rfl) rfl
theorem q553 : (Jvm.Cond.code ({ cls := "FollowingRefs", name := "feed", desc := "(IIIII)I" } : Jvm.MethodName) prog_1_method_7_code (6 : Nat) (Option.some Jvm.ClassFile.FieldType.int)) ∈ lw_all := lw_g (lw_at lw_m2 150 rfl) rfl
theorem q554 : (Jvm.Cond.methodLink "FollowingRefs" (93 : Nat) ({ cls := "FollowingRefs", name := "feedOne", desc := "(I)V" } : Jvm.MethodName)) ∈ lw_all := lw_g (lw_at lw_m2 151 rfl) rfl
theorem q556 : (Jvm.Cond.instanceMethod ({ cls := "FollowingRefs", name := "feedOne", desc := "(I)V" } : Jvm.MethodName)) ∈ lw_all := lw_g (lw_at lw_m2 153 rfl) rfl
theorem q557 : (Jvm.Cond.code ({ cls := "FollowingRefs", name := "feedOne", desc := "(I)V" } : Jvm.MethodName) prog_1_method_6_code (3 : Nat) (Option.none : Option Jvm.ClassFile.FieldType)) ∈ lw_all := lw_g (lw_at lw_m2 154 rfl) rfl
theorem q558 : (Jvm.Cond.methodLink "FollowingRefsLaw" (31 : Nat) ({ cls := "FollowingRefs", name := "end", desc := "(I)Z" } : Jvm.MethodName)) ∈ lw_all := lw_g (lw_at lw_m2 155 rfl) rfl
theorem q559 : (Jvm.Cond.instanceMethod ({ cls := "FollowingRefs", name := "end", desc := "(I)Z" } : Jvm.MethodName)) ∈ lw_all := lw_g (lw_at lw_m2 156 rfl) rfl
theorem q560 : (Jvm.Cond.selects "FollowingRefs" ({ cls := "FollowingRefs", name := "end", desc := "(I)Z" } : Jvm.MethodName) ({ cls := "FollowingRefs", name := "end", desc := "(I)Z" } : Jvm.MethodName)) ∈ lw_all := lw_g (lw_at lw_m2 157 rfl) rfl
theorem q561 : (Jvm.Cond.code ({ cls := "FollowingRefs", name := "end", desc := "(I)Z" } : Jvm.MethodName) prog_1_method_8_code (2 : Nat) (Option.some Jvm.ClassFile.FieldType.boolean)) ∈ lw_all := lw_g (lw_at lw_m2 158 rfl) rfl
theorem q562 : (Jvm.Cond.methodLink "FollowingRefsLaw" (36 : Nat) ({ cls := "FollowingRefs", name := "schema", desc := "()I" } : Jvm.MethodName)) ∈ lw_all := lw_g (lw_at lw_m2 159 rfl) rfl
theorem q563 : (Jvm.Cond.instanceMethod ({ cls := "FollowingRefs", name := "schema", desc := "()I" } : Jvm.MethodName)) ∈ lw_all := lw_g (lw_at lw_m2 160 rfl) rfl
theorem q564 : (Jvm.Cond.selects "FollowingRefs" ({ cls := "FollowingRefs", name := "schema", desc := "()I" } : Jvm.MethodName) ({ cls := "FollowingRefs", name := "schema", desc := "()I" } : Jvm.MethodName)) ∈ lw_all := lw_g (lw_at lw_m2 161 rfl) rfl
theorem q565 : (Jvm.Cond.codeWith ({ cls := "FollowingRefs", name := "schema", desc := "()I" } : Jvm.MethodName) prog_1_method_10_code (3 : Nat) (Option.some Jvm.ClassFile.FieldType.int) [((10 : Nat), (58 : Nat), (59 : Nat), (123 : Nat))]) ∈ lw_all := lw_g (lw_at lw_m2 162 rfl) rfl
theorem q566 : (Jvm.Cond.classLink "FollowingRefs" (123 : Nat) "FollowingRefs$Fault") ∈ lw_all := lw_g (lw_at lw_m2 163 rfl) rfl
theorem q567 : (Jvm.Cond.methodLink "FollowingRefs" (97 : Nat) ({ cls := "FollowingRefs", name := "takeAll", desc := "()I" } : Jvm.MethodName)) ∈ lw_all := lw_g (lw_at lw_m2 164 rfl) rfl
theorem q569 : (Jvm.Cond.instanceMethod ({ cls := "FollowingRefs", name := "takeAll", desc := "()I" } : Jvm.MethodName)) ∈ lw_all := lw_g (lw_at lw_m2 166 rfl) rfl
theorem q570 : (Jvm.Cond.code ({ cls := "FollowingRefs", name := "takeAll", desc := "()I" } : Jvm.MethodName) prog_1_method_9_code (2 : Nat) (Option.some Jvm.ClassFile.FieldType.int)) ∈ lw_all := lw_g (lw_at lw_m2 167 rfl) rfl
theorem q571 : (Jvm.Cond.classLink "FollowingRefs" (104 : Nat) "FollowingRefs$SchemaReader") ∈ lw_all := lw_g (lw_at lw_m2 168 rfl) rfl
theorem q572 : (Jvm.Cond.instantiable "FollowingRefs$SchemaReader" (10 : Nat)) ∈ lw_all := lw_g (lw_at lw_m2 169 rfl) rfl
theorem q573 : (Jvm.Cond.methodLink "FollowingRefs" (106 : Nat) ({ cls := "FollowingRefs$SchemaReader", name := "<init>", desc := "([BI)V" } : Jvm.MethodName)) ∈ lw_all := lw_g (lw_at lw_m2 170 rfl) rfl
theorem q574 : (Jvm.Cond.instanceMethod ({ cls := "FollowingRefs$SchemaReader", name := "<init>", desc := "([BI)V" } : Jvm.MethodName)) ∈ lw_all := lw_g (lw_at lw_m2 171 rfl) rfl
theorem q575 : (Jvm.Cond.code ({ cls := "FollowingRefs$SchemaReader", name := "<init>", desc := "([BI)V" } : Jvm.MethodName) prog_20_method_1_code (3 : Nat) (Option.none : Option Jvm.ClassFile.FieldType)) ∈ lw_all := lw_g (lw_at lw_m2 172 rfl) rfl
theorem q576 : (Jvm.Cond.classLink "FollowingRefs$SchemaReader" (3 : Nat) "FollowingRefs$Schema") ∈ lw_all := lw_g (lw_at lw_m2 173 rfl) rfl
theorem q577 : (Jvm.Cond.methodLinkNest "FollowingRefs$SchemaReader" (5 : Nat) ({ cls := "FollowingRefs$Schema", name := "<init>", desc := "()V" } : Jvm.MethodName) "FollowingRefs") ∈ lw_tbl := lw_at lw_m2 174 rfl
theorem q578 : (Jvm.Cond.methodLink "FollowingRefs$SchemaReader" (9 : Nat) ({ cls := "FollowingRefs$Reader", name := "<init>", desc := "([BIILFollowingRefs$Schema;)V" } : Jvm.MethodName)) ∈ lw_all := lw_g (lw_at lw_m2 175 rfl) rfl
theorem q579 : (Jvm.Cond.instanceMethod ({ cls := "FollowingRefs$Reader", name := "<init>", desc := "([BIILFollowingRefs$Schema;)V" } : Jvm.MethodName)) ∈ lw_all := lw_g (lw_at lw_m2 176 rfl) rfl
theorem q580 : (Jvm.Cond.code ({ cls := "FollowingRefs$Reader", name := "<init>", desc := "([BIILFollowingRefs$Schema;)V" } : Jvm.MethodName) prog_16_method_1_code (5 : Nat) (Option.none : Option Jvm.ClassFile.FieldType)) ∈ lw_all := lw_g (lw_at lw_m2 177 rfl) rfl
theorem q581 : (Jvm.Cond.methodLink "FollowingRefs$Reader" (3 : Nat) ({ cls := "java/lang/Object", name := "<init>", desc := "()V" } : Jvm.MethodName)) ∈ lw_all := lw_g (lw_at lw_m2 178 rfl) rfl
theorem q583 : (Jvm.Cond.fieldLink "FollowingRefs$Reader" (17 : Nat) "FollowingRefs$Reader" "tape" "[B") ∈ lw_all := lw_g (lw_at lw_m2 180 rfl) rfl
theorem q584 : (Jvm.Cond.fieldLink "FollowingRefs$Reader" (21 : Nat) "FollowingRefs$Reader" "size" "I") ∈ lw_all := lw_g (lw_at lw_m2 181 rfl) rfl
theorem q585 : (Jvm.Cond.fieldLink "FollowingRefs$Reader" (25 : Nat) "FollowingRefs$Reader" "limit" "I") ∈ lw_all := lw_g (lw_at lw_m2 182 rfl) rfl
theorem q586 : (Jvm.Cond.fieldLink "FollowingRefs$Reader" (32 : Nat) "FollowingRefs$Reader" "to" "I") ∈ lw_all := lw_g (lw_at lw_m2 183 rfl) rfl
theorem q587 : (Jvm.Cond.fieldLink "FollowingRefs$Reader" (28 : Nat) "FollowingRefs$Reader" "s" "LFollowingRefs$Schema;") ∈ lw_all := lw_g (lw_at lw_m2 184 rfl) rfl
theorem q588 : (Jvm.Cond.fieldLink "FollowingRefs$SchemaReader" (29 : Nat) "FollowingRefs$SchemaReader" "s" "LFollowingRefs$Schema;") ∈ lw_all := lw_g (lw_at lw_m2 185 rfl) rfl
theorem q589 : (Jvm.Cond.sameField "FollowingRefs$SchemaReader" "FollowingRefs$Reader" "s" "LFollowingRefs$Schema;") ∈ lw_all := lw_g (lw_at lw_m2 186 rfl) rfl
theorem q590 : (Jvm.Cond.fieldLink "FollowingRefs$SentenceReader" (44 : Nat) "FollowingRefs$SentenceReader" "s" "LFollowingRefs$Schema;") ∈ lw_all := lw_g (lw_at lw_m2 187 rfl) rfl
theorem q591 : (Jvm.Cond.sameField "FollowingRefs$SentenceReader" "FollowingRefs$Reader" "s" "LFollowingRefs$Schema;") ∈ lw_all := lw_g (lw_at lw_m2 188 rfl) rfl
theorem q592 : (Jvm.Cond.fieldLink "FollowingRefs$SchemaReader" (19 : Nat) "FollowingRefs$SchemaReader" "kind" "I") ∈ lw_all := lw_g (lw_at lw_m2 189 rfl) rfl
theorem q593 : (Jvm.Cond.sameField "FollowingRefs$SchemaReader" "FollowingRefs$Reader" "kind" "I") ∈ lw_all := lw_g (lw_at lw_m2 190 rfl) rfl
theorem q594 : (Jvm.Cond.fieldLink "FollowingRefs$BookReader" (23 : Nat) "FollowingRefs$BookReader" "kind" "I") ∈ lw_all := lw_g (lw_at lw_m2 191 rfl) rfl
theorem q595 : (Jvm.Cond.sameField "FollowingRefs$BookReader" "FollowingRefs$Reader" "kind" "I") ∈ lw_all := lw_g (lw_at lw_m2 192 rfl) rfl
theorem q596 : (Jvm.Cond.fieldLink "FollowingRefs$SentenceReader" (19 : Nat) "FollowingRefs$SentenceReader" "kind" "I") ∈ lw_all := lw_g (lw_at lw_m2 193 rfl) rfl
theorem q597 : (Jvm.Cond.sameField "FollowingRefs$SentenceReader" "FollowingRefs$Reader" "kind" "I") ∈ lw_all := lw_g (lw_at lw_m2 194 rfl) rfl
theorem q598 : (Jvm.Cond.fieldLink "FollowingRefs$StatementReader" (25 : Nat) "FollowingRefs$StatementReader" "kind" "I") ∈ lw_all := lw_g (lw_at lw_m2 195 rfl) rfl
theorem q599 : (Jvm.Cond.sameField "FollowingRefs$StatementReader" "FollowingRefs$Reader" "kind" "I") ∈ lw_all := lw_g (lw_at lw_m2 196 rfl) rfl
theorem q600 : (Jvm.Cond.fieldLink "FollowingRefs$Reader" (42 : Nat) "FollowingRefs$Reader" "kind" "I") ∈ lw_all := lw_g (lw_at lw_m2 197 rfl) rfl
theorem q601 : (Jvm.Cond.fieldLink "FollowingRefs$Reader" (39 : Nat) "FollowingRefs$Reader" "from" "I") ∈ lw_all := lw_g (lw_at lw_m2 198 rfl) rfl
theorem q602 : (Jvm.Cond.fieldLink "FollowingRefs$Reader" (55 : Nat) "FollowingRefs$Reader" "number" "I") ∈ lw_all := lw_g (lw_at lw_m2 199 rfl) rfl
theorem q603 : (Jvm.Cond.fieldLink "FollowingRefs$Reader" (52 : Nat) "FollowingRefs$Reader" "sign" "I") ∈ lw_all := lw_g (lw_at lw_m2 200 rfl) rfl
theorem q604 : (Jvm.Cond.fieldLink "FollowingRefs$SentenceReader" (80 : Nat) "FollowingRefs$SentenceReader" "sign" "I") ∈ lw_all := lw_g (lw_at lw_m2 201 rfl) rfl
theorem q605 : (Jvm.Cond.sameField "FollowingRefs$SentenceReader" "FollowingRefs$Reader" "sign" "I") ∈ lw_all := lw_g (lw_at lw_m2 202 rfl) rfl
theorem q606 : (Jvm.Cond.fieldLink "FollowingRefs$Reader" (11 : Nat) "FollowingRefs$Reader" "word" "Ljava/lang/String;") ∈ lw_all := lw_g (lw_at lw_m2 203 rfl) rfl
theorem q607 : (Jvm.Cond.fieldLink "FollowingRefs$SchemaReader" (86 : Nat) "FollowingRefs$SchemaReader" "word" "Ljava/lang/String;") ∈ lw_all := lw_g (lw_at lw_m2 204 rfl) rfl
theorem q608 : (Jvm.Cond.sameField "FollowingRefs$SchemaReader" "FollowingRefs$Reader" "word" "Ljava/lang/String;") ∈ lw_all := lw_g (lw_at lw_m2 205 rfl) rfl
theorem q609 : (Jvm.Cond.fieldLink "FollowingRefs$SentenceReader" (72 : Nat) "FollowingRefs$SentenceReader" "word" "Ljava/lang/String;") ∈ lw_all := lw_g (lw_at lw_m2 206 rfl) rfl
theorem q610 : (Jvm.Cond.sameField "FollowingRefs$SentenceReader" "FollowingRefs$Reader" "word" "Ljava/lang/String;") ∈ lw_all := lw_g (lw_at lw_m2 207 rfl) rfl
theorem q611 : (Jvm.Cond.laysFinal "FollowingRefs$SchemaReader" "FollowingRefs$Reader" "tape" "[B") ∈ lw_all := lw_g (lw_at lw_m2 208 rfl) rfl
theorem q613 : (Jvm.Cond.laysFinal "FollowingRefs$SchemaReader" "FollowingRefs$Reader" "size" "I") ∈ lw_all := lw_g (lw_at lw_m2 210 rfl) rfl
theorem q615 : (Jvm.Cond.laysFinal "FollowingRefs$SchemaReader" "FollowingRefs$Reader" "limit" "I") ∈ lw_all := lw_g (lw_at lw_m2 212 rfl) rfl
theorem q617 : (Jvm.Cond.lays "FollowingRefs$SchemaReader" "FollowingRefs$Reader" "to" "I") ∈ lw_all := lw_g (lw_at lw_m2 214 rfl) rfl
theorem q619 : (Jvm.Cond.laysFinal "FollowingRefs$SchemaReader" "FollowingRefs$Reader" "s" "LFollowingRefs$Schema;") ∈ lw_all := lw_g (lw_at lw_m2 216 rfl) rfl
theorem q621 : (Jvm.Cond.lays "FollowingRefs$SchemaReader" "FollowingRefs$Reader" "kind" "I") ∈ lw_all := lw_g (lw_at lw_m2 218 rfl) rfl
theorem q623 : (Jvm.Cond.lays "FollowingRefs$SchemaReader" "FollowingRefs$Reader" "from" "I") ∈ lw_all := lw_g (lw_at lw_m2 220 rfl) rfl
theorem q625 : (Jvm.Cond.lays "FollowingRefs$SchemaReader" "FollowingRefs$Reader" "number" "I") ∈ lw_all := lw_g (lw_at lw_m2 222 rfl) rfl
theorem q627 : (Jvm.Cond.lays "FollowingRefs$SchemaReader" "FollowingRefs$Reader" "sign" "I") ∈ lw_all := lw_g (lw_at lw_m2 224 rfl) rfl
theorem q629 : (Jvm.Cond.lays "FollowingRefs$SchemaReader" "FollowingRefs$Reader" "word" "Ljava/lang/String;") ∈ lw_all := lw_g (lw_at lw_m2 226 rfl) rfl
theorem q632 : (Jvm.Cond.methodLink "FollowingRefs" (109 : Nat) ({ cls := "FollowingRefs$SchemaReader", name := "read", desc := "()LFollowingRefs$Schema;" } : Jvm.MethodName)) ∈ lw_all := lw_g (lw_at lw_m2 229 rfl) rfl
theorem q633 : (Jvm.Cond.instanceMethod ({ cls := "FollowingRefs$SchemaReader", name := "read", desc := "()LFollowingRefs$Schema;" } : Jvm.MethodName)) ∈ lw_all := lw_g (lw_at lw_m2 230 rfl) rfl
theorem q634 : (Jvm.Cond.selects "FollowingRefs$SchemaReader" ({ cls := "FollowingRefs$SchemaReader", name := "read", desc := "()LFollowingRefs$Schema;" } : Jvm.MethodName) ({ cls := "FollowingRefs$SchemaReader", name := "read", desc := "()LFollowingRefs$Schema;" } : Jvm.MethodName)) ∈ lw_all := lw_g (lw_at lw_m2 231 rfl) rfl
theorem q635 : (Jvm.Cond.code ({ cls := "FollowingRefs$SchemaReader", name := "read", desc := "()LFollowingRefs$Schema;" } : Jvm.MethodName) prog_20_method_2_code (1 : Nat) (Option.some (Jvm.ClassFile.FieldType.object "FollowingRefs$Schema"))) ∈ lw_all := lw_g (lw_at lw_m2 232 rfl) rfl
theorem q636 : (Jvm.Cond.methodLink "FollowingRefs$SchemaReader" (14 : Nat) ({ cls := "FollowingRefs$SchemaReader", name := "go", desc := "()V" } : Jvm.MethodName)) ∈ lw_all := lw_g (lw_at lw_m2 233 rfl) rfl
theorem q637 : (Jvm.Cond.sameMethod "FollowingRefs$SchemaReader" "FollowingRefs$Reader" "go" "()V") ∈ lw_all := lw_g (lw_at lw_m2 234 rfl) rfl
theorem q639 : (Jvm.Cond.selects "FollowingRefs$SchemaReader" ({ cls := "FollowingRefs$SchemaReader", name := "go", desc := "()V" } : Jvm.MethodName) ({ cls := "FollowingRefs$Reader", name := "go", desc := "()V" } : Jvm.MethodName)) ∈ lw_all := lw_g (lw_at lw_m2 236 rfl) rfl
theorem q640 : (Jvm.Cond.instanceMethod ({ cls := "FollowingRefs$Reader", name := "go", desc := "()V" } : Jvm.MethodName)) ∈ lw_all := lw_g (lw_at lw_m2 237 rfl) rfl
theorem q641 : (Jvm.Cond.code ({ cls := "FollowingRefs$Reader", name := "go", desc := "()V" } : Jvm.MethodName) prog_16_method_5_code (5 : Nat) (Option.none : Option Jvm.ClassFile.FieldType)) ∈ lw_all := lw_g (lw_at lw_m2 238 rfl) rfl
theorem q642 : (Jvm.Cond.methodLink "FollowingRefs$Reader" (35 : Nat) ({ cls := "FollowingRefs$Reader", name := "byteAt", desc := "(I)I" } : Jvm.MethodName)) ∈ lw_all := lw_g (lw_at lw_m2 239 rfl) rfl
theorem q643 : (Jvm.Cond.privateMethod ({ cls := "FollowingRefs$Reader", name := "byteAt", desc := "(I)I" } : Jvm.MethodName)) ∈ lw_tbl := lw_at lw_m3 0 rfl
theorem q644 : (Jvm.Cond.instanceMethod ({ cls := "FollowingRefs$Reader", name := "byteAt", desc := "(I)I" } : Jvm.MethodName)) ∈ lw_all := lw_g (lw_at lw_m3 1 rfl) rfl
theorem q645 : (Jvm.Cond.code ({ cls := "FollowingRefs$Reader", name := "byteAt", desc := "(I)I" } : Jvm.MethodName) prog_16_method_2_code (2 : Nat) (Option.some Jvm.ClassFile.FieldType.int)) ∈ lw_all := lw_g (lw_at lw_m3 2 rfl) rfl
theorem q646 : (Jvm.Cond.methodLink "FollowingRefs$Reader" (45 : Nat) ({ cls := "FollowingRefs$Reader", name := "isLetter", desc := "(I)Z" } : Jvm.MethodName)) ∈ lw_all := lw_g (lw_at lw_m3 3 rfl) rfl
theorem q647 : (Jvm.Cond.static ({ cls := "FollowingRefs$Reader", name := "isLetter", desc := "(I)Z" } : Jvm.MethodName)) ∈ lw_all := lw_g (lw_at lw_m3 4 rfl) rfl
theorem q648 : (Jvm.Cond.code ({ cls := "FollowingRefs$Reader", name := "isLetter", desc := "(I)Z" } : Jvm.MethodName) prog_16_method_4_code (1 : Nat) (Option.some Jvm.ClassFile.FieldType.boolean)) ∈ lw_all := lw_g (lw_at lw_m3 5 rfl) rfl
theorem q649 : (Jvm.Cond.methodLink "FollowingRefs$Reader" (49 : Nat) ({ cls := "FollowingRefs$Reader", name := "isDigit", desc := "(I)Z" } : Jvm.MethodName)) ∈ lw_all := lw_g (lw_at lw_m3 6 rfl) rfl
theorem q650 : (Jvm.Cond.static ({ cls := "FollowingRefs$Reader", name := "isDigit", desc := "(I)Z" } : Jvm.MethodName)) ∈ lw_all := lw_g (lw_at lw_m3 7 rfl) rfl
theorem q651 : (Jvm.Cond.code ({ cls := "FollowingRefs$Reader", name := "isDigit", desc := "(I)Z" } : Jvm.MethodName) prog_16_method_3_code (1 : Nat) (Option.some Jvm.ClassFile.FieldType.boolean)) ∈ lw_all := lw_g (lw_at lw_m3 8 rfl) rfl
theorem q652 : (Jvm.Cond.classLink "FollowingRefs$Reader" (58 : Nat) "java/lang/StringBuilder") ∈ lw_all := lw_g (lw_at lw_m3 9 rfl) rfl
theorem q653 : (Jvm.Cond.instantiable "java/lang/StringBuilder" (4 : Nat)) ∈ lw_all := lw_g (lw_at lw_m3 10 rfl) rfl
theorem q654 : (Jvm.Cond.methodLink "FollowingRefs$Reader" (60 : Nat) ({ cls := "java/lang/StringBuilder", name := "<init>", desc := "()V" } : Jvm.MethodName)) ∈ lw_all := lw_g (lw_at lw_m3 11 rfl) rfl
theorem q655 : (Jvm.Cond.instanceMethod ({ cls := "java/lang/StringBuilder", name := "<init>", desc := "()V" } : Jvm.MethodName)) ∈ lw_all := lw_g (lw_at lw_m3 12 rfl) rfl
theorem q656 : (Jvm.Cond.code ({ cls := "java/lang/StringBuilder", name := "<init>", desc := "()V" } : Jvm.MethodName) prog_52_method_1_code (1 : Nat) (Option.none : Option Jvm.ClassFile.FieldType)) ∈ lw_all := lw_g (lw_at lw_m3 13 rfl) rfl
theorem q657 : (Jvm.Cond.methodLink "java/lang/StringBuilder" (1 : Nat) ({ cls := "java/lang/AbstractStringBuilder", name := "<init>", desc := "(I)V" } : Jvm.MethodName)) ∈ lw_all := lw_g (lw_at lw_m3 14 rfl) rfl
theorem q658 : (Jvm.Cond.instanceMethod ({ cls := "java/lang/AbstractStringBuilder", name := "<init>", desc := "(I)V" } : Jvm.MethodName)) ∈ lw_all := lw_g (lw_at lw_m3 15 rfl) rfl
theorem q659 : (Jvm.Cond.code ({ cls := "java/lang/AbstractStringBuilder", name := "<init>", desc := "(I)V" } : Jvm.MethodName) prog_37_method_2_code (2 : Nat) (Option.none : Option Jvm.ClassFile.FieldType)) ∈ lw_all := lw_g (lw_at lw_m3 16 rfl) rfl
theorem q660 : (Jvm.Cond.methodLink "java/lang/AbstractStringBuilder" (3 : Nat) ({ cls := "java/lang/Object", name := "<init>", desc := "()V" } : Jvm.MethodName)) ∈ lw_all := lw_g (lw_at lw_m3 17 rfl) rfl
theorem q661 : (Jvm.Cond.fieldLink "java/lang/AbstractStringBuilder" (18 : Nat) "java/lang/String" "COMPACT_STRINGS" "Z") ∈ lw_all := lw_g (lw_at lw_m3 18 rfl) rfl
theorem q663 : (Jvm.Cond.methodLink "java/lang/AbstractStringBuilder" (26 : Nat) ({ cls := "java/lang/StringUTF16", name := "newBytesFor", desc := "(I)[B" } : Jvm.MethodName)) ∈ lw_all := lw_g (lw_at lw_m3 20 rfl) rfl
theorem q664 : (Jvm.Cond.static ({ cls := "java/lang/StringUTF16", name := "newBytesFor", desc := "(I)[B" } : Jvm.MethodName)) ∈ lw_all := lw_g (lw_at lw_m3 21 rfl) rfl
theorem q665 : (Jvm.Cond.code ({ cls := "java/lang/StringUTF16", name := "newBytesFor", desc := "(I)[B" } : Jvm.MethodName) prog_54_method_2_code (1 : Nat) (Option.some (Jvm.ClassFile.FieldType.array Jvm.ClassFile.FieldType.byte))) ∈ lw_all := lw_g (lw_at lw_m3 22 rfl) rfl
theorem q666 : (Jvm.Cond.methodLink "java/lang/StringUTF16" (11 : Nat) ({ cls := "java/lang/StringUTF16", name := "newBytesLength", desc := "(I)I" } : Jvm.MethodName)) ∈ lw_all := lw_g (lw_at lw_m3 23 rfl) rfl
theorem q667 : (Jvm.Cond.static ({ cls := "java/lang/StringUTF16", name := "newBytesLength", desc := "(I)I" } : Jvm.MethodName)) ∈ lw_all := lw_g (lw_at lw_m3 24 rfl) rfl
theorem q668 : (Jvm.Cond.code ({ cls := "java/lang/StringUTF16", name := "newBytesLength", desc := "(I)I" } : Jvm.MethodName) prog_54_method_3_code (1 : Nat) (Option.some Jvm.ClassFile.FieldType.int)) ∈ lw_all := lw_g (lw_at lw_m3 25 rfl) rfl
theorem q669 : (Jvm.Cond.constant "java/lang/StringUTF16" (20 : Nat) (1073741823 : Int32)) ∈ lw_all := lw_g (lw_at lw_m3 26 rfl) rfl
theorem q670 : (Jvm.Cond.fieldLink "java/lang/AbstractStringBuilder" (15 : Nat) "java/lang/AbstractStringBuilder" "value" "[B") ∈ lw_all := lw_g (lw_at lw_m3 27 rfl) rfl
theorem q671 : (Jvm.Cond.fieldLink "java/lang/AbstractStringBuilder" (22 : Nat) "java/lang/AbstractStringBuilder" "coder" "B") ∈ lw_all := lw_g (lw_at lw_m3 28 rfl) rfl
theorem q672 : (Jvm.Cond.fieldLink "java/lang/String" (1048 : Nat) "java/lang/AbstractStringBuilder" "maybeLatin1" "Z") ∈ lw_all := lw_g (lw_at lw_m3 29 rfl) rfl
theorem q673 : (Jvm.Cond.fieldLink "java/lang/AbstractStringBuilder" (79 : Nat) "java/lang/AbstractStringBuilder" "count" "I") ∈ lw_all := lw_g (lw_at lw_m3 30 rfl) rfl
theorem q674 : (Jvm.Cond.lays "java/lang/StringBuilder" "java/lang/AbstractStringBuilder" "value" "[B") ∈ lw_all := lw_g (lw_at lw_m3 31 rfl) rfl
theorem q676 : (Jvm.Cond.lays "java/lang/StringBuilder" "java/lang/AbstractStringBuilder" "coder" "B") ∈ lw_all := lw_g (lw_at lw_m3 33 rfl) rfl
theorem q678 : (Jvm.Cond.lays "java/lang/StringBuilder" "java/lang/AbstractStringBuilder" "maybeLatin1" "Z") ∈ lw_all := lw_g (lw_at lw_m3 35 rfl) rfl
theorem q680 : (Jvm.Cond.lays "java/lang/StringBuilder" "java/lang/AbstractStringBuilder" "count" "I") ∈ lw_all := lw_g (lw_at lw_m3 37 rfl) rfl
theorem q682 : (Jvm.Cond.superclass "java/lang/StringBuilder" "java/lang/AbstractStringBuilder") ∈ lw_all := lw_g (lw_at lw_m3 39 rfl) rfl
theorem q683 : (Jvm.Cond.methodLink "FollowingRefs$Reader" (61 : Nat) ({ cls := "java/lang/StringBuilder", name := "append", desc := "(C)Ljava/lang/StringBuilder;" } : Jvm.MethodName)) ∈ lw_all := lw_g (lw_at lw_m3 40 rfl) rfl
theorem q684 : (Jvm.Cond.instanceMethod ({ cls := "java/lang/StringBuilder", name := "append", desc := "(C)Ljava/lang/StringBuilder;" } : Jvm.MethodName)) ∈ lw_all := lw_g (lw_at lw_m3 41 rfl) rfl
theorem q685 : (Jvm.Cond.selects "java/lang/StringBuilder" ({ cls := "java/lang/StringBuilder", name := "append", desc := "(C)Ljava/lang/StringBuilder;" } : Jvm.MethodName) ({ cls := "java/lang/StringBuilder", name := "append", desc := "(C)Ljava/lang/StringBuilder;" } : Jvm.MethodName)) ∈ lw_all := lw_g (lw_at lw_m3 42 rfl) rfl
theorem q686 : (Jvm.Cond.code ({ cls := "java/lang/StringBuilder", name := "append", desc := "(C)Ljava/lang/StringBuilder;" } : Jvm.MethodName) prog_52_method_14_code (2 : Nat) (Option.some (Jvm.ClassFile.FieldType.object "java/lang/StringBuilder"))) ∈ lw_all := lw_g (lw_at lw_m3 43 rfl) rfl
theorem q687 : (Jvm.Cond.methodLink "java/lang/StringBuilder" (50 : Nat) ({ cls := "java/lang/AbstractStringBuilder", name := "append", desc := "(C)Ljava/lang/AbstractStringBuilder;" } : Jvm.MethodName)) ∈ lw_all := lw_g (lw_at lw_m3 44 rfl) rfl
theorem q688 : (Jvm.Cond.instanceMethod ({ cls := "java/lang/AbstractStringBuilder", name := "append", desc := "(C)Ljava/lang/AbstractStringBuilder;" } : Jvm.MethodName)) ∈ lw_all := lw_g (lw_at lw_m3 45 rfl) rfl
theorem q689 : (Jvm.Cond.code ({ cls := "java/lang/AbstractStringBuilder", name := "append", desc := "(C)Ljava/lang/AbstractStringBuilder;" } : Jvm.MethodName) prog_37_method_31_code (2 : Nat) (Option.some (Jvm.ClassFile.FieldType.object "java/lang/AbstractStringBuilder"))) ∈ lw_all := lw_g (lw_at lw_m3 46 rfl) rfl
theorem q690 : (Jvm.Cond.methodLink "java/lang/AbstractStringBuilder" (100 : Nat) ({ cls := "java/lang/AbstractStringBuilder", name := "ensureCapacityInternal", desc := "(I)V" } : Jvm.MethodName)) ∈ lw_all := lw_g (lw_at lw_m3 47 rfl) rfl
theorem q691 : (Jvm.Cond.privateMethod ({ cls := "java/lang/AbstractStringBuilder", name := "ensureCapacityInternal", desc := "(I)V" } : Jvm.MethodName)) ∈ lw_tbl := lw_at lw_m3 48 rfl
theorem q692 : (Jvm.Cond.instanceMethod ({ cls := "java/lang/AbstractStringBuilder", name := "ensureCapacityInternal", desc := "(I)V" } : Jvm.MethodName)) ∈ lw_all := lw_g (lw_at lw_m3 49 rfl) rfl
theorem q693 : (Jvm.Cond.code ({ cls := "java/lang/AbstractStringBuilder", name := "ensureCapacityInternal", desc := "(I)V" } : Jvm.MethodName) prog_37_method_9_code (3 : Nat) (Option.none : Option Jvm.ClassFile.FieldType)) ∈ lw_all := lw_g (lw_at lw_m3 50 rfl) rfl
theorem q694 : (Jvm.Cond.methodLink "java/lang/AbstractStringBuilder" (104 : Nat) ({ cls := "java/lang/AbstractStringBuilder", name := "newCapacity", desc := "(I)I" } : Jvm.MethodName)) ∈ lw_all := lw_g (lw_at lw_m3 51 rfl) rfl
theorem q695 : (Jvm.Cond.privateMethod ({ cls := "java/lang/AbstractStringBuilder", name := "newCapacity", desc := "(I)I" } : Jvm.MethodName)) ∈ lw_tbl := lw_at lw_m3 52 rfl
theorem q696 : (Jvm.Cond.instanceMethod ({ cls := "java/lang/AbstractStringBuilder", name := "newCapacity", desc := "(I)I" } : Jvm.MethodName)) ∈ lw_all := lw_g (lw_at lw_m3 53 rfl) rfl
theorem q697 : (Jvm.Cond.code ({ cls := "java/lang/AbstractStringBuilder", name := "newCapacity", desc := "(I)I" } : Jvm.MethodName) prog_37_method_10_code (6 : Nat) (Option.some Jvm.ClassFile.FieldType.int)) ∈ lw_all := lw_g (lw_at lw_m3 54 rfl) rfl
theorem q698 : (Jvm.Cond.methodLink "java/lang/AbstractStringBuilder" (114 : Nat) ({ cls := "jdk/internal/util/ArraysSupport", name := "newLength", desc := "(III)I" } : Jvm.MethodName)) ∈ lw_all := lw_g (lw_at lw_m3 55 rfl) rfl
theorem q699 : (Jvm.Cond.static ({ cls := "jdk/internal/util/ArraysSupport", name := "newLength", desc := "(III)I" } : Jvm.MethodName)) ∈ lw_all := lw_g (lw_at lw_m3 56 rfl) rfl
theorem q700 : (Jvm.Cond.code ({ cls := "jdk/internal/util/ArraysSupport", name := "newLength", desc := "(III)I" } : Jvm.MethodName) prog_92_method_27_code (4 : Nat) (Option.some Jvm.ClassFile.FieldType.int)) ∈ lw_all := lw_g (lw_at lw_m3 57 rfl) rfl
theorem q701 : (Jvm.Cond.methodLink "jdk/internal/util/ArraysSupport" (194 : Nat) ({ cls := "java/lang/Math", name := "max", desc := "(II)I" } : Jvm.MethodName)) ∈ lw_all := lw_g (lw_at lw_m3 58 rfl) rfl
theorem q702 : (Jvm.Cond.static ({ cls := "java/lang/Math", name := "max", desc := "(II)I" } : Jvm.MethodName)) ∈ lw_all := lw_g (lw_at lw_m3 59 rfl) rfl
theorem q703 : (Jvm.Cond.code ({ cls := "java/lang/Math", name := "max", desc := "(II)I" } : Jvm.MethodName) prog_48_method_65_code (2 : Nat) (Option.some Jvm.ClassFile.FieldType.int)) ∈ lw_all := lw_g (lw_at lw_m3 60 rfl) rfl
theorem q704 : (Jvm.Cond.constant "jdk/internal/util/ArraysSupport" (200 : Nat) (2147483639 : Int32)) ∈ lw_all := lw_g (lw_at lw_m3 61 rfl) rfl
theorem q705 : (Jvm.Cond.methodLink "jdk/internal/util/ArraysSupport" (201 : Nat) ({ cls := "jdk/internal/util/ArraysSupport", name := "hugeLength", desc := "(II)I" } : Jvm.MethodName)) ∈ lw_all := lw_g (lw_at lw_m3 62 rfl) rfl
theorem q706 : (Jvm.Cond.static ({ cls := "jdk/internal/util/ArraysSupport", name := "hugeLength", desc := "(II)I" } : Jvm.MethodName)) ∈ lw_all := lw_g (lw_at lw_m3 63 rfl) rfl
theorem q707 : (Jvm.Cond.code ({ cls := "jdk/internal/util/ArraysSupport", name := "hugeLength", desc := "(II)I" } : Jvm.MethodName) prog_92_method_28_code (3 : Nat) (Option.some Jvm.ClassFile.FieldType.int)) ∈ lw_all := lw_g (lw_at lw_m3 64 rfl) rfl
theorem q708 : (Jvm.Cond.constant "java/lang/AbstractStringBuilder" (39 : Nat) (2147483647 : Int32)) ∈ lw_all := lw_g (lw_at lw_m3 65 rfl) rfl
theorem q709 : (Jvm.Cond.methodLink "java/lang/AbstractStringBuilder" (108 : Nat) ({ cls := "java/util/Arrays", name := "copyOf", desc := "([BI)[B" } : Jvm.MethodName)) ∈ lw_all := lw_g (lw_at lw_m3 66 rfl) rfl
theorem q710 : (Jvm.Cond.static ({ cls := "java/util/Arrays", name := "copyOf", desc := "([BI)[B" } : Jvm.MethodName)) ∈ lw_all := lw_g (lw_at lw_m3 67 rfl) rfl
theorem q711 : (Jvm.Cond.code ({ cls := "java/util/Arrays", name := "copyOf", desc := "([BI)[B" } : Jvm.MethodName) prog_69_method_121_code (3 : Nat) (Option.some (Jvm.ClassFile.FieldType.array Jvm.ClassFile.FieldType.byte))) ∈ lw_all := lw_g (lw_at lw_m3 68 rfl) rfl
theorem q718 : (Jvm.Cond.classLink "java/util/Arrays" (311 : Nat) "[B") ∈ lw_all := lw_g (lw_at lw_m3 75 rfl) rfl
theorem q719 : (Jvm.Cond.methodLink "java/util/Arrays" (304 : Nat) ({ cls := "java/lang/Math", name := "min", desc := "(II)I" } : Jvm.MethodName)) ∈ lw_all := lw_g (lw_at lw_m3 76 rfl) rfl
theorem q720 : (Jvm.Cond.static ({ cls := "java/lang/Math", name := "min", desc := "(II)I" } : Jvm.MethodName)) ∈ lw_all := lw_g (lw_at lw_m3 77 rfl) rfl
theorem q721 : (Jvm.Cond.code ({ cls := "java/lang/Math", name := "min", desc := "(II)I" } : Jvm.MethodName) prog_48_method_69_code (2 : Nat) (Option.some Jvm.ClassFile.FieldType.int)) ∈ lw_all := lw_g (lw_at lw_m3 78 rfl) rfl
theorem q722 : (Jvm.Cond.methodLink "java/util/Arrays" (150 : Nat) ({ cls := "java/lang/System", name := "arraycopy", desc := "(Ljava/lang/Object;ILjava/lang/Object;II)V" } : Jvm.MethodName)) ∈ lw_all := lw_g (lw_at lw_m3 79 rfl) rfl
theorem q723 : (Jvm.Cond.static ({ cls := "java/lang/System", name := "arraycopy", desc := "(Ljava/lang/Object;ILjava/lang/Object;II)V" } : Jvm.MethodName)) ∈ lw_all := lw_g (lw_at lw_m3 80 rfl) rfl
theorem q724 : (Jvm.Cond.native ({ cls := "java/lang/System", name := "arraycopy", desc := "(Ljava/lang/Object;ILjava/lang/Object;II)V" } : Jvm.MethodName)) ∈ lw_all := lw_g (lw_at lw_m3 81 rfl) rfl
theorem q725 : (Jvm.Cond.methodLink "java/lang/AbstractStringBuilder" (83 : Nat) ({ cls := "java/lang/AbstractStringBuilder", name := "isLatin1", desc := "()Z" } : Jvm.MethodName)) ∈ lw_all := lw_g (lw_at lw_m3 82 rfl) rfl
theorem q726 : (Jvm.Cond.instanceMethod ({ cls := "java/lang/AbstractStringBuilder", name := "isLatin1", desc := "()Z" } : Jvm.MethodName)) ∈ lw_all := lw_g (lw_at lw_m3 83 rfl) rfl
theorem q727 : (Jvm.Cond.sameMethod "java/lang/AbstractStringBuilder" "java/lang/AbstractStringBuilder" "isLatin1" "()Z") ∈ lw_all := lw_g (lw_at lw_m3 84 rfl) rfl
theorem q728 : (Jvm.Cond.selects "java/lang/StringBuilder" ({ cls := "java/lang/AbstractStringBuilder", name := "isLatin1", desc := "()Z" } : Jvm.MethodName) ({ cls := "java/lang/AbstractStringBuilder", name := "isLatin1", desc := "()Z" } : Jvm.MethodName)) ∈ lw_all := lw_g (lw_at lw_m3 85 rfl) rfl
theorem q729 : (Jvm.Cond.code ({ cls := "java/lang/AbstractStringBuilder", name := "isLatin1", desc := "()Z" } : Jvm.MethodName) prog_37_method_68_code (1 : Nat) (Option.some Jvm.ClassFile.FieldType.boolean)) ∈ lw_all := lw_g (lw_at lw_m3 86 rfl) rfl
theorem q730 : (Jvm.Cond.methodLink "java/lang/AbstractStringBuilder" (191 : Nat) ({ cls := "java/lang/StringLatin1", name := "canEncode", desc := "(C)Z" } : Jvm.MethodName)) ∈ lw_all := lw_g (lw_at lw_m3 87 rfl) rfl
theorem q731 : (Jvm.Cond.static ({ cls := "java/lang/StringLatin1", name := "canEncode", desc := "(C)Z" } : Jvm.MethodName)) ∈ lw_all := lw_g (lw_at lw_m3 88 rfl) rfl
theorem q732 : (Jvm.Cond.code ({ cls := "java/lang/StringLatin1", name := "canEncode", desc := "(C)Z" } : Jvm.MethodName) prog_53_method_3_code (1 : Nat) (Option.some Jvm.ClassFile.FieldType.boolean)) ∈ lw_all := lw_g (lw_at lw_m3 89 rfl) rfl
theorem q733 : (Jvm.Cond.methodLink "java/lang/AbstractStringBuilder" (195 : Nat) ({ cls := "java/lang/AbstractStringBuilder", name := "inflate", desc := "()V" } : Jvm.MethodName)) ∈ lw_all := lw_g (lw_at lw_m3 90 rfl) rfl
theorem q734 : (Jvm.Cond.privateMethod ({ cls := "java/lang/AbstractStringBuilder", name := "inflate", desc := "()V" } : Jvm.MethodName)) ∈ lw_tbl := lw_at lw_m3 91 rfl
theorem q735 : (Jvm.Cond.instanceMethod ({ cls := "java/lang/AbstractStringBuilder", name := "inflate", desc := "()V" } : Jvm.MethodName)) ∈ lw_all := lw_g (lw_at lw_m3 92 rfl) rfl
theorem q736 : (Jvm.Cond.code ({ cls := "java/lang/AbstractStringBuilder", name := "inflate", desc := "()V" } : Jvm.MethodName) prog_37_method_11_code (2 : Nat) (Option.none : Option Jvm.ClassFile.FieldType)) ∈ lw_all := lw_g (lw_at lw_m3 93 rfl) rfl
theorem q737 : (Jvm.Cond.methodLink "java/lang/AbstractStringBuilder" (125 : Nat) ({ cls := "java/lang/StringLatin1", name := "inflate", desc := "([BI[BII)V" } : Jvm.MethodName)) ∈ lw_all := lw_g (lw_at lw_m3 94 rfl) rfl
theorem q738 : (Jvm.Cond.static ({ cls := "java/lang/StringLatin1", name := "inflate", desc := "([BI[BII)V" } : Jvm.MethodName)) ∈ lw_all := lw_g (lw_at lw_m3 95 rfl) rfl
theorem q739 : (Jvm.Cond.code ({ cls := "java/lang/StringLatin1", name := "inflate", desc := "([BI[BII)V" } : Jvm.MethodName) prog_53_method_50_code (5 : Nat) (Option.none : Option Jvm.ClassFile.FieldType)) ∈ lw_all := lw_g (lw_at lw_m3 96 rfl) rfl
theorem q740 : (Jvm.Cond.methodLink "java/lang/StringLatin1" (240 : Nat) ({ cls := "java/lang/StringUTF16", name := "inflate", desc := "([BI[BII)V" } : Jvm.MethodName)) ∈ lw_all := lw_g (lw_at lw_m3 97 rfl) rfl
theorem q741 : (Jvm.Cond.static ({ cls := "java/lang/StringUTF16", name := "inflate", desc := "([BI[BII)V" } : Jvm.MethodName)) ∈ lw_all := lw_g (lw_at lw_m3 98 rfl) rfl
theorem q742 : (Jvm.Cond.code ({ cls := "java/lang/StringUTF16", name := "inflate", desc := "([BI[BII)V" } : Jvm.MethodName) prog_54_method_86_code (6 : Nat) (Option.none : Option Jvm.ClassFile.FieldType)) ∈ lw_all := lw_g (lw_at lw_m3 99 rfl) rfl
theorem q743 : (Jvm.Cond.methodLink "java/lang/StringUTF16" (173 : Nat) ({ cls := "java/lang/StringUTF16", name := "checkBoundsOffCount", desc := "(II[B)V" } : Jvm.MethodName)) ∈ lw_all := lw_g (lw_at lw_m3 100 rfl) rfl
theorem q744 : (Jvm.Cond.static ({ cls := "java/lang/StringUTF16", name := "checkBoundsOffCount", desc := "(II[B)V" } : Jvm.MethodName)) ∈ lw_all := lw_g (lw_at lw_m3 101 rfl) rfl
theorem q745 : (Jvm.Cond.code ({ cls := "java/lang/StringUTF16", name := "checkBoundsOffCount", desc := "(II[B)V" } : Jvm.MethodName) prog_54_method_94_code (3 : Nat) (Option.none : Option Jvm.ClassFile.FieldType)) ∈ lw_all := lw_g (lw_at lw_m3 102 rfl) rfl
theorem q746 : (Jvm.Cond.methodLink "java/lang/StringUTF16" (48 : Nat) ({ cls := "java/lang/StringUTF16", name := "length", desc := "([B)I" } : Jvm.MethodName)) ∈ lw_all := lw_g (lw_at lw_m3 103 rfl) rfl
theorem q747 : (Jvm.Cond.static ({ cls := "java/lang/StringUTF16", name := "length", desc := "([B)I" } : Jvm.MethodName)) ∈ lw_all := lw_g (lw_at lw_m3 104 rfl) rfl
theorem q748 : (Jvm.Cond.code ({ cls := "java/lang/StringUTF16", name := "length", desc := "([B)I" } : Jvm.MethodName) prog_54_method_6_code (1 : Nat) (Option.some Jvm.ClassFile.FieldType.int)) ∈ lw_all := lw_g (lw_at lw_m3 105 rfl) rfl
theorem q749 : (Jvm.Cond.methodLink "java/lang/StringUTF16" (419 : Nat) ({ cls := "java/lang/String", name := "checkBoundsOffCount", desc := "(III)I" } : Jvm.MethodName)) ∈ lw_all := lw_g (lw_at lw_m3 106 rfl) rfl
theorem q750 : (Jvm.Cond.static ({ cls := "java/lang/String", name := "checkBoundsOffCount", desc := "(III)I" } : Jvm.MethodName)) ∈ lw_all := lw_g (lw_at lw_m3 107 rfl) rfl
theorem q751 : (Jvm.Cond.code ({ cls := "java/lang/String", name := "checkBoundsOffCount", desc := "(III)I" } : Jvm.MethodName) prog_51_method_157_code (3 : Nat) (Option.some Jvm.ClassFile.FieldType.int)) ∈ lw_all := lw_g (lw_at lw_m3 108 rfl) rfl
theorem q752 : (Jvm.Cond.fieldLink "java/lang/String" (1053 : Nat) "jdk/internal/util/Preconditions" "SIOOBE_FORMATTER" "Ljava/util/function/BiFunction;") ∈ lw_all := lw_g (lw_at lw_m3 109 rfl) rfl
theorem q754 : (Jvm.Cond.methodLink "java/lang/String" (1065 : Nat) ({ cls := "jdk/internal/util/Preconditions", name := "checkFromIndexSize", desc := "(IIILjava/util/function/BiFunction;)I" } : Jvm.MethodName)) ∈ lw_all := lw_g (lw_at lw_m3 111 rfl) rfl
theorem q755 : (Jvm.Cond.static ({ cls := "jdk/internal/util/Preconditions", name := "checkFromIndexSize", desc := "(IIILjava/util/function/BiFunction;)I" } : Jvm.MethodName)) ∈ lw_all := lw_g (lw_at lw_m3 112 rfl) rfl
theorem q756 : (Jvm.Cond.code ({ cls := "jdk/internal/util/Preconditions", name := "checkFromIndexSize", desc := "(IIILjava/util/function/BiFunction;)I" } : Jvm.MethodName) prog_93_method_13_code (4 : Nat) (Option.some Jvm.ClassFile.FieldType.int)) ∈ lw_all := lw_g (lw_at lw_m3 113 rfl) rfl
theorem q757 : (Jvm.Cond.methodLink "java/lang/StringUTF16" (111 : Nat) ({ cls := "java/lang/StringUTF16", name := "putChar", desc := "([BII)V" } : Jvm.MethodName)) ∈ lw_all := lw_g (lw_at lw_m3 114 rfl) rfl
theorem q758 : (Jvm.Cond.static ({ cls := "java/lang/StringUTF16", name := "putChar", desc := "([BII)V" } : Jvm.MethodName)) ∈ lw_all := lw_g (lw_at lw_m3 115 rfl) rfl
theorem q759 : (Jvm.Cond.code ({ cls := "java/lang/StringUTF16", name := "putChar", desc := "([BII)V" } : Jvm.MethodName) prog_54_method_4_code (3 : Nat) (Option.none : Option Jvm.ClassFile.FieldType)) ∈ lw_all := lw_g (lw_at lw_m3 116 rfl) rfl
theorem q760 : (Jvm.Cond.fieldLink "java/lang/StringUTF16" (44 : Nat) "java/lang/StringUTF16" "$assertionsDisabled" "Z") ∈ lw_all := lw_g (lw_at lw_m3 117 rfl) rfl
theorem q762 : (Jvm.Cond.fieldLink "java/lang/StringUTF16" (59 : Nat) "java/lang/StringUTF16" "HI_BYTE_SHIFT" "I") ∈ lw_all := lw_g (lw_at lw_m3 119 rfl) rfl
theorem q764 : (Jvm.Cond.fieldLink "java/lang/StringUTF16" (63 : Nat) "java/lang/StringUTF16" "LO_BYTE_SHIFT" "I") ∈ lw_all := lw_g (lw_at lw_m3 121 rfl) rfl
theorem q766 : (Jvm.Cond.methodLink "java/lang/AbstractStringBuilder" (197 : Nat) ({ cls := "java/lang/StringUTF16", name := "putCharSB", desc := "([BII)V" } : Jvm.MethodName)) ∈ lw_all := lw_g (lw_at lw_m3 123 rfl) rfl
theorem q767 : (Jvm.Cond.static ({ cls := "java/lang/StringUTF16", name := "putCharSB", desc := "([BII)V" } : Jvm.MethodName)) ∈ lw_all := lw_g (lw_at lw_m3 124 rfl) rfl
theorem q768 : (Jvm.Cond.code ({ cls := "java/lang/StringUTF16", name := "putCharSB", desc := "([BII)V" } : Jvm.MethodName) prog_54_method_71_code (3 : Nat) (Option.none : Option Jvm.ClassFile.FieldType)) ∈ lw_all := lw_g (lw_at lw_m3 125 rfl) rfl
theorem q769 : (Jvm.Cond.methodLink "java/lang/StringUTF16" (67 : Nat) ({ cls := "java/lang/StringUTF16", name := "checkIndex", desc := "(I[B)V" } : Jvm.MethodName)) ∈ lw_all := lw_g (lw_at lw_m3 126 rfl) rfl
theorem q770 : (Jvm.Cond.static ({ cls := "java/lang/StringUTF16", name := "checkIndex", desc := "(I[B)V" } : Jvm.MethodName)) ∈ lw_all := lw_g (lw_at lw_m3 127 rfl) rfl
theorem q771 : (Jvm.Cond.code ({ cls := "java/lang/StringUTF16", name := "checkIndex", desc := "(I[B)V" } : Jvm.MethodName) prog_54_method_91_code (2 : Nat) (Option.none : Option Jvm.ClassFile.FieldType)) ∈ lw_all := lw_g (lw_at lw_m3 128 rfl) rfl
theorem q772 : (Jvm.Cond.methodLink "java/lang/StringUTF16" (414 : Nat) ({ cls := "java/lang/String", name := "checkIndex", desc := "(II)V" } : Jvm.MethodName)) ∈ lw_all := lw_g (lw_at lw_m3 129 rfl) rfl
theorem q773 : (Jvm.Cond.static ({ cls := "java/lang/String", name := "checkIndex", desc := "(II)V" } : Jvm.MethodName)) ∈ lw_all := lw_g (lw_at lw_m3 130 rfl) rfl
theorem q774 : (Jvm.Cond.code ({ cls := "java/lang/String", name := "checkIndex", desc := "(II)V" } : Jvm.MethodName) prog_51_method_155_code (2 : Nat) (Option.none : Option Jvm.ClassFile.FieldType)) ∈ lw_all := lw_g (lw_at lw_m3 131 rfl) rfl
theorem q775 : (Jvm.Cond.methodLink "java/lang/String" (1059 : Nat) ({ cls := "jdk/internal/util/Preconditions", name := "checkIndex", desc := "(IILjava/util/function/BiFunction;)I" } : Jvm.MethodName)) ∈ lw_all := lw_g (lw_at lw_m3 132 rfl) rfl
theorem q776 : (Jvm.Cond.static ({ cls := "jdk/internal/util/Preconditions", name := "checkIndex", desc := "(IILjava/util/function/BiFunction;)I" } : Jvm.MethodName)) ∈ lw_all := lw_g (lw_at lw_m3 133 rfl) rfl
theorem q777 : (Jvm.Cond.code ({ cls := "jdk/internal/util/Preconditions", name := "checkIndex", desc := "(IILjava/util/function/BiFunction;)I" } : Jvm.MethodName) prog_93_method_11_code (3 : Nat) (Option.some Jvm.ClassFile.FieldType.int)) ∈ lw_all := lw_g (lw_at lw_m3 134 rfl) rfl
theorem q778 : (Jvm.Cond.methodLink "FollowingRefs$Reader" (65 : Nat) ({ cls := "java/lang/StringBuilder", name := "toString", desc := "()Ljava/lang/String;" } : Jvm.MethodName)) ∈ lw_all := lw_g (lw_at lw_m3 135 rfl) rfl
theorem q779 : (Jvm.Cond.instanceMethod ({ cls := "java/lang/StringBuilder", name := "toString", desc := "()Ljava/lang/String;" } : Jvm.MethodName)) ∈ lw_all := lw_g (lw_at lw_m3 136 rfl) rfl
theorem q780 : (Jvm.Cond.selects "java/lang/StringBuilder" ({ cls := "java/lang/StringBuilder", name := "toString", desc := "()Ljava/lang/String;" } : Jvm.MethodName) ({ cls := "java/lang/StringBuilder", name := "toString", desc := "()Ljava/lang/String;" } : Jvm.MethodName)) ∈ lw_all := lw_g (lw_at lw_m3 137 rfl) rfl
theorem q781 : (Jvm.Cond.code ({ cls := "java/lang/StringBuilder", name := "toString", desc := "()Ljava/lang/String;" } : Jvm.MethodName) prog_52_method_42_code (1 : Nat) (Option.some (Jvm.ClassFile.FieldType.object "java/lang/String"))) ∈ lw_all := lw_g (lw_at lw_m3 138 rfl) rfl
theorem q782 : (Jvm.Cond.classLink "java/lang/StringBuilder" (18 : Nat) "java/lang/String") ∈ lw_all := lw_g (lw_at lw_m3 139 rfl) rfl
theorem q783 : (Jvm.Cond.instantiable "java/lang/String" (4 : Nat)) ∈ lw_all := lw_g (lw_at lw_m3 140 rfl) rfl
theorem q784 : (Jvm.Cond.methodLink "java/lang/StringBuilder" (137 : Nat) ({ cls := "java/lang/String", name := "<init>", desc := "(Ljava/lang/StringBuilder;)V" } : Jvm.MethodName)) ∈ lw_all := lw_g (lw_at lw_m3 141 rfl) rfl
theorem q785 : (Jvm.Cond.instanceMethod ({ cls := "java/lang/String", name := "<init>", desc := "(Ljava/lang/StringBuilder;)V" } : Jvm.MethodName)) ∈ lw_all := lw_g (lw_at lw_m3 142 rfl) rfl
theorem q786 : (Jvm.Cond.code ({ cls := "java/lang/String", name := "<init>", desc := "(Ljava/lang/StringBuilder;)V" } : Jvm.MethodName) prog_51_method_53_code (2 : Nat) (Option.none : Option Jvm.ClassFile.FieldType)) ∈ lw_all := lw_g (lw_at lw_m3 143 rfl) rfl
theorem q787 : (Jvm.Cond.methodLink "java/lang/String" (489 : Nat) ({ cls := "java/lang/String", name := "<init>", desc := "(Ljava/lang/AbstractStringBuilder;Ljava/lang/Void;)V" } : Jvm.MethodName)) ∈ lw_all := lw_g (lw_at lw_m3 144 rfl) rfl
theorem q788 : (Jvm.Cond.instanceMethod ({ cls := "java/lang/String", name := "<init>", desc := "(Ljava/lang/AbstractStringBuilder;Ljava/lang/Void;)V" } : Jvm.MethodName)) ∈ lw_all := lw_g (lw_at lw_m3 145 rfl) rfl
theorem q789 : (Jvm.Cond.code ({ cls := "java/lang/String", name := "<init>", desc := "(Ljava/lang/AbstractStringBuilder;Ljava/lang/Void;)V" } : Jvm.MethodName) prog_51_method_150_code (5 : Nat) (Option.none : Option Jvm.ClassFile.FieldType)) ∈ lw_all := lw_g (lw_at lw_m3 146 rfl) rfl
theorem q790 : (Jvm.Cond.methodLink "java/lang/String" (1 : Nat) ({ cls := "java/lang/Object", name := "<init>", desc := "()V" } : Jvm.MethodName)) ∈ lw_all := lw_g (lw_at lw_m3 147 rfl) rfl
theorem q791 : (Jvm.Cond.methodLink "java/lang/String" (552 : Nat) ({ cls := "java/lang/AbstractStringBuilder", name := "getValue", desc := "()[B" } : Jvm.MethodName)) ∈ lw_all := lw_g (lw_at lw_m3 148 rfl) rfl
theorem q792 : (Jvm.Cond.instanceMethod ({ cls := "java/lang/AbstractStringBuilder", name := "getValue", desc := "()[B" } : Jvm.MethodName)) ∈ lw_all := lw_g (lw_at lw_m3 149 rfl) rfl
theorem q793 : (Jvm.Cond.sameMethod "java/lang/AbstractStringBuilder" "java/lang/AbstractStringBuilder" "getValue" "()[B") ∈ lw_all := lw_g (lw_at lw_m3 150 rfl) rfl
theorem q794 : (Jvm.Cond.selects "java/lang/StringBuilder" ({ cls := "java/lang/AbstractStringBuilder", name := "getValue", desc := "()[B" } : Jvm.MethodName) ({ cls := "java/lang/AbstractStringBuilder", name := "getValue", desc := "()[B" } : Jvm.MethodName)) ∈ lw_all := lw_g (lw_at lw_m3 151 rfl) rfl
theorem q795 : (Jvm.Cond.code ({ cls := "java/lang/AbstractStringBuilder", name := "getValue", desc := "()[B" } : Jvm.MethodName) prog_37_method_64_code (1 : Nat) (Option.some (Jvm.ClassFile.FieldType.array Jvm.ClassFile.FieldType.byte))) ∈ lw_all := lw_g (lw_at lw_m3 152 rfl) rfl
theorem q796 : (Jvm.Cond.methodLink "java/lang/String" (549 : Nat) ({ cls := "java/lang/AbstractStringBuilder", name := "length", desc := "()I" } : Jvm.MethodName)) ∈ lw_all := lw_g (lw_at lw_m3 153 rfl) rfl
theorem q797 : (Jvm.Cond.instanceMethod ({ cls := "java/lang/AbstractStringBuilder", name := "length", desc := "()I" } : Jvm.MethodName)) ∈ lw_all := lw_g (lw_at lw_m3 154 rfl) rfl
theorem q798 : (Jvm.Cond.sameMethod "java/lang/AbstractStringBuilder" "java/lang/AbstractStringBuilder" "length" "()I") ∈ lw_all := lw_g (lw_at lw_m3 155 rfl) rfl
theorem q799 : (Jvm.Cond.selects "java/lang/StringBuilder" ({ cls := "java/lang/AbstractStringBuilder", name := "length", desc := "()I" } : Jvm.MethodName) ({ cls := "java/lang/StringBuilder", name := "length", desc := "()I" } : Jvm.MethodName)) ∈ lw_all := lw_g (lw_at lw_m3 156 rfl) rfl
theorem q800 : (Jvm.Cond.instanceMethod ({ cls := "java/lang/StringBuilder", name := "length", desc := "()I" } : Jvm.MethodName)) ∈ lw_all := lw_g (lw_at lw_m3 157 rfl) rfl
theorem q801 : (Jvm.Cond.code ({ cls := "java/lang/StringBuilder", name := "length", desc := "()I" } : Jvm.MethodName) prog_52_method_93_code (1 : Nat) (Option.some Jvm.ClassFile.FieldType.int)) ∈ lw_all := lw_g (lw_at lw_m3 158 rfl) rfl
theorem q802 : (Jvm.Cond.methodLink "java/lang/StringBuilder" (343 : Nat) ({ cls := "java/lang/AbstractStringBuilder", name := "length", desc := "()I" } : Jvm.MethodName)) ∈ lw_all := lw_g (lw_at lw_m3 159 rfl) rfl
theorem q803 : (Jvm.Cond.code ({ cls := "java/lang/AbstractStringBuilder", name := "length", desc := "()I" } : Jvm.MethodName) prog_37_method_6_code (1 : Nat) (Option.some Jvm.ClassFile.FieldType.int)) ∈ lw_all := lw_g (lw_at lw_m3 160 rfl) rfl
theorem q804 : (Jvm.Cond.methodLink "java/lang/String" (1047 : Nat) ({ cls := "java/lang/AbstractStringBuilder", name := "isLatin1", desc := "()Z" } : Jvm.MethodName)) ∈ lw_all := lw_g (lw_at lw_m3 161 rfl) rfl
theorem q805 : (Jvm.Cond.methodLink "java/lang/String" (54 : Nat) ({ cls := "java/util/Arrays", name := "copyOfRange", desc := "([BII)[B" } : Jvm.MethodName)) ∈ lw_all := lw_g (lw_at lw_m3 162 rfl) rfl
theorem q806 : (Jvm.Cond.static ({ cls := "java/util/Arrays", name := "copyOfRange", desc := "([BII)[B" } : Jvm.MethodName)) ∈ lw_all := lw_g (lw_at lw_m3 163 rfl) rfl
theorem q807 : (Jvm.Cond.code ({ cls := "java/util/Arrays", name := "copyOfRange", desc := "([BII)[B" } : Jvm.MethodName) prog_69_method_132_code (3 : Nat) (Option.some (Jvm.ClassFile.FieldType.array Jvm.ClassFile.FieldType.byte))) ∈ lw_all := lw_g (lw_at lw_m3 164 rfl) rfl
theorem q808 : (Jvm.Cond.methodLink "java/util/Arrays" (339 : Nat) ({ cls := "java/util/Arrays", name := "copyOfRangeByte", desc := "([BII)[B" } : Jvm.MethodName)) ∈ lw_all := lw_g (lw_at lw_m3 165 rfl) rfl
theorem q809 : (Jvm.Cond.static ({ cls := "java/util/Arrays", name := "copyOfRangeByte", desc := "([BII)[B" } : Jvm.MethodName)) ∈ lw_all := lw_g (lw_at lw_m3 166 rfl) rfl
theorem q810 : (Jvm.Cond.code ({ cls := "java/util/Arrays", name := "copyOfRangeByte", desc := "([BII)[B" } : Jvm.MethodName) prog_69_method_133_code (5 : Nat) (Option.some (Jvm.ClassFile.FieldType.array Jvm.ClassFile.FieldType.byte))) ∈ lw_all := lw_g (lw_at lw_m3 167 rfl) rfl
theorem q811 : (Jvm.Cond.methodLink "java/util/Arrays" (343 : Nat) ({ cls := "java/util/Arrays", name := "checkLength", desc := "(II)V" } : Jvm.MethodName)) ∈ lw_all := lw_g (lw_at lw_m3 168 rfl) rfl
theorem q812 : (Jvm.Cond.static ({ cls := "java/util/Arrays", name := "checkLength", desc := "(II)V" } : Jvm.MethodName)) ∈ lw_all := lw_g (lw_at lw_m3 169 rfl) rfl
theorem q813 : (Jvm.Cond.code ({ cls := "java/util/Arrays", name := "checkLength", desc := "(II)V" } : Jvm.MethodName) prog_69_method_131_code (2 : Nat) (Option.none : Option Jvm.ClassFile.FieldType)) ∈ lw_all := lw_g (lw_at lw_m3 170 rfl) rfl
theorem q814 : (Jvm.Cond.fieldLink "java/lang/String" (38 : Nat) "java/lang/String" "COMPACT_STRINGS" "Z") ∈ lw_all := lw_g (lw_at lw_m3 171 rfl) rfl
theorem q815 : (Jvm.Cond.methodLink "java/lang/String" (1051 : Nat) ({ cls := "java/lang/StringUTF16", name := "compress", desc := "([BII)[B" } : Jvm.MethodName)) ∈ lw_all := lw_g (lw_at lw_m3 172 rfl) rfl
theorem q816 : (Jvm.Cond.static ({ cls := "java/lang/StringUTF16", name := "compress", desc := "([BII)[B" } : Jvm.MethodName)) ∈ lw_all := lw_g (lw_at lw_m3 173 rfl) rfl
theorem q817 : (Jvm.Cond.code ({ cls := "java/lang/StringUTF16", name := "compress", desc := "([BII)[B" } : Jvm.MethodName) prog_54_method_17_code (6 : Nat) (Option.some (Jvm.ClassFile.FieldType.array Jvm.ClassFile.FieldType.byte))) ∈ lw_all := lw_g (lw_at lw_m3 174 rfl) rfl
theorem q818 : (Jvm.Cond.methodLink "java/lang/StringUTF16" (123 : Nat) ({ cls := "java/lang/StringUTF16", name := "compress", desc := "([BI[BII)I" } : Jvm.MethodName)) ∈ lw_all := lw_g (lw_at lw_m3 175 rfl) rfl
theorem q819 : (Jvm.Cond.static ({ cls := "java/lang/StringUTF16", name := "compress", desc := "([BI[BII)I" } : Jvm.MethodName)) ∈ lw_all := lw_g (lw_at lw_m3 176 rfl) rfl
theorem q820 : (Jvm.Cond.code ({ cls := "java/lang/StringUTF16", name := "compress", desc := "([BI[BII)I" } : Jvm.MethodName) prog_54_method_22_code (7 : Nat) (Option.some Jvm.ClassFile.FieldType.int)) ∈ lw_all := lw_g (lw_at lw_m3 177 rfl) rfl
theorem q821 : (Jvm.Cond.methodLink "java/lang/StringUTF16" (71 : Nat) ({ cls := "java/lang/StringUTF16", name := "getChar", desc := "([BI)C" } : Jvm.MethodName)) ∈ lw_all := lw_g (lw_at lw_m3 178 rfl) rfl
theorem q822 : (Jvm.Cond.static ({ cls := "java/lang/StringUTF16", name := "getChar", desc := "([BI)C" } : Jvm.MethodName)) ∈ lw_all := lw_g (lw_at lw_m3 179 rfl) rfl
theorem q823 : (Jvm.Cond.code ({ cls := "java/lang/StringUTF16", name := "getChar", desc := "([BI)C" } : Jvm.MethodName) prog_54_method_5_code (2 : Nat) (Option.some Jvm.ClassFile.FieldType.char)) ∈ lw_all := lw_g (lw_at lw_m3 180 rfl) rfl
theorem q824 : (Jvm.Cond.methodLink "java/lang/StringUTF16" (126 : Nat) ({ cls := "java/util/Arrays", name := "copyOfRange", desc := "([BII)[B" } : Jvm.MethodName)) ∈ lw_all := lw_g (lw_at lw_m3 181 rfl) rfl
theorem q825 : (Jvm.Cond.methodLink "java/lang/String" (47 : Nat) ({ cls := "java/lang/StringUTF16", name := "coderFromArrayLen", desc := "([BI)B" } : Jvm.MethodName)) ∈ lw_all := lw_g (lw_at lw_m3 182 rfl) rfl
theorem q826 : (Jvm.Cond.static ({ cls := "java/lang/StringUTF16", name := "coderFromArrayLen", desc := "([BI)B" } : Jvm.MethodName)) ∈ lw_all := lw_g (lw_at lw_m3 183 rfl) rfl
theorem q827 : (Jvm.Cond.code ({ cls := "java/lang/StringUTF16", name := "coderFromArrayLen", desc := "([BI)B" } : Jvm.MethodName) prog_54_method_15_code (2 : Nat) (Option.some Jvm.ClassFile.FieldType.byte)) ∈ lw_all := lw_g (lw_at lw_m3 184 rfl) rfl
theorem q828 : (Jvm.Cond.fieldLink "java/lang/String" (9 : Nat) "java/lang/String" "value" "[B") ∈ lw_all := lw_g (lw_at lw_m3 185 rfl) rfl
theorem q829 : (Jvm.Cond.fieldLink "java/lang/String" (15 : Nat) "java/lang/String" "coder" "B") ∈ lw_all := lw_g (lw_at lw_m3 186 rfl) rfl
theorem q830 : (Jvm.Cond.laysFinal "java/lang/String" "java/lang/String" "value" "[B") ∈ lw_all := lw_g (lw_at lw_m3 187 rfl) rfl
theorem q832 : (Jvm.Cond.laysFinal "java/lang/String" "java/lang/String" "coder" "B") ∈ lw_all := lw_g (lw_at lw_m3 189 rfl) rfl
theorem q834 : (Jvm.Cond.lays "java/lang/String" "java/lang/String" "hash" "I") ∈ lw_all := lw_g (lw_at lw_m3 191 rfl) rfl
theorem q836 : (Jvm.Cond.lays "java/lang/String" "java/lang/String" "hashIsZero" "Z") ∈ lw_all := lw_g (lw_at lw_m3 193 rfl) rfl
theorem q839 : (Jvm.Cond.methodLink "FollowingRefs$SchemaReader" (23 : Nat) ({ cls := "FollowingRefs$SchemaReader", name := "line", desc := "()V" } : Jvm.MethodName)) ∈ lw_all := lw_g (lw_at lw_m3 196 rfl) rfl
theorem q841 : (Jvm.Cond.instanceMethod ({ cls := "FollowingRefs$SchemaReader", name := "line", desc := "()V" } : Jvm.MethodName)) ∈ lw_all := lw_g (lw_at lw_m3 198 rfl) rfl
theorem q842 : (Jvm.Cond.code ({ cls := "FollowingRefs$SchemaReader", name := "line", desc := "()V" } : Jvm.MethodName) prog_20_method_3_code (1 : Nat) (Option.none : Option Jvm.ClassFile.FieldType)) ∈ lw_all := lw_g (lw_at lw_m3 199 rfl) rfl
theorem q844 : (Jvm.Cond.methodLink "FollowingRefs$SchemaReader" (38 : Nat) ({ cls := "FollowingRefs$SchemaReader", name := "is", desc := "(Ljava/lang/String;)Z" } : Jvm.MethodName)) ∈ lw_all := lw_g (lw_at lw_m3 201 rfl) rfl
theorem q845 : (Jvm.Cond.sameMethod "FollowingRefs$SchemaReader" "FollowingRefs$Reader" "is" "(Ljava/lang/String;)Z") ∈ lw_all := lw_g (lw_at lw_m3 202 rfl) rfl
theorem q847 : (Jvm.Cond.selects "FollowingRefs$SchemaReader" ({ cls := "FollowingRefs$SchemaReader", name := "is", desc := "(Ljava/lang/String;)Z" } : Jvm.MethodName) ({ cls := "FollowingRefs$Reader", name := "is", desc := "(Ljava/lang/String;)Z" } : Jvm.MethodName)) ∈ lw_all := lw_g (lw_at lw_m3 204 rfl) rfl
theorem q848 : (Jvm.Cond.instanceMethod ({ cls := "FollowingRefs$Reader", name := "is", desc := "(Ljava/lang/String;)Z" } : Jvm.MethodName)) ∈ lw_all := lw_g (lw_at lw_m3 205 rfl) rfl
theorem q849 : (Jvm.Cond.code ({ cls := "FollowingRefs$Reader", name := "is", desc := "(Ljava/lang/String;)Z" } : Jvm.MethodName) prog_16_method_7_code (2 : Nat) (Option.some Jvm.ClassFile.FieldType.boolean)) ∈ lw_all := lw_g (lw_at lw_m3 206 rfl) rfl
theorem q850 : (Jvm.Cond.methodLink "FollowingRefs$Reader" (74 : Nat) ({ cls := "java/lang/String", name := "equals", desc := "(Ljava/lang/Object;)Z" } : Jvm.MethodName)) ∈ lw_all := lw_g (lw_at lw_m3 207 rfl) rfl
theorem q851 : (Jvm.Cond.instanceMethod ({ cls := "java/lang/String", name := "equals", desc := "(Ljava/lang/Object;)Z" } : Jvm.MethodName)) ∈ lw_all := lw_g (lw_at lw_m3 208 rfl) rfl
theorem q852 : (Jvm.Cond.selects "java/lang/String" ({ cls := "java/lang/String", name := "equals", desc := "(Ljava/lang/Object;)Z" } : Jvm.MethodName) ({ cls := "java/lang/String", name := "equals", desc := "(Ljava/lang/Object;)Z" } : Jvm.MethodName)) ∈ lw_all := lw_g (lw_at lw_m3 209 rfl) rfl
theorem q853 : (Jvm.Cond.code ({ cls := "java/lang/String", name := "equals", desc := "(Ljava/lang/Object;)Z" } : Jvm.MethodName) prog_51_method_66_code (3 : Nat) (Option.some Jvm.ClassFile.FieldType.boolean)) ∈ lw_all := lw_g (lw_at lw_m3 210 rfl) rfl
theorem q854 : (Jvm.Cond.classLink "java/lang/String" (10 : Nat) "java/lang/String") ∈ lw_all := lw_g (lw_at lw_m3 211 rfl) rfl
theorem q855 : (Jvm.Cond.methodLink "java/lang/String" (541 : Nat) ({ cls := "java/lang/StringLatin1", name := "equals", desc := "([B[B)Z" } : Jvm.MethodName)) ∈ lw_all := lw_g (lw_at lw_m3 212 rfl) rfl
theorem q856 : (Jvm.Cond.static ({ cls := "java/lang/StringLatin1", name := "equals", desc := "([B[B)Z" } : Jvm.MethodName)) ∈ lw_all := lw_g (lw_at lw_m3 213 rfl) rfl
theorem q857 : (Jvm.Cond.code ({ cls := "java/lang/StringLatin1", name := "equals", desc := "([B[B)Z" } : Jvm.MethodName) prog_53_method_13_code (3 : Nat) (Option.some Jvm.ClassFile.FieldType.boolean)) ∈ lw_all := lw_g (lw_at lw_m3 214 rfl) rfl
theorem q858 : (Jvm.Cond.methodLink "FollowingRefs$SchemaReader" (42 : Nat) ({ cls := "FollowingRefs$SchemaReader", name := "tables", desc := "()V" } : Jvm.MethodName)) ∈ lw_all := lw_g (lw_at lw_m3 215 rfl) rfl
theorem q860 : (Jvm.Cond.instanceMethod ({ cls := "FollowingRefs$SchemaReader", name := "tables", desc := "()V" } : Jvm.MethodName)) ∈ lw_all := lw_g (lw_at lw_m3 217 rfl) rfl
theorem q861 : (Jvm.Cond.code ({ cls := "FollowingRefs$SchemaReader", name := "tables", desc := "()V" } : Jvm.MethodName) prog_20_method_5_code (2 : Nat) (Option.none : Option Jvm.ClassFile.FieldType)) ∈ lw_all := lw_g (lw_at lw_m3 218 rfl) rfl
theorem q862 : (Jvm.Cond.methodLink "FollowingRefs$SchemaReader" (72 : Nat) ({ cls := "java/util/ArrayList", name := "size", desc := "()I" } : Jvm.MethodName)) ∈ lw_all := lw_g (lw_at lw_m3 219 rfl) rfl
theorem q863 : (Jvm.Cond.instanceMethod ({ cls := "java/util/ArrayList", name := "size", desc := "()I" } : Jvm.MethodName)) ∈ lw_all := lw_g (lw_at lw_m3 220 rfl) rfl
theorem q864 : (Jvm.Cond.selects "java/util/ArrayList" ({ cls := "java/util/ArrayList", name := "size", desc := "()I" } : Jvm.MethodName) ({ cls := "java/util/ArrayList", name := "size", desc := "()I" } : Jvm.MethodName)) ∈ lw_all := lw_g (lw_at lw_m3 221 rfl) rfl
theorem q865 : (Jvm.Cond.code ({ cls := "java/util/ArrayList", name := "size", desc := "()I" } : Jvm.MethodName) prog_66_method_8_code (1 : Nat) (Option.some Jvm.ClassFile.FieldType.int)) ∈ lw_all := lw_g (lw_at lw_m3 222 rfl) rfl
theorem q866 : (Jvm.Cond.methodLink "FollowingRefs$SchemaReader" (78 : Nat) ({ cls := "FollowingRefs$SchemaReader", name := "first", desc := "(II)V" } : Jvm.MethodName)) ∈ lw_all := lw_g (lw_at lw_m3 223 rfl) rfl
theorem q868 : (Jvm.Cond.instanceMethod ({ cls := "FollowingRefs$SchemaReader", name := "first", desc := "(II)V" } : Jvm.MethodName)) ∈ lw_all := lw_g (lw_at lw_m3 225 rfl) rfl
theorem q869 : (Jvm.Cond.code ({ cls := "FollowingRefs$SchemaReader", name := "first", desc := "(II)V" } : Jvm.MethodName) prog_20_method_4_code (3 : Nat) (Option.none : Option Jvm.ClassFile.FieldType)) ∈ lw_all := lw_g (lw_at lw_m3 226 rfl) rfl
theorem q870 : (Jvm.Cond.methodLink "FollowingRefs$SchemaReader" (66 : Nat) ({ cls := "FollowingRefs$SchemaReader", name := "need", desc := "(ZI)V" } : Jvm.MethodName)) ∈ lw_all := lw_g (lw_at lw_m3 227 rfl) rfl
theorem q871 : (Jvm.Cond.sameMethod "FollowingRefs$SchemaReader" "FollowingRefs$Reader" "need" "(ZI)V") ∈ lw_all := lw_g (lw_at lw_m3 228 rfl) rfl
theorem q873 : (Jvm.Cond.selects "FollowingRefs$SchemaReader" ({ cls := "FollowingRefs$SchemaReader", name := "need", desc := "(ZI)V" } : Jvm.MethodName) ({ cls := "FollowingRefs$Reader", name := "need", desc := "(ZI)V" } : Jvm.MethodName)) ∈ lw_all := lw_g (lw_at lw_m3 230 rfl) rfl
theorem q874 : (Jvm.Cond.instanceMethod ({ cls := "FollowingRefs$Reader", name := "need", desc := "(ZI)V" } : Jvm.MethodName)) ∈ lw_all := lw_g (lw_at lw_m3 231 rfl) rfl
theorem q875 : (Jvm.Cond.code ({ cls := "FollowingRefs$Reader", name := "need", desc := "(ZI)V" } : Jvm.MethodName) prog_16_method_6_code (3 : Nat) (Option.none : Option Jvm.ClassFile.FieldType)) ∈ lw_all := lw_g (lw_at lw_m3 232 rfl) rfl
theorem q876 : (Jvm.Cond.classLink "FollowingRefs$Reader" (69 : Nat) "FollowingRefs$Fault") ∈ lw_all := lw_g (lw_at lw_m3 233 rfl) rfl
theorem q877 : (Jvm.Cond.instantiable "FollowingRefs$Fault" (8 : Nat)) ∈ lw_all := lw_g (lw_at lw_m3 234 rfl) rfl
theorem q879 : (Jvm.Cond.declares ({ cls := "java/lang/Exception", name := "<init>", desc := "()V" } : Jvm.MethodName)) ∈ lw_tbl := lw_at lw_m3 236 rfl
theorem q881 : (Jvm.Cond.declares ({ cls := "java/lang/Throwable", name := "<init>", desc := "()V" } : Jvm.MethodName)) ∈ lw_tbl := lw_at lw_m3 238 rfl
theorem q885 : (Jvm.Cond.lays "FollowingRefs$Fault" "java/lang/Throwable" "cause" "Ljava/lang/Throwable;") ∈ lw_all := lw_g (lw_at lw_m4 2 rfl) rfl
theorem q886 : (Jvm.Cond.lays "java/lang/Throwable" "java/lang/Throwable" "cause" "Ljava/lang/Throwable;") ∈ lw_all := lw_g (lw_at lw_m4 3 rfl) rfl
theorem q887 : (Jvm.Cond.lays "FollowingRefs$Fault" "java/lang/Throwable" "stackTrace" "[Ljava/lang/StackTraceElement;") ∈ lw_all := lw_g (lw_at lw_m4 4 rfl) rfl
theorem q888 : (Jvm.Cond.lays "java/lang/Throwable" "java/lang/Throwable" "stackTrace" "[Ljava/lang/StackTraceElement;") ∈ lw_all := lw_g (lw_at lw_m4 5 rfl) rfl
theorem q889 : (Jvm.Cond.lays "FollowingRefs$Fault" "java/lang/Throwable" "suppressedExceptions" "Ljava/util/List;") ∈ lw_all := lw_g (lw_at lw_m4 6 rfl) rfl
theorem q890 : (Jvm.Cond.lays "java/lang/Throwable" "java/lang/Throwable" "suppressedExceptions" "Ljava/util/List;") ∈ lw_all := lw_g (lw_at lw_m4 7 rfl) rfl
theorem q891 : (Jvm.Cond.lays "FollowingRefs$Fault" "java/lang/Throwable" "detailMessage" "Ljava/lang/String;") ∈ lw_all := lw_g (lw_at lw_m4 8 rfl) rfl
theorem q892 : (Jvm.Cond.lays "java/lang/Throwable" "java/lang/Throwable" "detailMessage" "Ljava/lang/String;") ∈ lw_all := lw_g (lw_at lw_m4 9 rfl) rfl
theorem q893 : (Jvm.Cond.lays "FollowingRefs$Fault" "java/lang/Throwable" "backtrace" "Ljava/lang/Object;") ∈ lw_all := lw_g (lw_at lw_m4 10 rfl) rfl
theorem q894 : (Jvm.Cond.lays "java/lang/Throwable" "java/lang/Throwable" "backtrace" "Ljava/lang/Object;") ∈ lw_all := lw_g (lw_at lw_m4 11 rfl) rfl
theorem q895 : (Jvm.Cond.fieldLink "java/lang/Throwable" (198 : Nat) "java/lang/Throwable" "backtrace" "Ljava/lang/Object;") ∈ lw_all := lw_g (lw_at lw_m4 12 rfl) rfl
theorem q896 : (Jvm.Cond.superclass "java/lang/Throwable" "java/lang/Object") ∈ lw_all := lw_g (lw_at lw_m4 13 rfl) rfl
theorem q897 : (Jvm.Cond.instanceMethod ({ cls := "java/lang/Throwable", name := "<init>", desc := "()V" } : Jvm.MethodName)) ∈ lw_all := lw_g (lw_at lw_m4 14 rfl) rfl
theorem q898 : (Jvm.Cond.code ({ cls := "java/lang/Throwable", name := "<init>", desc := "()V" } : Jvm.MethodName) prog_56_method_1_code (1 : Nat) (Option.none : Option Jvm.ClassFile.FieldType)) ∈ lw_all := lw_g (lw_at lw_m4 15 rfl) rfl
theorem q899 : (Jvm.Cond.methodLink "java/lang/Throwable" (1 : Nat) ({ cls := "java/lang/Object", name := "<init>", desc := "()V" } : Jvm.MethodName)) ∈ lw_all := lw_g (lw_at lw_m4 16 rfl) rfl
theorem q900 : (Jvm.Cond.fieldLink "java/lang/Throwable" (13 : Nat) "java/lang/Throwable" "UNASSIGNED_STACK" "[Ljava/lang/StackTraceElement;") ∈ lw_all := lw_g (lw_at lw_m4 17 rfl) rfl
theorem q902 : (Jvm.Cond.fieldLink "java/lang/Throwable" (20 : Nat) "java/lang/Throwable" "SUPPRESSED_SENTINEL" "Ljava/util/List;") ∈ lw_all := lw_g (lw_at lw_m4 19 rfl) rfl
theorem q904 : (Jvm.Cond.methodLink "java/lang/Throwable" (27 : Nat) ({ cls := "java/lang/Throwable", name := "fillInStackTrace", desc := "()Ljava/lang/Throwable;" } : Jvm.MethodName)) ∈ lw_all := lw_g (lw_at lw_m4 21 rfl) rfl
theorem q905 : (Jvm.Cond.instanceMethod ({ cls := "java/lang/Throwable", name := "fillInStackTrace", desc := "()Ljava/lang/Throwable;" } : Jvm.MethodName)) ∈ lw_all := lw_g (lw_at lw_m4 22 rfl) rfl
theorem q909 : (Jvm.Cond.selects "java/util/NoSuchElementException" ({ cls := "java/lang/Throwable", name := "fillInStackTrace", desc := "()Ljava/lang/Throwable;" } : Jvm.MethodName) ({ cls := "java/lang/Throwable", name := "fillInStackTrace", desc := "()Ljava/lang/Throwable;" } : Jvm.MethodName)) ∈ lw_all := lw_g (lw_at lw_m4 26 rfl) rfl
theorem q910 : (Jvm.Cond.codeSync ({ cls := "java/lang/Throwable", name := "fillInStackTrace", desc := "()Ljava/lang/Throwable;" } : Jvm.MethodName) prog_56_method_18_code (1 : Nat) (Option.some (Jvm.ClassFile.FieldType.object "java/lang/Throwable"))) ∈ lw_all := lw_g (lw_at lw_m4 27 rfl) rfl
theorem q911 : (Jvm.Cond.methodLink "java/lang/Throwable" (202 : Nat) ({ cls := "java/lang/Throwable", name := "fillInStackTrace", desc := "(I)Ljava/lang/Throwable;" } : Jvm.MethodName)) ∈ lw_all := lw_g (lw_at lw_m4 28 rfl) rfl
theorem q913 : (Jvm.Cond.instanceMethod ({ cls := "java/lang/Throwable", name := "fillInStackTrace", desc := "(I)Ljava/lang/Throwable;" } : Jvm.MethodName)) ∈ lw_all := lw_g (lw_at lw_m4 30 rfl) rfl
theorem q914 : (Jvm.Cond.instantiable "java/lang/Throwable" (6 : Nat)) ∈ lw_all := lw_g (lw_at lw_m4 31 rfl) rfl
theorem q915 : (Jvm.Cond.native ({ cls := "java/lang/Throwable", name := "fillInStackTrace", desc := "(I)Ljava/lang/Throwable;" } : Jvm.MethodName)) ∈ lw_all := lw_g (lw_at lw_m4 32 rfl) rfl
theorem q916 : (Jvm.Cond.methodLink "FollowingRefs$Reader" (71 : Nat) ({ cls := "FollowingRefs$Fault", name := "<init>", desc := "(II)V" } : Jvm.MethodName)) ∈ lw_all := lw_g (lw_at lw_m4 33 rfl) rfl
theorem q917 : (Jvm.Cond.instanceMethod ({ cls := "FollowingRefs$Fault", name := "<init>", desc := "(II)V" } : Jvm.MethodName)) ∈ lw_all := lw_g (lw_at lw_m4 34 rfl) rfl
theorem q918 : (Jvm.Cond.code ({ cls := "FollowingRefs$Fault", name := "<init>", desc := "(II)V" } : Jvm.MethodName) prog_7_method_1_code (3 : Nat) (Option.none : Option Jvm.ClassFile.FieldType)) ∈ lw_all := lw_g (lw_at lw_m4 35 rfl) rfl
theorem q919 : (Jvm.Cond.methodLink "FollowingRefs$Fault" (1 : Nat) ({ cls := "java/lang/Exception", name := "<init>", desc := "(Ljava/lang/String;Ljava/lang/Throwable;ZZ)V" } : Jvm.MethodName)) ∈ lw_all := lw_g (lw_at lw_m4 36 rfl) rfl
theorem q920 : (Jvm.Cond.instanceMethod ({ cls := "java/lang/Exception", name := "<init>", desc := "(Ljava/lang/String;Ljava/lang/Throwable;ZZ)V" } : Jvm.MethodName)) ∈ lw_all := lw_g (lw_at lw_m4 37 rfl) rfl
theorem q921 : (Jvm.Cond.code ({ cls := "java/lang/Exception", name := "<init>", desc := "(Ljava/lang/String;Ljava/lang/Throwable;ZZ)V" } : Jvm.MethodName) prog_42_method_5_code (5 : Nat) (Option.none : Option Jvm.ClassFile.FieldType)) ∈ lw_all := lw_g (lw_at lw_m4 38 rfl) rfl
theorem q922 : (Jvm.Cond.methodLink "java/lang/Exception" (16 : Nat) ({ cls := "java/lang/Throwable", name := "<init>", desc := "(Ljava/lang/String;Ljava/lang/Throwable;ZZ)V" } : Jvm.MethodName)) ∈ lw_all := lw_g (lw_at lw_m4 39 rfl) rfl
theorem q923 : (Jvm.Cond.instanceMethod ({ cls := "java/lang/Throwable", name := "<init>", desc := "(Ljava/lang/String;Ljava/lang/Throwable;ZZ)V" } : Jvm.MethodName)) ∈ lw_all := lw_g (lw_at lw_m4 40 rfl) rfl
theorem q924 : (Jvm.Cond.code ({ cls := "java/lang/Throwable", name := "<init>", desc := "(Ljava/lang/String;Ljava/lang/Throwable;ZZ)V" } : Jvm.MethodName) prog_56_method_5_code (5 : Nat) (Option.none : Option Jvm.ClassFile.FieldType)) ∈ lw_all := lw_g (lw_at lw_m4 41 rfl) rfl
theorem q925 : (Jvm.Cond.fieldLink "FollowingRefs$Fault" (7 : Nat) "FollowingRefs$Fault" "kind" "I") ∈ lw_all := lw_g (lw_at lw_m4 42 rfl) rfl
theorem q926 : (Jvm.Cond.fieldLinkNest "FollowingRefs" (125 : Nat) "FollowingRefs$Fault" "kind" "I" "FollowingRefs") ∈ lw_tbl := lw_at lw_m4 43 rfl
theorem q927 : (Jvm.Cond.fieldLink "FollowingRefs$Fault" (13 : Nat) "FollowingRefs$Fault" "place" "I") ∈ lw_all := lw_g (lw_at lw_m4 44 rfl) rfl
theorem q928 : (Jvm.Cond.fieldLinkNest "FollowingRefs" (128 : Nat) "FollowingRefs$Fault" "place" "I" "FollowingRefs") ∈ lw_tbl := lw_at lw_m4 45 rfl
theorem q930 : (Jvm.Cond.fieldLink "java/lang/Throwable" (31 : Nat) "java/lang/Throwable" "detailMessage" "Ljava/lang/String;") ∈ lw_all := lw_g (lw_at lw_m4 47 rfl) rfl
theorem q931 : (Jvm.Cond.fieldLink "java/lang/Throwable" (7 : Nat) "java/lang/Throwable" "cause" "Ljava/lang/Throwable;") ∈ lw_all := lw_g (lw_at lw_m4 48 rfl) rfl
theorem q932 : (Jvm.Cond.fieldLink "java/lang/Throwable" (17 : Nat) "java/lang/Throwable" "stackTrace" "[Ljava/lang/StackTraceElement;") ∈ lw_all := lw_g (lw_at lw_m4 49 rfl) rfl
theorem q933 : (Jvm.Cond.fieldLink "java/lang/Throwable" (24 : Nat) "java/lang/Throwable" "suppressedExceptions" "Ljava/util/List;") ∈ lw_all := lw_g (lw_at lw_m4 50 rfl) rfl
theorem q934 : (Jvm.Cond.laysFinal "FollowingRefs$Fault" "FollowingRefs$Fault" "kind" "I") ∈ lw_all := lw_g (lw_at lw_m4 51 rfl) rfl
theorem q936 : (Jvm.Cond.laysFinal "FollowingRefs$Fault" "FollowingRefs$Fault" "place" "I") ∈ lw_all := lw_g (lw_at lw_m4 53 rfl) rfl
theorem q942 : (Jvm.Cond.lays "FollowingRefs$Fault" "java/lang/Throwable" "depth" "I") ∈ lw_all := lw_g (lw_at lw_m4 59 rfl) rfl
theorem q946 : (Jvm.Cond.methodLink "FollowingRefs$SchemaReader" (82 : Nat) ({ cls := "FollowingRefs$SchemaReader", name := "isName", desc := "()Z" } : Jvm.MethodName)) ∈ lw_all := lw_g (lw_at lw_m4 63 rfl) rfl
theorem q947 : (Jvm.Cond.sameMethod "FollowingRefs$SchemaReader" "FollowingRefs$Reader" "isName" "()Z") ∈ lw_all := lw_g (lw_at lw_m4 64 rfl) rfl
theorem q949 : (Jvm.Cond.selects "FollowingRefs$SchemaReader" ({ cls := "FollowingRefs$SchemaReader", name := "isName", desc := "()Z" } : Jvm.MethodName) ({ cls := "FollowingRefs$Reader", name := "isName", desc := "()Z" } : Jvm.MethodName)) ∈ lw_all := lw_g (lw_at lw_m4 66 rfl) rfl
theorem q950 : (Jvm.Cond.instanceMethod ({ cls := "FollowingRefs$Reader", name := "isName", desc := "()Z" } : Jvm.MethodName)) ∈ lw_all := lw_g (lw_at lw_m4 67 rfl) rfl
theorem q951 : (Jvm.Cond.code ({ cls := "FollowingRefs$Reader", name := "isName", desc := "()Z" } : Jvm.MethodName) prog_16_method_8_code (1 : Nat) (Option.some Jvm.ClassFile.FieldType.boolean)) ∈ lw_all := lw_g (lw_at lw_m4 68 rfl) rfl
theorem q954 : (Jvm.Cond.methodLink "FollowingRefs$Reader" (84 : Nat) ({ cls := "java/lang/StringBuilder", name := "append", desc := "(Ljava/lang/String;)Ljava/lang/StringBuilder;" } : Jvm.MethodName)) ∈ lw_all := lw_g (lw_at lw_m4 71 rfl) rfl
theorem q955 : (Jvm.Cond.instanceMethod ({ cls := "java/lang/StringBuilder", name := "append", desc := "(Ljava/lang/String;)Ljava/lang/StringBuilder;" } : Jvm.MethodName)) ∈ lw_all := lw_g (lw_at lw_m4 72 rfl) rfl
theorem q956 : (Jvm.Cond.selects "java/lang/StringBuilder" ({ cls := "java/lang/StringBuilder", name := "append", desc := "(Ljava/lang/String;)Ljava/lang/StringBuilder;" } : Jvm.MethodName) ({ cls := "java/lang/StringBuilder", name := "append", desc := "(Ljava/lang/String;)Ljava/lang/StringBuilder;" } : Jvm.MethodName)) ∈ lw_all := lw_g (lw_at lw_m4 73 rfl) rfl
theorem q957 : (Jvm.Cond.code ({ cls := "java/lang/StringBuilder", name := "append", desc := "(Ljava/lang/String;)Ljava/lang/StringBuilder;" } : Jvm.MethodName) prog_52_method_7_code (2 : Nat) (Option.some (Jvm.ClassFile.FieldType.object "java/lang/StringBuilder"))) ∈ lw_all := lw_g (lw_at lw_m4 74 rfl) rfl
theorem q958 : (Jvm.Cond.methodLink "java/lang/StringBuilder" (29 : Nat) ({ cls := "java/lang/AbstractStringBuilder", name := "append", desc := "(Ljava/lang/String;)Ljava/lang/AbstractStringBuilder;" } : Jvm.MethodName)) ∈ lw_all := lw_g (lw_at lw_m4 75 rfl) rfl
theorem q959 : (Jvm.Cond.instanceMethod ({ cls := "java/lang/AbstractStringBuilder", name := "append", desc := "(Ljava/lang/String;)Ljava/lang/AbstractStringBuilder;" } : Jvm.MethodName)) ∈ lw_all := lw_g (lw_at lw_m4 76 rfl) rfl
theorem q960 : (Jvm.Cond.code ({ cls := "java/lang/AbstractStringBuilder", name := "append", desc := "(Ljava/lang/String;)Ljava/lang/AbstractStringBuilder;" } : Jvm.MethodName) prog_37_method_22_code (3 : Nat) (Option.some (Jvm.ClassFile.FieldType.object "java/lang/AbstractStringBuilder"))) ∈ lw_all := lw_g (lw_at lw_m4 77 rfl) rfl
theorem q961 : (Jvm.Cond.methodLink "java/lang/AbstractStringBuilder" (204 : Nat) ({ cls := "java/lang/AbstractStringBuilder", name := "appendNull", desc := "()Ljava/lang/AbstractStringBuilder;" } : Jvm.MethodName)) ∈ lw_all := lw_g (lw_at lw_m4 78 rfl) rfl
theorem q962 : (Jvm.Cond.privateMethod ({ cls := "java/lang/AbstractStringBuilder", name := "appendNull", desc := "()Ljava/lang/AbstractStringBuilder;" } : Jvm.MethodName)) ∈ lw_tbl := lw_at lw_m4 79 rfl
theorem q963 : (Jvm.Cond.instanceMethod ({ cls := "java/lang/AbstractStringBuilder", name := "appendNull", desc := "()Ljava/lang/AbstractStringBuilder;" } : Jvm.MethodName)) ∈ lw_all := lw_g (lw_at lw_m4 80 rfl) rfl
theorem q964 : (Jvm.Cond.code ({ cls := "java/lang/AbstractStringBuilder", name := "appendNull", desc := "()Ljava/lang/AbstractStringBuilder;" } : Jvm.MethodName) prog_37_method_26_code (3 : Nat) (Option.some (Jvm.ClassFile.FieldType.object "java/lang/AbstractStringBuilder"))) ∈ lw_all := lw_g (lw_at lw_m4 81 rfl) rfl
theorem q965 : (Jvm.Cond.methodLink "java/lang/AbstractStringBuilder" (226 : Nat) ({ cls := "java/lang/StringUTF16", name := "putCharsAt", desc := "([BICCCC)I" } : Jvm.MethodName)) ∈ lw_all := lw_g (lw_at lw_m4 82 rfl) rfl
theorem q966 : (Jvm.Cond.static ({ cls := "java/lang/StringUTF16", name := "putCharsAt", desc := "([BICCCC)I" } : Jvm.MethodName)) ∈ lw_all := lw_g (lw_at lw_m4 83 rfl) rfl
theorem q967 : (Jvm.Cond.code ({ cls := "java/lang/StringUTF16", name := "putCharsAt", desc := "([BICCCC)I" } : Jvm.MethodName) prog_54_method_81_code (7 : Nat) (Option.some Jvm.ClassFile.FieldType.int)) ∈ lw_all := lw_g (lw_at lw_m4 84 rfl) rfl
theorem q968 : (Jvm.Cond.methodLink "java/lang/StringUTF16" (96 : Nat) ({ cls := "java/lang/StringUTF16", name := "checkBoundsBeginEnd", desc := "(II[B)V" } : Jvm.MethodName)) ∈ lw_all := lw_g (lw_at lw_m4 85 rfl) rfl
theorem q969 : (Jvm.Cond.static ({ cls := "java/lang/StringUTF16", name := "checkBoundsBeginEnd", desc := "(II[B)V" } : Jvm.MethodName)) ∈ lw_all := lw_g (lw_at lw_m4 86 rfl) rfl
theorem q970 : (Jvm.Cond.code ({ cls := "java/lang/StringUTF16", name := "checkBoundsBeginEnd", desc := "(II[B)V" } : Jvm.MethodName) prog_54_method_93_code (3 : Nat) (Option.none : Option Jvm.ClassFile.FieldType)) ∈ lw_all := lw_g (lw_at lw_m4 87 rfl) rfl
theorem q971 : (Jvm.Cond.methodLink "java/lang/StringUTF16" (241 : Nat) ({ cls := "java/lang/String", name := "checkBoundsBeginEnd", desc := "(III)V" } : Jvm.MethodName)) ∈ lw_all := lw_g (lw_at lw_m4 88 rfl) rfl
theorem q972 : (Jvm.Cond.static ({ cls := "java/lang/String", name := "checkBoundsBeginEnd", desc := "(III)V" } : Jvm.MethodName)) ∈ lw_all := lw_g (lw_at lw_m4 89 rfl) rfl
theorem q973 : (Jvm.Cond.code ({ cls := "java/lang/String", name := "checkBoundsBeginEnd", desc := "(III)V" } : Jvm.MethodName) prog_51_method_158_code (3 : Nat) (Option.none : Option Jvm.ClassFile.FieldType)) ∈ lw_all := lw_g (lw_at lw_m4 90 rfl) rfl
theorem q974 : (Jvm.Cond.methodLink "java/lang/String" (1062 : Nat) ({ cls := "jdk/internal/util/Preconditions", name := "checkFromToIndex", desc := "(IIILjava/util/function/BiFunction;)I" } : Jvm.MethodName)) ∈ lw_all := lw_g (lw_at lw_m4 91 rfl) rfl
theorem q975 : (Jvm.Cond.static ({ cls := "jdk/internal/util/Preconditions", name := "checkFromToIndex", desc := "(IIILjava/util/function/BiFunction;)I" } : Jvm.MethodName)) ∈ lw_all := lw_g (lw_at lw_m4 92 rfl) rfl
theorem q976 : (Jvm.Cond.code ({ cls := "jdk/internal/util/Preconditions", name := "checkFromToIndex", desc := "(IIILjava/util/function/BiFunction;)I" } : Jvm.MethodName) prog_93_method_12_code (4 : Nat) (Option.some Jvm.ClassFile.FieldType.int)) ∈ lw_all := lw_g (lw_at lw_m4 93 rfl) rfl
theorem q977 : (Jvm.Cond.methodLink "java/lang/AbstractStringBuilder" (32 : Nat) ({ cls := "java/lang/String", name := "length", desc := "()I" } : Jvm.MethodName)) ∈ lw_all := lw_g (lw_at lw_m4 94 rfl) rfl
theorem q978 : (Jvm.Cond.instanceMethod ({ cls := "java/lang/String", name := "length", desc := "()I" } : Jvm.MethodName)) ∈ lw_all := lw_g (lw_at lw_m4 95 rfl) rfl
theorem q979 : (Jvm.Cond.selects "java/lang/String" ({ cls := "java/lang/String", name := "length", desc := "()I" } : Jvm.MethodName) ({ cls := "java/lang/String", name := "length", desc := "()I" } : Jvm.MethodName)) ∈ lw_all := lw_g (lw_at lw_m4 96 rfl) rfl
theorem q980 : (Jvm.Cond.code ({ cls := "java/lang/String", name := "length", desc := "()I" } : Jvm.MethodName) prog_51_method_54_code (1 : Nat) (Option.some Jvm.ClassFile.FieldType.int)) ∈ lw_all := lw_g (lw_at lw_m4 97 rfl) rfl
theorem q981 : (Jvm.Cond.methodLink "java/lang/String" (335 : Nat) ({ cls := "java/lang/String", name := "coder", desc := "()B" } : Jvm.MethodName)) ∈ lw_all := lw_g (lw_at lw_m4 98 rfl) rfl
theorem q982 : (Jvm.Cond.instanceMethod ({ cls := "java/lang/String", name := "coder", desc := "()B" } : Jvm.MethodName)) ∈ lw_all := lw_g (lw_at lw_m4 99 rfl) rfl
theorem q983 : (Jvm.Cond.selects "java/lang/String" ({ cls := "java/lang/String", name := "coder", desc := "()B" } : Jvm.MethodName) ({ cls := "java/lang/String", name := "coder", desc := "()B" } : Jvm.MethodName)) ∈ lw_all := lw_g (lw_at lw_m4 100 rfl) rfl
theorem q984 : (Jvm.Cond.code ({ cls := "java/lang/String", name := "coder", desc := "()B" } : Jvm.MethodName) prog_51_method_152_code (1 : Nat) (Option.some Jvm.ClassFile.FieldType.byte)) ∈ lw_all := lw_g (lw_at lw_m4 101 rfl) rfl
theorem q985 : (Jvm.Cond.methodLink "java/lang/AbstractStringBuilder" (208 : Nat) ({ cls := "java/lang/AbstractStringBuilder", name := "putStringAt", desc := "(ILjava/lang/String;)V" } : Jvm.MethodName)) ∈ lw_all := lw_g (lw_at lw_m4 102 rfl) rfl
theorem q986 : (Jvm.Cond.privateMethod ({ cls := "java/lang/AbstractStringBuilder", name := "putStringAt", desc := "(ILjava/lang/String;)V" } : Jvm.MethodName)) ∈ lw_tbl := lw_at lw_m4 103 rfl
theorem q987 : (Jvm.Cond.instanceMethod ({ cls := "java/lang/AbstractStringBuilder", name := "putStringAt", desc := "(ILjava/lang/String;)V" } : Jvm.MethodName)) ∈ lw_all := lw_g (lw_at lw_m4 104 rfl) rfl
theorem q988 : (Jvm.Cond.code ({ cls := "java/lang/AbstractStringBuilder", name := "putStringAt", desc := "(ILjava/lang/String;)V" } : Jvm.MethodName) prog_37_method_73_code (3 : Nat) (Option.none : Option Jvm.ClassFile.FieldType)) ∈ lw_all := lw_g (lw_at lw_m4 105 rfl) rfl
theorem q989 : (Jvm.Cond.methodLink "java/lang/AbstractStringBuilder" (397 : Nat) ({ cls := "java/lang/AbstractStringBuilder", name := "inflateIfNeededFor", desc := "(Ljava/lang/String;)V" } : Jvm.MethodName)) ∈ lw_all := lw_g (lw_at lw_m4 106 rfl) rfl
theorem q990 : (Jvm.Cond.privateMethod ({ cls := "java/lang/AbstractStringBuilder", name := "inflateIfNeededFor", desc := "(Ljava/lang/String;)V" } : Jvm.MethodName)) ∈ lw_tbl := lw_at lw_m4 107 rfl
theorem q991 : (Jvm.Cond.instanceMethod ({ cls := "java/lang/AbstractStringBuilder", name := "inflateIfNeededFor", desc := "(Ljava/lang/String;)V" } : Jvm.MethodName)) ∈ lw_all := lw_g (lw_at lw_m4 108 rfl) rfl
theorem q992 : (Jvm.Cond.code ({ cls := "java/lang/AbstractStringBuilder", name := "inflateIfNeededFor", desc := "(Ljava/lang/String;)V" } : Jvm.MethodName) prog_37_method_71_code (2 : Nat) (Option.none : Option Jvm.ClassFile.FieldType)) ∈ lw_all := lw_g (lw_at lw_m4 109 rfl) rfl
theorem q993 : (Jvm.Cond.methodLink "java/lang/AbstractStringBuilder" (40 : Nat) ({ cls := "java/lang/String", name := "coder", desc := "()B" } : Jvm.MethodName)) ∈ lw_all := lw_g (lw_at lw_m4 110 rfl) rfl
theorem q994 : (Jvm.Cond.methodLink "java/lang/AbstractStringBuilder" (399 : Nat) ({ cls := "java/lang/String", name := "getBytes", desc := "([BIB)V" } : Jvm.MethodName)) ∈ lw_all := lw_g (lw_at lw_m4 111 rfl) rfl
theorem q995 : (Jvm.Cond.instanceMethod ({ cls := "java/lang/String", name := "getBytes", desc := "([BIB)V" } : Jvm.MethodName)) ∈ lw_all := lw_g (lw_at lw_m4 112 rfl) rfl
theorem q996 : (Jvm.Cond.selects "java/lang/String" ({ cls := "java/lang/String", name := "getBytes", desc := "([BIB)V" } : Jvm.MethodName) ({ cls := "java/lang/String", name := "getBytes", desc := "([BIB)V" } : Jvm.MethodName)) ∈ lw_all := lw_g (lw_at lw_m4 113 rfl) rfl
theorem q997 : (Jvm.Cond.code ({ cls := "java/lang/String", name := "getBytes", desc := "([BIB)V" } : Jvm.MethodName) prog_51_method_147_code (4 : Nat) (Option.none : Option Jvm.ClassFile.FieldType)) ∈ lw_all := lw_g (lw_at lw_m4 114 rfl) rfl
theorem q998 : (Jvm.Cond.methodLink "java/lang/String" (212 : Nat) ({ cls := "java/lang/System", name := "arraycopy", desc := "(Ljava/lang/Object;ILjava/lang/Object;II)V" } : Jvm.MethodName)) ∈ lw_all := lw_g (lw_at lw_m4 115 rfl) rfl
theorem q999 : (Jvm.Cond.methodLink "java/lang/String" (106 : Nat) ({ cls := "java/lang/StringLatin1", name := "inflate", desc := "([BI[BII)V" } : Jvm.MethodName)) ∈ lw_all := lw_g (lw_at lw_m4 116 rfl) rfl
theorem q1000 : (Jvm.Cond.methodLink "FollowingRefs$Reader" (87 : Nat) ({ cls := "java/lang/String", name := "indexOf", desc := "(Ljava/lang/String;)I" } : Jvm.MethodName)) ∈ lw_all := lw_g (lw_at lw_m4 117 rfl) rfl
theorem q1001 : (Jvm.Cond.instanceMethod ({ cls := "java/lang/String", name := "indexOf", desc := "(Ljava/lang/String;)I" } : Jvm.MethodName)) ∈ lw_all := lw_g (lw_at lw_m4 118 rfl) rfl
theorem q1002 : (Jvm.Cond.selects "java/lang/String" ({ cls := "java/lang/String", name := "indexOf", desc := "(Ljava/lang/String;)I" } : Jvm.MethodName) ({ cls := "java/lang/String", name := "indexOf", desc := "(Ljava/lang/String;)I" } : Jvm.MethodName)) ∈ lw_all := lw_g (lw_at lw_m4 119 rfl) rfl
theorem q1003 : (Jvm.Cond.code ({ cls := "java/lang/String", name := "indexOf", desc := "(Ljava/lang/String;)I" } : Jvm.MethodName) prog_51_method_84_code (3 : Nat) (Option.some Jvm.ClassFile.FieldType.int)) ∈ lw_all := lw_g (lw_at lw_m4 120 rfl) rfl
theorem q1004 : (Jvm.Cond.methodLink "java/lang/String" (492 : Nat) ({ cls := "java/lang/String", name := "isLatin1", desc := "()Z" } : Jvm.MethodName)) ∈ lw_all := lw_g (lw_at lw_m4 121 rfl) rfl
theorem q1005 : (Jvm.Cond.instanceMethod ({ cls := "java/lang/String", name := "isLatin1", desc := "()Z" } : Jvm.MethodName)) ∈ lw_all := lw_g (lw_at lw_m4 122 rfl) rfl
theorem q1006 : (Jvm.Cond.selects "java/lang/String" ({ cls := "java/lang/String", name := "isLatin1", desc := "()Z" } : Jvm.MethodName) ({ cls := "java/lang/String", name := "isLatin1", desc := "()Z" } : Jvm.MethodName)) ∈ lw_all := lw_g (lw_at lw_m4 123 rfl) rfl
theorem q1007 : (Jvm.Cond.code ({ cls := "java/lang/String", name := "isLatin1", desc := "()Z" } : Jvm.MethodName) prog_51_method_154_code (1 : Nat) (Option.some Jvm.ClassFile.FieldType.boolean)) ∈ lw_all := lw_g (lw_at lw_m4 124 rfl) rfl
theorem q1008 : (Jvm.Cond.methodLink "java/lang/String" (647 : Nat) ({ cls := "java/lang/StringLatin1", name := "indexOf", desc := "([B[B)I" } : Jvm.MethodName)) ∈ lw_all := lw_g (lw_at lw_m4 125 rfl) rfl
theorem q1009 : (Jvm.Cond.static ({ cls := "java/lang/StringLatin1", name := "indexOf", desc := "([B[B)I" } : Jvm.MethodName)) ∈ lw_all := lw_g (lw_at lw_m4 126 rfl) rfl
theorem q1010 : (Jvm.Cond.code ({ cls := "java/lang/StringLatin1", name := "indexOf", desc := "([B[B)I" } : Jvm.MethodName) prog_53_method_24_code (2 : Nat) (Option.some Jvm.ClassFile.FieldType.int)) ∈ lw_all := lw_g (lw_at lw_m4 127 rfl) rfl
theorem q1011 : (Jvm.Cond.methodLink "java/lang/StringLatin1" (99 : Nat) ({ cls := "java/lang/StringLatin1", name := "indexOf", desc := "([BI[BII)I" } : Jvm.MethodName)) ∈ lw_all := lw_g (lw_at lw_m4 128 rfl) rfl
theorem q1012 : (Jvm.Cond.static ({ cls := "java/lang/StringLatin1", name := "indexOf", desc := "([BI[BII)I" } : Jvm.MethodName)) ∈ lw_all := lw_g (lw_at lw_m4 129 rfl) rfl
theorem q1013 : (Jvm.Cond.code ({ cls := "java/lang/StringLatin1", name := "indexOf", desc := "([BI[BII)I" } : Jvm.MethodName) prog_53_method_25_code (11 : Nat) (Option.some Jvm.ClassFile.FieldType.int)) ∈ lw_all := lw_g (lw_at lw_m4 130 rfl) rfl
theorem q1014 : (Jvm.Cond.methodLink "java/lang/String" (649 : Nat) ({ cls := "java/lang/StringUTF16", name := "indexOf", desc := "([B[B)I" } : Jvm.MethodName)) ∈ lw_all := lw_g (lw_at lw_m4 131 rfl) rfl
theorem q1015 : (Jvm.Cond.static ({ cls := "java/lang/StringUTF16", name := "indexOf", desc := "([B[B)I" } : Jvm.MethodName)) ∈ lw_all := lw_g (lw_at lw_m4 132 rfl) rfl
theorem q1016 : (Jvm.Cond.code ({ cls := "java/lang/StringUTF16", name := "indexOf", desc := "([B[B)I" } : Jvm.MethodName) prog_54_method_41_code (2 : Nat) (Option.some Jvm.ClassFile.FieldType.int)) ∈ lw_all := lw_g (lw_at lw_m4 133 rfl) rfl
theorem q1017 : (Jvm.Cond.methodLink "java/lang/StringUTF16" (235 : Nat) ({ cls := "java/lang/StringUTF16", name := "indexOfUnsafe", desc := "([BI[BII)I" } : Jvm.MethodName)) ∈ lw_all := lw_g (lw_at lw_m4 134 rfl) rfl
theorem q1018 : (Jvm.Cond.static ({ cls := "java/lang/StringUTF16", name := "indexOfUnsafe", desc := "([BI[BII)I" } : Jvm.MethodName)) ∈ lw_all := lw_g (lw_at lw_m4 135 rfl) rfl
theorem q1019 : (Jvm.Cond.code ({ cls := "java/lang/StringUTF16", name := "indexOfUnsafe", desc := "([BI[BII)I" } : Jvm.MethodName) prog_54_method_43_code (11 : Nat) (Option.some Jvm.ClassFile.FieldType.int)) ∈ lw_all := lw_g (lw_at lw_m4 136 rfl) rfl
theorem q1020 : (Jvm.Cond.methodLink "java/lang/String" (650 : Nat) ({ cls := "java/lang/StringUTF16", name := "indexOfLatin1", desc := "([B[B)I" } : Jvm.MethodName)) ∈ lw_all := lw_g (lw_at lw_m4 137 rfl) rfl
theorem q1021 : (Jvm.Cond.static ({ cls := "java/lang/StringUTF16", name := "indexOfLatin1", desc := "([B[B)I" } : Jvm.MethodName)) ∈ lw_all := lw_g (lw_at lw_m4 138 rfl) rfl
theorem q1022 : (Jvm.Cond.code ({ cls := "java/lang/StringUTF16", name := "indexOfLatin1", desc := "([B[B)I" } : Jvm.MethodName) prog_54_method_44_code (2 : Nat) (Option.some Jvm.ClassFile.FieldType.int)) ∈ lw_all := lw_g (lw_at lw_m4 139 rfl) rfl
theorem q1023 : (Jvm.Cond.methodLink "java/lang/StringUTF16" (238 : Nat) ({ cls := "java/lang/StringUTF16", name := "indexOfLatin1Unsafe", desc := "([BI[BII)I" } : Jvm.MethodName)) ∈ lw_all := lw_g (lw_at lw_m4 140 rfl) rfl
theorem q1024 : (Jvm.Cond.static ({ cls := "java/lang/StringUTF16", name := "indexOfLatin1Unsafe", desc := "([BI[BII)I" } : Jvm.MethodName)) ∈ lw_all := lw_g (lw_at lw_m4 141 rfl) rfl
theorem q1025 : (Jvm.Cond.code ({ cls := "java/lang/StringUTF16", name := "indexOfLatin1Unsafe", desc := "([BI[BII)I" } : Jvm.MethodName) prog_54_method_46_code (11 : Nat) (Option.some Jvm.ClassFile.FieldType.int)) ∈ lw_all := lw_g (lw_at lw_m4 142 rfl) rfl
theorem q1026 : (Jvm.Cond.methodLink "FollowingRefs$SchemaReader" (90 : Nat) ({ cls := "FollowingRefs$Schema", name := "findTable", desc := "(Ljava/lang/String;)I" } : Jvm.MethodName)) ∈ lw_all := lw_g (lw_at lw_m4 143 rfl) rfl
theorem q1027 : (Jvm.Cond.instanceMethod ({ cls := "FollowingRefs$Schema", name := "findTable", desc := "(Ljava/lang/String;)I" } : Jvm.MethodName)) ∈ lw_all := lw_g (lw_at lw_m4 144 rfl) rfl
theorem q1028 : (Jvm.Cond.selects "FollowingRefs$Schema" ({ cls := "FollowingRefs$Schema", name := "findTable", desc := "(Ljava/lang/String;)I" } : Jvm.MethodName) ({ cls := "FollowingRefs$Schema", name := "findTable", desc := "(Ljava/lang/String;)I" } : Jvm.MethodName)) ∈ lw_all := lw_g (lw_at lw_m4 145 rfl) rfl
theorem q1029 : (Jvm.Cond.code ({ cls := "FollowingRefs$Schema", name := "findTable", desc := "(Ljava/lang/String;)I" } : Jvm.MethodName) prog_19_method_4_code (3 : Nat) (Option.some Jvm.ClassFile.FieldType.int)) ∈ lw_all := lw_g (lw_at lw_m4 146 rfl) rfl
theorem q1030 : (Jvm.Cond.methodLink "FollowingRefs$Schema" (27 : Nat) ({ cls := "java/util/ArrayList", name := "size", desc := "()I" } : Jvm.MethodName)) ∈ lw_all := lw_g (lw_at lw_m4 147 rfl) rfl
theorem q1031 : (Jvm.Cond.methodLink "FollowingRefs$Schema" (39 : Nat) ({ cls := "java/util/ArrayList", name := "get", desc := "(I)Ljava/lang/Object;" } : Jvm.MethodName)) ∈ lw_all := lw_g (lw_at lw_m4 148 rfl) rfl
theorem q1032 : (Jvm.Cond.instanceMethod ({ cls := "java/util/ArrayList", name := "get", desc := "(I)Ljava/lang/Object;" } : Jvm.MethodName)) ∈ lw_all := lw_g (lw_at lw_m4 149 rfl) rfl
theorem q1033 : (Jvm.Cond.selects "java/util/ArrayList" ({ cls := "java/util/ArrayList", name := "get", desc := "(I)Ljava/lang/Object;" } : Jvm.MethodName) ({ cls := "java/util/ArrayList", name := "get", desc := "(I)Ljava/lang/Object;" } : Jvm.MethodName)) ∈ lw_all := lw_g (lw_at lw_m4 150 rfl) rfl
theorem q1034 : (Jvm.Cond.code ({ cls := "java/util/ArrayList", name := "get", desc := "(I)Ljava/lang/Object;" } : Jvm.MethodName) prog_66_method_20_code (2 : Nat) (Option.some (Jvm.ClassFile.FieldType.object "java/lang/Object"))) ∈ lw_all := lw_g (lw_at lw_m4 151 rfl) rfl
theorem q1035 : (Jvm.Cond.methodLink "java/util/ArrayList" (118 : Nat) ({ cls := "java/util/Objects", name := "checkIndex", desc := "(II)I" } : Jvm.MethodName)) ∈ lw_all := lw_g (lw_at lw_m4 152 rfl) rfl
theorem q1036 : (Jvm.Cond.static ({ cls := "java/util/Objects", name := "checkIndex", desc := "(II)I" } : Jvm.MethodName)) ∈ lw_all := lw_g (lw_at lw_m4 153 rfl) rfl
theorem q1037 : (Jvm.Cond.code ({ cls := "java/util/Objects", name := "checkIndex", desc := "(II)I" } : Jvm.MethodName) prog_85_method_17_code (2 : Nat) (Option.some Jvm.ClassFile.FieldType.int)) ∈ lw_all := lw_g (lw_at lw_m4 154 rfl) rfl
theorem q1038 : (Jvm.Cond.methodLink "java/util/Objects" (105 : Nat) ({ cls := "jdk/internal/util/Preconditions", name := "checkIndex", desc := "(IILjava/util/function/BiFunction;)I" } : Jvm.MethodName)) ∈ lw_all := lw_g (lw_at lw_m4 155 rfl) rfl
theorem q1039 : (Jvm.Cond.methodLink "java/util/ArrayList" (123 : Nat) ({ cls := "java/util/ArrayList", name := "elementData", desc := "(I)Ljava/lang/Object;" } : Jvm.MethodName)) ∈ lw_all := lw_g (lw_at lw_m4 156 rfl) rfl
theorem q1040 : (Jvm.Cond.instanceMethod ({ cls := "java/util/ArrayList", name := "elementData", desc := "(I)Ljava/lang/Object;" } : Jvm.MethodName)) ∈ lw_all := lw_g (lw_at lw_m4 157 rfl) rfl
theorem q1041 : (Jvm.Cond.selects "java/util/ArrayList" ({ cls := "java/util/ArrayList", name := "elementData", desc := "(I)Ljava/lang/Object;" } : Jvm.MethodName) ({ cls := "java/util/ArrayList", name := "elementData", desc := "(I)Ljava/lang/Object;" } : Jvm.MethodName)) ∈ lw_all := lw_g (lw_at lw_m4 158 rfl) rfl
theorem q1042 : (Jvm.Cond.code ({ cls := "java/util/ArrayList", name := "elementData", desc := "(I)Ljava/lang/Object;" } : Jvm.MethodName) prog_66_method_18_code (2 : Nat) (Option.some (Jvm.ClassFile.FieldType.object "java/lang/Object"))) ∈ lw_all := lw_g (lw_at lw_m4 159 rfl) rfl
theorem q1043 : (Jvm.Cond.classLink "FollowingRefs$Schema" (43 : Nat) "FollowingRefs$Table") ∈ lw_all := lw_g (lw_at lw_m4 160 rfl) rfl
theorem q1044 : (Jvm.Cond.methodLink "FollowingRefs$Schema" (52 : Nat) ({ cls := "java/lang/String", name := "equals", desc := "(Ljava/lang/Object;)Z" } : Jvm.MethodName)) ∈ lw_all := lw_g (lw_at lw_m4 161 rfl) rfl
theorem q1045 : (Jvm.Cond.classLink "FollowingRefs$SchemaReader" (94 : Nat) "FollowingRefs$Table") ∈ lw_all := lw_g (lw_at lw_m4 162 rfl) rfl
theorem q1046 : (Jvm.Cond.instantiable "FollowingRefs$Table" (4 : Nat)) ∈ lw_all := lw_g (lw_at lw_m4 163 rfl) rfl
theorem q1047 : (Jvm.Cond.methodLink "FollowingRefs$SchemaReader" (96 : Nat) ({ cls := "FollowingRefs$Table", name := "<init>", desc := "(Ljava/lang/String;)V" } : Jvm.MethodName)) ∈ lw_all := lw_g (lw_at lw_m4 164 rfl) rfl
theorem q1048 : (Jvm.Cond.instanceMethod ({ cls := "FollowingRefs$Table", name := "<init>", desc := "(Ljava/lang/String;)V" } : Jvm.MethodName)) ∈ lw_all := lw_g (lw_at lw_m4 165 rfl) rfl
theorem q1049 : (Jvm.Cond.code ({ cls := "FollowingRefs$Table", name := "<init>", desc := "(Ljava/lang/String;)V" } : Jvm.MethodName) prog_27_method_1_code (2 : Nat) (Option.none : Option Jvm.ClassFile.FieldType)) ∈ lw_all := lw_g (lw_at lw_m4 166 rfl) rfl
theorem q1050 : (Jvm.Cond.methodLink "FollowingRefs$Table" (3 : Nat) ({ cls := "java/lang/Object", name := "<init>", desc := "()V" } : Jvm.MethodName)) ∈ lw_all := lw_g (lw_at lw_m4 167 rfl) rfl
theorem q1051 : (Jvm.Cond.classLink "FollowingRefs$Table" (9 : Nat) "java/util/ArrayList") ∈ lw_all := lw_g (lw_at lw_m4 168 rfl) rfl
theorem q1052 : (Jvm.Cond.methodLink "FollowingRefs$Table" (11 : Nat) ({ cls := "java/util/ArrayList", name := "<init>", desc := "()V" } : Jvm.MethodName)) ∈ lw_all := lw_g (lw_at lw_m4 169 rfl) rfl
theorem q1053 : (Jvm.Cond.classLink "FollowingRefs$Table" (22 : Nat) "java/util/BitSet") ∈ lw_all := lw_g (lw_at lw_m4 170 rfl) rfl
theorem q1054 : (Jvm.Cond.methodLink "FollowingRefs$Table" (24 : Nat) ({ cls := "java/util/BitSet", name := "<init>", desc := "()V" } : Jvm.MethodName)) ∈ lw_all := lw_g (lw_at lw_m4 171 rfl) rfl
theorem q1055 : (Jvm.Cond.methodLink "FollowingRefs$Table" (33 : Nat) ({ cls := "java/util/Arrays", name := "fill", desc := "([II)V" } : Jvm.MethodName)) ∈ lw_all := lw_g (lw_at lw_m4 172 rfl) rfl
theorem q1056 : (Jvm.Cond.fieldLink "FollowingRefs$Table" (29 : Nat) "FollowingRefs$Table" "name" "Ljava/lang/String;") ∈ lw_all := lw_g (lw_at lw_m4 173 rfl) rfl
theorem q1057 : (Jvm.Cond.fieldLinkNest "FollowingRefs$Schema" (48 : Nat) "FollowingRefs$Table" "name" "Ljava/lang/String;" "FollowingRefs") ∈ lw_tbl := lw_at lw_m4 174 rfl
theorem q1058 : (Jvm.Cond.fieldLinkNest "FollowingRefs" (376 : Nat) "FollowingRefs$Table" "name" "Ljava/lang/String;" "FollowingRefs") ∈ lw_tbl := lw_at lw_m4 175 rfl
theorem q1059 : (Jvm.Cond.fieldLink "FollowingRefs$Table" (12 : Nat) "FollowingRefs$Table" "cols" "Ljava/util/ArrayList;") ∈ lw_all := lw_g (lw_at lw_m4 176 rfl) rfl
theorem q1060 : (Jvm.Cond.fieldLinkNest "FollowingRefs$IsWhat" (40 : Nat) "FollowingRefs$Table" "cols" "Ljava/util/ArrayList;" "FollowingRefs") ∈ lw_tbl := lw_at lw_m4 177 rfl
theorem q1061 : (Jvm.Cond.fieldLinkNest "FollowingRefs$Schema" (45 : Nat) "FollowingRefs$Table" "cols" "Ljava/util/ArrayList;" "FollowingRefs") ∈ lw_tbl := lw_at lw_m4 178 rfl
theorem q1062 : (Jvm.Cond.fieldLinkNest "FollowingRefs$SchemaReader" (102 : Nat) "FollowingRefs$Table" "cols" "Ljava/util/ArrayList;" "FollowingRefs") ∈ lw_tbl := lw_at lw_m4 179 rfl
theorem q1063 : (Jvm.Cond.fieldLinkNest "FollowingRefs$Plan" (83 : Nat) "FollowingRefs$Table" "cols" "Ljava/util/ArrayList;" "FollowingRefs") ∈ lw_tbl := lw_at lw_m4 180 rfl
theorem q1064 : (Jvm.Cond.fieldLinkNest "FollowingRefs$Store" (115 : Nat) "FollowingRefs$Table" "cols" "Ljava/util/ArrayList;" "FollowingRefs") ∈ lw_tbl := lw_at lw_m4 181 rfl
theorem q1065 : (Jvm.Cond.fieldLinkNest "FollowingRefs" (144 : Nat) "FollowingRefs$Table" "cols" "Ljava/util/ArrayList;" "FollowingRefs") ∈ lw_tbl := lw_at lw_m4 182 rfl
theorem q1066 : (Jvm.Cond.fieldLinkNest "FollowingRefs$Reader" (179 : Nat) "FollowingRefs$Table" "cols" "Ljava/util/ArrayList;" "FollowingRefs") ∈ lw_tbl := lw_at lw_m4 183 rfl
theorem q1067 : (Jvm.Cond.fieldLink "FollowingRefs$Table" (18 : Nat) "FollowingRefs$Table" "defaults" "[I") ∈ lw_all := lw_g (lw_at lw_m4 184 rfl) rfl
theorem q1068 : (Jvm.Cond.fieldLinkNest "FollowingRefs$Plan" (148 : Nat) "FollowingRefs$Table" "defaults" "[I" "FollowingRefs") ∈ lw_tbl := lw_at lw_m4 185 rfl
theorem q1069 : (Jvm.Cond.fieldLinkNest "FollowingRefs$SchemaReader" (168 : Nat) "FollowingRefs$Table" "defaults" "[I" "FollowingRefs") ∈ lw_tbl := lw_at lw_m4 186 rfl
theorem q1070 : (Jvm.Cond.fieldLinkNest "FollowingRefs" (317 : Nat) "FollowingRefs$Table" "defaults" "[I" "FollowingRefs") ∈ lw_tbl := lw_at lw_m4 187 rfl
theorem q1071 : (Jvm.Cond.fieldLink "FollowingRefs$Table" (25 : Nat) "FollowingRefs$Table" "needed" "Ljava/util/BitSet;") ∈ lw_all := lw_g (lw_at lw_m4 188 rfl) rfl
theorem q1072 : (Jvm.Cond.fieldLinkNest "FollowingRefs$Schema" (76 : Nat) "FollowingRefs$Table" "needed" "Ljava/util/BitSet;" "FollowingRefs") ∈ lw_tbl := lw_at lw_m4 189 rfl
theorem q1073 : (Jvm.Cond.fieldLinkNest "FollowingRefs$SchemaReader" (174 : Nat) "FollowingRefs$Table" "needed" "Ljava/util/BitSet;" "FollowingRefs") ∈ lw_tbl := lw_at lw_m4 190 rfl
theorem q1074 : (Jvm.Cond.laysFinal "FollowingRefs$Table" "FollowingRefs$Table" "name" "Ljava/lang/String;") ∈ lw_all := lw_g (lw_at lw_m4 191 rfl) rfl
theorem q1076 : (Jvm.Cond.laysFinal "FollowingRefs$Table" "FollowingRefs$Table" "cols" "Ljava/util/ArrayList;") ∈ lw_all := lw_g (lw_at lw_m4 193 rfl) rfl
theorem q1078 : (Jvm.Cond.laysFinal "FollowingRefs$Table" "FollowingRefs$Table" "defaults" "[I") ∈ lw_all := lw_g (lw_at lw_m4 195 rfl) rfl
theorem q1080 : (Jvm.Cond.laysFinal "FollowingRefs$Table" "FollowingRefs$Table" "needed" "Ljava/util/BitSet;") ∈ lw_all := lw_g (lw_at lw_m4 197 rfl) rfl
theorem q1083 : (Jvm.Cond.methodLink "FollowingRefs$SchemaReader" (99 : Nat) ({ cls := "FollowingRefs$Table", name := "find", desc := "(Ljava/lang/String;)I" } : Jvm.MethodName)) ∈ lw_all := lw_g (lw_at lw_m4 200 rfl) rfl
theorem q1084 : (Jvm.Cond.instanceMethod ({ cls := "FollowingRefs$Table", name := "find", desc := "(Ljava/lang/String;)I" } : Jvm.MethodName)) ∈ lw_all := lw_g (lw_at lw_m4 201 rfl) rfl
theorem q1085 : (Jvm.Cond.selects "FollowingRefs$Table" ({ cls := "FollowingRefs$Table", name := "find", desc := "(Ljava/lang/String;)I" } : Jvm.MethodName) ({ cls := "FollowingRefs$Table", name := "find", desc := "(Ljava/lang/String;)I" } : Jvm.MethodName)) ∈ lw_all := lw_g (lw_at lw_m4 202 rfl) rfl
theorem q1086 : (Jvm.Cond.code ({ cls := "FollowingRefs$Table", name := "find", desc := "(Ljava/lang/String;)I" } : Jvm.MethodName) prog_27_method_2_code (2 : Nat) (Option.some Jvm.ClassFile.FieldType.int)) ∈ lw_all := lw_g (lw_at lw_m4 203 rfl) rfl
theorem q1087 : (Jvm.Cond.methodLink "FollowingRefs$Table" (39 : Nat) ({ cls := "java/util/ArrayList", name := "indexOf", desc := "(Ljava/lang/Object;)I" } : Jvm.MethodName)) ∈ lw_all := lw_g (lw_at lw_m4 204 rfl) rfl
theorem q1088 : (Jvm.Cond.instanceMethod ({ cls := "java/util/ArrayList", name := "indexOf", desc := "(Ljava/lang/Object;)I" } : Jvm.MethodName)) ∈ lw_all := lw_g (lw_at lw_m4 205 rfl) rfl
theorem q1089 : (Jvm.Cond.selects "java/util/ArrayList" ({ cls := "java/util/ArrayList", name := "indexOf", desc := "(Ljava/lang/Object;)I" } : Jvm.MethodName) ({ cls := "java/util/ArrayList", name := "indexOf", desc := "(Ljava/lang/Object;)I" } : Jvm.MethodName)) ∈ lw_all := lw_g (lw_at lw_m4 206 rfl) rfl
theorem q1090 : (Jvm.Cond.code ({ cls := "java/util/ArrayList", name := "indexOf", desc := "(Ljava/lang/Object;)I" } : Jvm.MethodName) prog_66_method_11_code (2 : Nat) (Option.some Jvm.ClassFile.FieldType.int)) ∈ lw_all := lw_g (lw_at lw_m4 207 rfl) rfl
theorem q1091 : (Jvm.Cond.methodLink "java/util/ArrayList" (89 : Nat) ({ cls := "java/util/ArrayList", name := "indexOfRange", desc := "(Ljava/lang/Object;II)I" } : Jvm.MethodName)) ∈ lw_all := lw_g (lw_at lw_m4 208 rfl) rfl
theorem q1092 : (Jvm.Cond.instanceMethod ({ cls := "java/util/ArrayList", name := "indexOfRange", desc := "(Ljava/lang/Object;II)I" } : Jvm.MethodName)) ∈ lw_all := lw_g (lw_at lw_m4 209 rfl) rfl
theorem q1093 : (Jvm.Cond.selects "java/util/ArrayList" ({ cls := "java/util/ArrayList", name := "indexOfRange", desc := "(Ljava/lang/Object;II)I" } : Jvm.MethodName) ({ cls := "java/util/ArrayList", name := "indexOfRange", desc := "(Ljava/lang/Object;II)I" } : Jvm.MethodName)) ∈ lw_all := lw_g (lw_at lw_m4 210 rfl) rfl
theorem q1094 : (Jvm.Cond.code ({ cls := "java/util/ArrayList", name := "indexOfRange", desc := "(Ljava/lang/Object;II)I" } : Jvm.MethodName) prog_66_method_12_code (6 : Nat) (Option.some Jvm.ClassFile.FieldType.int)) ∈ lw_all := lw_g (lw_at lw_m4 211 rfl) rfl
theorem q1096 : (Jvm.Cond.methodLink "java/util/ArrayList" (93 : Nat) ({ cls := "java/lang/Object", name := "equals", desc := "(Ljava/lang/Object;)Z" } : Jvm.MethodName)) ∈ lw_all := lw_g (lw_at lw_m4 213 rfl) rfl
theorem q1097 : (Jvm.Cond.instanceMethod ({ cls := "java/lang/Object", name := "equals", desc := "(Ljava/lang/Object;)Z" } : Jvm.MethodName)) ∈ lw_all := lw_g (lw_at lw_m4 214 rfl) rfl
theorem q1098 : (Jvm.Cond.sameMethod "java/lang/Object" "java/lang/Object" "equals" "(Ljava/lang/Object;)Z") ∈ lw_all := lw_g (lw_at lw_m4 215 rfl) rfl
theorem q1131 : (Jvm.Cond.code ({ cls := "java/lang/Integer", name := "equals", desc := "(Ljava/lang/Object;)Z" } : Jvm.MethodName) prog_44_method_34_code (2 : Nat) (Option.some Jvm.ClassFile.FieldType.boolean)) ∈ lw_all := lw_g (lw_at lw_m5 8 rfl) rfl
theorem q1132 : (Jvm.Cond.classLink "java/lang/Integer" (1 : Nat) "java/lang/Integer") ∈ lw_all := lw_g (lw_at lw_m5 9 rfl) rfl
theorem q1133 : (Jvm.Cond.methodLink "java/lang/Integer" (211 : Nat) ({ cls := "java/lang/Integer", name := "intValue", desc := "()I" } : Jvm.MethodName)) ∈ lw_all := lw_g (lw_at lw_m5 10 rfl) rfl
theorem q1134 : (Jvm.Cond.instanceMethod ({ cls := "java/lang/Integer", name := "intValue", desc := "()I" } : Jvm.MethodName)) ∈ lw_all := lw_g (lw_at lw_m5 11 rfl) rfl
theorem q1135 : (Jvm.Cond.selects "java/lang/Integer" ({ cls := "java/lang/Integer", name := "intValue", desc := "()I" } : Jvm.MethodName) ({ cls := "java/lang/Integer", name := "intValue", desc := "()I" } : Jvm.MethodName)) ∈ lw_all := lw_g (lw_at lw_m5 12 rfl) rfl
theorem q1136 : (Jvm.Cond.code ({ cls := "java/lang/Integer", name := "intValue", desc := "()I" } : Jvm.MethodName) prog_44_method_27_code (1 : Nat) (Option.some Jvm.ClassFile.FieldType.int)) ∈ lw_all := lw_g (lw_at lw_m5 13 rfl) rfl
theorem q1137 : (Jvm.Cond.selects "java/lang/String" ({ cls := "java/lang/Object", name := "equals", desc := "(Ljava/lang/Object;)Z" } : Jvm.MethodName) ({ cls := "java/lang/String", name := "equals", desc := "(Ljava/lang/Object;)Z" } : Jvm.MethodName)) ∈ lw_all := lw_g (lw_at lw_m5 14 rfl) rfl
theorem q1140 : (Jvm.Cond.code ({ cls := "java/lang/Object", name := "equals", desc := "(Ljava/lang/Object;)Z" } : Jvm.MethodName) object_method_4_code (2 : Nat) (Option.some Jvm.ClassFile.FieldType.boolean)) ∈ lw_all := lw_g (lw_at lw_m5 17 rfl) rfl
theorem q1141 : (Jvm.Cond.methodLink "FollowingRefs$SchemaReader" (105 : Nat) ({ cls := "java/util/ArrayList", name := "add", desc := "(Ljava/lang/Object;)Z" } : Jvm.MethodName)) ∈ lw_all := lw_g (lw_at lw_m5 18 rfl) rfl
theorem q1142 : (Jvm.Cond.instanceMethod ({ cls := "java/util/ArrayList", name := "add", desc := "(Ljava/lang/Object;)Z" } : Jvm.MethodName)) ∈ lw_all := lw_g (lw_at lw_m5 19 rfl) rfl
theorem q1143 : (Jvm.Cond.selects "java/util/ArrayList" ({ cls := "java/util/ArrayList", name := "add", desc := "(Ljava/lang/Object;)Z" } : Jvm.MethodName) ({ cls := "java/util/ArrayList", name := "add", desc := "(Ljava/lang/Object;)Z" } : Jvm.MethodName)) ∈ lw_all := lw_g (lw_at lw_m5 20 rfl) rfl
theorem q1144 : (Jvm.Cond.code ({ cls := "java/util/ArrayList", name := "add", desc := "(Ljava/lang/Object;)Z" } : Jvm.MethodName) prog_66_method_25_code (2 : Nat) (Option.some Jvm.ClassFile.FieldType.boolean)) ∈ lw_all := lw_g (lw_at lw_m5 21 rfl) rfl
theorem q1145 : (Jvm.Cond.methodLink "java/util/ArrayList" (131 : Nat) ({ cls := "java/util/ArrayList", name := "add", desc := "(Ljava/lang/Object;[Ljava/lang/Object;I)V" } : Jvm.MethodName)) ∈ lw_all := lw_g (lw_at lw_m5 22 rfl) rfl
theorem q1147 : (Jvm.Cond.instanceMethod ({ cls := "java/util/ArrayList", name := "add", desc := "(Ljava/lang/Object;[Ljava/lang/Object;I)V" } : Jvm.MethodName)) ∈ lw_all := lw_g (lw_at lw_m5 24 rfl) rfl
theorem q1148 : (Jvm.Cond.code ({ cls := "java/util/ArrayList", name := "add", desc := "(Ljava/lang/Object;[Ljava/lang/Object;I)V" } : Jvm.MethodName) prog_66_method_24_code (4 : Nat) (Option.none : Option Jvm.ClassFile.FieldType)) ∈ lw_all := lw_g (lw_at lw_m5 25 rfl) rfl
theorem q1149 : (Jvm.Cond.methodLink "java/util/ArrayList" (129 : Nat) ({ cls := "java/util/ArrayList", name := "grow", desc := "()[Ljava/lang/Object;" } : Jvm.MethodName)) ∈ lw_all := lw_g (lw_at lw_m5 26 rfl) rfl
theorem q1151 : (Jvm.Cond.instanceMethod ({ cls := "java/util/ArrayList", name := "grow", desc := "()[Ljava/lang/Object;" } : Jvm.MethodName)) ∈ lw_all := lw_g (lw_at lw_m5 28 rfl) rfl
theorem q1152 : (Jvm.Cond.code ({ cls := "java/util/ArrayList", name := "grow", desc := "()[Ljava/lang/Object;" } : Jvm.MethodName) prog_66_method_7_code (1 : Nat) (Option.some (Jvm.ClassFile.FieldType.array (Jvm.ClassFile.FieldType.object "java/lang/Object")))) ∈ lw_all := lw_g (lw_at lw_m5 29 rfl) rfl
theorem q1153 : (Jvm.Cond.methodLink "java/util/ArrayList" (69 : Nat) ({ cls := "java/util/ArrayList", name := "grow", desc := "(I)[Ljava/lang/Object;" } : Jvm.MethodName)) ∈ lw_all := lw_g (lw_at lw_m5 30 rfl) rfl
theorem q1155 : (Jvm.Cond.instanceMethod ({ cls := "java/util/ArrayList", name := "grow", desc := "(I)[Ljava/lang/Object;" } : Jvm.MethodName)) ∈ lw_all := lw_g (lw_at lw_m5 32 rfl) rfl
theorem q1156 : (Jvm.Cond.code ({ cls := "java/util/ArrayList", name := "grow", desc := "(I)[Ljava/lang/Object;" } : Jvm.MethodName) prog_66_method_6_code (4 : Nat) (Option.some (Jvm.ClassFile.FieldType.array (Jvm.ClassFile.FieldType.object "java/lang/Object")))) ∈ lw_all := lw_g (lw_at lw_m5 33 rfl) rfl
theorem q1157 : (Jvm.Cond.methodLink "java/util/ArrayList" (73 : Nat) ({ cls := "jdk/internal/util/ArraysSupport", name := "newLength", desc := "(III)I" } : Jvm.MethodName)) ∈ lw_all := lw_g (lw_at lw_m5 34 rfl) rfl
theorem q1158 : (Jvm.Cond.methodLink "java/util/ArrayList" (66 : Nat) ({ cls := "java/util/Arrays", name := "copyOf", desc := "([Ljava/lang/Object;I)[Ljava/lang/Object;" } : Jvm.MethodName)) ∈ lw_all := lw_g (lw_at lw_m5 35 rfl) rfl
theorem q1159 : (Jvm.Cond.static ({ cls := "java/util/Arrays", name := "copyOf", desc := "([Ljava/lang/Object;I)[Ljava/lang/Object;" } : Jvm.MethodName)) ∈ lw_all := lw_g (lw_at lw_m5 36 rfl) rfl
theorem q1160 : (Jvm.Cond.code ({ cls := "java/util/Arrays", name := "copyOf", desc := "([Ljava/lang/Object;I)[Ljava/lang/Object;" } : Jvm.MethodName) prog_69_method_119_code (2 : Nat) (Option.some (Jvm.ClassFile.FieldType.array (Jvm.ClassFile.FieldType.object "java/lang/Object")))) ∈ lw_all := lw_g (lw_at lw_m5 37 rfl) rfl
theorem q1161 : (Jvm.Cond.methodLink "java/util/Arrays" (86 : Nat) ({ cls := "java/lang/Object", name := "getClass", desc := "()Ljava/lang/Class;" } : Jvm.MethodName)) ∈ lw_all := lw_g (lw_at lw_m5 38 rfl) rfl
theorem q1162 : (Jvm.Cond.instanceMethod ({ cls := "java/lang/Object", name := "getClass", desc := "()Ljava/lang/Class;" } : Jvm.MethodName)) ∈ lw_all := lw_g (lw_at lw_m5 39 rfl) rfl
theorem q1211 : (Jvm.Cond.native ({ cls := "java/lang/Object", name := "getClass", desc := "()Ljava/lang/Class;" } : Jvm.MethodName)) ∈ lw_all := lw_g (lw_at lw_m5 88 rfl) rfl
theorem q1212 : (Jvm.Cond.methodLink "java/util/Arrays" (300 : Nat) ({ cls := "java/util/Arrays", name := "copyOf", desc := "([Ljava/lang/Object;ILjava/lang/Class;)[Ljava/lang/Object;" } : Jvm.MethodName)) ∈ lw_all := lw_g (lw_at lw_m5 89 rfl) rfl
theorem q1213 : (Jvm.Cond.static ({ cls := "java/util/Arrays", name := "copyOf", desc := "([Ljava/lang/Object;ILjava/lang/Class;)[Ljava/lang/Object;" } : Jvm.MethodName)) ∈ lw_all := lw_g (lw_at lw_m5 90 rfl) rfl
theorem q1214 : (Jvm.Cond.code ({ cls := "java/util/Arrays", name := "copyOf", desc := "([Ljava/lang/Object;ILjava/lang/Class;)[Ljava/lang/Object;" } : Jvm.MethodName) prog_69_method_120_code (4 : Nat) (Option.some (Jvm.ClassFile.FieldType.array (Jvm.ClassFile.FieldType.object "java/lang/Object")))) ∈ lw_all := lw_g (lw_at lw_m5 91 rfl) rfl
theorem q1215 : (Jvm.Cond.classLink "java/util/Arrays" (110 : Nat) "[Ljava/lang/Object;") ∈ lw_all := lw_g (lw_at lw_m5 92 rfl) rfl
theorem q1216 : (Jvm.Cond.classLink "java/util/Arrays" (2 : Nat) "java/lang/Object") ∈ lw_all := lw_g (lw_at lw_m5 93 rfl) rfl
theorem q1217 : (Jvm.Cond.methodLink "java/util/ArrayList" (79 : Nat) ({ cls := "java/lang/Math", name := "max", desc := "(II)I" } : Jvm.MethodName)) ∈ lw_all := lw_g (lw_at lw_m5 94 rfl) rfl
theorem q1219 : (Jvm.Cond.methodLink "FollowingRefs$SchemaReader" (47 : Nat) ({ cls := "FollowingRefs$SchemaReader", name := "key", desc := "()V" } : Jvm.MethodName)) ∈ lw_all := lw_g (lw_at lw_m5 96 rfl) rfl
theorem q1221 : (Jvm.Cond.instanceMethod ({ cls := "FollowingRefs$SchemaReader", name := "key", desc := "()V" } : Jvm.MethodName)) ∈ lw_all := lw_g (lw_at lw_m5 98 rfl) rfl
theorem q1222 : (Jvm.Cond.code ({ cls := "FollowingRefs$SchemaReader", name := "key", desc := "()V" } : Jvm.MethodName) prog_20_method_7_code (2 : Nat) (Option.none : Option Jvm.ClassFile.FieldType)) ∈ lw_all := lw_g (lw_at lw_m5 99 rfl) rfl
theorem q1223 : (Jvm.Cond.methodLink "FollowingRefs$SchemaReader" (116 : Nat) ({ cls := "FollowingRefs$SchemaReader", name := "table", desc := "()I" } : Jvm.MethodName)) ∈ lw_all := lw_g (lw_at lw_m5 100 rfl) rfl
theorem q1224 : (Jvm.Cond.sameMethod "FollowingRefs$SchemaReader" "FollowingRefs$Reader" "table" "()I") ∈ lw_all := lw_g (lw_at lw_m5 101 rfl) rfl
theorem q1226 : (Jvm.Cond.selects "FollowingRefs$SchemaReader" ({ cls := "FollowingRefs$SchemaReader", name := "table", desc := "()I" } : Jvm.MethodName) ({ cls := "FollowingRefs$Reader", name := "table", desc := "()I" } : Jvm.MethodName)) ∈ lw_all := lw_g (lw_at lw_m5 103 rfl) rfl
theorem q1227 : (Jvm.Cond.instanceMethod ({ cls := "FollowingRefs$Reader", name := "table", desc := "()I" } : Jvm.MethodName)) ∈ lw_all := lw_g (lw_at lw_m5 104 rfl) rfl
theorem q1228 : (Jvm.Cond.code ({ cls := "FollowingRefs$Reader", name := "table", desc := "()I" } : Jvm.MethodName) prog_16_method_13_code (2 : Nat) (Option.some Jvm.ClassFile.FieldType.int)) ∈ lw_all := lw_g (lw_at lw_m5 105 rfl) rfl
theorem q1229 : (Jvm.Cond.methodLink "FollowingRefs$Reader" (106 : Nat) ({ cls := "FollowingRefs$Reader", name := "isName", desc := "()Z" } : Jvm.MethodName)) ∈ lw_all := lw_g (lw_at lw_m5 106 rfl) rfl
theorem q1230 : (Jvm.Cond.methodLink "FollowingRefs$Reader" (91 : Nat) ({ cls := "FollowingRefs$Reader", name := "need", desc := "(ZI)V" } : Jvm.MethodName)) ∈ lw_all := lw_g (lw_at lw_m5 107 rfl) rfl
theorem q1231 : (Jvm.Cond.methodLink "FollowingRefs$Reader" (109 : Nat) ({ cls := "FollowingRefs$Schema", name := "findTable", desc := "(Ljava/lang/String;)I" } : Jvm.MethodName)) ∈ lw_all := lw_g (lw_at lw_m5 108 rfl) rfl
theorem q1232 : (Jvm.Cond.methodLink "FollowingRefs$Reader" (99 : Nat) ({ cls := "FollowingRefs$Reader", name := "go", desc := "()V" } : Jvm.MethodName)) ∈ lw_all := lw_g (lw_at lw_m5 109 rfl) rfl
theorem q1233 : (Jvm.Cond.classLink "FollowingRefs$SchemaReader" (118 : Nat) "FollowingRefs$Of") ∈ lw_all := lw_g (lw_at lw_m5 110 rfl) rfl
theorem q1234 : (Jvm.Cond.instantiable "FollowingRefs$Of" (2 : Nat)) ∈ lw_all := lw_g (lw_at lw_m5 111 rfl) rfl
theorem q1235 : (Jvm.Cond.methodLink "FollowingRefs$SchemaReader" (120 : Nat) ({ cls := "FollowingRefs$SchemaReader", name := "cols", desc := "(I)[I" } : Jvm.MethodName)) ∈ lw_all := lw_g (lw_at lw_m5 112 rfl) rfl
theorem q1237 : (Jvm.Cond.instanceMethod ({ cls := "FollowingRefs$SchemaReader", name := "cols", desc := "(I)[I" } : Jvm.MethodName)) ∈ lw_all := lw_g (lw_at lw_m5 114 rfl) rfl
theorem q1238 : (Jvm.Cond.code ({ cls := "FollowingRefs$SchemaReader", name := "cols", desc := "(I)[I" } : Jvm.MethodName) prog_20_method_6_code (3 : Nat) (Option.some (Jvm.ClassFile.FieldType.array Jvm.ClassFile.FieldType.int))) ∈ lw_all := lw_g (lw_at lw_m5 115 rfl) rfl
theorem q1239 : (Jvm.Cond.methodLink "FollowingRefs$SchemaReader" (109 : Nat) ({ cls := "FollowingRefs$SchemaReader", name := "col", desc := "(II)I" } : Jvm.MethodName)) ∈ lw_all := lw_g (lw_at lw_m5 116 rfl) rfl
theorem q1240 : (Jvm.Cond.sameMethod "FollowingRefs$SchemaReader" "FollowingRefs$Reader" "col" "(II)I") ∈ lw_all := lw_g (lw_at lw_m5 117 rfl) rfl
theorem q1242 : (Jvm.Cond.selects "FollowingRefs$SchemaReader" ({ cls := "FollowingRefs$SchemaReader", name := "col", desc := "(II)I" } : Jvm.MethodName) ({ cls := "FollowingRefs$Reader", name := "col", desc := "(II)I" } : Jvm.MethodName)) ∈ lw_all := lw_g (lw_at lw_m5 119 rfl) rfl
theorem q1243 : (Jvm.Cond.instanceMethod ({ cls := "FollowingRefs$Reader", name := "col", desc := "(II)I" } : Jvm.MethodName)) ∈ lw_all := lw_g (lw_at lw_m5 120 rfl) rfl
theorem q1244 : (Jvm.Cond.code ({ cls := "FollowingRefs$Reader", name := "col", desc := "(II)I" } : Jvm.MethodName) prog_16_method_15_code (4 : Nat) (Option.some Jvm.ClassFile.FieldType.int)) ∈ lw_all := lw_g (lw_at lw_m5 121 rfl) rfl
theorem q1245 : (Jvm.Cond.methodLink "FollowingRefs$Reader" (129 : Nat) ({ cls := "FollowingRefs$Reader", name := "holdCol", desc := "(II)I" } : Jvm.MethodName)) ∈ lw_all := lw_g (lw_at lw_m5 122 rfl) rfl
theorem q1246 : (Jvm.Cond.instanceMethod ({ cls := "FollowingRefs$Reader", name := "holdCol", desc := "(II)I" } : Jvm.MethodName)) ∈ lw_all := lw_g (lw_at lw_m5 123 rfl) rfl
theorem q1247 : (Jvm.Cond.sameMethod "FollowingRefs$Reader" "FollowingRefs$Reader" "holdCol" "(II)I") ∈ lw_all := lw_g (lw_at lw_m5 124 rfl) rfl
theorem q1248 : (Jvm.Cond.selects "FollowingRefs$BookReader" ({ cls := "FollowingRefs$Reader", name := "holdCol", desc := "(II)I" } : Jvm.MethodName) ({ cls := "FollowingRefs$Reader", name := "holdCol", desc := "(II)I" } : Jvm.MethodName)) ∈ lw_all := lw_g (lw_at lw_m5 125 rfl) rfl
theorem q1249 : (Jvm.Cond.selects "FollowingRefs$SchemaReader" ({ cls := "FollowingRefs$Reader", name := "holdCol", desc := "(II)I" } : Jvm.MethodName) ({ cls := "FollowingRefs$Reader", name := "holdCol", desc := "(II)I" } : Jvm.MethodName)) ∈ lw_all := lw_g (lw_at lw_m5 126 rfl) rfl
theorem q1250 : (Jvm.Cond.selects "FollowingRefs$SentenceReader" ({ cls := "FollowingRefs$Reader", name := "holdCol", desc := "(II)I" } : Jvm.MethodName) ({ cls := "FollowingRefs$Reader", name := "holdCol", desc := "(II)I" } : Jvm.MethodName)) ∈ lw_all := lw_g (lw_at lw_m5 127 rfl) rfl
theorem q1251 : (Jvm.Cond.selects "FollowingRefs$StatementReader" ({ cls := "FollowingRefs$Reader", name := "holdCol", desc := "(II)I" } : Jvm.MethodName) ({ cls := "FollowingRefs$Reader", name := "holdCol", desc := "(II)I" } : Jvm.MethodName)) ∈ lw_all := lw_g (lw_at lw_m5 128 rfl) rfl
theorem q1252 : (Jvm.Cond.code ({ cls := "FollowingRefs$Reader", name := "holdCol", desc := "(II)I" } : Jvm.MethodName) prog_16_method_14_code (4 : Nat) (Option.some Jvm.ClassFile.FieldType.int)) ∈ lw_all := lw_g (lw_at lw_m5 129 rfl) rfl
theorem q1253 : (Jvm.Cond.methodLink "FollowingRefs$Reader" (118 : Nat) ({ cls := "java/util/ArrayList", name := "get", desc := "(I)Ljava/lang/Object;" } : Jvm.MethodName)) ∈ lw_all := lw_g (lw_at lw_m5 130 rfl) rfl
theorem q1254 : (Jvm.Cond.classLink "FollowingRefs$Reader" (124 : Nat) "FollowingRefs$Table") ∈ lw_all := lw_g (lw_at lw_m5 131 rfl) rfl
theorem q1255 : (Jvm.Cond.methodLink "FollowingRefs$Reader" (126 : Nat) ({ cls := "FollowingRefs$Table", name := "find", desc := "(Ljava/lang/String;)I" } : Jvm.MethodName)) ∈ lw_all := lw_g (lw_at lw_m5 132 rfl) rfl
theorem q1256 : (Jvm.Cond.methodLink "FollowingRefs$SchemaReader" (123 : Nat) ({ cls := "FollowingRefs$Of", name := "<init>", desc := "(I[I)V" } : Jvm.MethodName)) ∈ lw_all := lw_g (lw_at lw_m5 133 rfl) rfl
theorem q1257 : (Jvm.Cond.instanceMethod ({ cls := "FollowingRefs$Of", name := "<init>", desc := "(I[I)V" } : Jvm.MethodName)) ∈ lw_all := lw_g (lw_at lw_m5 134 rfl) rfl
theorem q1258 : (Jvm.Cond.code ({ cls := "FollowingRefs$Of", name := "<init>", desc := "(I[I)V" } : Jvm.MethodName) prog_14_method_1_code (3 : Nat) (Option.none : Option Jvm.ClassFile.FieldType)) ∈ lw_all := lw_g (lw_at lw_m5 135 rfl) rfl
theorem q1259 : (Jvm.Cond.methodLink "FollowingRefs$Of" (1 : Nat) ({ cls := "java/lang/Object", name := "<init>", desc := "()V" } : Jvm.MethodName)) ∈ lw_all := lw_g (lw_at lw_m5 136 rfl) rfl
theorem q1260 : (Jvm.Cond.fieldLink "FollowingRefs$Of" (7 : Nat) "FollowingRefs$Of" "table" "I") ∈ lw_all := lw_g (lw_at lw_m5 137 rfl) rfl
theorem q1261 : (Jvm.Cond.fieldLink "FollowingRefs$Store" (72 : Nat) "FollowingRefs$Ref" "table" "I") ∈ lw_all := lw_g (lw_at lw_m5 138 rfl) rfl
theorem q1262 : (Jvm.Cond.sameField "FollowingRefs$Ref" "FollowingRefs$Of" "table" "I") ∈ lw_all := lw_g (lw_at lw_m5 139 rfl) rfl
theorem q1263 : (Jvm.Cond.fieldLink "FollowingRefs$Store" (89 : Nat) "FollowingRefs$Of" "table" "I") ∈ lw_all := lw_g (lw_at lw_m5 140 rfl) rfl
theorem q1264 : (Jvm.Cond.fieldLink "FollowingRefs$Schema" (70 : Nat) "FollowingRefs$Of" "table" "I") ∈ lw_all := lw_g (lw_at lw_m5 141 rfl) rfl
theorem q1265 : (Jvm.Cond.fieldLink "FollowingRefs$Schema" (116 : Nat) "FollowingRefs$Ref" "table" "I") ∈ lw_all := lw_g (lw_at lw_m5 142 rfl) rfl
theorem q1266 : (Jvm.Cond.fieldLink "FollowingRefs" (293 : Nat) "FollowingRefs$Of" "table" "I") ∈ lw_all := lw_g (lw_at lw_m5 143 rfl) rfl
theorem q1267 : (Jvm.Cond.fieldLink "FollowingRefs" (297 : Nat) "FollowingRefs$Ref" "table" "I") ∈ lw_all := lw_g (lw_at lw_m5 144 rfl) rfl
theorem q1268 : (Jvm.Cond.fieldLink "FollowingRefs$Of" (13 : Nat) "FollowingRefs$Of" "cols" "[I") ∈ lw_all := lw_g (lw_at lw_m5 145 rfl) rfl
theorem q1269 : (Jvm.Cond.fieldLink "FollowingRefs$Store" (75 : Nat) "FollowingRefs$Ref" "cols" "[I") ∈ lw_all := lw_g (lw_at lw_m5 146 rfl) rfl
theorem q1270 : (Jvm.Cond.sameField "FollowingRefs$Ref" "FollowingRefs$Of" "cols" "[I") ∈ lw_all := lw_g (lw_at lw_m5 147 rfl) rfl
theorem q1271 : (Jvm.Cond.fieldLink "FollowingRefs$Store" (92 : Nat) "FollowingRefs$Of" "cols" "[I") ∈ lw_all := lw_g (lw_at lw_m5 148 rfl) rfl
theorem q1272 : (Jvm.Cond.fieldLink "FollowingRefs$Plan" (146 : Nat) "FollowingRefs$Ref" "cols" "[I") ∈ lw_all := lw_g (lw_at lw_m5 149 rfl) rfl
theorem q1273 : (Jvm.Cond.fieldLink "FollowingRefs$Plan" (159 : Nat) "FollowingRefs$Of" "cols" "[I") ∈ lw_all := lw_g (lw_at lw_m5 150 rfl) rfl
theorem q1274 : (Jvm.Cond.laysFinal "FollowingRefs$Of" "FollowingRefs$Of" "table" "I") ∈ lw_all := lw_g (lw_at lw_m5 151 rfl) rfl
theorem q1276 : (Jvm.Cond.laysFinal "FollowingRefs$Of" "FollowingRefs$Of" "cols" "[I") ∈ lw_all := lw_g (lw_at lw_m5 153 rfl) rfl
theorem q1280 : (Jvm.Cond.methodLink "FollowingRefs$SchemaReader" (51 : Nat) ({ cls := "FollowingRefs$SchemaReader", name := "ref", desc := "()V" } : Jvm.MethodName)) ∈ lw_all := lw_g (lw_at lw_m5 157 rfl) rfl
theorem q1282 : (Jvm.Cond.instanceMethod ({ cls := "FollowingRefs$SchemaReader", name := "ref", desc := "()V" } : Jvm.MethodName)) ∈ lw_all := lw_g (lw_at lw_m5 159 rfl) rfl
theorem q1283 : (Jvm.Cond.code ({ cls := "FollowingRefs$SchemaReader", name := "ref", desc := "()V" } : Jvm.MethodName) prog_20_method_10_code (7 : Nat) (Option.none : Option Jvm.ClassFile.FieldType)) ∈ lw_all := lw_g (lw_at lw_m5 160 rfl) rfl
theorem q1285 : (Jvm.Cond.methodLink "FollowingRefs$SchemaReader" (139 : Nat) ({ cls := "FollowingRefs$SchemaReader", name := "keyOf", desc := "(II)I" } : Jvm.MethodName)) ∈ lw_all := lw_g (lw_at lw_m5 162 rfl) rfl
theorem q1287 : (Jvm.Cond.instanceMethod ({ cls := "FollowingRefs$SchemaReader", name := "keyOf", desc := "(II)I" } : Jvm.MethodName)) ∈ lw_all := lw_g (lw_at lw_m5 164 rfl) rfl
theorem q1288 : (Jvm.Cond.code ({ cls := "FollowingRefs$SchemaReader", name := "keyOf", desc := "(II)I" } : Jvm.MethodName) prog_20_method_11_code (5 : Nat) (Option.some Jvm.ClassFile.FieldType.int)) ∈ lw_all := lw_g (lw_at lw_m5 165 rfl) rfl
theorem q1289 : (Jvm.Cond.methodLink "FollowingRefs$SchemaReader" (157 : Nat) ({ cls := "FollowingRefs$SchemaReader", name := "holdCol", desc := "(II)I" } : Jvm.MethodName)) ∈ lw_all := lw_g (lw_at lw_m5 166 rfl) rfl
theorem q1290 : (Jvm.Cond.sameMethod "FollowingRefs$SchemaReader" "FollowingRefs$Reader" "holdCol" "(II)I") ∈ lw_all := lw_g (lw_at lw_m5 167 rfl) rfl
theorem q1292 : (Jvm.Cond.selects "FollowingRefs$SchemaReader" ({ cls := "FollowingRefs$SchemaReader", name := "holdCol", desc := "(II)I" } : Jvm.MethodName) ({ cls := "FollowingRefs$Reader", name := "holdCol", desc := "(II)I" } : Jvm.MethodName)) ∈ lw_all := lw_g (lw_at lw_m5 169 rfl) rfl
theorem q1293 : (Jvm.Cond.methodLink "FollowingRefs$SchemaReader" (160 : Nat) ({ cls := "FollowingRefs$Schema", name := "findKey", desc := "(I[I)I" } : Jvm.MethodName)) ∈ lw_all := lw_g (lw_at lw_m5 170 rfl) rfl
theorem q1294 : (Jvm.Cond.instanceMethod ({ cls := "FollowingRefs$Schema", name := "findKey", desc := "(I[I)I" } : Jvm.MethodName)) ∈ lw_all := lw_g (lw_at lw_m5 171 rfl) rfl
theorem q1295 : (Jvm.Cond.selects "FollowingRefs$Schema" ({ cls := "FollowingRefs$Schema", name := "findKey", desc := "(I[I)I" } : Jvm.MethodName) ({ cls := "FollowingRefs$Schema", name := "findKey", desc := "(I[I)I" } : Jvm.MethodName)) ∈ lw_all := lw_g (lw_at lw_m5 172 rfl) rfl
theorem q1296 : (Jvm.Cond.code ({ cls := "FollowingRefs$Schema", name := "findKey", desc := "(I[I)I" } : Jvm.MethodName) prog_19_method_5_code (4 : Nat) (Option.some Jvm.ClassFile.FieldType.int)) ∈ lw_all := lw_g (lw_at lw_m5 173 rfl) rfl
theorem q1297 : (Jvm.Cond.classLink "FollowingRefs$Schema" (58 : Nat) "FollowingRefs$Of") ∈ lw_all := lw_g (lw_at lw_m5 174 rfl) rfl
theorem q1298 : (Jvm.Cond.methodLink "FollowingRefs$Schema" (60 : Nat) ({ cls := "FollowingRefs$Of", name := "isLike", desc := "(I[I)Z" } : Jvm.MethodName)) ∈ lw_all := lw_g (lw_at lw_m5 175 rfl) rfl
theorem q1299 : (Jvm.Cond.instanceMethod ({ cls := "FollowingRefs$Of", name := "isLike", desc := "(I[I)Z" } : Jvm.MethodName)) ∈ lw_all := lw_g (lw_at lw_m5 176 rfl) rfl
theorem q1300 : (Jvm.Cond.selects "FollowingRefs$Of" ({ cls := "FollowingRefs$Of", name := "isLike", desc := "(I[I)Z" } : Jvm.MethodName) ({ cls := "FollowingRefs$Of", name := "isLike", desc := "(I[I)Z" } : Jvm.MethodName)) ∈ lw_all := lw_g (lw_at lw_m5 177 rfl) rfl
theorem q1302 : (Jvm.Cond.selects "FollowingRefs$Ref" ({ cls := "FollowingRefs$Of", name := "isLike", desc := "(I[I)Z" } : Jvm.MethodName) ({ cls := "FollowingRefs$Of", name := "isLike", desc := "(I[I)Z" } : Jvm.MethodName)) ∈ lw_all := lw_g (lw_at lw_m5 179 rfl) rfl
theorem q1303 : (Jvm.Cond.code ({ cls := "FollowingRefs$Of", name := "isLike", desc := "(I[I)Z" } : Jvm.MethodName) prog_14_method_3_code (3 : Nat) (Option.some Jvm.ClassFile.FieldType.boolean)) ∈ lw_all := lw_g (lw_at lw_m5 180 rfl) rfl
theorem q1304 : (Jvm.Cond.methodLink "FollowingRefs$Of" (17 : Nat) ({ cls := "java/util/Arrays", name := "equals", desc := "([I[I)Z" } : Jvm.MethodName)) ∈ lw_all := lw_g (lw_at lw_m5 181 rfl) rfl
theorem q1305 : (Jvm.Cond.static ({ cls := "java/util/Arrays", name := "equals", desc := "([I[I)Z" } : Jvm.MethodName)) ∈ lw_all := lw_g (lw_at lw_m5 182 rfl) rfl
theorem q1306 : (Jvm.Cond.code ({ cls := "java/util/Arrays", name := "equals", desc := "([I[I)Z" } : Jvm.MethodName) prog_69_method_83_code (3 : Nat) (Option.some Jvm.ClassFile.FieldType.boolean)) ∈ lw_all := lw_g (lw_at lw_m5 183 rfl) rfl
theorem q1307 : (Jvm.Cond.methodLink "java/util/Arrays" (254 : Nat) ({ cls := "jdk/internal/util/ArraysSupport", name := "mismatch", desc := "([I[II)I" } : Jvm.MethodName)) ∈ lw_all := lw_g (lw_at lw_m5 184 rfl) rfl
theorem q1308 : (Jvm.Cond.static ({ cls := "jdk/internal/util/ArraysSupport", name := "mismatch", desc := "([I[II)I" } : Jvm.MethodName)) ∈ lw_all := lw_g (lw_at lw_m5 185 rfl) rfl
theorem q1309 : (Jvm.Cond.code ({ cls := "jdk/internal/util/ArraysSupport", name := "mismatch", desc := "([I[II)I" } : Jvm.MethodName) prog_92_method_19_code (4 : Nat) (Option.some Jvm.ClassFile.FieldType.int)) ∈ lw_all := lw_g (lw_at lw_m5 186 rfl) rfl
theorem q1310 : (Jvm.Cond.fieldLink "jdk/internal/util/ArraysSupport" (144 : Nat) "jdk/internal/misc/Unsafe" "ARRAY_INT_BASE_OFFSET" "I") ∈ lw_all := lw_g (lw_at lw_m5 187 rfl) rfl
theorem q1312 : (Jvm.Cond.fieldLink "jdk/internal/util/ArraysSupport" (51 : Nat) "jdk/internal/util/ArraysSupport" "LOG2_ARRAY_INT_INDEX_SCALE" "I") ∈ lw_all := lw_g (lw_at lw_m5 189 rfl) rfl
theorem q1314 : (Jvm.Cond.methodLink "jdk/internal/util/ArraysSupport" (122 : Nat) ({ cls := "jdk/internal/util/ArraysSupport", name := "vectorizedMismatch", desc := "(Ljava/lang/Object;JLjava/lang/Object;JII)I" } : Jvm.MethodName)) ∈ lw_all := lw_g (lw_at lw_m5 191 rfl) rfl
theorem q1315 : (Jvm.Cond.static ({ cls := "jdk/internal/util/ArraysSupport", name := "vectorizedMismatch", desc := "(Ljava/lang/Object;JLjava/lang/Object;JII)I" } : Jvm.MethodName)) ∈ lw_all := lw_g (lw_at lw_m5 192 rfl) rfl
theorem q1316 : (Jvm.Cond.code ({ cls := "jdk/internal/util/ArraysSupport", name := "vectorizedMismatch", desc := "(Ljava/lang/Object;JLjava/lang/Object;JII)I" } : Jvm.MethodName) prog_92_method_3_code (19 : Nat) (Option.some Jvm.ClassFile.FieldType.int)) ∈ lw_all := lw_g (lw_at lw_m5 193 rfl) rfl
theorem q1317 : (Jvm.Cond.fieldLink "jdk/internal/util/ArraysSupport" (20 : Nat) "jdk/internal/util/ArraysSupport" "LOG2_ARRAY_LONG_INDEX_SCALE" "I") ∈ lw_all := lw_g (lw_at lw_m5 194 rfl) rfl
theorem q1319 : (Jvm.Cond.fieldLink "jdk/internal/util/ArraysSupport" (26 : Nat) "jdk/internal/util/ArraysSupport" "U" "Ljdk/internal/misc/Unsafe;") ∈ lw_all := lw_g (lw_at lw_m5 196 rfl) rfl
theorem q1321 : (Jvm.Cond.methodLink "jdk/internal/util/ArraysSupport" (30 : Nat) ({ cls := "jdk/internal/misc/Unsafe", name := "getLongUnaligned", desc := "(Ljava/lang/Object;J)J" } : Jvm.MethodName)) ∈ lw_all := lw_g (lw_at lw_m5 198 rfl) rfl
theorem q1322 : (Jvm.Cond.instanceMethod ({ cls := "jdk/internal/misc/Unsafe", name := "getLongUnaligned", desc := "(Ljava/lang/Object;J)J" } : Jvm.MethodName)) ∈ lw_all := lw_g (lw_at lw_m5 199 rfl) rfl
theorem q1323 : (Jvm.Cond.selects "jdk/internal/misc/Unsafe" ({ cls := "jdk/internal/misc/Unsafe", name := "getLongUnaligned", desc := "(Ljava/lang/Object;J)J" } : Jvm.MethodName) ({ cls := "jdk/internal/misc/Unsafe", name := "getLongUnaligned", desc := "(Ljava/lang/Object;J)J" } : Jvm.MethodName)) ∈ lw_all := lw_g (lw_at lw_m5 200 rfl) rfl
theorem q1324 : (Jvm.Cond.code ({ cls := "jdk/internal/misc/Unsafe", name := "getLongUnaligned", desc := "(Ljava/lang/Object;J)J" } : Jvm.MethodName) prog_90_method_334_code (4 : Nat) (Option.some Jvm.ClassFile.FieldType.long)) ∈ lw_all := lw_g (lw_at lw_m5 201 rfl) rfl
theorem q1325 : (Jvm.Cond.constantLong "jdk/internal/misc/Unsafe" (696 : Nat) (7 : Int64)) ∈ lw_all := lw_g (lw_at lw_m5 202 rfl) rfl
theorem q1326 : (Jvm.Cond.methodLink "jdk/internal/misc/Unsafe" (27 : Nat) ({ cls := "jdk/internal/misc/Unsafe", name := "getLong", desc := "(Ljava/lang/Object;J)J" } : Jvm.MethodName)) ∈ lw_all := lw_g (lw_at lw_m5 203 rfl) rfl
theorem q1327 : (Jvm.Cond.instanceMethod ({ cls := "jdk/internal/misc/Unsafe", name := "getLong", desc := "(Ljava/lang/Object;J)J" } : Jvm.MethodName)) ∈ lw_all := lw_g (lw_at lw_m5 204 rfl) rfl
theorem q1328 : (Jvm.Cond.selects "jdk/internal/misc/Unsafe" ({ cls := "jdk/internal/misc/Unsafe", name := "getLong", desc := "(Ljava/lang/Object;J)J" } : Jvm.MethodName) ({ cls := "jdk/internal/misc/Unsafe", name := "getLong", desc := "(Ljava/lang/Object;J)J" } : Jvm.MethodName)) ∈ lw_all := lw_g (lw_at lw_m5 205 rfl) rfl
theorem q1329 : (Jvm.Cond.native ({ cls := "jdk/internal/misc/Unsafe", name := "getLong", desc := "(Ljava/lang/Object;J)J" } : Jvm.MethodName)) ∈ lw_all := lw_g (lw_at lw_m5 206 rfl) rfl
theorem q1330 : (Jvm.Cond.constantLong "jdk/internal/misc/Unsafe" (349 : Nat) (3 : Int64)) ∈ lw_all := lw_g (lw_at lw_m5 207 rfl) rfl
theorem q1335 : (Jvm.Cond.constantLong "jdk/internal/misc/Unsafe" (205 : Nat) (4 : Int64)) ∈ lw_all := lw_g (lw_at lw_m5 212 rfl) rfl
theorem q1336 : (Jvm.Cond.methodLink "jdk/internal/misc/Unsafe" (698 : Nat) ({ cls := "jdk/internal/misc/Unsafe", name := "makeLong", desc := "(II)J" } : Jvm.MethodName)) ∈ lw_all := lw_g (lw_at lw_m5 213 rfl) rfl
theorem q1337 : (Jvm.Cond.static ({ cls := "jdk/internal/misc/Unsafe", name := "makeLong", desc := "(II)J" } : Jvm.MethodName)) ∈ lw_all := lw_g (lw_at lw_m5 214 rfl) rfl
theorem q1338 : (Jvm.Cond.code ({ cls := "jdk/internal/misc/Unsafe", name := "makeLong", desc := "(II)J" } : Jvm.MethodName) prog_90_method_353_code (2 : Nat) (Option.some Jvm.ClassFile.FieldType.long)) ∈ lw_all := lw_g (lw_at lw_m5 215 rfl) rfl
theorem q1339 : (Jvm.Cond.methodLink "jdk/internal/misc/Unsafe" (791 : Nat) ({ cls := "jdk/internal/misc/Unsafe", name := "toUnsignedLong", desc := "(I)J" } : Jvm.MethodName)) ∈ lw_all := lw_g (lw_at lw_m5 216 rfl) rfl
theorem q1340 : (Jvm.Cond.static ({ cls := "jdk/internal/misc/Unsafe", name := "toUnsignedLong", desc := "(I)J" } : Jvm.MethodName)) ∈ lw_all := lw_g (lw_at lw_m5 217 rfl) rfl
theorem q1341 : (Jvm.Cond.code ({ cls := "jdk/internal/misc/Unsafe", name := "toUnsignedLong", desc := "(I)J" } : Jvm.MethodName) prog_90_method_370_code (1 : Nat) (Option.some Jvm.ClassFile.FieldType.long)) ∈ lw_all := lw_g (lw_at lw_m5 218 rfl) rfl
theorem q1342 : (Jvm.Cond.constantLong "jdk/internal/misc/Unsafe" (812 : Nat) (4294967295 : Int64)) ∈ lw_all := lw_g (lw_at lw_m5 219 rfl) rfl
theorem q1343 : (Jvm.Cond.methodLink "jdk/internal/misc/Unsafe" (784 : Nat) ({ cls := "jdk/internal/misc/Unsafe", name := "pickPos", desc := "(II)I" } : Jvm.MethodName)) ∈ lw_all := lw_g (lw_at lw_m5 220 rfl) rfl
theorem q1344 : (Jvm.Cond.static ({ cls := "jdk/internal/misc/Unsafe", name := "pickPos", desc := "(II)I" } : Jvm.MethodName)) ∈ lw_all := lw_g (lw_at lw_m5 221 rfl) rfl
theorem q1345 : (Jvm.Cond.code ({ cls := "jdk/internal/misc/Unsafe", name := "pickPos", desc := "(II)I" } : Jvm.MethodName) prog_90_method_350_code (2 : Nat) (Option.some Jvm.ClassFile.FieldType.int)) ∈ lw_all := lw_g (lw_at lw_m5 222 rfl) rfl
theorem q1346 : (Jvm.Cond.fieldLink "jdk/internal/misc/Unsafe" (351 : Nat) "jdk/internal/misc/UnsafeConstants" "BIG_ENDIAN" "Z") ∈ lw_all := lw_g (lw_at lw_m5 223 rfl) rfl
theorem q1352 : (Jvm.Cond.constantLong "jdk/internal/misc/Unsafe" (203 : Nat) (2 : Int64)) ∈ lw_all := lw_g (lw_at lw_m5 229 rfl) rfl
theorem q1353 : (Jvm.Cond.constantLong "jdk/internal/misc/Unsafe" (702 : Nat) (6 : Int64)) ∈ lw_all := lw_g (lw_at lw_m5 230 rfl) rfl
theorem q1354 : (Jvm.Cond.methodLink "jdk/internal/misc/Unsafe" (704 : Nat) ({ cls := "jdk/internal/misc/Unsafe", name := "makeLong", desc := "(SSSS)J" } : Jvm.MethodName)) ∈ lw_all := lw_g (lw_at lw_m5 231 rfl) rfl
theorem q1355 : (Jvm.Cond.static ({ cls := "jdk/internal/misc/Unsafe", name := "makeLong", desc := "(SSSS)J" } : Jvm.MethodName)) ∈ lw_all := lw_g (lw_at lw_m5 232 rfl) rfl
theorem q1356 : (Jvm.Cond.code ({ cls := "jdk/internal/misc/Unsafe", name := "makeLong", desc := "(SSSS)J" } : Jvm.MethodName) prog_90_method_352_code (4 : Nat) (Option.some Jvm.ClassFile.FieldType.long)) ∈ lw_all := lw_g (lw_at lw_m5 233 rfl) rfl
theorem q1357 : (Jvm.Cond.methodLink "jdk/internal/misc/Unsafe" (788 : Nat) ({ cls := "jdk/internal/misc/Unsafe", name := "toUnsignedLong", desc := "(S)J" } : Jvm.MethodName)) ∈ lw_all := lw_g (lw_at lw_m5 234 rfl) rfl
theorem q1358 : (Jvm.Cond.static ({ cls := "jdk/internal/misc/Unsafe", name := "toUnsignedLong", desc := "(S)J" } : Jvm.MethodName)) ∈ lw_all := lw_g (lw_at lw_m5 235 rfl) rfl
theorem q1359 : (Jvm.Cond.code ({ cls := "jdk/internal/misc/Unsafe", name := "toUnsignedLong", desc := "(S)J" } : Jvm.MethodName) prog_90_method_369_code (1 : Nat) (Option.some Jvm.ClassFile.FieldType.long)) ∈ lw_all := lw_g (lw_at lw_m5 236 rfl) rfl
theorem q1360 : (Jvm.Cond.constantLong "jdk/internal/misc/Unsafe" (810 : Nat) (65535 : Int64)) ∈ lw_all := lw_g (lw_at lw_m5 237 rfl) rfl
theorem q1365 : (Jvm.Cond.constantLong "jdk/internal/misc/Unsafe" (707 : Nat) (5 : Int64)) ∈ lw_all := lw_g (lw_at lw_m6 2 rfl) rfl
theorem q1366 : (Jvm.Cond.methodLink "jdk/internal/misc/Unsafe" (709 : Nat) ({ cls := "jdk/internal/misc/Unsafe", name := "makeLong", desc := "(BBBBBBBB)J" } : Jvm.MethodName)) ∈ lw_all := lw_g (lw_at lw_m6 3 rfl) rfl
theorem q1367 : (Jvm.Cond.static ({ cls := "jdk/internal/misc/Unsafe", name := "makeLong", desc := "(BBBBBBBB)J" } : Jvm.MethodName)) ∈ lw_all := lw_g (lw_at lw_m6 4 rfl) rfl
theorem q1368 : (Jvm.Cond.code ({ cls := "jdk/internal/misc/Unsafe", name := "makeLong", desc := "(BBBBBBBB)J" } : Jvm.MethodName) prog_90_method_351_code (8 : Nat) (Option.some Jvm.ClassFile.FieldType.long)) ∈ lw_all := lw_g (lw_at lw_m6 5 rfl) rfl
theorem q1369 : (Jvm.Cond.methodLink "jdk/internal/misc/Unsafe" (781 : Nat) ({ cls := "jdk/internal/misc/Unsafe", name := "toUnsignedLong", desc := "(B)J" } : Jvm.MethodName)) ∈ lw_all := lw_g (lw_at lw_m6 6 rfl) rfl
theorem q1370 : (Jvm.Cond.static ({ cls := "jdk/internal/misc/Unsafe", name := "toUnsignedLong", desc := "(B)J" } : Jvm.MethodName)) ∈ lw_all := lw_g (lw_at lw_m6 7 rfl) rfl
theorem q1371 : (Jvm.Cond.code ({ cls := "jdk/internal/misc/Unsafe", name := "toUnsignedLong", desc := "(B)J" } : Jvm.MethodName) prog_90_method_368_code (1 : Nat) (Option.some Jvm.ClassFile.FieldType.long)) ∈ lw_all := lw_g (lw_at lw_m6 8 rfl) rfl
theorem q1372 : (Jvm.Cond.constantLong "jdk/internal/misc/Unsafe" (808 : Nat) (255 : Int64)) ∈ lw_all := lw_g (lw_at lw_m6 9 rfl) rfl
theorem q1373 : (Jvm.Cond.fieldLink "jdk/internal/util/ArraysSupport" (36 : Nat) "jdk/internal/util/ArraysSupport" "BIG_ENDIAN" "Z") ∈ lw_all := lw_g (lw_at lw_m6 10 rfl) rfl
theorem q1375 : (Jvm.Cond.methodLink "jdk/internal/util/ArraysSupport" (40 : Nat) ({ cls := "java/lang/Long", name := "numberOfLeadingZeros", desc := "(J)I" } : Jvm.MethodName)) ∈ lw_all := lw_g (lw_at lw_m6 12 rfl) rfl
theorem q1376 : (Jvm.Cond.static ({ cls := "java/lang/Long", name := "numberOfLeadingZeros", desc := "(J)I" } : Jvm.MethodName)) ∈ lw_all := lw_g (lw_at lw_m6 13 rfl) rfl
theorem q1377 : (Jvm.Cond.code ({ cls := "java/lang/Long", name := "numberOfLeadingZeros", desc := "(J)I" } : Jvm.MethodName) prog_47_method_48_code (3 : Nat) (Option.some Jvm.ClassFile.FieldType.int)) ∈ lw_all := lw_g (lw_at lw_m6 14 rfl) rfl
theorem q1378 : (Jvm.Cond.methodLink "java/lang/Long" (308 : Nat) ({ cls := "java/lang/Integer", name := "numberOfLeadingZeros", desc := "(I)I" } : Jvm.MethodName)) ∈ lw_all := lw_g (lw_at lw_m6 15 rfl) rfl
theorem q1379 : (Jvm.Cond.static ({ cls := "java/lang/Integer", name := "numberOfLeadingZeros", desc := "(I)I" } : Jvm.MethodName)) ∈ lw_all := lw_g (lw_at lw_m6 16 rfl) rfl
theorem q1380 : (Jvm.Cond.code ({ cls := "java/lang/Integer", name := "numberOfLeadingZeros", desc := "(I)I" } : Jvm.MethodName) prog_44_method_47_code (2 : Nat) (Option.some Jvm.ClassFile.FieldType.int)) ∈ lw_all := lw_g (lw_at lw_m6 17 rfl) rfl
theorem q1381 : (Jvm.Cond.constant "java/lang/Integer" (264 : Nat) (65536 : Int32)) ∈ lw_all := lw_g (lw_at lw_m6 18 rfl) rfl
theorem q1382 : (Jvm.Cond.fieldLink "jdk/internal/util/ArraysSupport" (46 : Nat) "jdk/internal/util/ArraysSupport" "LOG2_BYTE_BIT_SIZE" "I") ∈ lw_all := lw_g (lw_at lw_m6 19 rfl) rfl
theorem q1384 : (Jvm.Cond.methodLink "jdk/internal/util/ArraysSupport" (49 : Nat) ({ cls := "java/lang/Long", name := "numberOfTrailingZeros", desc := "(J)I" } : Jvm.MethodName)) ∈ lw_all := lw_g (lw_at lw_m6 21 rfl) rfl
theorem q1385 : (Jvm.Cond.static ({ cls := "java/lang/Long", name := "numberOfTrailingZeros", desc := "(J)I" } : Jvm.MethodName)) ∈ lw_all := lw_g (lw_at lw_m6 22 rfl) rfl
theorem q1386 : (Jvm.Cond.code ({ cls := "java/lang/Long", name := "numberOfTrailingZeros", desc := "(J)I" } : Jvm.MethodName) prog_47_method_49_code (3 : Nat) (Option.some Jvm.ClassFile.FieldType.int)) ∈ lw_all := lw_g (lw_at lw_m6 23 rfl) rfl
theorem q1387 : (Jvm.Cond.methodLink "java/lang/Long" (311 : Nat) ({ cls := "java/lang/Integer", name := "numberOfTrailingZeros", desc := "(I)I" } : Jvm.MethodName)) ∈ lw_all := lw_g (lw_at lw_m6 24 rfl) rfl
theorem q1388 : (Jvm.Cond.static ({ cls := "java/lang/Integer", name := "numberOfTrailingZeros", desc := "(I)I" } : Jvm.MethodName)) ∈ lw_all := lw_g (lw_at lw_m6 25 rfl) rfl
theorem q1389 : (Jvm.Cond.code ({ cls := "java/lang/Integer", name := "numberOfTrailingZeros", desc := "(I)I" } : Jvm.MethodName) prog_44_method_48_code (2 : Nat) (Option.some Jvm.ClassFile.FieldType.int)) ∈ lw_all := lw_g (lw_at lw_m6 26 rfl) rfl
theorem q1390 : (Jvm.Cond.methodLink "jdk/internal/util/ArraysSupport" (54 : Nat) ({ cls := "jdk/internal/misc/Unsafe", name := "getIntUnaligned", desc := "(Ljava/lang/Object;J)I" } : Jvm.MethodName)) ∈ lw_all := lw_g (lw_at lw_m6 27 rfl) rfl
theorem q1391 : (Jvm.Cond.instanceMethod ({ cls := "jdk/internal/misc/Unsafe", name := "getIntUnaligned", desc := "(Ljava/lang/Object;J)I" } : Jvm.MethodName)) ∈ lw_all := lw_g (lw_at lw_m6 28 rfl) rfl
theorem q1392 : (Jvm.Cond.selects "jdk/internal/misc/Unsafe" ({ cls := "jdk/internal/misc/Unsafe", name := "getIntUnaligned", desc := "(Ljava/lang/Object;J)I" } : Jvm.MethodName) ({ cls := "jdk/internal/misc/Unsafe", name := "getIntUnaligned", desc := "(Ljava/lang/Object;J)I" } : Jvm.MethodName)) ∈ lw_all := lw_g (lw_at lw_m6 29 rfl) rfl
theorem q1393 : (Jvm.Cond.code ({ cls := "jdk/internal/misc/Unsafe", name := "getIntUnaligned", desc := "(Ljava/lang/Object;J)I" } : Jvm.MethodName) prog_90_method_336_code (4 : Nat) (Option.some Jvm.ClassFile.FieldType.int)) ∈ lw_all := lw_g (lw_at lw_m6 30 rfl) rfl
theorem q1394 : (Jvm.Cond.methodLink "jdk/internal/misc/Unsafe" (719 : Nat) ({ cls := "jdk/internal/misc/Unsafe", name := "makeInt", desc := "(SS)I" } : Jvm.MethodName)) ∈ lw_all := lw_g (lw_at lw_m6 31 rfl) rfl
theorem q1395 : (Jvm.Cond.static ({ cls := "jdk/internal/misc/Unsafe", name := "makeInt", desc := "(SS)I" } : Jvm.MethodName)) ∈ lw_all := lw_g (lw_at lw_m6 32 rfl) rfl
theorem q1396 : (Jvm.Cond.code ({ cls := "jdk/internal/misc/Unsafe", name := "makeInt", desc := "(SS)I" } : Jvm.MethodName) prog_90_method_354_code (2 : Nat) (Option.some Jvm.ClassFile.FieldType.int)) ∈ lw_all := lw_g (lw_at lw_m6 33 rfl) rfl
theorem q1397 : (Jvm.Cond.methodLink "jdk/internal/misc/Unsafe" (792 : Nat) ({ cls := "jdk/internal/misc/Unsafe", name := "toUnsignedInt", desc := "(S)I" } : Jvm.MethodName)) ∈ lw_all := lw_g (lw_at lw_m6 34 rfl) rfl
theorem q1398 : (Jvm.Cond.static ({ cls := "jdk/internal/misc/Unsafe", name := "toUnsignedInt", desc := "(S)I" } : Jvm.MethodName)) ∈ lw_all := lw_g (lw_at lw_m6 35 rfl) rfl
theorem q1399 : (Jvm.Cond.code ({ cls := "jdk/internal/misc/Unsafe", name := "toUnsignedInt", desc := "(S)I" } : Jvm.MethodName) prog_90_method_367_code (1 : Nat) (Option.some Jvm.ClassFile.FieldType.int)) ∈ lw_all := lw_g (lw_at lw_m6 36 rfl) rfl
theorem q1400 : (Jvm.Cond.constant "jdk/internal/misc/Unsafe" (374 : Nat) (65535 : Int32)) ∈ lw_all := lw_g (lw_at lw_m6 37 rfl) rfl
theorem q1401 : (Jvm.Cond.methodLink "jdk/internal/misc/Unsafe" (723 : Nat) ({ cls := "jdk/internal/misc/Unsafe", name := "makeInt", desc := "(BBBB)I" } : Jvm.MethodName)) ∈ lw_all := lw_g (lw_at lw_m6 38 rfl) rfl
theorem q1402 : (Jvm.Cond.static ({ cls := "jdk/internal/misc/Unsafe", name := "makeInt", desc := "(BBBB)I" } : Jvm.MethodName)) ∈ lw_all := lw_g (lw_at lw_m6 39 rfl) rfl
theorem q1403 : (Jvm.Cond.code ({ cls := "jdk/internal/misc/Unsafe", name := "makeInt", desc := "(BBBB)I" } : Jvm.MethodName) prog_90_method_355_code (4 : Nat) (Option.some Jvm.ClassFile.FieldType.int)) ∈ lw_all := lw_g (lw_at lw_m6 40 rfl) rfl
theorem q1404 : (Jvm.Cond.methodLink "jdk/internal/misc/Unsafe" (796 : Nat) ({ cls := "jdk/internal/misc/Unsafe", name := "toUnsignedInt", desc := "(B)I" } : Jvm.MethodName)) ∈ lw_all := lw_g (lw_at lw_m6 41 rfl) rfl
theorem q1405 : (Jvm.Cond.static ({ cls := "jdk/internal/misc/Unsafe", name := "toUnsignedInt", desc := "(B)I" } : Jvm.MethodName)) ∈ lw_all := lw_g (lw_at lw_m6 42 rfl) rfl
theorem q1406 : (Jvm.Cond.code ({ cls := "jdk/internal/misc/Unsafe", name := "toUnsignedInt", desc := "(B)I" } : Jvm.MethodName) prog_90_method_366_code (1 : Nat) (Option.some Jvm.ClassFile.FieldType.int)) ∈ lw_all := lw_g (lw_at lw_m6 43 rfl) rfl
theorem q1407 : (Jvm.Cond.methodLink "jdk/internal/util/ArraysSupport" (58 : Nat) ({ cls := "java/lang/Integer", name := "numberOfLeadingZeros", desc := "(I)I" } : Jvm.MethodName)) ∈ lw_all := lw_g (lw_at lw_m6 44 rfl) rfl
theorem q1408 : (Jvm.Cond.methodLink "jdk/internal/util/ArraysSupport" (11 : Nat) ({ cls := "java/lang/Integer", name := "numberOfTrailingZeros", desc := "(I)I" } : Jvm.MethodName)) ∈ lw_all := lw_g (lw_at lw_m6 45 rfl) rfl
theorem q1409 : (Jvm.Cond.methodLink "FollowingRefs$SchemaReader" (142 : Nat) ({ cls := "FollowingRefs$SchemaReader", name := "on", desc := "()I" } : Jvm.MethodName)) ∈ lw_all := lw_g (lw_at lw_m6 46 rfl) rfl
theorem q1411 : (Jvm.Cond.instanceMethod ({ cls := "FollowingRefs$SchemaReader", name := "on", desc := "()I" } : Jvm.MethodName)) ∈ lw_all := lw_g (lw_at lw_m6 48 rfl) rfl
theorem q1412 : (Jvm.Cond.code ({ cls := "FollowingRefs$SchemaReader", name := "on", desc := "()I" } : Jvm.MethodName) prog_20_method_8_code (2 : Nat) (Option.some Jvm.ClassFile.FieldType.int)) ∈ lw_all := lw_g (lw_at lw_m6 49 rfl) rfl
theorem q1418 : (Jvm.Cond.methodLink "FollowingRefs$SchemaReader" (147 : Nat) ({ cls := "FollowingRefs$SchemaReader", name := "may", desc := "(Ljava/lang/String;)Z" } : Jvm.MethodName)) ∈ lw_all := lw_g (lw_at lw_m6 55 rfl) rfl
theorem q1420 : (Jvm.Cond.instanceMethod ({ cls := "FollowingRefs$SchemaReader", name := "may", desc := "(Ljava/lang/String;)Z" } : Jvm.MethodName)) ∈ lw_all := lw_g (lw_at lw_m6 57 rfl) rfl
theorem q1421 : (Jvm.Cond.code ({ cls := "FollowingRefs$SchemaReader", name := "may", desc := "(Ljava/lang/String;)Z" } : Jvm.MethodName) prog_20_method_9_code (3 : Nat) (Option.some Jvm.ClassFile.FieldType.boolean)) ∈ lw_all := lw_g (lw_at lw_m6 58 rfl) rfl
theorem q1422 : (Jvm.Cond.classLink "FollowingRefs$SchemaReader" (150 : Nat) "FollowingRefs$Ref") ∈ lw_all := lw_g (lw_at lw_m6 59 rfl) rfl
theorem q1423 : (Jvm.Cond.instantiable "FollowingRefs$Ref" (7 : Nat)) ∈ lw_all := lw_g (lw_at lw_m6 60 rfl) rfl
theorem q1425 : (Jvm.Cond.methodLink "FollowingRefs$SchemaReader" (154 : Nat) ({ cls := "FollowingRefs$Ref", name := "<init>", desc := "(I[IIIIZZ)V" } : Jvm.MethodName)) ∈ lw_all := lw_g (lw_at lw_m6 62 rfl) rfl
theorem q1426 : (Jvm.Cond.instanceMethod ({ cls := "FollowingRefs$Ref", name := "<init>", desc := "(I[IIIIZZ)V" } : Jvm.MethodName)) ∈ lw_all := lw_g (lw_at lw_m6 63 rfl) rfl
theorem q1427 : (Jvm.Cond.code ({ cls := "FollowingRefs$Ref", name := "<init>", desc := "(I[IIIIZZ)V" } : Jvm.MethodName) prog_17_method_1_code (8 : Nat) (Option.none : Option Jvm.ClassFile.FieldType)) ∈ lw_all := lw_g (lw_at lw_m6 64 rfl) rfl
theorem q1428 : (Jvm.Cond.methodLink "FollowingRefs$Ref" (1 : Nat) ({ cls := "FollowingRefs$Of", name := "<init>", desc := "(I[I)V" } : Jvm.MethodName)) ∈ lw_all := lw_g (lw_at lw_m6 65 rfl) rfl
theorem q1429 : (Jvm.Cond.fieldLink "FollowingRefs$Ref" (7 : Nat) "FollowingRefs$Ref" "key" "I") ∈ lw_all := lw_g (lw_at lw_m6 66 rfl) rfl
theorem q1430 : (Jvm.Cond.fieldLinkNest "FollowingRefs$Schema" (64 : Nat) "FollowingRefs$Ref" "key" "I" "FollowingRefs") ∈ lw_tbl := lw_at lw_m6 67 rfl
theorem q1431 : (Jvm.Cond.fieldLinkNest "FollowingRefs" (323 : Nat) "FollowingRefs$Ref" "key" "I" "FollowingRefs") ∈ lw_tbl := lw_at lw_m6 68 rfl
theorem q1432 : (Jvm.Cond.fieldLink "FollowingRefs$Ref" (13 : Nat) "FollowingRefs$Ref" "onGoing" "I") ∈ lw_all := lw_g (lw_at lw_m6 69 rfl) rfl
theorem q1433 : (Jvm.Cond.fieldLinkNest "FollowingRefs$Schema" (109 : Nat) "FollowingRefs$Ref" "onGoing" "I" "FollowingRefs") ∈ lw_tbl := lw_at lw_m6 70 rfl
theorem q1434 : (Jvm.Cond.fieldLinkNest "FollowingRefs$Plan" (139 : Nat) "FollowingRefs$Ref" "onGoing" "I" "FollowingRefs") ∈ lw_tbl := lw_at lw_m6 71 rfl
theorem q1435 : (Jvm.Cond.fieldLinkNest "FollowingRefs" (326 : Nat) "FollowingRefs$Ref" "onGoing" "I" "FollowingRefs") ∈ lw_tbl := lw_at lw_m6 72 rfl
theorem q1436 : (Jvm.Cond.fieldLink "FollowingRefs$Ref" (16 : Nat) "FollowingRefs$Ref" "onChange" "I") ∈ lw_all := lw_g (lw_at lw_m6 73 rfl) rfl
theorem q1437 : (Jvm.Cond.fieldLinkNest "FollowingRefs$Plan" (170 : Nat) "FollowingRefs$Ref" "onChange" "I" "FollowingRefs") ∈ lw_tbl := lw_at lw_m6 74 rfl
theorem q1438 : (Jvm.Cond.fieldLinkNest "FollowingRefs" (329 : Nat) "FollowingRefs$Ref" "onChange" "I" "FollowingRefs") ∈ lw_tbl := lw_at lw_m6 75 rfl
theorem q1439 : (Jvm.Cond.fieldLink "FollowingRefs$Ref" (19 : Nat) "FollowingRefs$Ref" "full" "Z") ∈ lw_all := lw_g (lw_at lw_m6 76 rfl) rfl
theorem q1440 : (Jvm.Cond.fieldLinkNest "FollowingRefs$Store" (104 : Nat) "FollowingRefs$Ref" "full" "Z" "FollowingRefs") ∈ lw_tbl := lw_at lw_m6 77 rfl
theorem q1441 : (Jvm.Cond.fieldLinkNest "FollowingRefs" (332 : Nat) "FollowingRefs$Ref" "full" "Z" "FollowingRefs") ∈ lw_tbl := lw_at lw_m6 78 rfl
theorem q1442 : (Jvm.Cond.fieldLink "FollowingRefs$Ref" (23 : Nat) "FollowingRefs$Ref" "late" "Z") ∈ lw_all := lw_g (lw_at lw_m6 79 rfl) rfl
theorem q1443 : (Jvm.Cond.fieldLinkNest "FollowingRefs$Store" (142 : Nat) "FollowingRefs$Ref" "late" "Z" "FollowingRefs") ∈ lw_tbl := lw_at lw_m6 80 rfl
theorem q1444 : (Jvm.Cond.fieldLinkNest "FollowingRefs" (335 : Nat) "FollowingRefs$Ref" "late" "Z" "FollowingRefs") ∈ lw_tbl := lw_at lw_m6 81 rfl
theorem q1445 : (Jvm.Cond.laysFinal "FollowingRefs$Ref" "FollowingRefs$Ref" "key" "I") ∈ lw_all := lw_g (lw_at lw_m6 82 rfl) rfl
theorem q1447 : (Jvm.Cond.laysFinal "FollowingRefs$Ref" "FollowingRefs$Ref" "onGoing" "I") ∈ lw_all := lw_g (lw_at lw_m6 84 rfl) rfl
theorem q1449 : (Jvm.Cond.laysFinal "FollowingRefs$Ref" "FollowingRefs$Ref" "onChange" "I") ∈ lw_all := lw_g (lw_at lw_m6 86 rfl) rfl
theorem q1451 : (Jvm.Cond.laysFinal "FollowingRefs$Ref" "FollowingRefs$Ref" "full" "Z") ∈ lw_all := lw_g (lw_at lw_m6 88 rfl) rfl
theorem q1453 : (Jvm.Cond.laysFinal "FollowingRefs$Ref" "FollowingRefs$Ref" "late" "Z") ∈ lw_all := lw_g (lw_at lw_m6 90 rfl) rfl
theorem q1455 : (Jvm.Cond.laysFinal "FollowingRefs$Ref" "FollowingRefs$Of" "table" "I") ∈ lw_all := lw_g (lw_at lw_m6 92 rfl) rfl
theorem q1456 : (Jvm.Cond.laysFinal "FollowingRefs$Ref" "FollowingRefs$Of" "cols" "[I") ∈ lw_all := lw_g (lw_at lw_m6 93 rfl) rfl
theorem q1459 : (Jvm.Cond.methodLink "FollowingRefs$SchemaReader" (55 : Nat) ({ cls := "FollowingRefs$SchemaReader", name := "defaults", desc := "()V" } : Jvm.MethodName)) ∈ lw_all := lw_g (lw_at lw_m6 96 rfl) rfl
theorem q1461 : (Jvm.Cond.instanceMethod ({ cls := "FollowingRefs$SchemaReader", name := "defaults", desc := "()V" } : Jvm.MethodName)) ∈ lw_all := lw_g (lw_at lw_m6 98 rfl) rfl
theorem q1462 : (Jvm.Cond.code ({ cls := "FollowingRefs$SchemaReader", name := "defaults", desc := "()V" } : Jvm.MethodName) prog_20_method_12_code (3 : Nat) (Option.none : Option Jvm.ClassFile.FieldType)) ∈ lw_all := lw_g (lw_at lw_m6 99 rfl) rfl
theorem q1463 : (Jvm.Cond.methodLink "FollowingRefs$SchemaReader" (164 : Nat) ({ cls := "java/util/ArrayList", name := "get", desc := "(I)Ljava/lang/Object;" } : Jvm.MethodName)) ∈ lw_all := lw_g (lw_at lw_m6 100 rfl) rfl
theorem q1464 : (Jvm.Cond.methodLink "FollowingRefs$SchemaReader" (171 : Nat) ({ cls := "FollowingRefs$SchemaReader", name := "number", desc := "(II)I" } : Jvm.MethodName)) ∈ lw_all := lw_g (lw_at lw_m6 101 rfl) rfl
theorem q1465 : (Jvm.Cond.sameMethod "FollowingRefs$SchemaReader" "FollowingRefs$Reader" "number" "(II)I") ∈ lw_all := lw_g (lw_at lw_m6 102 rfl) rfl
theorem q1467 : (Jvm.Cond.selects "FollowingRefs$SchemaReader" ({ cls := "FollowingRefs$SchemaReader", name := "number", desc := "(II)I" } : Jvm.MethodName) ({ cls := "FollowingRefs$Reader", name := "number", desc := "(II)I" } : Jvm.MethodName)) ∈ lw_all := lw_g (lw_at lw_m6 104 rfl) rfl
theorem q1468 : (Jvm.Cond.instanceMethod ({ cls := "FollowingRefs$Reader", name := "number", desc := "(II)I" } : Jvm.MethodName)) ∈ lw_all := lw_g (lw_at lw_m6 105 rfl) rfl
theorem q1469 : (Jvm.Cond.code ({ cls := "FollowingRefs$Reader", name := "number", desc := "(II)I" } : Jvm.MethodName) prog_16_method_10_code (4 : Nat) (Option.some Jvm.ClassFile.FieldType.int)) ∈ lw_all := lw_g (lw_at lw_m6 106 rfl) rfl
theorem q1470 : (Jvm.Cond.methodLinkNest "FollowingRefs$Reader" (95 : Nat) ({ cls := "FollowingRefs", name := "isIn", desc := "(III)Z" } : Jvm.MethodName) "FollowingRefs") ∈ lw_tbl := lw_at lw_m6 107 rfl
theorem q1471 : (Jvm.Cond.static ({ cls := "FollowingRefs", name := "isIn", desc := "(III)Z" } : Jvm.MethodName)) ∈ lw_all := lw_g (lw_at lw_m6 108 rfl) rfl
theorem q1472 : (Jvm.Cond.code ({ cls := "FollowingRefs", name := "isIn", desc := "(III)Z" } : Jvm.MethodName) prog_1_method_1_code (3 : Nat) (Option.some Jvm.ClassFile.FieldType.boolean)) ∈ lw_all := lw_g (lw_at lw_m6 109 rfl) rfl
theorem q1474 : (Jvm.Cond.methodLink "FollowingRefs$SchemaReader" (60 : Nat) ({ cls := "FollowingRefs$SchemaReader", name := "needs", desc := "()V" } : Jvm.MethodName)) ∈ lw_all := lw_g (lw_at lw_m6 111 rfl) rfl
theorem q1476 : (Jvm.Cond.instanceMethod ({ cls := "FollowingRefs$SchemaReader", name := "needs", desc := "()V" } : Jvm.MethodName)) ∈ lw_all := lw_g (lw_at lw_m6 113 rfl) rfl
theorem q1477 : (Jvm.Cond.code ({ cls := "FollowingRefs$SchemaReader", name := "needs", desc := "()V" } : Jvm.MethodName) prog_20_method_13_code (3 : Nat) (Option.none : Option Jvm.ClassFile.FieldType)) ∈ lw_all := lw_g (lw_at lw_m6 114 rfl) rfl
theorem q1478 : (Jvm.Cond.methodLink "FollowingRefs$SchemaReader" (178 : Nat) ({ cls := "java/util/BitSet", name := "get", desc := "(I)Z" } : Jvm.MethodName)) ∈ lw_all := lw_g (lw_at lw_m6 115 rfl) rfl
theorem q1479 : (Jvm.Cond.instanceMethod ({ cls := "java/util/BitSet", name := "get", desc := "(I)Z" } : Jvm.MethodName)) ∈ lw_all := lw_g (lw_at lw_m6 116 rfl) rfl
theorem q1480 : (Jvm.Cond.selects "java/util/BitSet" ({ cls := "java/util/BitSet", name := "get", desc := "(I)Z" } : Jvm.MethodName) ({ cls := "java/util/BitSet", name := "get", desc := "(I)Z" } : Jvm.MethodName)) ∈ lw_all := lw_g (lw_at lw_m6 117 rfl) rfl
theorem q1481 : (Jvm.Cond.code ({ cls := "java/util/BitSet", name := "get", desc := "(I)Z" } : Jvm.MethodName) prog_71_method_26_code (3 : Nat) (Option.some Jvm.ClassFile.FieldType.boolean)) ∈ lw_all := lw_g (lw_at lw_m6 118 rfl) rfl
theorem q1482 : (Jvm.Cond.methodLink "java/util/BitSet" (56 : Nat) ({ cls := "java/util/BitSet", name := "checkInvariants", desc := "()V" } : Jvm.MethodName)) ∈ lw_all := lw_g (lw_at lw_m6 119 rfl) rfl
theorem q1484 : (Jvm.Cond.instanceMethod ({ cls := "java/util/BitSet", name := "checkInvariants", desc := "()V" } : Jvm.MethodName)) ∈ lw_all := lw_g (lw_at lw_m6 121 rfl) rfl
theorem q1485 : (Jvm.Cond.code ({ cls := "java/util/BitSet", name := "checkInvariants", desc := "()V" } : Jvm.MethodName) prog_71_method_2_code (1 : Nat) (Option.none : Option Jvm.ClassFile.FieldType)) ∈ lw_all := lw_g (lw_at lw_m6 122 rfl) rfl
theorem q1486 : (Jvm.Cond.fieldLink "java/util/BitSet" (3 : Nat) "java/util/BitSet" "$assertionsDisabled" "Z") ∈ lw_all := lw_g (lw_at lw_m6 123 rfl) rfl
theorem q1488 : (Jvm.Cond.methodLink "FollowingRefs$SchemaReader" (183 : Nat) ({ cls := "java/util/BitSet", name := "set", desc := "(I)V" } : Jvm.MethodName)) ∈ lw_all := lw_g (lw_at lw_m6 125 rfl) rfl
theorem q1489 : (Jvm.Cond.instanceMethod ({ cls := "java/util/BitSet", name := "set", desc := "(I)V" } : Jvm.MethodName)) ∈ lw_all := lw_g (lw_at lw_m6 126 rfl) rfl
theorem q1490 : (Jvm.Cond.selects "java/util/BitSet" ({ cls := "java/util/BitSet", name := "set", desc := "(I)V" } : Jvm.MethodName) ({ cls := "java/util/BitSet", name := "set", desc := "(I)V" } : Jvm.MethodName)) ∈ lw_all := lw_g (lw_at lw_m6 127 rfl) rfl
theorem q1491 : (Jvm.Cond.code ({ cls := "java/util/BitSet", name := "set", desc := "(I)V" } : Jvm.MethodName) prog_71_method_19_code (3 : Nat) (Option.none : Option Jvm.ClassFile.FieldType)) ∈ lw_all := lw_g (lw_at lw_m6 128 rfl) rfl
theorem q1492 : (Jvm.Cond.methodLink "java/util/BitSet" (155 : Nat) ({ cls := "java/util/BitSet", name := "expandTo", desc := "(I)V" } : Jvm.MethodName)) ∈ lw_all := lw_g (lw_at lw_m6 129 rfl) rfl
theorem q1494 : (Jvm.Cond.instanceMethod ({ cls := "java/util/BitSet", name := "expandTo", desc := "(I)V" } : Jvm.MethodName)) ∈ lw_all := lw_g (lw_at lw_m6 131 rfl) rfl
theorem q1495 : (Jvm.Cond.code ({ cls := "java/util/BitSet", name := "expandTo", desc := "(I)V" } : Jvm.MethodName) prog_71_method_15_code (3 : Nat) (Option.none : Option Jvm.ClassFile.FieldType)) ∈ lw_all := lw_g (lw_at lw_m6 132 rfl) rfl
theorem q1496 : (Jvm.Cond.methodLink "java/util/BitSet" (139 : Nat) ({ cls := "java/util/BitSet", name := "ensureCapacity", desc := "(I)V" } : Jvm.MethodName)) ∈ lw_all := lw_g (lw_at lw_m6 133 rfl) rfl
theorem q1498 : (Jvm.Cond.instanceMethod ({ cls := "java/util/BitSet", name := "ensureCapacity", desc := "(I)V" } : Jvm.MethodName)) ∈ lw_all := lw_g (lw_at lw_m6 135 rfl) rfl
theorem q1499 : (Jvm.Cond.code ({ cls := "java/util/BitSet", name := "ensureCapacity", desc := "(I)V" } : Jvm.MethodName) prog_71_method_14_code (3 : Nat) (Option.none : Option Jvm.ClassFile.FieldType)) ∈ lw_all := lw_g (lw_at lw_m6 136 rfl) rfl
theorem q1500 : (Jvm.Cond.methodLink "java/util/BitSet" (133 : Nat) ({ cls := "java/lang/Math", name := "max", desc := "(II)I" } : Jvm.MethodName)) ∈ lw_all := lw_g (lw_at lw_m6 137 rfl) rfl
theorem q1501 : (Jvm.Cond.methodLink "java/util/BitSet" (59 : Nat) ({ cls := "java/util/Arrays", name := "copyOf", desc := "([JI)[J" } : Jvm.MethodName)) ∈ lw_all := lw_g (lw_at lw_m6 138 rfl) rfl
theorem q1502 : (Jvm.Cond.static ({ cls := "java/util/Arrays", name := "copyOf", desc := "([JI)[J" } : Jvm.MethodName)) ∈ lw_all := lw_g (lw_at lw_m6 139 rfl) rfl
theorem q1503 : (Jvm.Cond.code ({ cls := "java/util/Arrays", name := "copyOf", desc := "([JI)[J" } : Jvm.MethodName) prog_69_method_124_code (3 : Nat) (Option.some (Jvm.ClassFile.FieldType.array Jvm.ClassFile.FieldType.long))) ∈ lw_all := lw_g (lw_at lw_m6 140 rfl) rfl
theorem q1508 : (Jvm.Cond.classLink "java/util/Arrays" (320 : Nat) "[J") ∈ lw_all := lw_g (lw_at lw_m6 145 rfl) rfl
theorem q1509 : (Jvm.Cond.methodLink "FollowingRefs$SchemaReader" (63 : Nat) ({ cls := "FollowingRefs$SchemaReader", name := "check", desc := "()V" } : Jvm.MethodName)) ∈ lw_all := lw_g (lw_at lw_m6 146 rfl) rfl
theorem q1511 : (Jvm.Cond.instanceMethod ({ cls := "FollowingRefs$SchemaReader", name := "check", desc := "()V" } : Jvm.MethodName)) ∈ lw_all := lw_g (lw_at lw_m6 148 rfl) rfl
theorem q1512 : (Jvm.Cond.code ({ cls := "FollowingRefs$SchemaReader", name := "check", desc := "()V" } : Jvm.MethodName) prog_20_method_14_code (7 : Nat) (Option.none : Option Jvm.ClassFile.FieldType)) ∈ lw_all := lw_g (lw_at lw_m6 149 rfl) rfl
theorem q1514 : (Jvm.Cond.methodLink "FollowingRefs$SchemaReader" (191 : Nat) ({ cls := "FollowingRefs$SchemaReader", name := "than", desc := "()I" } : Jvm.MethodName)) ∈ lw_all := lw_g (lw_at lw_m6 151 rfl) rfl
theorem q1515 : (Jvm.Cond.sameMethod "FollowingRefs$SchemaReader" "FollowingRefs$Reader" "than" "()I") ∈ lw_all := lw_g (lw_at lw_m6 152 rfl) rfl
theorem q1517 : (Jvm.Cond.selects "FollowingRefs$SchemaReader" ({ cls := "FollowingRefs$SchemaReader", name := "than", desc := "()I" } : Jvm.MethodName) ({ cls := "FollowingRefs$Reader", name := "than", desc := "()I" } : Jvm.MethodName)) ∈ lw_all := lw_g (lw_at lw_m6 154 rfl) rfl
theorem q1518 : (Jvm.Cond.instanceMethod ({ cls := "FollowingRefs$Reader", name := "than", desc := "()I" } : Jvm.MethodName)) ∈ lw_all := lw_g (lw_at lw_m6 155 rfl) rfl
theorem q1519 : (Jvm.Cond.code ({ cls := "FollowingRefs$Reader", name := "than", desc := "()I" } : Jvm.MethodName) prog_16_method_11_code (2 : Nat) (Option.some Jvm.ClassFile.FieldType.int)) ∈ lw_all := lw_g (lw_at lw_m6 156 rfl) rfl
theorem q1520 : (Jvm.Cond.methodLink "FollowingRefs$Reader" (102 : Nat) ({ cls := "FollowingRefs$Reader", name := "isThan", desc := "()Z" } : Jvm.MethodName)) ∈ lw_all := lw_g (lw_at lw_m6 157 rfl) rfl
theorem q1521 : (Jvm.Cond.instanceMethod ({ cls := "FollowingRefs$Reader", name := "isThan", desc := "()Z" } : Jvm.MethodName)) ∈ lw_all := lw_g (lw_at lw_m6 158 rfl) rfl
theorem q1522 : (Jvm.Cond.sameMethod "FollowingRefs$Reader" "FollowingRefs$Reader" "isThan" "()Z") ∈ lw_all := lw_g (lw_at lw_m6 159 rfl) rfl
theorem q1523 : (Jvm.Cond.selects "FollowingRefs$BookReader" ({ cls := "FollowingRefs$Reader", name := "isThan", desc := "()Z" } : Jvm.MethodName) ({ cls := "FollowingRefs$Reader", name := "isThan", desc := "()Z" } : Jvm.MethodName)) ∈ lw_all := lw_g (lw_at lw_m6 160 rfl) rfl
theorem q1524 : (Jvm.Cond.selects "FollowingRefs$SchemaReader" ({ cls := "FollowingRefs$Reader", name := "isThan", desc := "()Z" } : Jvm.MethodName) ({ cls := "FollowingRefs$Reader", name := "isThan", desc := "()Z" } : Jvm.MethodName)) ∈ lw_all := lw_g (lw_at lw_m6 161 rfl) rfl
theorem q1525 : (Jvm.Cond.selects "FollowingRefs$SentenceReader" ({ cls := "FollowingRefs$Reader", name := "isThan", desc := "()Z" } : Jvm.MethodName) ({ cls := "FollowingRefs$Reader", name := "isThan", desc := "()Z" } : Jvm.MethodName)) ∈ lw_all := lw_g (lw_at lw_m6 162 rfl) rfl
theorem q1526 : (Jvm.Cond.selects "FollowingRefs$StatementReader" ({ cls := "FollowingRefs$Reader", name := "isThan", desc := "()Z" } : Jvm.MethodName) ({ cls := "FollowingRefs$Reader", name := "isThan", desc := "()Z" } : Jvm.MethodName)) ∈ lw_all := lw_g (lw_at lw_m6 163 rfl) rfl
theorem q1527 : (Jvm.Cond.code ({ cls := "FollowingRefs$Reader", name := "isThan", desc := "()Z" } : Jvm.MethodName) prog_16_method_9_code (1 : Nat) (Option.some Jvm.ClassFile.FieldType.boolean)) ∈ lw_all := lw_g (lw_at lw_m6 164 rfl) rfl
theorem q1528 : (Jvm.Cond.classLink "FollowingRefs$SchemaReader" (194 : Nat) "FollowingRefs$Check") ∈ lw_all := lw_g (lw_at lw_m6 165 rfl) rfl
theorem q1529 : (Jvm.Cond.instantiable "FollowingRefs$Check" (6 : Nat)) ∈ lw_all := lw_g (lw_at lw_m6 166 rfl) rfl
theorem q1530 : (Jvm.Cond.methodLink "FollowingRefs$SchemaReader" (196 : Nat) ({ cls := "FollowingRefs$Check", name := "<init>", desc := "(IIIIIZ)V" } : Jvm.MethodName)) ∈ lw_all := lw_g (lw_at lw_m6 167 rfl) rfl
theorem q1531 : (Jvm.Cond.instanceMethod ({ cls := "FollowingRefs$Check", name := "<init>", desc := "(IIIIIZ)V" } : Jvm.MethodName)) ∈ lw_all := lw_g (lw_at lw_m6 168 rfl) rfl
theorem q1532 : (Jvm.Cond.code ({ cls := "FollowingRefs$Check", name := "<init>", desc := "(IIIIIZ)V" } : Jvm.MethodName) prog_4_method_1_code (7 : Nat) (Option.none : Option Jvm.ClassFile.FieldType)) ∈ lw_all := lw_g (lw_at lw_m6 169 rfl) rfl
theorem q1533 : (Jvm.Cond.methodLink "FollowingRefs$Check" (3 : Nat) ({ cls := "java/lang/Object", name := "<init>", desc := "()V" } : Jvm.MethodName)) ∈ lw_all := lw_g (lw_at lw_m6 170 rfl) rfl
theorem q1534 : (Jvm.Cond.fieldLink "FollowingRefs$Check" (9 : Nat) "FollowingRefs$Check" "table" "I") ∈ lw_all := lw_g (lw_at lw_m6 171 rfl) rfl
theorem q1535 : (Jvm.Cond.fieldLinkNest "FollowingRefs$Store" (155 : Nat) "FollowingRefs$Check" "table" "I" "FollowingRefs") ∈ lw_tbl := lw_at lw_m6 172 rfl
theorem q1536 : (Jvm.Cond.fieldLink "FollowingRefs$Check" (15 : Nat) "FollowingRefs$Check" "col" "I") ∈ lw_all := lw_g (lw_at lw_m6 173 rfl) rfl
theorem q1537 : (Jvm.Cond.fieldLink "FollowingRefs$Check" (18 : Nat) "FollowingRefs$Check" "sign" "I") ∈ lw_all := lw_g (lw_at lw_m6 174 rfl) rfl
theorem q1538 : (Jvm.Cond.fieldLink "FollowingRefs$Check" (21 : Nat) "FollowingRefs$Check" "other" "I") ∈ lw_all := lw_g (lw_at lw_m6 175 rfl) rfl
theorem q1539 : (Jvm.Cond.fieldLink "FollowingRefs$Check" (24 : Nat) "FollowingRefs$Check" "number" "I") ∈ lw_all := lw_g (lw_at lw_m6 176 rfl) rfl
theorem q1540 : (Jvm.Cond.fieldLink "FollowingRefs$Check" (27 : Nat) "FollowingRefs$Check" "late" "Z") ∈ lw_all := lw_g (lw_at lw_m6 177 rfl) rfl
theorem q1541 : (Jvm.Cond.fieldLinkNest "FollowingRefs$Store" (154 : Nat) "FollowingRefs$Check" "late" "Z" "FollowingRefs") ∈ lw_tbl := lw_at lw_m6 178 rfl
theorem q1542 : (Jvm.Cond.laysFinal "FollowingRefs$Check" "FollowingRefs$Check" "table" "I") ∈ lw_all := lw_g (lw_at lw_m6 179 rfl) rfl
theorem q1544 : (Jvm.Cond.laysFinal "FollowingRefs$Check" "FollowingRefs$Check" "col" "I") ∈ lw_all := lw_g (lw_at lw_m6 181 rfl) rfl
theorem q1546 : (Jvm.Cond.laysFinal "FollowingRefs$Check" "FollowingRefs$Check" "sign" "I") ∈ lw_all := lw_g (lw_at lw_m6 183 rfl) rfl
theorem q1548 : (Jvm.Cond.laysFinal "FollowingRefs$Check" "FollowingRefs$Check" "other" "I") ∈ lw_all := lw_g (lw_at lw_m6 185 rfl) rfl
theorem q1550 : (Jvm.Cond.laysFinal "FollowingRefs$Check" "FollowingRefs$Check" "number" "I") ∈ lw_all := lw_g (lw_at lw_m6 187 rfl) rfl
theorem q1552 : (Jvm.Cond.laysFinal "FollowingRefs$Check" "FollowingRefs$Check" "late" "Z") ∈ lw_all := lw_g (lw_at lw_m6 189 rfl) rfl
theorem q1555 : (Jvm.Cond.methodLink "FollowingRefs$SchemaReader" (26 : Nat) ({ cls := "FollowingRefs$SchemaReader", name := "end", desc := "()V" } : Jvm.MethodName)) ∈ lw_all := lw_g (lw_at lw_m6 192 rfl) rfl
theorem q1556 : (Jvm.Cond.sameMethod "FollowingRefs$SchemaReader" "FollowingRefs$Reader" "end" "()V") ∈ lw_all := lw_g (lw_at lw_m6 193 rfl) rfl
theorem q1558 : (Jvm.Cond.selects "FollowingRefs$SchemaReader" ({ cls := "FollowingRefs$SchemaReader", name := "end", desc := "()V" } : Jvm.MethodName) ({ cls := "FollowingRefs$Reader", name := "end", desc := "()V" } : Jvm.MethodName)) ∈ lw_all := lw_g (lw_at lw_m6 195 rfl) rfl
theorem q1559 : (Jvm.Cond.instanceMethod ({ cls := "FollowingRefs$Reader", name := "end", desc := "()V" } : Jvm.MethodName)) ∈ lw_all := lw_g (lw_at lw_m6 196 rfl) rfl
theorem q1560 : (Jvm.Cond.code ({ cls := "FollowingRefs$Reader", name := "end", desc := "()V" } : Jvm.MethodName) prog_16_method_12_code (1 : Nat) (Option.none : Option Jvm.ClassFile.FieldType)) ∈ lw_all := lw_g (lw_at lw_m6 197 rfl) rfl
theorem q1561 : (Jvm.Cond.methodLink "FollowingRefsLaw" (41 : Nat) ({ cls := "FollowingRefs", name := "fault", desc := "()I" } : Jvm.MethodName)) ∈ lw_all := lw_g (lw_at lw_m6 198 rfl) rfl
theorem q1562 : (Jvm.Cond.instanceMethod ({ cls := "FollowingRefs", name := "fault", desc := "()I" } : Jvm.MethodName)) ∈ lw_all := lw_g (lw_at lw_m6 199 rfl) rfl
theorem q1563 : (Jvm.Cond.selects "FollowingRefs" ({ cls := "FollowingRefs", name := "fault", desc := "()I" } : Jvm.MethodName) ({ cls := "FollowingRefs", name := "fault", desc := "()I" } : Jvm.MethodName)) ∈ lw_all := lw_g (lw_at lw_m6 200 rfl) rfl
theorem q1564 : (Jvm.Cond.code ({ cls := "FollowingRefs", name := "fault", desc := "()I" } : Jvm.MethodName) prog_1_method_11_code (1 : Nat) (Option.some Jvm.ClassFile.FieldType.int)) ∈ lw_all := lw_g (lw_at lw_m6 201 rfl) rfl
theorem q1565 : (Jvm.Cond.methodLink "FollowingRefsLaw" (45 : Nat) ({ cls := "FollowingRefs", name := "statement", desc := "()I" } : Jvm.MethodName)) ∈ lw_all := lw_g (lw_at lw_m6 202 rfl) rfl
theorem q1566 : (Jvm.Cond.instanceMethod ({ cls := "FollowingRefs", name := "statement", desc := "()I" } : Jvm.MethodName)) ∈ lw_all := lw_g (lw_at lw_m6 203 rfl) rfl
theorem q1567 : (Jvm.Cond.selects "FollowingRefs" ({ cls := "FollowingRefs", name := "statement", desc := "()I" } : Jvm.MethodName) ({ cls := "FollowingRefs", name := "statement", desc := "()I" } : Jvm.MethodName)) ∈ lw_all := lw_g (lw_at lw_m6 204 rfl) rfl
theorem q1568 : (Jvm.Cond.code ({ cls := "FollowingRefs", name := "statement", desc := "()I" } : Jvm.MethodName) prog_1_method_17_code (1 : Nat) (Option.some Jvm.ClassFile.FieldType.int)) ∈ lw_all := lw_g (lw_at lw_m6 205 rfl) rfl
theorem q1569 : (Jvm.Cond.methodLink "FollowingRefs" (189 : Nat) ({ cls := "FollowingRefs", name := "states", desc := "(Z)I" } : Jvm.MethodName)) ∈ lw_all := lw_g (lw_at lw_m6 206 rfl) rfl
theorem q1571 : (Jvm.Cond.instanceMethod ({ cls := "FollowingRefs", name := "states", desc := "(Z)I" } : Jvm.MethodName)) ∈ lw_all := lw_g (lw_at lw_m6 208 rfl) rfl
theorem q1572 : (Jvm.Cond.codeWith ({ cls := "FollowingRefs", name := "states", desc := "(Z)I" } : Jvm.MethodName) prog_1_method_15_code (4 : Nat) (Option.some Jvm.ClassFile.FieldType.int) [((10 : Nat), (85 : Nat), (102 : Nat), (123 : Nat)), ((86 : Nat), (101 : Nat), (102 : Nat), (123 : Nat))]) ∈ lw_all := lw_g (lw_at lw_m6 209 rfl) rfl
theorem q1573 : (Jvm.Cond.classLink "FollowingRefs" (154 : Nat) "FollowingRefs$StatementReader") ∈ lw_all := lw_g (lw_at lw_m6 210 rfl) rfl
theorem q1574 : (Jvm.Cond.instantiable "FollowingRefs$StatementReader" (10 : Nat)) ∈ lw_all := lw_g (lw_at lw_m6 211 rfl) rfl
theorem q1575 : (Jvm.Cond.methodLink "FollowingRefs" (156 : Nat) ({ cls := "FollowingRefs$StatementReader", name := "<init>", desc := "([BILFollowingRefs$Schema;)V" } : Jvm.MethodName)) ∈ lw_all := lw_g (lw_at lw_m6 212 rfl) rfl
theorem q1576 : (Jvm.Cond.instanceMethod ({ cls := "FollowingRefs$StatementReader", name := "<init>", desc := "([BILFollowingRefs$Schema;)V" } : Jvm.MethodName)) ∈ lw_all := lw_g (lw_at lw_m6 213 rfl) rfl
theorem q1577 : (Jvm.Cond.code ({ cls := "FollowingRefs$StatementReader", name := "<init>", desc := "([BILFollowingRefs$Schema;)V" } : Jvm.MethodName) prog_24_method_1_code (4 : Nat) (Option.none : Option Jvm.ClassFile.FieldType)) ∈ lw_all := lw_g (lw_at lw_m6 214 rfl) rfl
theorem q1578 : (Jvm.Cond.methodLink "FollowingRefs$StatementReader" (1 : Nat) ({ cls := "FollowingRefs$Reader", name := "<init>", desc := "([BIILFollowingRefs$Schema;)V" } : Jvm.MethodName)) ∈ lw_all := lw_g (lw_at lw_m6 215 rfl) rfl
theorem q1579 : (Jvm.Cond.laysFinal "FollowingRefs$StatementReader" "FollowingRefs$Reader" "tape" "[B") ∈ lw_all := lw_g (lw_at lw_m6 216 rfl) rfl
theorem q1580 : (Jvm.Cond.laysFinal "FollowingRefs$StatementReader" "FollowingRefs$Reader" "size" "I") ∈ lw_all := lw_g (lw_at lw_m6 217 rfl) rfl
theorem q1581 : (Jvm.Cond.laysFinal "FollowingRefs$StatementReader" "FollowingRefs$Reader" "limit" "I") ∈ lw_all := lw_g (lw_at lw_m6 218 rfl) rfl
theorem q1582 : (Jvm.Cond.lays "FollowingRefs$StatementReader" "FollowingRefs$Reader" "to" "I") ∈ lw_all := lw_g (lw_at lw_m6 219 rfl) rfl
theorem q1583 : (Jvm.Cond.laysFinal "FollowingRefs$StatementReader" "FollowingRefs$Reader" "s" "LFollowingRefs$Schema;") ∈ lw_all := lw_g (lw_at lw_m6 220 rfl) rfl
theorem q1584 : (Jvm.Cond.lays "FollowingRefs$StatementReader" "FollowingRefs$Reader" "kind" "I") ∈ lw_all := lw_g (lw_at lw_m6 221 rfl) rfl
theorem q1585 : (Jvm.Cond.lays "FollowingRefs$StatementReader" "FollowingRefs$Reader" "from" "I") ∈ lw_all := lw_g (lw_at lw_m6 222 rfl) rfl
theorem q1586 : (Jvm.Cond.lays "FollowingRefs$StatementReader" "FollowingRefs$Reader" "number" "I") ∈ lw_all := lw_g (lw_at lw_m6 223 rfl) rfl
theorem q1587 : (Jvm.Cond.lays "FollowingRefs$StatementReader" "FollowingRefs$Reader" "sign" "I") ∈ lw_all := lw_g (lw_at lw_m6 224 rfl) rfl
theorem q1588 : (Jvm.Cond.lays "FollowingRefs$StatementReader" "FollowingRefs$Reader" "word" "Ljava/lang/String;") ∈ lw_all := lw_g (lw_at lw_m6 225 rfl) rfl
theorem q1590 : (Jvm.Cond.methodLink "FollowingRefs" (159 : Nat) ({ cls := "FollowingRefs$StatementReader", name := "read", desc := "()LFollowingRefs$Statement;" } : Jvm.MethodName)) ∈ lw_all := lw_g (lw_at lw_m6 227 rfl) rfl
theorem q1591 : (Jvm.Cond.instanceMethod ({ cls := "FollowingRefs$StatementReader", name := "read", desc := "()LFollowingRefs$Statement;" } : Jvm.MethodName)) ∈ lw_all := lw_g (lw_at lw_m6 228 rfl) rfl
theorem q1592 : (Jvm.Cond.selects "FollowingRefs$StatementReader" ({ cls := "FollowingRefs$StatementReader", name := "read", desc := "()LFollowingRefs$Statement;" } : Jvm.MethodName) ({ cls := "FollowingRefs$StatementReader", name := "read", desc := "()LFollowingRefs$Statement;" } : Jvm.MethodName)) ∈ lw_all := lw_g (lw_at lw_m6 229 rfl) rfl
theorem q1593 : (Jvm.Cond.code ({ cls := "FollowingRefs$StatementReader", name := "read", desc := "()LFollowingRefs$Statement;" } : Jvm.MethodName) prog_24_method_2_code (2 : Nat) (Option.some (Jvm.ClassFile.FieldType.object "FollowingRefs$Statement"))) ∈ lw_all := lw_g (lw_at lw_m6 230 rfl) rfl
theorem q1594 : (Jvm.Cond.methodLink "FollowingRefs$StatementReader" (7 : Nat) ({ cls := "FollowingRefs$StatementReader", name := "go", desc := "()V" } : Jvm.MethodName)) ∈ lw_all := lw_g (lw_at lw_m6 231 rfl) rfl
theorem q1595 : (Jvm.Cond.sameMethod "FollowingRefs$StatementReader" "FollowingRefs$Reader" "go" "()V") ∈ lw_all := lw_g (lw_at lw_m6 232 rfl) rfl
theorem q1596 : (Jvm.Cond.selects "FollowingRefs$StatementReader" ({ cls := "FollowingRefs$StatementReader", name := "go", desc := "()V" } : Jvm.MethodName) ({ cls := "FollowingRefs$Reader", name := "go", desc := "()V" } : Jvm.MethodName)) ∈ lw_all := lw_g (lw_at lw_m6 233 rfl) rfl
theorem q1597 : (Jvm.Cond.methodLink "FollowingRefs$StatementReader" (13 : Nat) ({ cls := "FollowingRefs$StatementReader", name := "isStatement", desc := "()Z" } : Jvm.MethodName)) ∈ lw_all := lw_g (lw_at lw_m6 234 rfl) rfl
theorem q1598 : (Jvm.Cond.sameMethod "FollowingRefs$StatementReader" "FollowingRefs$Reader" "isStatement" "()Z") ∈ lw_all := lw_g (lw_at lw_m6 235 rfl) rfl
theorem q1600 : (Jvm.Cond.selects "FollowingRefs$StatementReader" ({ cls := "FollowingRefs$StatementReader", name := "isStatement", desc := "()Z" } : Jvm.MethodName) ({ cls := "FollowingRefs$Reader", name := "isStatement", desc := "()Z" } : Jvm.MethodName)) ∈ lw_all := lw_g (lw_at lw_m6 237 rfl) rfl
theorem q1601 : (Jvm.Cond.instanceMethod ({ cls := "FollowingRefs$Reader", name := "isStatement", desc := "()Z" } : Jvm.MethodName)) ∈ lw_all := lw_g (lw_at lw_m6 238 rfl) rfl
theorem q1602 : (Jvm.Cond.code ({ cls := "FollowingRefs$Reader", name := "isStatement", desc := "()Z" } : Jvm.MethodName) prog_16_method_17_code (1 : Nat) (Option.some Jvm.ClassFile.FieldType.boolean)) ∈ lw_all := lw_g (lw_at lw_m6 239 rfl) rfl
theorem q1604 : (Jvm.Cond.methodLink "FollowingRefs$Reader" (135 : Nat) ({ cls := "FollowingRefs$Reader", name := "is", desc := "(Ljava/lang/String;)Z" } : Jvm.MethodName)) ∈ lw_all := lw_g (lw_at lw_m7 1 rfl) rfl
theorem q1607 : (Jvm.Cond.methodLink "FollowingRefs$StatementReader" (17 : Nat) ({ cls := "FollowingRefs$StatementReader", name := "need", desc := "(ZI)V" } : Jvm.MethodName)) ∈ lw_all := lw_g (lw_at lw_m7 4 rfl) rfl
theorem q1608 : (Jvm.Cond.sameMethod "FollowingRefs$StatementReader" "FollowingRefs$Reader" "need" "(ZI)V") ∈ lw_all := lw_g (lw_at lw_m7 5 rfl) rfl
theorem q1609 : (Jvm.Cond.selects "FollowingRefs$StatementReader" ({ cls := "FollowingRefs$StatementReader", name := "need", desc := "(ZI)V" } : Jvm.MethodName) ({ cls := "FollowingRefs$Reader", name := "need", desc := "(ZI)V" } : Jvm.MethodName)) ∈ lw_all := lw_g (lw_at lw_m7 6 rfl) rfl
theorem q1610 : (Jvm.Cond.methodLink "FollowingRefs$StatementReader" (21 : Nat) ({ cls := "FollowingRefs$StatementReader", name := "statement", desc := "()LFollowingRefs$Statement;" } : Jvm.MethodName)) ∈ lw_all := lw_g (lw_at lw_m7 7 rfl) rfl
theorem q1611 : (Jvm.Cond.sameMethod "FollowingRefs$StatementReader" "FollowingRefs$Reader" "statement" "()LFollowingRefs$Statement;") ∈ lw_all := lw_g (lw_at lw_m7 8 rfl) rfl
theorem q1613 : (Jvm.Cond.selects "FollowingRefs$StatementReader" ({ cls := "FollowingRefs$StatementReader", name := "statement", desc := "()LFollowingRefs$Statement;" } : Jvm.MethodName) ({ cls := "FollowingRefs$Reader", name := "statement", desc := "()LFollowingRefs$Statement;" } : Jvm.MethodName)) ∈ lw_all := lw_g (lw_at lw_m7 10 rfl) rfl
theorem q1614 : (Jvm.Cond.instanceMethod ({ cls := "FollowingRefs$Reader", name := "statement", desc := "()LFollowingRefs$Statement;" } : Jvm.MethodName)) ∈ lw_all := lw_g (lw_at lw_m7 11 rfl) rfl
theorem q1615 : (Jvm.Cond.code ({ cls := "FollowingRefs$Reader", name := "statement", desc := "()LFollowingRefs$Statement;" } : Jvm.MethodName) prog_16_method_18_code (4 : Nat) (Option.some (Jvm.ClassFile.FieldType.object "FollowingRefs$Statement"))) ∈ lw_all := lw_g (lw_at lw_m7 12 rfl) rfl
theorem q1616 : (Jvm.Cond.methodLink "FollowingRefs$Reader" (147 : Nat) ({ cls := "FollowingRefs$Reader", name := "table", desc := "()I" } : Jvm.MethodName)) ∈ lw_all := lw_g (lw_at lw_m7 13 rfl) rfl
theorem q1617 : (Jvm.Cond.classLink "FollowingRefs$Reader" (151 : Nat) "FollowingRefs$Inserts") ∈ lw_all := lw_g (lw_at lw_m7 14 rfl) rfl
theorem q1618 : (Jvm.Cond.instantiable "FollowingRefs$Inserts" (2 : Nat)) ∈ lw_all := lw_g (lw_at lw_m7 15 rfl) rfl
theorem q1619 : (Jvm.Cond.methodLink "FollowingRefs$Reader" (153 : Nat) ({ cls := "FollowingRefs$Reader", name := "cells", desc := "(I)[I" } : Jvm.MethodName)) ∈ lw_all := lw_g (lw_at lw_m7 16 rfl) rfl
theorem q1620 : (Jvm.Cond.privateMethod ({ cls := "FollowingRefs$Reader", name := "cells", desc := "(I)[I" } : Jvm.MethodName)) ∈ lw_tbl := lw_at lw_m7 17 rfl
theorem q1621 : (Jvm.Cond.instanceMethod ({ cls := "FollowingRefs$Reader", name := "cells", desc := "(I)[I" } : Jvm.MethodName)) ∈ lw_all := lw_g (lw_at lw_m7 18 rfl) rfl
theorem q1622 : (Jvm.Cond.code ({ cls := "FollowingRefs$Reader", name := "cells", desc := "(I)[I" } : Jvm.MethodName) prog_16_method_19_code (4 : Nat) (Option.some (Jvm.ClassFile.FieldType.array Jvm.ClassFile.FieldType.int))) ∈ lw_all := lw_g (lw_at lw_m7 19 rfl) rfl
theorem q1623 : (Jvm.Cond.methodLink "FollowingRefs$Reader" (173 : Nat) ({ cls := "java/util/Arrays", name := "fill", desc := "([II)V" } : Jvm.MethodName)) ∈ lw_all := lw_g (lw_at lw_m7 20 rfl) rfl
theorem q1624 : (Jvm.Cond.methodLink "FollowingRefs$Reader" (182 : Nat) ({ cls := "java/util/ArrayList", name := "size", desc := "()I" } : Jvm.MethodName)) ∈ lw_all := lw_g (lw_at lw_m7 21 rfl) rfl
theorem q1625 : (Jvm.Cond.methodLink "FollowingRefs$Reader" (184 : Nat) ({ cls := "FollowingRefs$Reader", name := "value", desc := "()I" } : Jvm.MethodName)) ∈ lw_all := lw_g (lw_at lw_m7 22 rfl) rfl
theorem q1626 : (Jvm.Cond.instanceMethod ({ cls := "FollowingRefs$Reader", name := "value", desc := "()I" } : Jvm.MethodName)) ∈ lw_all := lw_g (lw_at lw_m7 23 rfl) rfl
theorem q1627 : (Jvm.Cond.sameMethod "FollowingRefs$Reader" "FollowingRefs$Reader" "value" "()I") ∈ lw_all := lw_g (lw_at lw_m7 24 rfl) rfl
theorem q1628 : (Jvm.Cond.selects "FollowingRefs$BookReader" ({ cls := "FollowingRefs$Reader", name := "value", desc := "()I" } : Jvm.MethodName) ({ cls := "FollowingRefs$Reader", name := "value", desc := "()I" } : Jvm.MethodName)) ∈ lw_all := lw_g (lw_at lw_m7 25 rfl) rfl
theorem q1629 : (Jvm.Cond.selects "FollowingRefs$SchemaReader" ({ cls := "FollowingRefs$Reader", name := "value", desc := "()I" } : Jvm.MethodName) ({ cls := "FollowingRefs$Reader", name := "value", desc := "()I" } : Jvm.MethodName)) ∈ lw_all := lw_g (lw_at lw_m7 26 rfl) rfl
theorem q1630 : (Jvm.Cond.selects "FollowingRefs$SentenceReader" ({ cls := "FollowingRefs$Reader", name := "value", desc := "()I" } : Jvm.MethodName) ({ cls := "FollowingRefs$Reader", name := "value", desc := "()I" } : Jvm.MethodName)) ∈ lw_all := lw_g (lw_at lw_m7 27 rfl) rfl
theorem q1631 : (Jvm.Cond.selects "FollowingRefs$StatementReader" ({ cls := "FollowingRefs$Reader", name := "value", desc := "()I" } : Jvm.MethodName) ({ cls := "FollowingRefs$Reader", name := "value", desc := "()I" } : Jvm.MethodName)) ∈ lw_all := lw_g (lw_at lw_m7 28 rfl) rfl
theorem q1632 : (Jvm.Cond.code ({ cls := "FollowingRefs$Reader", name := "value", desc := "()I" } : Jvm.MethodName) prog_16_method_16_code (1 : Nat) (Option.some Jvm.ClassFile.FieldType.int)) ∈ lw_all := lw_g (lw_at lw_m7 29 rfl) rfl
theorem q1634 : (Jvm.Cond.methodLink "FollowingRefs$Reader" (139 : Nat) ({ cls := "FollowingRefs$Reader", name := "number", desc := "(II)I" } : Jvm.MethodName)) ∈ lw_all := lw_g (lw_at lw_m7 31 rfl) rfl
theorem q1635 : (Jvm.Cond.methodLink "FollowingRefs$Reader" (157 : Nat) ({ cls := "FollowingRefs$Inserts", name := "<init>", desc := "(I[I)V" } : Jvm.MethodName)) ∈ lw_all := lw_g (lw_at lw_m7 32 rfl) rfl
theorem q1636 : (Jvm.Cond.instanceMethod ({ cls := "FollowingRefs$Inserts", name := "<init>", desc := "(I[I)V" } : Jvm.MethodName)) ∈ lw_all := lw_g (lw_at lw_m7 33 rfl) rfl
theorem q1637 : (Jvm.Cond.code ({ cls := "FollowingRefs$Inserts", name := "<init>", desc := "(I[I)V" } : Jvm.MethodName) prog_10_method_1_code (3 : Nat) (Option.none : Option Jvm.ClassFile.FieldType)) ∈ lw_all := lw_g (lw_at lw_m7 34 rfl) rfl
theorem q1638 : (Jvm.Cond.methodLink "FollowingRefs$Inserts" (3 : Nat) ({ cls := "FollowingRefs$Statement", name := "<init>", desc := "(I)V" } : Jvm.MethodName)) ∈ lw_all := lw_g (lw_at lw_m7 35 rfl) rfl
theorem q1639 : (Jvm.Cond.instanceMethod ({ cls := "FollowingRefs$Statement", name := "<init>", desc := "(I)V" } : Jvm.MethodName)) ∈ lw_all := lw_g (lw_at lw_m7 36 rfl) rfl
theorem q1640 : (Jvm.Cond.code ({ cls := "FollowingRefs$Statement", name := "<init>", desc := "(I)V" } : Jvm.MethodName) prog_23_method_1_code (2 : Nat) (Option.none : Option Jvm.ClassFile.FieldType)) ∈ lw_all := lw_g (lw_at lw_m7 37 rfl) rfl
theorem q1641 : (Jvm.Cond.methodLink "FollowingRefs$Statement" (1 : Nat) ({ cls := "java/lang/Object", name := "<init>", desc := "()V" } : Jvm.MethodName)) ∈ lw_all := lw_g (lw_at lw_m7 38 rfl) rfl
theorem q1642 : (Jvm.Cond.fieldLink "FollowingRefs$Inserts" (9 : Nat) "FollowingRefs$Inserts" "cells" "[I") ∈ lw_all := lw_g (lw_at lw_m7 39 rfl) rfl
theorem q1643 : (Jvm.Cond.fieldLink "FollowingRefs$Statement" (7 : Nat) "FollowingRefs$Statement" "table" "I") ∈ lw_all := lw_g (lw_at lw_m7 40 rfl) rfl
theorem q1644 : (Jvm.Cond.fieldLink "FollowingRefs$Finds" (21 : Nat) "FollowingRefs$Finds" "table" "I") ∈ lw_all := lw_g (lw_at lw_m7 41 rfl) rfl
theorem q1645 : (Jvm.Cond.sameField "FollowingRefs$Finds" "FollowingRefs$Statement" "table" "I") ∈ lw_all := lw_g (lw_at lw_m7 42 rfl) rfl
theorem q1646 : (Jvm.Cond.fieldLink "FollowingRefs$Inserts" (38 : Nat) "FollowingRefs$Inserts" "table" "I") ∈ lw_all := lw_g (lw_at lw_m7 43 rfl) rfl
theorem q1647 : (Jvm.Cond.sameField "FollowingRefs$Inserts" "FollowingRefs$Statement" "table" "I") ∈ lw_all := lw_g (lw_at lw_m7 44 rfl) rfl
theorem q1648 : (Jvm.Cond.laysFinal "FollowingRefs$Inserts" "FollowingRefs$Inserts" "cells" "[I") ∈ lw_all := lw_g (lw_at lw_m7 45 rfl) rfl
theorem q1650 : (Jvm.Cond.laysFinal "FollowingRefs$Inserts" "FollowingRefs$Statement" "table" "I") ∈ lw_all := lw_g (lw_at lw_m7 47 rfl) rfl
theorem q1653 : (Jvm.Cond.classLink "FollowingRefs$Reader" (160 : Nat) "FollowingRefs$Deletes") ∈ lw_all := lw_g (lw_at lw_m7 50 rfl) rfl
theorem q1654 : (Jvm.Cond.instantiable "FollowingRefs$Deletes" (2 : Nat)) ∈ lw_all := lw_g (lw_at lw_m7 51 rfl) rfl
theorem q1655 : (Jvm.Cond.methodLink "FollowingRefs$Reader" (162 : Nat) ({ cls := "FollowingRefs$Reader", name := "whens", desc := "(I)Ljava/util/ArrayList;" } : Jvm.MethodName)) ∈ lw_all := lw_g (lw_at lw_m7 52 rfl) rfl
theorem q1656 : (Jvm.Cond.privateMethod ({ cls := "FollowingRefs$Reader", name := "whens", desc := "(I)Ljava/util/ArrayList;" } : Jvm.MethodName)) ∈ lw_tbl := lw_at lw_m7 53 rfl
theorem q1657 : (Jvm.Cond.instanceMethod ({ cls := "FollowingRefs$Reader", name := "whens", desc := "(I)Ljava/util/ArrayList;" } : Jvm.MethodName)) ∈ lw_all := lw_g (lw_at lw_m7 54 rfl) rfl
theorem q1658 : (Jvm.Cond.code ({ cls := "FollowingRefs$Reader", name := "whens", desc := "(I)Ljava/util/ArrayList;" } : Jvm.MethodName) prog_16_method_21_code (5 : Nat) (Option.some (Jvm.ClassFile.FieldType.object "java/util/ArrayList"))) ∈ lw_all := lw_g (lw_at lw_m7 55 rfl) rfl
theorem q1659 : (Jvm.Cond.classLink "FollowingRefs$Reader" (119 : Nat) "java/util/ArrayList") ∈ lw_all := lw_g (lw_at lw_m7 56 rfl) rfl
theorem q1660 : (Jvm.Cond.methodLink "FollowingRefs$Reader" (195 : Nat) ({ cls := "java/util/ArrayList", name := "<init>", desc := "()V" } : Jvm.MethodName)) ∈ lw_all := lw_g (lw_at lw_m7 57 rfl) rfl
theorem q1662 : (Jvm.Cond.methodLink "FollowingRefs$Reader" (187 : Nat) ({ cls := "FollowingRefs$Reader", name := "col", desc := "(II)I" } : Jvm.MethodName)) ∈ lw_all := lw_g (lw_at lw_m7 59 rfl) rfl
theorem q1663 : (Jvm.Cond.methodLink "FollowingRefs$Reader" (198 : Nat) ({ cls := "FollowingRefs$Reader", name := "than", desc := "()I" } : Jvm.MethodName)) ∈ lw_all := lw_g (lw_at lw_m7 60 rfl) rfl
theorem q1664 : (Jvm.Cond.classLink "FollowingRefs$Reader" (201 : Nat) "FollowingRefs$When") ∈ lw_all := lw_g (lw_at lw_m7 61 rfl) rfl
theorem q1665 : (Jvm.Cond.instantiable "FollowingRefs$When" (3 : Nat)) ∈ lw_all := lw_g (lw_at lw_m7 62 rfl) rfl
theorem q1666 : (Jvm.Cond.methodLink "FollowingRefs$Reader" (203 : Nat) ({ cls := "FollowingRefs$When", name := "<init>", desc := "(III)V" } : Jvm.MethodName)) ∈ lw_all := lw_g (lw_at lw_m7 63 rfl) rfl
theorem q1667 : (Jvm.Cond.instanceMethod ({ cls := "FollowingRefs$When", name := "<init>", desc := "(III)V" } : Jvm.MethodName)) ∈ lw_all := lw_g (lw_at lw_m7 64 rfl) rfl
theorem q1668 : (Jvm.Cond.code ({ cls := "FollowingRefs$When", name := "<init>", desc := "(III)V" } : Jvm.MethodName) prog_33_method_1_code (4 : Nat) (Option.none : Option Jvm.ClassFile.FieldType)) ∈ lw_all := lw_g (lw_at lw_m7 65 rfl) rfl
theorem q1669 : (Jvm.Cond.methodLink "FollowingRefs$When" (3 : Nat) ({ cls := "java/lang/Object", name := "<init>", desc := "()V" } : Jvm.MethodName)) ∈ lw_all := lw_g (lw_at lw_m7 66 rfl) rfl
theorem q1670 : (Jvm.Cond.fieldLink "FollowingRefs$When" (9 : Nat) "FollowingRefs$When" "col" "I") ∈ lw_all := lw_g (lw_at lw_m7 67 rfl) rfl
theorem q1671 : (Jvm.Cond.fieldLink "FollowingRefs$When" (15 : Nat) "FollowingRefs$When" "sign" "I") ∈ lw_all := lw_g (lw_at lw_m7 68 rfl) rfl
theorem q1672 : (Jvm.Cond.fieldLink "FollowingRefs$When" (18 : Nat) "FollowingRefs$When" "value" "I") ∈ lw_all := lw_g (lw_at lw_m7 69 rfl) rfl
theorem q1673 : (Jvm.Cond.laysFinal "FollowingRefs$When" "FollowingRefs$When" "col" "I") ∈ lw_all := lw_g (lw_at lw_m7 70 rfl) rfl
theorem q1675 : (Jvm.Cond.laysFinal "FollowingRefs$When" "FollowingRefs$When" "sign" "I") ∈ lw_all := lw_g (lw_at lw_m7 72 rfl) rfl
theorem q1677 : (Jvm.Cond.laysFinal "FollowingRefs$When" "FollowingRefs$When" "value" "I") ∈ lw_all := lw_g (lw_at lw_m7 74 rfl) rfl
theorem q1680 : (Jvm.Cond.methodLink "FollowingRefs$Reader" (206 : Nat) ({ cls := "java/util/ArrayList", name := "add", desc := "(Ljava/lang/Object;)Z" } : Jvm.MethodName)) ∈ lw_all := lw_g (lw_at lw_m7 77 rfl) rfl
theorem q1682 : (Jvm.Cond.methodLink "FollowingRefs$Reader" (166 : Nat) ({ cls := "FollowingRefs$Deletes", name := "<init>", desc := "(ILjava/util/ArrayList;)V" } : Jvm.MethodName)) ∈ lw_all := lw_g (lw_at lw_m7 79 rfl) rfl
theorem q1683 : (Jvm.Cond.instanceMethod ({ cls := "FollowingRefs$Deletes", name := "<init>", desc := "(ILjava/util/ArrayList;)V" } : Jvm.MethodName)) ∈ lw_all := lw_g (lw_at lw_m7 80 rfl) rfl
theorem q1684 : (Jvm.Cond.code ({ cls := "FollowingRefs$Deletes", name := "<init>", desc := "(ILjava/util/ArrayList;)V" } : Jvm.MethodName) prog_6_method_1_code (3 : Nat) (Option.none : Option Jvm.ClassFile.FieldType)) ∈ lw_all := lw_g (lw_at lw_m7 81 rfl) rfl
theorem q1685 : (Jvm.Cond.methodLink "FollowingRefs$Deletes" (1 : Nat) ({ cls := "FollowingRefs$Finds", name := "<init>", desc := "(ILjava/util/ArrayList;)V" } : Jvm.MethodName)) ∈ lw_all := lw_g (lw_at lw_m7 82 rfl) rfl
theorem q1686 : (Jvm.Cond.instanceMethod ({ cls := "FollowingRefs$Finds", name := "<init>", desc := "(ILjava/util/ArrayList;)V" } : Jvm.MethodName)) ∈ lw_all := lw_g (lw_at lw_m7 83 rfl) rfl
theorem q1687 : (Jvm.Cond.code ({ cls := "FollowingRefs$Finds", name := "<init>", desc := "(ILjava/util/ArrayList;)V" } : Jvm.MethodName) prog_8_method_1_code (3 : Nat) (Option.none : Option Jvm.ClassFile.FieldType)) ∈ lw_all := lw_g (lw_at lw_m7 84 rfl) rfl
theorem q1688 : (Jvm.Cond.methodLink "FollowingRefs$Finds" (3 : Nat) ({ cls := "FollowingRefs$Statement", name := "<init>", desc := "(I)V" } : Jvm.MethodName)) ∈ lw_all := lw_g (lw_at lw_m7 85 rfl) rfl
theorem q1689 : (Jvm.Cond.fieldLink "FollowingRefs$Finds" (9 : Nat) "FollowingRefs$Finds" "whens" "Ljava/util/ArrayList;") ∈ lw_all := lw_g (lw_at lw_m7 86 rfl) rfl
theorem q1690 : (Jvm.Cond.laysFinal "FollowingRefs$Deletes" "FollowingRefs$Finds" "whens" "Ljava/util/ArrayList;") ∈ lw_all := lw_g (lw_at lw_m7 87 rfl) rfl
theorem q1692 : (Jvm.Cond.laysFinal "FollowingRefs$Deletes" "FollowingRefs$Statement" "table" "I") ∈ lw_all := lw_g (lw_at lw_m7 89 rfl) rfl
theorem q1694 : (Jvm.Cond.methodLink "FollowingRefs$Reader" (169 : Nat) ({ cls := "FollowingRefs$Reader", name := "sets", desc := "(I)LFollowingRefs$Statement;" } : Jvm.MethodName)) ∈ lw_all := lw_g (lw_at lw_m7 91 rfl) rfl
theorem q1695 : (Jvm.Cond.privateMethod ({ cls := "FollowingRefs$Reader", name := "sets", desc := "(I)LFollowingRefs$Statement;" } : Jvm.MethodName)) ∈ lw_tbl := lw_at lw_m7 92 rfl
theorem q1696 : (Jvm.Cond.instanceMethod ({ cls := "FollowingRefs$Reader", name := "sets", desc := "(I)LFollowingRefs$Statement;" } : Jvm.MethodName)) ∈ lw_all := lw_g (lw_at lw_m7 93 rfl) rfl
theorem q1697 : (Jvm.Cond.code ({ cls := "FollowingRefs$Reader", name := "sets", desc := "(I)LFollowingRefs$Statement;" } : Jvm.MethodName) prog_16_method_20_code (6 : Nat) (Option.some (Jvm.ClassFile.FieldType.object "FollowingRefs$Statement"))) ∈ lw_all := lw_g (lw_at lw_m7 94 rfl) rfl
theorem q1698 : (Jvm.Cond.classLink "FollowingRefs$Reader" (190 : Nat) "FollowingRefs$Sets") ∈ lw_all := lw_g (lw_at lw_m7 95 rfl) rfl
theorem q1699 : (Jvm.Cond.instantiable "FollowingRefs$Sets" (4 : Nat)) ∈ lw_all := lw_g (lw_at lw_m7 96 rfl) rfl
theorem q1700 : (Jvm.Cond.methodLink "FollowingRefs$Reader" (192 : Nat) ({ cls := "FollowingRefs$Sets", name := "<init>", desc := "(I[I[ILjava/util/ArrayList;)V" } : Jvm.MethodName)) ∈ lw_all := lw_g (lw_at lw_m7 97 rfl) rfl
theorem q1701 : (Jvm.Cond.instanceMethod ({ cls := "FollowingRefs$Sets", name := "<init>", desc := "(I[I[ILjava/util/ArrayList;)V" } : Jvm.MethodName)) ∈ lw_all := lw_g (lw_at lw_m7 98 rfl) rfl
theorem q1702 : (Jvm.Cond.code ({ cls := "FollowingRefs$Sets", name := "<init>", desc := "(I[I[ILjava/util/ArrayList;)V" } : Jvm.MethodName) prog_22_method_1_code (5 : Nat) (Option.none : Option Jvm.ClassFile.FieldType)) ∈ lw_all := lw_g (lw_at lw_m7 99 rfl) rfl
theorem q1703 : (Jvm.Cond.methodLink "FollowingRefs$Sets" (1 : Nat) ({ cls := "FollowingRefs$Finds", name := "<init>", desc := "(ILjava/util/ArrayList;)V" } : Jvm.MethodName)) ∈ lw_all := lw_g (lw_at lw_m7 100 rfl) rfl
theorem q1704 : (Jvm.Cond.fieldLink "FollowingRefs$Sets" (7 : Nat) "FollowingRefs$Sets" "cols" "[I") ∈ lw_all := lw_g (lw_at lw_m7 101 rfl) rfl
theorem q1705 : (Jvm.Cond.fieldLink "FollowingRefs$Sets" (13 : Nat) "FollowingRefs$Sets" "values" "[I") ∈ lw_all := lw_g (lw_at lw_m7 102 rfl) rfl
theorem q1706 : (Jvm.Cond.laysFinal "FollowingRefs$Sets" "FollowingRefs$Sets" "cols" "[I") ∈ lw_all := lw_g (lw_at lw_m7 103 rfl) rfl
theorem q1708 : (Jvm.Cond.laysFinal "FollowingRefs$Sets" "FollowingRefs$Sets" "values" "[I") ∈ lw_all := lw_g (lw_at lw_m7 105 rfl) rfl
theorem q1710 : (Jvm.Cond.laysFinal "FollowingRefs$Sets" "FollowingRefs$Finds" "whens" "Ljava/util/ArrayList;") ∈ lw_all := lw_g (lw_at lw_m7 107 rfl) rfl
theorem q1711 : (Jvm.Cond.laysFinal "FollowingRefs$Sets" "FollowingRefs$Statement" "table" "I") ∈ lw_all := lw_g (lw_at lw_m7 108 rfl) rfl
theorem q1713 : (Jvm.Cond.methodLink "FollowingRefs" (150 : Nat) ({ cls := "FollowingRefs$Store", name := "as", desc := "(LFollowingRefs$Store;)LFollowingRefs$Store;" } : Jvm.MethodName)) ∈ lw_all := lw_g (lw_at lw_m7 110 rfl) rfl
theorem q1714 : (Jvm.Cond.instanceMethod ({ cls := "FollowingRefs$Store", name := "as", desc := "(LFollowingRefs$Store;)LFollowingRefs$Store;" } : Jvm.MethodName)) ∈ lw_all := lw_g (lw_at lw_m7 111 rfl) rfl
theorem q1715 : (Jvm.Cond.selects "FollowingRefs$Store" ({ cls := "FollowingRefs$Store", name := "as", desc := "(LFollowingRefs$Store;)LFollowingRefs$Store;" } : Jvm.MethodName) ({ cls := "FollowingRefs$Store", name := "as", desc := "(LFollowingRefs$Store;)LFollowingRefs$Store;" } : Jvm.MethodName)) ∈ lw_all := lw_g (lw_at lw_m7 112 rfl) rfl
theorem q1716 : (Jvm.Cond.code ({ cls := "FollowingRefs$Store", name := "as", desc := "(LFollowingRefs$Store;)LFollowingRefs$Store;" } : Jvm.MethodName) prog_26_method_3_code (2 : Nat) (Option.some (Jvm.ClassFile.FieldType.object "FollowingRefs$Store"))) ∈ lw_all := lw_g (lw_at lw_m7 113 rfl) rfl
theorem q1717 : (Jvm.Cond.methodLink "FollowingRefs$Store" (48 : Nat) ({ cls := "FollowingRefs$Store", name := "copy", desc := "(Ljava/util/ArrayList;Ljava/util/ArrayList;)V" } : Jvm.MethodName)) ∈ lw_all := lw_g (lw_at lw_m7 114 rfl) rfl
theorem q1718 : (Jvm.Cond.static ({ cls := "FollowingRefs$Store", name := "copy", desc := "(Ljava/util/ArrayList;Ljava/util/ArrayList;)V" } : Jvm.MethodName)) ∈ lw_all := lw_g (lw_at lw_m7 115 rfl) rfl
theorem q1719 : (Jvm.Cond.code ({ cls := "FollowingRefs$Store", name := "copy", desc := "(Ljava/util/ArrayList;Ljava/util/ArrayList;)V" } : Jvm.MethodName) prog_26_method_4_code (3 : Nat) (Option.none : Option Jvm.ClassFile.FieldType)) ∈ lw_all := lw_g (lw_at lw_m7 116 rfl) rfl
theorem q1720 : (Jvm.Cond.methodLink "FollowingRefs$Store" (52 : Nat) ({ cls := "java/util/ArrayList", name := "size", desc := "()I" } : Jvm.MethodName)) ∈ lw_all := lw_g (lw_at lw_m7 117 rfl) rfl
theorem q1721 : (Jvm.Cond.methodLink "FollowingRefs$Store" (56 : Nat) ({ cls := "java/util/ArrayList", name := "get", desc := "(I)Ljava/lang/Object;" } : Jvm.MethodName)) ∈ lw_all := lw_g (lw_at lw_m7 118 rfl) rfl
theorem q1722 : (Jvm.Cond.classLink "FollowingRefs$Store" (60 : Nat) "FollowingRefs$Row") ∈ lw_all := lw_g (lw_at lw_m7 119 rfl) rfl
theorem q1723 : (Jvm.Cond.methodLink "FollowingRefs$Store" (62 : Nat) ({ cls := "java/util/ArrayList", name := "add", desc := "(Ljava/lang/Object;)Z" } : Jvm.MethodName)) ∈ lw_all := lw_g (lw_at lw_m7 120 rfl) rfl
theorem q1724 : (Jvm.Cond.methodLink "FollowingRefs" (162 : Nat) ({ cls := "FollowingRefs$Statement", name := "does", desc := "(LFollowingRefs$Store;LFollowingRefs$Plan;)LFollowingRefs$Verdict;" } : Jvm.MethodName)) ∈ lw_all := lw_g (lw_at lw_m7 121 rfl) rfl
theorem q1725 : (Jvm.Cond.instanceMethod ({ cls := "FollowingRefs$Statement", name := "does", desc := "(LFollowingRefs$Store;LFollowingRefs$Plan;)LFollowingRefs$Verdict;" } : Jvm.MethodName)) ∈ lw_all := lw_g (lw_at lw_m7 122 rfl) rfl
theorem q1727 : (Jvm.Cond.selects "FollowingRefs$Deletes" ({ cls := "FollowingRefs$Statement", name := "does", desc := "(LFollowingRefs$Store;LFollowingRefs$Plan;)LFollowingRefs$Verdict;" } : Jvm.MethodName) ({ cls := "FollowingRefs$Statement", name := "does", desc := "(LFollowingRefs$Store;LFollowingRefs$Plan;)LFollowingRefs$Verdict;" } : Jvm.MethodName)) ∈ lw_all := lw_g (lw_at lw_m7 124 rfl) rfl
theorem q1728 : (Jvm.Cond.selects "FollowingRefs$Inserts" ({ cls := "FollowingRefs$Statement", name := "does", desc := "(LFollowingRefs$Store;LFollowingRefs$Plan;)LFollowingRefs$Verdict;" } : Jvm.MethodName) ({ cls := "FollowingRefs$Statement", name := "does", desc := "(LFollowingRefs$Store;LFollowingRefs$Plan;)LFollowingRefs$Verdict;" } : Jvm.MethodName)) ∈ lw_all := lw_g (lw_at lw_m7 125 rfl) rfl
theorem q1729 : (Jvm.Cond.selects "FollowingRefs$Sets" ({ cls := "FollowingRefs$Statement", name := "does", desc := "(LFollowingRefs$Store;LFollowingRefs$Plan;)LFollowingRefs$Verdict;" } : Jvm.MethodName) ({ cls := "FollowingRefs$Statement", name := "does", desc := "(LFollowingRefs$Store;LFollowingRefs$Plan;)LFollowingRefs$Verdict;" } : Jvm.MethodName)) ∈ lw_all := lw_g (lw_at lw_m7 126 rfl) rfl
theorem q1730 : (Jvm.Cond.code ({ cls := "FollowingRefs$Statement", name := "does", desc := "(LFollowingRefs$Store;LFollowingRefs$Plan;)LFollowingRefs$Verdict;" } : Jvm.MethodName) prog_23_method_3_code (5 : Nat) (Option.some (Jvm.ClassFile.FieldType.object "FollowingRefs$Verdict"))) ∈ lw_all := lw_g (lw_at lw_m7 127 rfl) rfl
theorem q1731 : (Jvm.Cond.classLink "FollowingRefs$Statement" (13 : Nat) "FollowingRefs$Verdict") ∈ lw_all := lw_g (lw_at lw_m7 128 rfl) rfl
theorem q1732 : (Jvm.Cond.instantiable "FollowingRefs$Verdict" (6 : Nat)) ∈ lw_all := lw_g (lw_at lw_m7 129 rfl) rfl
theorem q1733 : (Jvm.Cond.methodLinkNest "FollowingRefs$Statement" (15 : Nat) ({ cls := "FollowingRefs$Verdict", name := "<init>", desc := "()V" } : Jvm.MethodName) "FollowingRefs") ∈ lw_tbl := lw_at lw_m7 130 rfl
theorem q1734 : (Jvm.Cond.instanceMethod ({ cls := "FollowingRefs$Verdict", name := "<init>", desc := "()V" } : Jvm.MethodName)) ∈ lw_all := lw_g (lw_at lw_m7 131 rfl) rfl
theorem q1735 : (Jvm.Cond.code ({ cls := "FollowingRefs$Verdict", name := "<init>", desc := "()V" } : Jvm.MethodName) prog_31_method_1_code (1 : Nat) (Option.none : Option Jvm.ClassFile.FieldType)) ∈ lw_all := lw_g (lw_at lw_m7 132 rfl) rfl
theorem q1736 : (Jvm.Cond.methodLink "FollowingRefs$Verdict" (1 : Nat) ({ cls := "java/lang/Object", name := "<init>", desc := "()V" } : Jvm.MethodName)) ∈ lw_all := lw_g (lw_at lw_m7 133 rfl) rfl
theorem q1737 : (Jvm.Cond.classLink "FollowingRefs$Verdict" (7 : Nat) "java/util/LinkedList") ∈ lw_all := lw_g (lw_at lw_m7 134 rfl) rfl
theorem q1738 : (Jvm.Cond.methodLink "FollowingRefs$Verdict" (9 : Nat) ({ cls := "java/util/LinkedList", name := "<init>", desc := "()V" } : Jvm.MethodName)) ∈ lw_all := lw_g (lw_at lw_m7 135 rfl) rfl
theorem q1739 : (Jvm.Cond.fieldLinkNest "FollowingRefs$States" (19 : Nat) "FollowingRefs$Verdict" "why" "I" "FollowingRefs") ∈ lw_tbl := lw_at lw_m7 136 rfl
theorem q1740 : (Jvm.Cond.fieldLinkNest "FollowingRefs$Inserts" (31 : Nat) "FollowingRefs$Verdict" "why" "I" "FollowingRefs") ∈ lw_tbl := lw_at lw_m7 137 rfl
theorem q1741 : (Jvm.Cond.fieldLinkNest "FollowingRefs$Statement" (42 : Nat) "FollowingRefs$Verdict" "why" "I" "FollowingRefs") ∈ lw_tbl := lw_at lw_m7 138 rfl
theorem q1742 : (Jvm.Cond.fieldLinkNest "FollowingRefs$Finds" (88 : Nat) "FollowingRefs$Verdict" "why" "I" "FollowingRefs") ∈ lw_tbl := lw_at lw_m7 139 rfl
theorem q1743 : (Jvm.Cond.fieldLinkNest "FollowingRefs" (177 : Nat) "FollowingRefs$Verdict" "why" "I" "FollowingRefs") ∈ lw_tbl := lw_at lw_m7 140 rfl
theorem q1744 : (Jvm.Cond.fieldLinkNest "FollowingRefs$Finds" (60 : Nat) "FollowingRefs$Verdict" "found" "I" "FollowingRefs") ∈ lw_tbl := lw_at lw_m7 141 rfl
theorem q1745 : (Jvm.Cond.fieldLinkNest "FollowingRefs" (193 : Nat) "FollowingRefs$Verdict" "found" "I" "FollowingRefs") ∈ lw_tbl := lw_at lw_m7 142 rfl
theorem q1746 : (Jvm.Cond.fieldLinkNest "FollowingRefs$Finds" (82 : Nat) "FollowingRefs$Verdict" "going" "I" "FollowingRefs") ∈ lw_tbl := lw_at lw_m7 143 rfl
theorem q1747 : (Jvm.Cond.fieldLinkNest "FollowingRefs" (196 : Nat) "FollowingRefs$Verdict" "going" "I" "FollowingRefs") ∈ lw_tbl := lw_at lw_m7 144 rfl
theorem q1748 : (Jvm.Cond.fieldLinkNest "FollowingRefs$Finds" (94 : Nat) "FollowingRefs$Verdict" "changed" "I" "FollowingRefs") ∈ lw_tbl := lw_at lw_m7 145 rfl
theorem q1749 : (Jvm.Cond.fieldLinkNest "FollowingRefs" (199 : Nat) "FollowingRefs$Verdict" "changed" "I" "FollowingRefs") ∈ lw_tbl := lw_at lw_m7 146 rfl
theorem q1750 : (Jvm.Cond.fieldLinkNest "FollowingRefs$Inserts" (48 : Nat) "FollowingRefs$Verdict" "touched" "I" "FollowingRefs") ∈ lw_tbl := lw_at lw_m7 147 rfl
theorem q1751 : (Jvm.Cond.fieldLinkNest "FollowingRefs$Finds" (96 : Nat) "FollowingRefs$Verdict" "touched" "I" "FollowingRefs") ∈ lw_tbl := lw_at lw_m7 148 rfl
theorem q1752 : (Jvm.Cond.fieldLinkNest "FollowingRefs" (183 : Nat) "FollowingRefs$Verdict" "touched" "I" "FollowingRefs") ∈ lw_tbl := lw_at lw_m7 149 rfl
theorem q1753 : (Jvm.Cond.fieldLink "FollowingRefs$Verdict" (10 : Nat) "FollowingRefs$Verdict" "violations" "Ljava/util/LinkedList;") ∈ lw_all := lw_g (lw_at lw_m7 150 rfl) rfl
theorem q1754 : (Jvm.Cond.fieldLinkNest "FollowingRefs$Statement" (53 : Nat) "FollowingRefs$Verdict" "violations" "Ljava/util/LinkedList;" "FollowingRefs") ∈ lw_tbl := lw_at lw_m7 151 rfl
theorem q1755 : (Jvm.Cond.fieldLinkNest "FollowingRefs" (172 : Nat) "FollowingRefs$Verdict" "violations" "Ljava/util/LinkedList;" "FollowingRefs") ∈ lw_tbl := lw_at lw_m7 152 rfl
theorem q1756 : (Jvm.Cond.lays "FollowingRefs$Verdict" "FollowingRefs$Verdict" "why" "I") ∈ lw_all := lw_g (lw_at lw_m7 153 rfl) rfl
theorem q1758 : (Jvm.Cond.lays "FollowingRefs$Verdict" "FollowingRefs$Verdict" "found" "I") ∈ lw_all := lw_g (lw_at lw_m7 155 rfl) rfl
theorem q1760 : (Jvm.Cond.lays "FollowingRefs$Verdict" "FollowingRefs$Verdict" "going" "I") ∈ lw_all := lw_g (lw_at lw_m7 157 rfl) rfl
theorem q1762 : (Jvm.Cond.lays "FollowingRefs$Verdict" "FollowingRefs$Verdict" "changed" "I") ∈ lw_all := lw_g (lw_at lw_m7 159 rfl) rfl
theorem q1764 : (Jvm.Cond.lays "FollowingRefs$Verdict" "FollowingRefs$Verdict" "touched" "I") ∈ lw_all := lw_g (lw_at lw_m7 161 rfl) rfl
theorem q1766 : (Jvm.Cond.lays "FollowingRefs$Verdict" "FollowingRefs$Verdict" "violations" "Ljava/util/LinkedList;") ∈ lw_all := lw_g (lw_at lw_m7 163 rfl) rfl
theorem q1769 : (Jvm.Cond.methodLinkNest "FollowingRefs$Statement" (25 : Nat) ({ cls := "FollowingRefs$Store", name := "copy", desc := "(Ljava/util/ArrayList;Ljava/util/ArrayList;)V" } : Jvm.MethodName) "FollowingRefs") ∈ lw_tbl := lw_at lw_m7 166 rfl
theorem q1770 : (Jvm.Cond.methodLink "FollowingRefs$Statement" (32 : Nat) ({ cls := "FollowingRefs$Plan", name := "begin", desc := "(LFollowingRefs$Store;)LFollowingRefs$Plan;" } : Jvm.MethodName)) ∈ lw_all := lw_g (lw_at lw_m7 167 rfl) rfl
theorem q1771 : (Jvm.Cond.methodLink "FollowingRefs$Statement" (38 : Nat) ({ cls := "FollowingRefs$Statement", name := "lays", desc := "(LFollowingRefs$Plan;LFollowingRefs$Verdict;LFollowingRefs$Store;)V" } : Jvm.MethodName)) ∈ lw_all := lw_g (lw_at lw_m7 168 rfl) rfl
theorem q1772 : (Jvm.Cond.declares ({ cls := "FollowingRefs$Statement", name := "lays", desc := "(LFollowingRefs$Plan;LFollowingRefs$Verdict;LFollowingRefs$Store;)V" } : Jvm.MethodName)) ∈ lw_tbl := lw_at lw_m7 169 rfl
theorem q1773 : (Jvm.Cond.sameMethod "FollowingRefs$Statement" "FollowingRefs$Statement" "lays" "(LFollowingRefs$Plan;LFollowingRefs$Verdict;LFollowingRefs$Store;)V") ∈ lw_all := lw_g (lw_at lw_m7 170 rfl) rfl
theorem q1774 : (Jvm.Cond.selects "FollowingRefs$Deletes" ({ cls := "FollowingRefs$Statement", name := "lays", desc := "(LFollowingRefs$Plan;LFollowingRefs$Verdict;LFollowingRefs$Store;)V" } : Jvm.MethodName) ({ cls := "FollowingRefs$Finds", name := "lays", desc := "(LFollowingRefs$Plan;LFollowingRefs$Verdict;LFollowingRefs$Store;)V" } : Jvm.MethodName)) ∈ lw_all := lw_g (lw_at lw_m7 171 rfl) rfl
theorem q1775 : (Jvm.Cond.instanceMethod ({ cls := "FollowingRefs$Finds", name := "lays", desc := "(LFollowingRefs$Plan;LFollowingRefs$Verdict;LFollowingRefs$Store;)V" } : Jvm.MethodName)) ∈ lw_all := lw_g (lw_at lw_m7 172 rfl) rfl
theorem q1776 : (Jvm.Cond.code ({ cls := "FollowingRefs$Finds", name := "lays", desc := "(LFollowingRefs$Plan;LFollowingRefs$Verdict;LFollowingRefs$Store;)V" } : Jvm.MethodName) prog_8_method_5_code (5 : Nat) (Option.none : Option Jvm.ClassFile.FieldType)) ∈ lw_all := lw_g (lw_at lw_m7 173 rfl) rfl
theorem q1777 : (Jvm.Cond.methodLink "FollowingRefs$Finds" (55 : Nat) ({ cls := "FollowingRefs$Finds", name := "found", desc := "(LFollowingRefs$Store;)Ljava/util/ArrayDeque;" } : Jvm.MethodName)) ∈ lw_all := lw_g (lw_at lw_m7 174 rfl) rfl
theorem q1778 : (Jvm.Cond.instanceMethod ({ cls := "FollowingRefs$Finds", name := "found", desc := "(LFollowingRefs$Store;)Ljava/util/ArrayDeque;" } : Jvm.MethodName)) ∈ lw_all := lw_g (lw_at lw_m7 175 rfl) rfl
theorem q1779 : (Jvm.Cond.sameMethod "FollowingRefs$Finds" "FollowingRefs$Finds" "found" "(LFollowingRefs$Store;)Ljava/util/ArrayDeque;") ∈ lw_all := lw_g (lw_at lw_m7 176 rfl) rfl
theorem q1780 : (Jvm.Cond.selects "FollowingRefs$Deletes" ({ cls := "FollowingRefs$Finds", name := "found", desc := "(LFollowingRefs$Store;)Ljava/util/ArrayDeque;" } : Jvm.MethodName) ({ cls := "FollowingRefs$Finds", name := "found", desc := "(LFollowingRefs$Store;)Ljava/util/ArrayDeque;" } : Jvm.MethodName)) ∈ lw_all := lw_g (lw_at lw_m7 177 rfl) rfl
theorem q1781 : (Jvm.Cond.selects "FollowingRefs$Sets" ({ cls := "FollowingRefs$Finds", name := "found", desc := "(LFollowingRefs$Store;)Ljava/util/ArrayDeque;" } : Jvm.MethodName) ({ cls := "FollowingRefs$Finds", name := "found", desc := "(LFollowingRefs$Store;)Ljava/util/ArrayDeque;" } : Jvm.MethodName)) ∈ lw_all := lw_g (lw_at lw_m7 178 rfl) rfl
theorem q1782 : (Jvm.Cond.code ({ cls := "FollowingRefs$Finds", name := "found", desc := "(LFollowingRefs$Store;)Ljava/util/ArrayDeque;" } : Jvm.MethodName) prog_8_method_3_code (4 : Nat) (Option.some (Jvm.ClassFile.FieldType.object "java/util/ArrayDeque"))) ∈ lw_all := lw_g (lw_at lw_m7 179 rfl) rfl
theorem q1783 : (Jvm.Cond.classLink "FollowingRefs$Finds" (38 : Nat) "java/util/ArrayDeque") ∈ lw_all := lw_g (lw_at lw_m7 180 rfl) rfl
theorem q1784 : (Jvm.Cond.instantiable "java/util/ArrayDeque" (3 : Nat)) ∈ lw_all := lw_g (lw_at lw_m7 181 rfl) rfl
theorem q1785 : (Jvm.Cond.methodLink "FollowingRefs$Finds" (40 : Nat) ({ cls := "java/util/ArrayDeque", name := "<init>", desc := "()V" } : Jvm.MethodName)) ∈ lw_all := lw_g (lw_at lw_m7 182 rfl) rfl
theorem q1786 : (Jvm.Cond.instanceMethod ({ cls := "java/util/ArrayDeque", name := "<init>", desc := "()V" } : Jvm.MethodName)) ∈ lw_all := lw_g (lw_at lw_m7 183 rfl) rfl
theorem q1787 : (Jvm.Cond.code ({ cls := "java/util/ArrayDeque", name := "<init>", desc := "()V" } : Jvm.MethodName) prog_64_method_3_code (1 : Nat) (Option.none : Option Jvm.ClassFile.FieldType)) ∈ lw_all := lw_g (lw_at lw_m7 184 rfl) rfl
theorem q1788 : (Jvm.Cond.methodLink "java/util/ArrayDeque" (42 : Nat) ({ cls := "java/util/AbstractCollection", name := "<init>", desc := "()V" } : Jvm.MethodName)) ∈ lw_all := lw_g (lw_at lw_m7 185 rfl) rfl
theorem q1789 : (Jvm.Cond.classLink "java/util/ArrayDeque" (47 : Nat) "java/lang/Object") ∈ lw_all := lw_g (lw_at lw_m7 186 rfl) rfl
theorem q1790 : (Jvm.Cond.fieldLink "java/util/ArrayDeque" (3 : Nat) "java/util/ArrayDeque" "elements" "[Ljava/lang/Object;") ∈ lw_all := lw_g (lw_at lw_m7 187 rfl) rfl
theorem q1791 : (Jvm.Cond.fieldLink "java/util/ArrayDeque$DeqIterator" (35 : Nat) "java/util/ArrayDeque" "elements" "[Ljava/lang/Object;") ∈ lw_all := lw_g (lw_at lw_m7 188 rfl) rfl
theorem q1792 : (Jvm.Cond.fieldLink "java/util/ArrayDeque$DeqIterator" (26 : Nat) "java/util/ArrayDeque" "head" "I") ∈ lw_all := lw_g (lw_at lw_m7 189 rfl) rfl
theorem q1793 : (Jvm.Cond.fieldLink "java/util/ArrayDeque" (24 : Nat) "java/util/ArrayDeque" "head" "I") ∈ lw_all := lw_g (lw_at lw_m7 190 rfl) rfl
theorem q1794 : (Jvm.Cond.fieldLink "java/util/ArrayDeque" (20 : Nat) "java/util/ArrayDeque" "tail" "I") ∈ lw_all := lw_g (lw_at lw_m7 191 rfl) rfl
theorem q1795 : (Jvm.Cond.lays "java/util/ArrayDeque" "java/util/ArrayDeque" "elements" "[Ljava/lang/Object;") ∈ lw_all := lw_g (lw_at lw_m7 192 rfl) rfl
theorem q1797 : (Jvm.Cond.lays "java/util/ArrayDeque" "java/util/ArrayDeque" "head" "I") ∈ lw_all := lw_g (lw_at lw_m7 194 rfl) rfl
theorem q1799 : (Jvm.Cond.lays "java/util/ArrayDeque" "java/util/ArrayDeque" "tail" "I") ∈ lw_all := lw_g (lw_at lw_m7 196 rfl) rfl
theorem q1802 : (Jvm.Cond.methodLink "FollowingRefs$Finds" (22 : Nat) ({ cls := "java/util/ArrayList", name := "size", desc := "()I" } : Jvm.MethodName)) ∈ lw_all := lw_g (lw_at lw_m7 199 rfl) rfl
theorem q1803 : (Jvm.Cond.methodLink "FollowingRefs$Finds" (28 : Nat) ({ cls := "java/util/ArrayList", name := "get", desc := "(I)Ljava/lang/Object;" } : Jvm.MethodName)) ∈ lw_all := lw_g (lw_at lw_m7 200 rfl) rfl
theorem q1804 : (Jvm.Cond.classLink "FollowingRefs$Finds" (16 : Nat) "FollowingRefs$Row") ∈ lw_all := lw_g (lw_at lw_m7 201 rfl) rfl
theorem q1805 : (Jvm.Cond.methodLink "FollowingRefs$Finds" (48 : Nat) ({ cls := "FollowingRefs$Finds", name := "isMeant", desc := "(LFollowingRefs$Row;)Z" } : Jvm.MethodName)) ∈ lw_all := lw_g (lw_at lw_m7 202 rfl) rfl
theorem q1806 : (Jvm.Cond.privateMethod ({ cls := "FollowingRefs$Finds", name := "isMeant", desc := "(LFollowingRefs$Row;)Z" } : Jvm.MethodName)) ∈ lw_tbl := lw_at lw_m7 203 rfl
theorem q1807 : (Jvm.Cond.instanceMethod ({ cls := "FollowingRefs$Finds", name := "isMeant", desc := "(LFollowingRefs$Row;)Z" } : Jvm.MethodName)) ∈ lw_all := lw_g (lw_at lw_m7 204 rfl) rfl
theorem q1808 : (Jvm.Cond.code ({ cls := "FollowingRefs$Finds", name := "isMeant", desc := "(LFollowingRefs$Row;)Z" } : Jvm.MethodName) prog_8_method_2_code (3 : Nat) (Option.some Jvm.ClassFile.FieldType.boolean)) ∈ lw_all := lw_g (lw_at lw_m7 205 rfl) rfl
theorem q1809 : (Jvm.Cond.classLink "FollowingRefs$Finds" (32 : Nat) "FollowingRefs$When") ∈ lw_all := lw_g (lw_at lw_m7 206 rfl) rfl
theorem q1810 : (Jvm.Cond.methodLink "FollowingRefs$Finds" (34 : Nat) ({ cls := "FollowingRefs$When", name := "holds", desc := "(LFollowingRefs$Row;)Z" } : Jvm.MethodName)) ∈ lw_all := lw_g (lw_at lw_m7 207 rfl) rfl
theorem q1811 : (Jvm.Cond.instanceMethod ({ cls := "FollowingRefs$When", name := "holds", desc := "(LFollowingRefs$Row;)Z" } : Jvm.MethodName)) ∈ lw_all := lw_g (lw_at lw_m7 208 rfl) rfl
theorem q1812 : (Jvm.Cond.selects "FollowingRefs$When" ({ cls := "FollowingRefs$When", name := "holds", desc := "(LFollowingRefs$Row;)Z" } : Jvm.MethodName) ({ cls := "FollowingRefs$When", name := "holds", desc := "(LFollowingRefs$Row;)Z" } : Jvm.MethodName)) ∈ lw_all := lw_g (lw_at lw_m7 209 rfl) rfl
theorem q1813 : (Jvm.Cond.code ({ cls := "FollowingRefs$When", name := "holds", desc := "(LFollowingRefs$Row;)Z" } : Jvm.MethodName) prog_33_method_2_code (3 : Nat) (Option.some Jvm.ClassFile.FieldType.boolean)) ∈ lw_all := lw_g (lw_at lw_m7 210 rfl) rfl
theorem q1814 : (Jvm.Cond.methodLinkNest "FollowingRefs$When" (27 : Nat) ({ cls := "FollowingRefs", name := "isSo", desc := "(III)Z" } : Jvm.MethodName) "FollowingRefs") ∈ lw_tbl := lw_at lw_m7 211 rfl
theorem q1815 : (Jvm.Cond.static ({ cls := "FollowingRefs", name := "isSo", desc := "(III)Z" } : Jvm.MethodName)) ∈ lw_all := lw_g (lw_at lw_m7 212 rfl) rfl
theorem q1816 : (Jvm.Cond.code ({ cls := "FollowingRefs", name := "isSo", desc := "(III)Z" } : Jvm.MethodName) prog_1_method_4_code (3 : Nat) (Option.some Jvm.ClassFile.FieldType.boolean)) ∈ lw_all := lw_g (lw_at lw_m7 213 rfl) rfl
theorem q1817 : (Jvm.Cond.methodLink "FollowingRefs$Finds" (51 : Nat) ({ cls := "java/util/ArrayDeque", name := "addLast", desc := "(Ljava/lang/Object;)V" } : Jvm.MethodName)) ∈ lw_all := lw_g (lw_at lw_m7 214 rfl) rfl
theorem q1818 : (Jvm.Cond.instanceMethod ({ cls := "java/util/ArrayDeque", name := "addLast", desc := "(Ljava/lang/Object;)V" } : Jvm.MethodName)) ∈ lw_all := lw_g (lw_at lw_m7 215 rfl) rfl
theorem q1819 : (Jvm.Cond.selects "java/util/ArrayDeque" ({ cls := "java/util/ArrayDeque", name := "addLast", desc := "(Ljava/lang/Object;)V" } : Jvm.MethodName) ({ cls := "java/util/ArrayDeque", name := "addLast", desc := "(Ljava/lang/Object;)V" } : Jvm.MethodName)) ∈ lw_all := lw_g (lw_at lw_m7 216 rfl) rfl
theorem q1820 : (Jvm.Cond.code ({ cls := "java/util/ArrayDeque", name := "addLast", desc := "(Ljava/lang/Object;)V" } : Jvm.MethodName) prog_64_method_13_code (3 : Nat) (Option.none : Option Jvm.ClassFile.FieldType)) ∈ lw_all := lw_g (lw_at lw_m7 217 rfl) rfl
theorem q1821 : (Jvm.Cond.methodLink "java/util/ArrayDeque" (74 : Nat) ({ cls := "java/util/ArrayDeque", name := "inc", desc := "(II)I" } : Jvm.MethodName)) ∈ lw_all := lw_g (lw_at lw_m7 218 rfl) rfl
theorem q1822 : (Jvm.Cond.static ({ cls := "java/util/ArrayDeque", name := "inc", desc := "(II)I" } : Jvm.MethodName)) ∈ lw_all := lw_g (lw_at lw_m7 219 rfl) rfl
theorem q1823 : (Jvm.Cond.code ({ cls := "java/util/ArrayDeque", name := "inc", desc := "(II)I" } : Jvm.MethodName) prog_64_method_6_code (2 : Nat) (Option.some Jvm.ClassFile.FieldType.int)) ∈ lw_all := lw_g (lw_at lw_m7 220 rfl) rfl
theorem q1824 : (Jvm.Cond.methodLink "java/util/ArrayDeque" (71 : Nat) ({ cls := "java/util/ArrayDeque", name := "grow", desc := "(I)V" } : Jvm.MethodName)) ∈ lw_all := lw_g (lw_at lw_m7 221 rfl) rfl
theorem q1826 : (Jvm.Cond.instanceMethod ({ cls := "java/util/ArrayDeque", name := "grow", desc := "(I)V" } : Jvm.MethodName)) ∈ lw_all := lw_g (lw_at lw_m7 223 rfl) rfl
theorem q1827 : (Jvm.Cond.code ({ cls := "java/util/ArrayDeque", name := "grow", desc := "(I)V" } : Jvm.MethodName) prog_64_method_1_code (9 : Nat) (Option.none : Option Jvm.ClassFile.FieldType)) ∈ lw_all := lw_g (lw_at lw_m7 224 rfl) rfl
theorem q1828 : (Jvm.Cond.constant "java/util/ArrayDeque" (9 : Nat) (2147483639 : Int32)) ∈ lw_all := lw_g (lw_at lw_m7 225 rfl) rfl
theorem q1829 : (Jvm.Cond.methodLink "java/util/ArrayDeque" (10 : Nat) ({ cls := "java/util/ArrayDeque", name := "newCapacity", desc := "(II)I" } : Jvm.MethodName)) ∈ lw_all := lw_g (lw_at lw_m7 226 rfl) rfl
theorem q1831 : (Jvm.Cond.instanceMethod ({ cls := "java/util/ArrayDeque", name := "newCapacity", desc := "(II)I" } : Jvm.MethodName)) ∈ lw_all := lw_g (lw_at lw_m7 228 rfl) rfl
theorem q1832 : (Jvm.Cond.code ({ cls := "java/util/ArrayDeque", name := "newCapacity", desc := "(II)I" } : Jvm.MethodName) prog_64_method_2_code (5 : Nat) (Option.some Jvm.ClassFile.FieldType.int)) ∈ lw_all := lw_g (lw_at lw_m7 229 rfl) rfl
theorem q1833 : (Jvm.Cond.constant "java/util/ArrayDeque" (41 : Nat) (2147483647 : Int32)) ∈ lw_all := lw_g (lw_at lw_m7 230 rfl) rfl
theorem q1834 : (Jvm.Cond.methodLink "java/util/ArrayDeque" (14 : Nat) ({ cls := "java/util/Arrays", name := "copyOf", desc := "([Ljava/lang/Object;I)[Ljava/lang/Object;" } : Jvm.MethodName)) ∈ lw_all := lw_g (lw_at lw_m7 231 rfl) rfl
theorem q1835 : (Jvm.Cond.methodLink "java/util/ArrayDeque" (27 : Nat) ({ cls := "java/lang/System", name := "arraycopy", desc := "(Ljava/lang/Object;ILjava/lang/Object;II)V" } : Jvm.MethodName)) ∈ lw_all := lw_g (lw_at lw_m7 232 rfl) rfl
theorem q1836 : (Jvm.Cond.methodLink "FollowingRefs$Finds" (59 : Nat) ({ cls := "java/util/ArrayDeque", name := "size", desc := "()I" } : Jvm.MethodName)) ∈ lw_all := lw_g (lw_at lw_m7 233 rfl) rfl
theorem q1837 : (Jvm.Cond.instanceMethod ({ cls := "java/util/ArrayDeque", name := "size", desc := "()I" } : Jvm.MethodName)) ∈ lw_all := lw_g (lw_at lw_m7 234 rfl) rfl
theorem q1838 : (Jvm.Cond.selects "java/util/ArrayDeque" ({ cls := "java/util/ArrayDeque", name := "size", desc := "()I" } : Jvm.MethodName) ({ cls := "java/util/ArrayDeque", name := "size", desc := "()I" } : Jvm.MethodName)) ∈ lw_all := lw_g (lw_at lw_m7 235 rfl) rfl
theorem q1839 : (Jvm.Cond.code ({ cls := "java/util/ArrayDeque", name := "size", desc := "()I" } : Jvm.MethodName) prog_64_method_37_code (1 : Nat) (Option.some Jvm.ClassFile.FieldType.int)) ∈ lw_all := lw_g (lw_at lw_m7 236 rfl) rfl
theorem q1840 : (Jvm.Cond.methodLink "java/util/ArrayDeque" (127 : Nat) ({ cls := "java/util/ArrayDeque", name := "sub", desc := "(III)I" } : Jvm.MethodName)) ∈ lw_all := lw_g (lw_at lw_m7 237 rfl) rfl
theorem q1841 : (Jvm.Cond.static ({ cls := "java/util/ArrayDeque", name := "sub", desc := "(III)I" } : Jvm.MethodName)) ∈ lw_all := lw_g (lw_at lw_m7 238 rfl) rfl
theorem q1842 : (Jvm.Cond.code ({ cls := "java/util/ArrayDeque", name := "sub", desc := "(III)I" } : Jvm.MethodName) prog_64_method_9_code (3 : Nat) (Option.some Jvm.ClassFile.FieldType.int)) ∈ lw_all := lw_g (lw_at lw_m7 239 rfl) rfl
theorem q1843 : (Jvm.Cond.methodLink "FollowingRefs$Finds" (64 : Nat) ({ cls := "FollowingRefs$Finds", name := "meant", desc := "(LFollowingRefs$Plan;Ljava/util/ArrayDeque;)V" } : Jvm.MethodName)) ∈ lw_all := lw_g (lw_at lw_m8 0 rfl) rfl
theorem q1844 : (Jvm.Cond.declares ({ cls := "FollowingRefs$Finds", name := "meant", desc := "(LFollowingRefs$Plan;Ljava/util/ArrayDeque;)V" } : Jvm.MethodName)) ∈ lw_tbl := lw_at lw_m8 1 rfl
theorem q1845 : (Jvm.Cond.sameMethod "FollowingRefs$Finds" "FollowingRefs$Finds" "meant" "(LFollowingRefs$Plan;Ljava/util/ArrayDeque;)V") ∈ lw_all := lw_g (lw_at lw_m8 2 rfl) rfl
theorem q1846 : (Jvm.Cond.selects "FollowingRefs$Deletes" ({ cls := "FollowingRefs$Finds", name := "meant", desc := "(LFollowingRefs$Plan;Ljava/util/ArrayDeque;)V" } : Jvm.MethodName) ({ cls := "FollowingRefs$Deletes", name := "meant", desc := "(LFollowingRefs$Plan;Ljava/util/ArrayDeque;)V" } : Jvm.MethodName)) ∈ lw_all := lw_g (lw_at lw_m8 3 rfl) rfl
theorem q1847 : (Jvm.Cond.instanceMethod ({ cls := "FollowingRefs$Deletes", name := "meant", desc := "(LFollowingRefs$Plan;Ljava/util/ArrayDeque;)V" } : Jvm.MethodName)) ∈ lw_all := lw_g (lw_at lw_m8 4 rfl) rfl
theorem q1848 : (Jvm.Cond.code ({ cls := "FollowingRefs$Deletes", name := "meant", desc := "(LFollowingRefs$Plan;Ljava/util/ArrayDeque;)V" } : Jvm.MethodName) prog_6_method_2_code (3 : Nat) (Option.none : Option Jvm.ClassFile.FieldType)) ∈ lw_all := lw_g (lw_at lw_m8 5 rfl) rfl
theorem q1849 : (Jvm.Cond.methodLink "FollowingRefs$Deletes" (7 : Nat) ({ cls := "FollowingRefs$Plan", name := "lets", desc := "(Ljava/util/ArrayDeque;)V" } : Jvm.MethodName)) ∈ lw_all := lw_g (lw_at lw_m8 6 rfl) rfl
theorem q1850 : (Jvm.Cond.instanceMethod ({ cls := "FollowingRefs$Plan", name := "lets", desc := "(Ljava/util/ArrayDeque;)V" } : Jvm.MethodName)) ∈ lw_all := lw_g (lw_at lw_m8 7 rfl) rfl
theorem q1851 : (Jvm.Cond.selects "FollowingRefs$Plan" ({ cls := "FollowingRefs$Plan", name := "lets", desc := "(Ljava/util/ArrayDeque;)V" } : Jvm.MethodName) ({ cls := "FollowingRefs$Plan", name := "lets", desc := "(Ljava/util/ArrayDeque;)V" } : Jvm.MethodName)) ∈ lw_all := lw_g (lw_at lw_m8 8 rfl) rfl
theorem q1852 : (Jvm.Cond.code ({ cls := "FollowingRefs$Plan", name := "lets", desc := "(Ljava/util/ArrayDeque;)V" } : Jvm.MethodName) prog_15_method_8_code (5 : Nat) (Option.none : Option Jvm.ClassFile.FieldType)) ∈ lw_all := lw_g (lw_at lw_m8 9 rfl) rfl
theorem q1853 : (Jvm.Cond.methodLink "FollowingRefs$Plan" (93 : Nat) ({ cls := "java/util/ArrayDeque", name := "iterator", desc := "()Ljava/util/Iterator;" } : Jvm.MethodName)) ∈ lw_all := lw_g (lw_at lw_m8 10 rfl) rfl
theorem q1854 : (Jvm.Cond.instanceMethod ({ cls := "java/util/ArrayDeque", name := "iterator", desc := "()Ljava/util/Iterator;" } : Jvm.MethodName)) ∈ lw_all := lw_g (lw_at lw_m8 11 rfl) rfl
theorem q1855 : (Jvm.Cond.selects "java/util/ArrayDeque" ({ cls := "java/util/ArrayDeque", name := "iterator", desc := "()Ljava/util/Iterator;" } : Jvm.MethodName) ({ cls := "java/util/ArrayDeque", name := "iterator", desc := "()Ljava/util/Iterator;" } : Jvm.MethodName)) ∈ lw_all := lw_g (lw_at lw_m8 12 rfl) rfl
theorem q1856 : (Jvm.Cond.code ({ cls := "java/util/ArrayDeque", name := "iterator", desc := "()Ljava/util/Iterator;" } : Jvm.MethodName) prog_64_method_39_code (1 : Nat) (Option.some (Jvm.ClassFile.FieldType.object "java/util/Iterator"))) ∈ lw_all := lw_g (lw_at lw_m8 13 rfl) rfl
theorem q1857 : (Jvm.Cond.classLink "java/util/ArrayDeque" (131 : Nat) "java/util/ArrayDeque$DeqIterator") ∈ lw_all := lw_g (lw_at lw_m8 14 rfl) rfl
theorem q1858 : (Jvm.Cond.instantiable "java/util/ArrayDeque$DeqIterator" (4 : Nat)) ∈ lw_all := lw_g (lw_at lw_m8 15 rfl) rfl
theorem q1859 : (Jvm.Cond.methodLink "java/util/ArrayDeque" (133 : Nat) ({ cls := "java/util/ArrayDeque$DeqIterator", name := "<init>", desc := "(Ljava/util/ArrayDeque;)V" } : Jvm.MethodName)) ∈ lw_all := lw_g (lw_at lw_m8 16 rfl) rfl
theorem q1860 : (Jvm.Cond.instanceMethod ({ cls := "java/util/ArrayDeque$DeqIterator", name := "<init>", desc := "(Ljava/util/ArrayDeque;)V" } : Jvm.MethodName)) ∈ lw_all := lw_g (lw_at lw_m8 17 rfl) rfl
theorem q1861 : (Jvm.Cond.code ({ cls := "java/util/ArrayDeque$DeqIterator", name := "<init>", desc := "(Ljava/util/ArrayDeque;)V" } : Jvm.MethodName) prog_65_method_1_code (2 : Nat) (Option.none : Option Jvm.ClassFile.FieldType)) ∈ lw_all := lw_g (lw_at lw_m8 18 rfl) rfl
theorem q1862 : (Jvm.Cond.methodLink "java/util/ArrayDeque$DeqIterator" (7 : Nat) ({ cls := "java/lang/Object", name := "<init>", desc := "()V" } : Jvm.MethodName)) ∈ lw_all := lw_g (lw_at lw_m8 19 rfl) rfl
theorem q1863 : (Jvm.Cond.methodLink "java/util/ArrayDeque$DeqIterator" (13 : Nat) ({ cls := "java/util/ArrayDeque", name := "size", desc := "()I" } : Jvm.MethodName)) ∈ lw_all := lw_g (lw_at lw_m8 20 rfl) rfl
theorem q1864 : (Jvm.Cond.fieldLink "java/util/ArrayDeque$DeqIterator" (29 : Nat) "java/util/ArrayDeque$DeqIterator" "cursor" "I") ∈ lw_all := lw_g (lw_at lw_m8 21 rfl) rfl
theorem q1865 : (Jvm.Cond.fieldLink "java/util/ArrayDeque$DeqIterator" (19 : Nat) "java/util/ArrayDeque$DeqIterator" "remaining" "I") ∈ lw_all := lw_g (lw_at lw_m8 22 rfl) rfl
theorem q1866 : (Jvm.Cond.fieldLink "java/util/ArrayDeque$DeqIterator" (23 : Nat) "java/util/ArrayDeque$DeqIterator" "lastRet" "I") ∈ lw_all := lw_g (lw_at lw_m8 23 rfl) rfl
theorem q1867 : (Jvm.Cond.fieldLink "java/util/ArrayDeque$DeqIterator" (1 : Nat) "java/util/ArrayDeque$DeqIterator" "this$0" "Ljava/util/ArrayDeque;") ∈ lw_all := lw_g (lw_at lw_m8 24 rfl) rfl
theorem q1868 : (Jvm.Cond.lays "java/util/ArrayDeque$DeqIterator" "java/util/ArrayDeque$DeqIterator" "cursor" "I") ∈ lw_all := lw_g (lw_at lw_m8 25 rfl) rfl
theorem q1870 : (Jvm.Cond.lays "java/util/ArrayDeque$DeqIterator" "java/util/ArrayDeque$DeqIterator" "remaining" "I") ∈ lw_all := lw_g (lw_at lw_m8 27 rfl) rfl
theorem q1872 : (Jvm.Cond.lays "java/util/ArrayDeque$DeqIterator" "java/util/ArrayDeque$DeqIterator" "lastRet" "I") ∈ lw_all := lw_g (lw_at lw_m8 29 rfl) rfl
theorem q1874 : (Jvm.Cond.laysFinal "java/util/ArrayDeque$DeqIterator" "java/util/ArrayDeque$DeqIterator" "this$0" "Ljava/util/ArrayDeque;") ∈ lw_all := lw_g (lw_at lw_m8 31 rfl) rfl
theorem q1878 : (Jvm.Cond.methodLink "FollowingRefs$Plan" (99 : Nat) ({ cls := "java/util/Iterator", name := "hasNext", desc := "()Z" } : Jvm.MethodName)) ∈ lw_all := lw_g (lw_at lw_m8 35 rfl) rfl
theorem q1879 : (Jvm.Cond.interfaceMethod "java/util/Iterator" "java/util/Iterator" "hasNext" "()Z") ∈ lw_tbl := lw_at lw_m8 36 rfl
theorem q1880 : (Jvm.Cond.declares ({ cls := "java/util/Iterator", name := "hasNext", desc := "()Z" } : Jvm.MethodName)) ∈ lw_tbl := lw_at lw_m8 37 rfl
theorem q1886 : (Jvm.Cond.code ({ cls := "java/util/AbstractList$Itr", name := "hasNext", desc := "()Z" } : Jvm.MethodName) prog_61_method_2_code (1 : Nat) (Option.some Jvm.ClassFile.FieldType.boolean)) ∈ lw_all := lw_g (lw_at lw_m8 43 rfl) rfl
theorem q1887 : (Jvm.Cond.methodLink "java/util/AbstractList$Itr" (28 : Nat) ({ cls := "java/util/AbstractList", name := "size", desc := "()I" } : Jvm.MethodName)) ∈ lw_all := lw_g (lw_at lw_m8 44 rfl) rfl
theorem q1888 : (Jvm.Cond.sameMethod "java/util/AbstractList" "java/util/AbstractCollection" "size" "()I") ∈ lw_all := lw_g (lw_at lw_m8 45 rfl) rfl
theorem q1889 : (Jvm.Cond.declares ({ cls := "java/util/AbstractCollection", name := "size", desc := "()I" } : Jvm.MethodName)) ∈ lw_tbl := lw_at lw_m8 46 rfl
theorem q1890 : (Jvm.Cond.selects "java/util/ArrayList" ({ cls := "java/util/AbstractList", name := "size", desc := "()I" } : Jvm.MethodName) ({ cls := "java/util/ArrayList", name := "size", desc := "()I" } : Jvm.MethodName)) ∈ lw_all := lw_g (lw_at lw_m8 47 rfl) rfl
theorem q1891 : (Jvm.Cond.selects "java/util/LinkedList" ({ cls := "java/util/AbstractList", name := "size", desc := "()I" } : Jvm.MethodName) ({ cls := "java/util/LinkedList", name := "size", desc := "()I" } : Jvm.MethodName)) ∈ lw_all := lw_g (lw_at lw_m8 48 rfl) rfl
theorem q1892 : (Jvm.Cond.instanceMethod ({ cls := "java/util/LinkedList", name := "size", desc := "()I" } : Jvm.MethodName)) ∈ lw_all := lw_g (lw_at lw_m8 49 rfl) rfl
theorem q1893 : (Jvm.Cond.code ({ cls := "java/util/LinkedList", name := "size", desc := "()I" } : Jvm.MethodName) prog_79_method_16_code (1 : Nat) (Option.some Jvm.ClassFile.FieldType.int)) ∈ lw_all := lw_g (lw_at lw_m8 50 rfl) rfl
theorem q1894 : (Jvm.Cond.castable "java/util/ArrayDeque$DeqIterator" "java/util/Iterator") ∈ lw_tbl := lw_at lw_m8 51 rfl
theorem q1895 : (Jvm.Cond.selects "java/util/ArrayDeque$DeqIterator" ({ cls := "java/util/Iterator", name := "hasNext", desc := "()Z" } : Jvm.MethodName) ({ cls := "java/util/ArrayDeque$DeqIterator", name := "hasNext", desc := "()Z" } : Jvm.MethodName)) ∈ lw_all := lw_g (lw_at lw_m8 52 rfl) rfl
theorem q1896 : (Jvm.Cond.unhidden "java/util/ArrayDeque$DeqIterator" "hasNext" "()Z") ∈ lw_tbl := lw_at lw_m8 53 rfl
theorem q1897 : (Jvm.Cond.instanceMethod ({ cls := "java/util/ArrayDeque$DeqIterator", name := "hasNext", desc := "()Z" } : Jvm.MethodName)) ∈ lw_all := lw_g (lw_at lw_m8 54 rfl) rfl
theorem q1898 : (Jvm.Cond.publicMethod ({ cls := "java/util/ArrayDeque$DeqIterator", name := "hasNext", desc := "()Z" } : Jvm.MethodName)) ∈ lw_tbl := lw_at lw_m8 55 rfl
theorem q1899 : (Jvm.Cond.code ({ cls := "java/util/ArrayDeque$DeqIterator", name := "hasNext", desc := "()Z" } : Jvm.MethodName) prog_65_method_2_code (1 : Nat) (Option.some Jvm.ClassFile.FieldType.boolean)) ∈ lw_all := lw_g (lw_at lw_m8 56 rfl) rfl
theorem q1900 : (Jvm.Cond.castable "java/util/ArrayList$Itr" "java/util/Iterator") ∈ lw_tbl := lw_at lw_m8 57 rfl
theorem q1901 : (Jvm.Cond.selects "java/util/ArrayList$Itr" ({ cls := "java/util/Iterator", name := "hasNext", desc := "()Z" } : Jvm.MethodName) ({ cls := "java/util/ArrayList$Itr", name := "hasNext", desc := "()Z" } : Jvm.MethodName)) ∈ lw_all := lw_g (lw_at lw_m8 58 rfl) rfl
theorem q1902 : (Jvm.Cond.unhidden "java/util/ArrayList$Itr" "hasNext" "()Z") ∈ lw_tbl := lw_at lw_m8 59 rfl
theorem q1903 : (Jvm.Cond.instanceMethod ({ cls := "java/util/ArrayList$Itr", name := "hasNext", desc := "()Z" } : Jvm.MethodName)) ∈ lw_all := lw_g (lw_at lw_m8 60 rfl) rfl
theorem q1904 : (Jvm.Cond.publicMethod ({ cls := "java/util/ArrayList$Itr", name := "hasNext", desc := "()Z" } : Jvm.MethodName)) ∈ lw_tbl := lw_at lw_m8 61 rfl
theorem q1905 : (Jvm.Cond.code ({ cls := "java/util/ArrayList$Itr", name := "hasNext", desc := "()Z" } : Jvm.MethodName) prog_67_method_2_code (1 : Nat) (Option.some Jvm.ClassFile.FieldType.boolean)) ∈ lw_all := lw_g (lw_at lw_m8 62 rfl) rfl
theorem q1906 : (Jvm.Cond.castable "java/util/ArrayList$ListItr" "java/util/Iterator") ∈ lw_tbl := lw_at lw_m8 63 rfl
theorem q1907 : (Jvm.Cond.selects "java/util/ArrayList$ListItr" ({ cls := "java/util/Iterator", name := "hasNext", desc := "()Z" } : Jvm.MethodName) ({ cls := "java/util/ArrayList$Itr", name := "hasNext", desc := "()Z" } : Jvm.MethodName)) ∈ lw_all := lw_g (lw_at lw_m8 64 rfl) rfl
theorem q1908 : (Jvm.Cond.unhidden "java/util/ArrayList$ListItr" "hasNext" "()Z") ∈ lw_tbl := lw_at lw_m8 65 rfl
theorem q1909 : (Jvm.Cond.castable "java/util/LinkedList$ListItr" "java/util/Iterator") ∈ lw_tbl := lw_at lw_m8 66 rfl
theorem q1910 : (Jvm.Cond.selects "java/util/LinkedList$ListItr" ({ cls := "java/util/Iterator", name := "hasNext", desc := "()Z" } : Jvm.MethodName) ({ cls := "java/util/LinkedList$ListItr", name := "hasNext", desc := "()Z" } : Jvm.MethodName)) ∈ lw_all := lw_g (lw_at lw_m8 67 rfl) rfl
theorem q1911 : (Jvm.Cond.unhidden "java/util/LinkedList$ListItr" "hasNext" "()Z") ∈ lw_tbl := lw_at lw_m8 68 rfl
theorem q1912 : (Jvm.Cond.instanceMethod ({ cls := "java/util/LinkedList$ListItr", name := "hasNext", desc := "()Z" } : Jvm.MethodName)) ∈ lw_all := lw_g (lw_at lw_m8 69 rfl) rfl
theorem q1913 : (Jvm.Cond.publicMethod ({ cls := "java/util/LinkedList$ListItr", name := "hasNext", desc := "()Z" } : Jvm.MethodName)) ∈ lw_tbl := lw_at lw_m8 70 rfl
theorem q1914 : (Jvm.Cond.code ({ cls := "java/util/LinkedList$ListItr", name := "hasNext", desc := "()Z" } : Jvm.MethodName) prog_80_method_2_code (1 : Nat) (Option.some Jvm.ClassFile.FieldType.boolean)) ∈ lw_all := lw_g (lw_at lw_m8 71 rfl) rfl
theorem q1916 : (Jvm.Cond.methodLink "FollowingRefs$Plan" (105 : Nat) ({ cls := "java/util/Iterator", name := "next", desc := "()Ljava/lang/Object;" } : Jvm.MethodName)) ∈ lw_all := lw_g (lw_at lw_m8 73 rfl) rfl
theorem q1917 : (Jvm.Cond.interfaceMethod "java/util/Iterator" "java/util/Iterator" "next" "()Ljava/lang/Object;") ∈ lw_tbl := lw_at lw_m8 74 rfl
theorem q1918 : (Jvm.Cond.declares ({ cls := "java/util/Iterator", name := "next", desc := "()Ljava/lang/Object;" } : Jvm.MethodName)) ∈ lw_tbl := lw_at lw_m8 75 rfl
theorem q1923 : (Jvm.Cond.codeWith ({ cls := "java/util/AbstractList$Itr", name := "next", desc := "()Ljava/lang/Object;" } : Jvm.MethodName) prog_61_method_3_code (3 : Nat) (Option.some (Jvm.ClassFile.FieldType.object "java/lang/Object")) [((4 : Nat), (31 : Nat), (32 : Nat), (39 : Nat))]) ∈ lw_all := lw_g (lw_at lw_m8 80 rfl) rfl
theorem q1928 : (Jvm.Cond.code ({ cls := "java/util/AbstractList$Itr", name := "checkForComodification", desc := "()V" } : Jvm.MethodName) prog_61_method_5_code (1 : Nat) (Option.none : Option Jvm.ClassFile.FieldType)) ∈ lw_all := lw_g (lw_at lw_m8 85 rfl) rfl
theorem q1929 : (Jvm.Cond.methodLink "java/util/AbstractList$Itr" (35 : Nat) ({ cls := "java/util/AbstractList", name := "get", desc := "(I)Ljava/lang/Object;" } : Jvm.MethodName)) ∈ lw_all := lw_g (lw_at lw_m8 86 rfl) rfl
theorem q1930 : (Jvm.Cond.declares ({ cls := "java/util/AbstractList", name := "get", desc := "(I)Ljava/lang/Object;" } : Jvm.MethodName)) ∈ lw_tbl := lw_at lw_m8 87 rfl
theorem q1931 : (Jvm.Cond.sameMethod "java/util/AbstractList" "java/util/AbstractList" "get" "(I)Ljava/lang/Object;") ∈ lw_all := lw_g (lw_at lw_m8 88 rfl) rfl
theorem q1932 : (Jvm.Cond.selects "java/util/ArrayList" ({ cls := "java/util/AbstractList", name := "get", desc := "(I)Ljava/lang/Object;" } : Jvm.MethodName) ({ cls := "java/util/ArrayList", name := "get", desc := "(I)Ljava/lang/Object;" } : Jvm.MethodName)) ∈ lw_all := lw_g (lw_at lw_m8 89 rfl) rfl
theorem q1933 : (Jvm.Cond.selects "java/util/LinkedList" ({ cls := "java/util/AbstractList", name := "get", desc := "(I)Ljava/lang/Object;" } : Jvm.MethodName) ({ cls := "java/util/LinkedList", name := "get", desc := "(I)Ljava/lang/Object;" } : Jvm.MethodName)) ∈ lw_all := lw_g (lw_at lw_m8 90 rfl) rfl
theorem q1934 : (Jvm.Cond.instanceMethod ({ cls := "java/util/LinkedList", name := "get", desc := "(I)Ljava/lang/Object;" } : Jvm.MethodName)) ∈ lw_all := lw_g (lw_at lw_m8 91 rfl) rfl
theorem q1935 : (Jvm.Cond.code ({ cls := "java/util/LinkedList", name := "get", desc := "(I)Ljava/lang/Object;" } : Jvm.MethodName) prog_79_method_22_code (2 : Nat) (Option.some (Jvm.ClassFile.FieldType.object "java/lang/Object"))) ∈ lw_all := lw_g (lw_at lw_m8 92 rfl) rfl
theorem q1936 : (Jvm.Cond.methodLink "java/util/LinkedList" (90 : Nat) ({ cls := "java/util/LinkedList", name := "checkElementIndex", desc := "(I)V" } : Jvm.MethodName)) ∈ lw_all := lw_g (lw_at lw_m8 93 rfl) rfl
theorem q1938 : (Jvm.Cond.instanceMethod ({ cls := "java/util/LinkedList", name := "checkElementIndex", desc := "(I)V" } : Jvm.MethodName)) ∈ lw_all := lw_g (lw_at lw_m8 95 rfl) rfl
theorem q1939 : (Jvm.Cond.code ({ cls := "java/util/LinkedList", name := "checkElementIndex", desc := "(I)V" } : Jvm.MethodName) prog_79_method_29_code (2 : Nat) (Option.none : Option Jvm.ClassFile.FieldType)) ∈ lw_all := lw_g (lw_at lw_m8 96 rfl) rfl
theorem q1940 : (Jvm.Cond.methodLink "java/util/LinkedList" (115 : Nat) ({ cls := "java/util/LinkedList", name := "isElementIndex", desc := "(I)Z" } : Jvm.MethodName)) ∈ lw_all := lw_g (lw_at lw_m8 97 rfl) rfl
theorem q1942 : (Jvm.Cond.instanceMethod ({ cls := "java/util/LinkedList", name := "isElementIndex", desc := "(I)Z" } : Jvm.MethodName)) ∈ lw_all := lw_g (lw_at lw_m8 99 rfl) rfl
theorem q1943 : (Jvm.Cond.code ({ cls := "java/util/LinkedList", name := "isElementIndex", desc := "(I)Z" } : Jvm.MethodName) prog_79_method_26_code (2 : Nat) (Option.some Jvm.ClassFile.FieldType.boolean)) ∈ lw_all := lw_g (lw_at lw_m8 100 rfl) rfl
theorem q1944 : (Jvm.Cond.methodLink "java/util/LinkedList" (86 : Nat) ({ cls := "java/util/LinkedList", name := "node", desc := "(I)Ljava/util/LinkedList$Node;" } : Jvm.MethodName)) ∈ lw_all := lw_g (lw_at lw_m8 101 rfl) rfl
theorem q1945 : (Jvm.Cond.instanceMethod ({ cls := "java/util/LinkedList", name := "node", desc := "(I)Ljava/util/LinkedList$Node;" } : Jvm.MethodName)) ∈ lw_all := lw_g (lw_at lw_m8 102 rfl) rfl
theorem q1946 : (Jvm.Cond.selects "java/util/LinkedList" ({ cls := "java/util/LinkedList", name := "node", desc := "(I)Ljava/util/LinkedList$Node;" } : Jvm.MethodName) ({ cls := "java/util/LinkedList", name := "node", desc := "(I)Ljava/util/LinkedList$Node;" } : Jvm.MethodName)) ∈ lw_all := lw_g (lw_at lw_m8 103 rfl) rfl
theorem q1947 : (Jvm.Cond.code ({ cls := "java/util/LinkedList", name := "node", desc := "(I)Ljava/util/LinkedList$Node;" } : Jvm.MethodName) prog_79_method_31_code (4 : Nat) (Option.some (Jvm.ClassFile.FieldType.object "java/util/LinkedList$Node"))) ∈ lw_all := lw_g (lw_at lw_m8 104 rfl) rfl
theorem q1948 : (Jvm.Cond.classLink "java/util/AbstractList$Itr" (41 : Nat) "java/util/NoSuchElementException") ∈ lw_all := lw_g (lw_at lw_m8 105 rfl) rfl
theorem q1949 : (Jvm.Cond.instantiable "java/util/NoSuchElementException" (6 : Nat)) ∈ lw_all := lw_g (lw_at lw_m8 106 rfl) rfl
theorem q1950 : (Jvm.Cond.castable "java/util/NoSuchElementException" "java/util/NoSuchElementException") ∈ lw_tbl := lw_at lw_m8 107 rfl
theorem q1951 : (Jvm.Cond.declares ({ cls := "java/lang/RuntimeException", name := "<init>", desc := "()V" } : Jvm.MethodName)) ∈ lw_tbl := lw_at lw_m8 108 rfl
theorem q1953 : (Jvm.Cond.selects "java/util/NoSuchElementException" ({ cls := "java/lang/Throwable", name := "fillInStackTrace", desc := "(I)Ljava/lang/Throwable;" } : Jvm.MethodName) ({ cls := "java/lang/Throwable", name := "fillInStackTrace", desc := "(I)Ljava/lang/Throwable;" } : Jvm.MethodName)) ∈ lw_all := lw_g (lw_at lw_m8 110 rfl) rfl
theorem q1954 : (Jvm.Cond.lays "java/util/NoSuchElementException" "java/lang/Throwable" "cause" "Ljava/lang/Throwable;") ∈ lw_all := lw_g (lw_at lw_m8 111 rfl) rfl
theorem q1955 : (Jvm.Cond.lays "java/util/NoSuchElementException" "java/lang/Throwable" "stackTrace" "[Ljava/lang/StackTraceElement;") ∈ lw_all := lw_g (lw_at lw_m8 112 rfl) rfl
theorem q1956 : (Jvm.Cond.lays "java/util/NoSuchElementException" "java/lang/Throwable" "suppressedExceptions" "Ljava/util/List;") ∈ lw_all := lw_g (lw_at lw_m8 113 rfl) rfl
theorem q1957 : (Jvm.Cond.lays "java/util/NoSuchElementException" "java/lang/Throwable" "detailMessage" "Ljava/lang/String;") ∈ lw_all := lw_g (lw_at lw_m8 114 rfl) rfl
theorem q1958 : (Jvm.Cond.lays "java/util/NoSuchElementException" "java/lang/Throwable" "backtrace" "Ljava/lang/Object;") ∈ lw_all := lw_g (lw_at lw_m8 115 rfl) rfl
theorem q1959 : (Jvm.Cond.methodLink "java/util/AbstractList$Itr" (43 : Nat) ({ cls := "java/util/NoSuchElementException", name := "<init>", desc := "(Ljava/lang/Throwable;)V" } : Jvm.MethodName)) ∈ lw_all := lw_g (lw_at lw_m8 116 rfl) rfl
theorem q1960 : (Jvm.Cond.instanceMethod ({ cls := "java/util/NoSuchElementException", name := "<init>", desc := "(Ljava/lang/Throwable;)V" } : Jvm.MethodName)) ∈ lw_all := lw_g (lw_at lw_m8 117 rfl) rfl
theorem q1961 : (Jvm.Cond.code ({ cls := "java/util/NoSuchElementException", name := "<init>", desc := "(Ljava/lang/Throwable;)V" } : Jvm.MethodName) prog_84_method_3_code (2 : Nat) (Option.none : Option Jvm.ClassFile.FieldType)) ∈ lw_all := lw_g (lw_at lw_m8 118 rfl) rfl
theorem q1962 : (Jvm.Cond.methodLink "java/util/NoSuchElementException" (10 : Nat) ({ cls := "java/lang/RuntimeException", name := "<init>", desc := "(Ljava/lang/Throwable;)V" } : Jvm.MethodName)) ∈ lw_all := lw_g (lw_at lw_m8 119 rfl) rfl
theorem q1963 : (Jvm.Cond.instanceMethod ({ cls := "java/lang/RuntimeException", name := "<init>", desc := "(Ljava/lang/Throwable;)V" } : Jvm.MethodName)) ∈ lw_all := lw_g (lw_at lw_m8 120 rfl) rfl
theorem q1964 : (Jvm.Cond.code ({ cls := "java/lang/RuntimeException", name := "<init>", desc := "(Ljava/lang/Throwable;)V" } : Jvm.MethodName) prog_50_method_4_code (2 : Nat) (Option.none : Option Jvm.ClassFile.FieldType)) ∈ lw_all := lw_g (lw_at lw_m8 121 rfl) rfl
theorem q1965 : (Jvm.Cond.methodLink "java/lang/RuntimeException" (13 : Nat) ({ cls := "java/lang/Exception", name := "<init>", desc := "(Ljava/lang/Throwable;)V" } : Jvm.MethodName)) ∈ lw_all := lw_g (lw_at lw_m8 122 rfl) rfl
theorem q1966 : (Jvm.Cond.instanceMethod ({ cls := "java/lang/Exception", name := "<init>", desc := "(Ljava/lang/Throwable;)V" } : Jvm.MethodName)) ∈ lw_all := lw_g (lw_at lw_m8 123 rfl) rfl
theorem q1967 : (Jvm.Cond.code ({ cls := "java/lang/Exception", name := "<init>", desc := "(Ljava/lang/Throwable;)V" } : Jvm.MethodName) prog_42_method_4_code (2 : Nat) (Option.none : Option Jvm.ClassFile.FieldType)) ∈ lw_all := lw_g (lw_at lw_m8 124 rfl) rfl
theorem q1968 : (Jvm.Cond.methodLink "java/lang/Exception" (13 : Nat) ({ cls := "java/lang/Throwable", name := "<init>", desc := "(Ljava/lang/Throwable;)V" } : Jvm.MethodName)) ∈ lw_all := lw_g (lw_at lw_m8 125 rfl) rfl
theorem q1969 : (Jvm.Cond.instanceMethod ({ cls := "java/lang/Throwable", name := "<init>", desc := "(Ljava/lang/Throwable;)V" } : Jvm.MethodName)) ∈ lw_all := lw_g (lw_at lw_m8 126 rfl) rfl
theorem q1970 : (Jvm.Cond.code ({ cls := "java/lang/Throwable", name := "<init>", desc := "(Ljava/lang/Throwable;)V" } : Jvm.MethodName) prog_56_method_4_code (2 : Nat) (Option.none : Option Jvm.ClassFile.FieldType)) ∈ lw_all := lw_g (lw_at lw_m8 127 rfl) rfl
theorem q1971 : (Jvm.Cond.methodLink "java/lang/Throwable" (35 : Nat) ({ cls := "java/lang/Throwable", name := "toString", desc := "()Ljava/lang/String;" } : Jvm.MethodName)) ∈ lw_all := lw_g (lw_at lw_m8 128 rfl) rfl
theorem q1972 : (Jvm.Cond.instanceMethod ({ cls := "java/lang/Throwable", name := "toString", desc := "()Ljava/lang/String;" } : Jvm.MethodName)) ∈ lw_all := lw_g (lw_at lw_m8 129 rfl) rfl
theorem q1974 : (Jvm.Cond.selects "FollowingRefs$Fault" ({ cls := "java/lang/Throwable", name := "toString", desc := "()Ljava/lang/String;" } : Jvm.MethodName) ({ cls := "java/lang/Throwable", name := "toString", desc := "()Ljava/lang/String;" } : Jvm.MethodName)) ∈ lw_all := lw_g (lw_at lw_m8 131 rfl) rfl
theorem q1975 : (Jvm.Cond.selects "java/lang/IllegalStateException" ({ cls := "java/lang/Throwable", name := "toString", desc := "()Ljava/lang/String;" } : Jvm.MethodName) ({ cls := "java/lang/Throwable", name := "toString", desc := "()Ljava/lang/String;" } : Jvm.MethodName)) ∈ lw_all := lw_g (lw_at lw_m8 132 rfl) rfl
theorem q1976 : (Jvm.Cond.selects "java/util/ConcurrentModificationException" ({ cls := "java/lang/Throwable", name := "toString", desc := "()Ljava/lang/String;" } : Jvm.MethodName) ({ cls := "java/lang/Throwable", name := "toString", desc := "()Ljava/lang/String;" } : Jvm.MethodName)) ∈ lw_all := lw_g (lw_at lw_m8 133 rfl) rfl
theorem q1977 : (Jvm.Cond.selects "java/util/NoSuchElementException" ({ cls := "java/lang/Throwable", name := "toString", desc := "()Ljava/lang/String;" } : Jvm.MethodName) ({ cls := "java/lang/Throwable", name := "toString", desc := "()Ljava/lang/String;" } : Jvm.MethodName)) ∈ lw_all := lw_g (lw_at lw_m8 134 rfl) rfl
theorem q1978 : (Jvm.Cond.code ({ cls := "java/lang/Throwable", name := "toString", desc := "()Ljava/lang/String;" } : Jvm.MethodName) prog_56_method_11_code (3 : Nat) (Option.some (Jvm.ClassFile.FieldType.object "java/lang/String"))) ∈ lw_all := lw_g (lw_at lw_m8 135 rfl) rfl
theorem q1979 : (Jvm.Cond.methodLink "java/lang/Throwable" (69 : Nat) ({ cls := "java/lang/Object", name := "getClass", desc := "()Ljava/lang/Class;" } : Jvm.MethodName)) ∈ lw_all := lw_g (lw_at lw_m8 136 rfl) rfl
theorem q1980 : (Jvm.Cond.methodLink "java/lang/Throwable" (78 : Nat) ({ cls := "java/lang/Throwable", name := "getLocalizedMessage", desc := "()Ljava/lang/String;" } : Jvm.MethodName)) ∈ lw_all := lw_g (lw_at lw_m8 137 rfl) rfl
theorem q1981 : (Jvm.Cond.instanceMethod ({ cls := "java/lang/Throwable", name := "getLocalizedMessage", desc := "()Ljava/lang/String;" } : Jvm.MethodName)) ∈ lw_all := lw_g (lw_at lw_m8 138 rfl) rfl
theorem q1983 : (Jvm.Cond.selects "FollowingRefs$Fault" ({ cls := "java/lang/Throwable", name := "getLocalizedMessage", desc := "()Ljava/lang/String;" } : Jvm.MethodName) ({ cls := "java/lang/Throwable", name := "getLocalizedMessage", desc := "()Ljava/lang/String;" } : Jvm.MethodName)) ∈ lw_all := lw_g (lw_at lw_m8 140 rfl) rfl
theorem q1984 : (Jvm.Cond.selects "java/lang/IllegalStateException" ({ cls := "java/lang/Throwable", name := "getLocalizedMessage", desc := "()Ljava/lang/String;" } : Jvm.MethodName) ({ cls := "java/lang/Throwable", name := "getLocalizedMessage", desc := "()Ljava/lang/String;" } : Jvm.MethodName)) ∈ lw_all := lw_g (lw_at lw_m8 141 rfl) rfl
theorem q1985 : (Jvm.Cond.selects "java/util/ConcurrentModificationException" ({ cls := "java/lang/Throwable", name := "getLocalizedMessage", desc := "()Ljava/lang/String;" } : Jvm.MethodName) ({ cls := "java/lang/Throwable", name := "getLocalizedMessage", desc := "()Ljava/lang/String;" } : Jvm.MethodName)) ∈ lw_all := lw_g (lw_at lw_m8 142 rfl) rfl
theorem q1986 : (Jvm.Cond.selects "java/util/NoSuchElementException" ({ cls := "java/lang/Throwable", name := "getLocalizedMessage", desc := "()Ljava/lang/String;" } : Jvm.MethodName) ({ cls := "java/lang/Throwable", name := "getLocalizedMessage", desc := "()Ljava/lang/String;" } : Jvm.MethodName)) ∈ lw_all := lw_g (lw_at lw_m8 143 rfl) rfl
theorem q1987 : (Jvm.Cond.code ({ cls := "java/lang/Throwable", name := "getLocalizedMessage", desc := "()Ljava/lang/String;" } : Jvm.MethodName) prog_56_method_7_code (1 : Nat) (Option.some (Jvm.ClassFile.FieldType.object "java/lang/String"))) ∈ lw_all := lw_g (lw_at lw_m8 144 rfl) rfl
theorem q1988 : (Jvm.Cond.methodLink "java/lang/Throwable" (39 : Nat) ({ cls := "java/lang/Throwable", name := "getMessage", desc := "()Ljava/lang/String;" } : Jvm.MethodName)) ∈ lw_all := lw_g (lw_at lw_m8 145 rfl) rfl
theorem q1989 : (Jvm.Cond.instanceMethod ({ cls := "java/lang/Throwable", name := "getMessage", desc := "()Ljava/lang/String;" } : Jvm.MethodName)) ∈ lw_all := lw_g (lw_at lw_m8 146 rfl) rfl
theorem q1991 : (Jvm.Cond.selects "FollowingRefs$Fault" ({ cls := "java/lang/Throwable", name := "getMessage", desc := "()Ljava/lang/String;" } : Jvm.MethodName) ({ cls := "java/lang/Throwable", name := "getMessage", desc := "()Ljava/lang/String;" } : Jvm.MethodName)) ∈ lw_all := lw_g (lw_at lw_m8 148 rfl) rfl
theorem q1992 : (Jvm.Cond.selects "java/lang/IllegalStateException" ({ cls := "java/lang/Throwable", name := "getMessage", desc := "()Ljava/lang/String;" } : Jvm.MethodName) ({ cls := "java/lang/Throwable", name := "getMessage", desc := "()Ljava/lang/String;" } : Jvm.MethodName)) ∈ lw_all := lw_g (lw_at lw_m8 149 rfl) rfl
theorem q1993 : (Jvm.Cond.selects "java/util/ConcurrentModificationException" ({ cls := "java/lang/Throwable", name := "getMessage", desc := "()Ljava/lang/String;" } : Jvm.MethodName) ({ cls := "java/lang/Throwable", name := "getMessage", desc := "()Ljava/lang/String;" } : Jvm.MethodName)) ∈ lw_all := lw_g (lw_at lw_m8 150 rfl) rfl
theorem q1994 : (Jvm.Cond.selects "java/util/NoSuchElementException" ({ cls := "java/lang/Throwable", name := "getMessage", desc := "()Ljava/lang/String;" } : Jvm.MethodName) ({ cls := "java/lang/Throwable", name := "getMessage", desc := "()Ljava/lang/String;" } : Jvm.MethodName)) ∈ lw_all := lw_g (lw_at lw_m8 151 rfl) rfl
theorem q1995 : (Jvm.Cond.code ({ cls := "java/lang/Throwable", name := "getMessage", desc := "()Ljava/lang/String;" } : Jvm.MethodName) prog_56_method_6_code (1 : Nat) (Option.some (Jvm.ClassFile.FieldType.object "java/lang/String"))) ∈ lw_all := lw_g (lw_at lw_m8 152 rfl) rfl
theorem q1996 : (Jvm.Cond.classLink "java/lang/Throwable" (44 : Nat) "java/lang/StringBuilder") ∈ lw_all := lw_g (lw_at lw_m8 153 rfl) rfl
theorem q1997 : (Jvm.Cond.methodLink "java/lang/Throwable" (46 : Nat) ({ cls := "java/lang/StringBuilder", name := "<init>", desc := "()V" } : Jvm.MethodName)) ∈ lw_all := lw_g (lw_at lw_m8 154 rfl) rfl
theorem q1998 : (Jvm.Cond.methodLink "java/lang/Throwable" (49 : Nat) ({ cls := "java/lang/StringBuilder", name := "append", desc := "(Ljava/lang/String;)Ljava/lang/StringBuilder;" } : Jvm.MethodName)) ∈ lw_all := lw_g (lw_at lw_m8 155 rfl) rfl
theorem q2000 : (Jvm.Cond.methodLink "java/lang/Throwable" (60 : Nat) ({ cls := "java/lang/StringBuilder", name := "toString", desc := "()Ljava/lang/String;" } : Jvm.MethodName)) ∈ lw_all := lw_g (lw_at lw_m8 157 rfl) rfl
theorem q2003 : (Jvm.Cond.selects "java/util/ArrayDeque$DeqIterator" ({ cls := "java/util/Iterator", name := "next", desc := "()Ljava/lang/Object;" } : Jvm.MethodName) ({ cls := "java/util/ArrayDeque$DeqIterator", name := "next", desc := "()Ljava/lang/Object;" } : Jvm.MethodName)) ∈ lw_all := lw_g (lw_at lw_m8 160 rfl) rfl
theorem q2004 : (Jvm.Cond.unhidden "java/util/ArrayDeque$DeqIterator" "next" "()Ljava/lang/Object;") ∈ lw_tbl := lw_at lw_m8 161 rfl
theorem q2005 : (Jvm.Cond.instanceMethod ({ cls := "java/util/ArrayDeque$DeqIterator", name := "next", desc := "()Ljava/lang/Object;" } : Jvm.MethodName)) ∈ lw_all := lw_g (lw_at lw_m8 162 rfl) rfl
theorem q2006 : (Jvm.Cond.publicMethod ({ cls := "java/util/ArrayDeque$DeqIterator", name := "next", desc := "()Ljava/lang/Object;" } : Jvm.MethodName)) ∈ lw_tbl := lw_at lw_m8 163 rfl
theorem q2007 : (Jvm.Cond.code ({ cls := "java/util/ArrayDeque$DeqIterator", name := "next", desc := "()Ljava/lang/Object;" } : Jvm.MethodName) prog_65_method_3_code (3 : Nat) (Option.some (Jvm.ClassFile.FieldType.object "java/lang/Object"))) ∈ lw_all := lw_g (lw_at lw_m8 164 rfl) rfl
theorem q2008 : (Jvm.Cond.classLink "java/util/ArrayDeque$DeqIterator" (32 : Nat) "java/util/NoSuchElementException") ∈ lw_all := lw_g (lw_at lw_m8 165 rfl) rfl
theorem q2009 : (Jvm.Cond.methodLink "java/util/ArrayDeque$DeqIterator" (34 : Nat) ({ cls := "java/util/NoSuchElementException", name := "<init>", desc := "()V" } : Jvm.MethodName)) ∈ lw_all := lw_g (lw_at lw_m8 166 rfl) rfl
theorem q2010 : (Jvm.Cond.instanceMethod ({ cls := "java/util/NoSuchElementException", name := "<init>", desc := "()V" } : Jvm.MethodName)) ∈ lw_all := lw_g (lw_at lw_m8 167 rfl) rfl
theorem q2011 : (Jvm.Cond.code ({ cls := "java/util/NoSuchElementException", name := "<init>", desc := "()V" } : Jvm.MethodName) prog_84_method_1_code (1 : Nat) (Option.none : Option Jvm.ClassFile.FieldType)) ∈ lw_all := lw_g (lw_at lw_m8 168 rfl) rfl
theorem q2012 : (Jvm.Cond.methodLink "java/util/NoSuchElementException" (1 : Nat) ({ cls := "java/lang/RuntimeException", name := "<init>", desc := "()V" } : Jvm.MethodName)) ∈ lw_all := lw_g (lw_at lw_m8 169 rfl) rfl
theorem q2013 : (Jvm.Cond.instanceMethod ({ cls := "java/lang/RuntimeException", name := "<init>", desc := "()V" } : Jvm.MethodName)) ∈ lw_all := lw_g (lw_at lw_m8 170 rfl) rfl
theorem q2014 : (Jvm.Cond.code ({ cls := "java/lang/RuntimeException", name := "<init>", desc := "()V" } : Jvm.MethodName) prog_50_method_1_code (1 : Nat) (Option.none : Option Jvm.ClassFile.FieldType)) ∈ lw_all := lw_g (lw_at lw_m8 171 rfl) rfl
theorem q2015 : (Jvm.Cond.methodLink "java/lang/RuntimeException" (1 : Nat) ({ cls := "java/lang/Exception", name := "<init>", desc := "()V" } : Jvm.MethodName)) ∈ lw_all := lw_g (lw_at lw_m8 172 rfl) rfl
theorem q2016 : (Jvm.Cond.instanceMethod ({ cls := "java/lang/Exception", name := "<init>", desc := "()V" } : Jvm.MethodName)) ∈ lw_all := lw_g (lw_at lw_m8 173 rfl) rfl
theorem q2017 : (Jvm.Cond.code ({ cls := "java/lang/Exception", name := "<init>", desc := "()V" } : Jvm.MethodName) prog_42_method_1_code (1 : Nat) (Option.none : Option Jvm.ClassFile.FieldType)) ∈ lw_all := lw_g (lw_at lw_m8 174 rfl) rfl
theorem q2018 : (Jvm.Cond.methodLink "java/lang/Exception" (1 : Nat) ({ cls := "java/lang/Throwable", name := "<init>", desc := "()V" } : Jvm.MethodName)) ∈ lw_all := lw_g (lw_at lw_m8 175 rfl) rfl
theorem q2019 : (Jvm.Cond.methodLink "java/util/ArrayDeque$DeqIterator" (39 : Nat) ({ cls := "java/util/ArrayDeque", name := "nonNullElementAt", desc := "([Ljava/lang/Object;I)Ljava/lang/Object;" } : Jvm.MethodName)) ∈ lw_all := lw_g (lw_at lw_m8 176 rfl) rfl
theorem q2020 : (Jvm.Cond.static ({ cls := "java/util/ArrayDeque", name := "nonNullElementAt", desc := "([Ljava/lang/Object;I)Ljava/lang/Object;" } : Jvm.MethodName)) ∈ lw_all := lw_g (lw_at lw_m8 177 rfl) rfl
theorem q2021 : (Jvm.Cond.code ({ cls := "java/util/ArrayDeque", name := "nonNullElementAt", desc := "([Ljava/lang/Object;I)Ljava/lang/Object;" } : Jvm.MethodName) prog_64_method_11_code (3 : Nat) (Option.some (Jvm.ClassFile.FieldType.object "java/lang/Object"))) ∈ lw_all := lw_g (lw_at lw_m8 178 rfl) rfl
theorem q2022 : (Jvm.Cond.methodLink "java/util/ArrayDeque$DeqIterator" (43 : Nat) ({ cls := "java/util/ArrayDeque", name := "inc", desc := "(II)I" } : Jvm.MethodName)) ∈ lw_all := lw_g (lw_at lw_m8 179 rfl) rfl
theorem q2023 : (Jvm.Cond.selects "java/util/ArrayList$Itr" ({ cls := "java/util/Iterator", name := "next", desc := "()Ljava/lang/Object;" } : Jvm.MethodName) ({ cls := "java/util/ArrayList$Itr", name := "next", desc := "()Ljava/lang/Object;" } : Jvm.MethodName)) ∈ lw_all := lw_g (lw_at lw_m8 180 rfl) rfl
theorem q2024 : (Jvm.Cond.unhidden "java/util/ArrayList$Itr" "next" "()Ljava/lang/Object;") ∈ lw_tbl := lw_at lw_m8 181 rfl
theorem q2025 : (Jvm.Cond.instanceMethod ({ cls := "java/util/ArrayList$Itr", name := "next", desc := "()Ljava/lang/Object;" } : Jvm.MethodName)) ∈ lw_all := lw_g (lw_at lw_m8 182 rfl) rfl
theorem q2026 : (Jvm.Cond.publicMethod ({ cls := "java/util/ArrayList$Itr", name := "next", desc := "()Ljava/lang/Object;" } : Jvm.MethodName)) ∈ lw_tbl := lw_at lw_m8 183 rfl
theorem q2027 : (Jvm.Cond.code ({ cls := "java/util/ArrayList$Itr", name := "next", desc := "()Ljava/lang/Object;" } : Jvm.MethodName) prog_67_method_3_code (3 : Nat) (Option.some (Jvm.ClassFile.FieldType.object "java/lang/Object"))) ∈ lw_all := lw_g (lw_at lw_m8 184 rfl) rfl
theorem q2028 : (Jvm.Cond.methodLink "java/util/ArrayList$Itr" (31 : Nat) ({ cls := "java/util/ArrayList$Itr", name := "checkForComodification", desc := "()V" } : Jvm.MethodName)) ∈ lw_all := lw_g (lw_at lw_m8 185 rfl) rfl
theorem q2029 : (Jvm.Cond.instanceMethod ({ cls := "java/util/ArrayList$Itr", name := "checkForComodification", desc := "()V" } : Jvm.MethodName)) ∈ lw_all := lw_g (lw_at lw_m8 186 rfl) rfl
theorem q2030 : (Jvm.Cond.selects "java/util/ArrayList$Itr" ({ cls := "java/util/ArrayList$Itr", name := "checkForComodification", desc := "()V" } : Jvm.MethodName) ({ cls := "java/util/ArrayList$Itr", name := "checkForComodification", desc := "()V" } : Jvm.MethodName)) ∈ lw_all := lw_g (lw_at lw_m8 187 rfl) rfl
theorem q2032 : (Jvm.Cond.selects "java/util/ArrayList$ListItr" ({ cls := "java/util/ArrayList$Itr", name := "checkForComodification", desc := "()V" } : Jvm.MethodName) ({ cls := "java/util/ArrayList$Itr", name := "checkForComodification", desc := "()V" } : Jvm.MethodName)) ∈ lw_all := lw_g (lw_at lw_m8 189 rfl) rfl
theorem q2033 : (Jvm.Cond.code ({ cls := "java/util/ArrayList$Itr", name := "checkForComodification", desc := "()V" } : Jvm.MethodName) prog_67_method_6_code (1 : Nat) (Option.none : Option Jvm.ClassFile.FieldType)) ∈ lw_all := lw_g (lw_at lw_m8 190 rfl) rfl
theorem q2034 : (Jvm.Cond.classLink "java/util/ArrayList$Itr" (34 : Nat) "java/util/NoSuchElementException") ∈ lw_all := lw_g (lw_at lw_m8 191 rfl) rfl
theorem q2035 : (Jvm.Cond.methodLink "java/util/ArrayList$Itr" (36 : Nat) ({ cls := "java/util/NoSuchElementException", name := "<init>", desc := "()V" } : Jvm.MethodName)) ∈ lw_all := lw_g (lw_at lw_m8 192 rfl) rfl
theorem q2036 : (Jvm.Cond.selects "java/util/ArrayList$ListItr" ({ cls := "java/util/Iterator", name := "next", desc := "()Ljava/lang/Object;" } : Jvm.MethodName) ({ cls := "java/util/ArrayList$Itr", name := "next", desc := "()Ljava/lang/Object;" } : Jvm.MethodName)) ∈ lw_all := lw_g (lw_at lw_m8 193 rfl) rfl
theorem q2037 : (Jvm.Cond.unhidden "java/util/ArrayList$ListItr" "next" "()Ljava/lang/Object;") ∈ lw_tbl := lw_at lw_m8 194 rfl
theorem q2038 : (Jvm.Cond.selects "java/util/LinkedList$ListItr" ({ cls := "java/util/Iterator", name := "next", desc := "()Ljava/lang/Object;" } : Jvm.MethodName) ({ cls := "java/util/LinkedList$ListItr", name := "next", desc := "()Ljava/lang/Object;" } : Jvm.MethodName)) ∈ lw_all := lw_g (lw_at lw_m8 195 rfl) rfl
theorem q2039 : (Jvm.Cond.unhidden "java/util/LinkedList$ListItr" "next" "()Ljava/lang/Object;") ∈ lw_tbl := lw_at lw_m8 196 rfl
theorem q2040 : (Jvm.Cond.instanceMethod ({ cls := "java/util/LinkedList$ListItr", name := "next", desc := "()Ljava/lang/Object;" } : Jvm.MethodName)) ∈ lw_all := lw_g (lw_at lw_m8 197 rfl) rfl
theorem q2041 : (Jvm.Cond.publicMethod ({ cls := "java/util/LinkedList$ListItr", name := "next", desc := "()Ljava/lang/Object;" } : Jvm.MethodName)) ∈ lw_tbl := lw_at lw_m8 198 rfl
theorem q2042 : (Jvm.Cond.code ({ cls := "java/util/LinkedList$ListItr", name := "next", desc := "()Ljava/lang/Object;" } : Jvm.MethodName) prog_80_method_3_code (1 : Nat) (Option.some (Jvm.ClassFile.FieldType.object "java/lang/Object"))) ∈ lw_all := lw_g (lw_at lw_m8 199 rfl) rfl
theorem q2043 : (Jvm.Cond.methodLink "java/util/LinkedList$ListItr" (36 : Nat) ({ cls := "java/util/LinkedList$ListItr", name := "checkForComodification", desc := "()V" } : Jvm.MethodName)) ∈ lw_all := lw_g (lw_at lw_m8 200 rfl) rfl
theorem q2044 : (Jvm.Cond.instanceMethod ({ cls := "java/util/LinkedList$ListItr", name := "checkForComodification", desc := "()V" } : Jvm.MethodName)) ∈ lw_all := lw_g (lw_at lw_m8 201 rfl) rfl
theorem q2045 : (Jvm.Cond.selects "java/util/LinkedList$ListItr" ({ cls := "java/util/LinkedList$ListItr", name := "checkForComodification", desc := "()V" } : Jvm.MethodName) ({ cls := "java/util/LinkedList$ListItr", name := "checkForComodification", desc := "()V" } : Jvm.MethodName)) ∈ lw_all := lw_g (lw_at lw_m8 202 rfl) rfl
theorem q2046 : (Jvm.Cond.code ({ cls := "java/util/LinkedList$ListItr", name := "checkForComodification", desc := "()V" } : Jvm.MethodName) prog_80_method_12_code (1 : Nat) (Option.none : Option Jvm.ClassFile.FieldType)) ∈ lw_all := lw_g (lw_at lw_m8 203 rfl) rfl
theorem q2047 : (Jvm.Cond.methodLink "java/util/LinkedList$ListItr" (39 : Nat) ({ cls := "java/util/LinkedList$ListItr", name := "hasNext", desc := "()Z" } : Jvm.MethodName)) ∈ lw_all := lw_g (lw_at lw_m8 204 rfl) rfl
theorem q2048 : (Jvm.Cond.classLink "java/util/LinkedList$ListItr" (43 : Nat) "java/util/NoSuchElementException") ∈ lw_all := lw_g (lw_at lw_m8 205 rfl) rfl
theorem q2049 : (Jvm.Cond.methodLink "java/util/LinkedList$ListItr" (45 : Nat) ({ cls := "java/util/NoSuchElementException", name := "<init>", desc := "()V" } : Jvm.MethodName)) ∈ lw_all := lw_g (lw_at lw_m8 206 rfl) rfl
theorem q2050 : (Jvm.Cond.classLink "FollowingRefs$Plan" (43 : Nat) "FollowingRefs$Row") ∈ lw_all := lw_g (lw_at lw_m8 207 rfl) rfl
theorem q2051 : (Jvm.Cond.methodLink "FollowingRefs$Plan" (109 : Nat) ({ cls := "java/util/BitSet", name := "set", desc := "(I)V" } : Jvm.MethodName)) ∈ lw_all := lw_g (lw_at lw_m8 208 rfl) rfl
theorem q2052 : (Jvm.Cond.methodLink "FollowingRefs$Plan" (113 : Nat) ({ cls := "java/util/ArrayDeque", name := "isEmpty", desc := "()Z" } : Jvm.MethodName)) ∈ lw_all := lw_g (lw_at lw_m8 209 rfl) rfl
theorem q2053 : (Jvm.Cond.instanceMethod ({ cls := "java/util/ArrayDeque", name := "isEmpty", desc := "()Z" } : Jvm.MethodName)) ∈ lw_all := lw_g (lw_at lw_m8 210 rfl) rfl
theorem q2054 : (Jvm.Cond.selects "java/util/ArrayDeque" ({ cls := "java/util/ArrayDeque", name := "isEmpty", desc := "()Z" } : Jvm.MethodName) ({ cls := "java/util/ArrayDeque", name := "isEmpty", desc := "()Z" } : Jvm.MethodName)) ∈ lw_all := lw_g (lw_at lw_m8 211 rfl) rfl
theorem q2055 : (Jvm.Cond.code ({ cls := "java/util/ArrayDeque", name := "isEmpty", desc := "()Z" } : Jvm.MethodName) prog_64_method_38_code (1 : Nat) (Option.some Jvm.ClassFile.FieldType.boolean)) ∈ lw_all := lw_g (lw_at lw_m8 212 rfl) rfl
theorem q2056 : (Jvm.Cond.methodLink "FollowingRefs$Plan" (116 : Nat) ({ cls := "java/util/ArrayDeque", name := "pollFirst", desc := "()Ljava/lang/Object;" } : Jvm.MethodName)) ∈ lw_all := lw_g (lw_at lw_m8 213 rfl) rfl
theorem q2057 : (Jvm.Cond.instanceMethod ({ cls := "java/util/ArrayDeque", name := "pollFirst", desc := "()Ljava/lang/Object;" } : Jvm.MethodName)) ∈ lw_all := lw_g (lw_at lw_m8 214 rfl) rfl
theorem q2058 : (Jvm.Cond.selects "java/util/ArrayDeque" ({ cls := "java/util/ArrayDeque", name := "pollFirst", desc := "()Ljava/lang/Object;" } : Jvm.MethodName) ({ cls := "java/util/ArrayDeque", name := "pollFirst", desc := "()Ljava/lang/Object;" } : Jvm.MethodName)) ∈ lw_all := lw_g (lw_at lw_m8 215 rfl) rfl
theorem q2059 : (Jvm.Cond.code ({ cls := "java/util/ArrayDeque", name := "pollFirst", desc := "()Ljava/lang/Object;" } : Jvm.MethodName) prog_64_method_20_code (4 : Nat) (Option.some (Jvm.ClassFile.FieldType.object "java/lang/Object"))) ∈ lw_all := lw_g (lw_at lw_m8 216 rfl) rfl
theorem q2060 : (Jvm.Cond.methodLink "java/util/ArrayDeque" (103 : Nat) ({ cls := "java/util/ArrayDeque", name := "elementAt", desc := "([Ljava/lang/Object;I)Ljava/lang/Object;" } : Jvm.MethodName)) ∈ lw_all := lw_g (lw_at lw_m8 217 rfl) rfl
theorem q2061 : (Jvm.Cond.static ({ cls := "java/util/ArrayDeque", name := "elementAt", desc := "([Ljava/lang/Object;I)Ljava/lang/Object;" } : Jvm.MethodName)) ∈ lw_all := lw_g (lw_at lw_m8 218 rfl) rfl
theorem q2062 : (Jvm.Cond.code ({ cls := "java/util/ArrayDeque", name := "elementAt", desc := "([Ljava/lang/Object;I)Ljava/lang/Object;" } : Jvm.MethodName) prog_64_method_10_code (2 : Nat) (Option.some (Jvm.ClassFile.FieldType.object "java/lang/Object"))) ∈ lw_all := lw_g (lw_at lw_m8 219 rfl) rfl
theorem q2063 : (Jvm.Cond.methodLink "FollowingRefs$Plan" (86 : Nat) ({ cls := "java/util/ArrayList", name := "size", desc := "()I" } : Jvm.MethodName)) ∈ lw_all := lw_g (lw_at lw_m8 220 rfl) rfl
theorem q2064 : (Jvm.Cond.methodLink "FollowingRefs$Plan" (76 : Nat) ({ cls := "java/util/ArrayList", name := "get", desc := "(I)Ljava/lang/Object;" } : Jvm.MethodName)) ∈ lw_all := lw_g (lw_at lw_m8 221 rfl) rfl
theorem q2065 : (Jvm.Cond.methodLink "FollowingRefs$Plan" (122 : Nat) ({ cls := "FollowingRefs$Plan", name := "goes", desc := "(LFollowingRefs$Row;)Z" } : Jvm.MethodName)) ∈ lw_all := lw_g (lw_at lw_m8 222 rfl) rfl
theorem q2067 : (Jvm.Cond.instanceMethod ({ cls := "FollowingRefs$Plan", name := "goes", desc := "(LFollowingRefs$Row;)Z" } : Jvm.MethodName)) ∈ lw_all := lw_g (lw_at lw_m8 224 rfl) rfl
theorem q2068 : (Jvm.Cond.code ({ cls := "FollowingRefs$Plan", name := "goes", desc := "(LFollowingRefs$Row;)Z" } : Jvm.MethodName) prog_15_method_3_code (2 : Nat) (Option.some Jvm.ClassFile.FieldType.boolean)) ∈ lw_all := lw_g (lw_at lw_m8 225 rfl) rfl
theorem q2069 : (Jvm.Cond.methodLink "FollowingRefs$Plan" (48 : Nat) ({ cls := "java/util/BitSet", name := "get", desc := "(I)Z" } : Jvm.MethodName)) ∈ lw_all := lw_g (lw_at lw_m8 226 rfl) rfl
theorem q2070 : (Jvm.Cond.methodLink "FollowingRefs$Plan" (126 : Nat) ({ cls := "FollowingRefs$Plan", name := "follows", desc := "(LFollowingRefs$Row;LFollowingRefs$Row;)Z" } : Jvm.MethodName)) ∈ lw_all := lw_g (lw_at lw_m8 227 rfl) rfl
theorem q2072 : (Jvm.Cond.instanceMethod ({ cls := "FollowingRefs$Plan", name := "follows", desc := "(LFollowingRefs$Row;LFollowingRefs$Row;)Z" } : Jvm.MethodName)) ∈ lw_all := lw_g (lw_at lw_m8 229 rfl) rfl
theorem q2073 : (Jvm.Cond.code ({ cls := "FollowingRefs$Plan", name := "follows", desc := "(LFollowingRefs$Row;LFollowingRefs$Row;)Z" } : Jvm.MethodName) prog_15_method_9_code (4 : Nat) (Option.some Jvm.ClassFile.FieldType.boolean)) ∈ lw_all := lw_g (lw_at lw_m8 230 rfl) rfl
theorem q2074 : (Jvm.Cond.classLink "FollowingRefs$Plan" (137 : Nat) "FollowingRefs$Ref") ∈ lw_all := lw_g (lw_at lw_m8 231 rfl) rfl
theorem q2075 : (Jvm.Cond.methodLink "FollowingRefs$Plan" (142 : Nat) ({ cls := "FollowingRefs$Store", name := "parent", desc := "(LFollowingRefs$Row;LFollowingRefs$Ref;)LFollowingRefs$Row;" } : Jvm.MethodName)) ∈ lw_all := lw_g (lw_at lw_m8 232 rfl) rfl
theorem q2076 : (Jvm.Cond.instanceMethod ({ cls := "FollowingRefs$Store", name := "parent", desc := "(LFollowingRefs$Row;LFollowingRefs$Ref;)LFollowingRefs$Row;" } : Jvm.MethodName)) ∈ lw_all := lw_g (lw_at lw_m8 233 rfl) rfl
theorem q2077 : (Jvm.Cond.selects "FollowingRefs$Store" ({ cls := "FollowingRefs$Store", name := "parent", desc := "(LFollowingRefs$Row;LFollowingRefs$Ref;)LFollowingRefs$Row;" } : Jvm.MethodName) ({ cls := "FollowingRefs$Store", name := "parent", desc := "(LFollowingRefs$Row;LFollowingRefs$Ref;)LFollowingRefs$Row;" } : Jvm.MethodName)) ∈ lw_all := lw_g (lw_at lw_m8 234 rfl) rfl
theorem q2078 : (Jvm.Cond.code ({ cls := "FollowingRefs$Store", name := "parent", desc := "(LFollowingRefs$Row;LFollowingRefs$Ref;)LFollowingRefs$Row;" } : Jvm.MethodName) prog_26_method_6_code (5 : Nat) (Option.some (Jvm.ClassFile.FieldType.object "FollowingRefs$Row"))) ∈ lw_all := lw_g (lw_at lw_m8 235 rfl) rfl
theorem q2079 : (Jvm.Cond.methodLink "FollowingRefs$Store" (79 : Nat) ({ cls := "FollowingRefs$Row", name := "hasAll", desc := "([I)Z" } : Jvm.MethodName)) ∈ lw_all := lw_g (lw_at lw_m8 236 rfl) rfl
theorem q2080 : (Jvm.Cond.instanceMethod ({ cls := "FollowingRefs$Row", name := "hasAll", desc := "([I)Z" } : Jvm.MethodName)) ∈ lw_all := lw_g (lw_at lw_m8 237 rfl) rfl
theorem q2081 : (Jvm.Cond.selects "FollowingRefs$Row" ({ cls := "FollowingRefs$Row", name := "hasAll", desc := "([I)Z" } : Jvm.MethodName) ({ cls := "FollowingRefs$Row", name := "hasAll", desc := "([I)Z" } : Jvm.MethodName)) ∈ lw_all := lw_g (lw_at lw_m8 238 rfl) rfl
theorem q2082 : (Jvm.Cond.code ({ cls := "FollowingRefs$Row", name := "hasAll", desc := "([I)Z" } : Jvm.MethodName) prog_18_method_2_code (6 : Nat) (Option.some Jvm.ClassFile.FieldType.boolean)) ∈ lw_all := lw_g (lw_at lw_m8 239 rfl) rfl
theorem q2083 : (Jvm.Cond.methodLink "FollowingRefs$Store" (83 : Nat) ({ cls := "FollowingRefs$Schema", name := "keyOf", desc := "(LFollowingRefs$Ref;)LFollowingRefs$Of;" } : Jvm.MethodName)) ∈ lw_all := lw_g (lw_at lw_m9 0 rfl) rfl
theorem q2084 : (Jvm.Cond.instanceMethod ({ cls := "FollowingRefs$Schema", name := "keyOf", desc := "(LFollowingRefs$Ref;)LFollowingRefs$Of;" } : Jvm.MethodName)) ∈ lw_all := lw_g (lw_at lw_m9 1 rfl) rfl
theorem q2085 : (Jvm.Cond.selects "FollowingRefs$Schema" ({ cls := "FollowingRefs$Schema", name := "keyOf", desc := "(LFollowingRefs$Ref;)LFollowingRefs$Of;" } : Jvm.MethodName) ({ cls := "FollowingRefs$Schema", name := "keyOf", desc := "(LFollowingRefs$Ref;)LFollowingRefs$Of;" } : Jvm.MethodName)) ∈ lw_all := lw_g (lw_at lw_m9 2 rfl) rfl
theorem q2086 : (Jvm.Cond.code ({ cls := "FollowingRefs$Schema", name := "keyOf", desc := "(LFollowingRefs$Ref;)LFollowingRefs$Of;" } : Jvm.MethodName) prog_19_method_6_code (2 : Nat) (Option.some (Jvm.ClassFile.FieldType.object "FollowingRefs$Of"))) ∈ lw_all := lw_g (lw_at lw_m9 3 rfl) rfl
theorem q2087 : (Jvm.Cond.methodLink "FollowingRefs$Store" (93 : Nat) ({ cls := "FollowingRefs$Row", name := "isLike", desc := "([ILFollowingRefs$Row;[I)Z" } : Jvm.MethodName)) ∈ lw_all := lw_g (lw_at lw_m9 4 rfl) rfl
theorem q2088 : (Jvm.Cond.instanceMethod ({ cls := "FollowingRefs$Row", name := "isLike", desc := "([ILFollowingRefs$Row;[I)Z" } : Jvm.MethodName)) ∈ lw_all := lw_g (lw_at lw_m9 5 rfl) rfl
theorem q2089 : (Jvm.Cond.selects "FollowingRefs$Row" ({ cls := "FollowingRefs$Row", name := "isLike", desc := "([ILFollowingRefs$Row;[I)Z" } : Jvm.MethodName) ({ cls := "FollowingRefs$Row", name := "isLike", desc := "([ILFollowingRefs$Row;[I)Z" } : Jvm.MethodName)) ∈ lw_all := lw_g (lw_at lw_m9 6 rfl) rfl
theorem q2090 : (Jvm.Cond.code ({ cls := "FollowingRefs$Row", name := "isLike", desc := "([ILFollowingRefs$Row;[I)Z" } : Jvm.MethodName) prog_18_method_4_code (5 : Nat) (Option.some Jvm.ClassFile.FieldType.boolean)) ∈ lw_all := lw_g (lw_at lw_m9 7 rfl) rfl
theorem q2091 : (Jvm.Cond.methodLink "FollowingRefs$Plan" (130 : Nat) ({ cls := "java/util/ArrayDeque", name := "addLast", desc := "(Ljava/lang/Object;)V" } : Jvm.MethodName)) ∈ lw_all := lw_g (lw_at lw_m9 8 rfl) rfl
theorem q2092 : (Jvm.Cond.selects "FollowingRefs$Sets" ({ cls := "FollowingRefs$Finds", name := "meant", desc := "(LFollowingRefs$Plan;Ljava/util/ArrayDeque;)V" } : Jvm.MethodName) ({ cls := "FollowingRefs$Sets", name := "meant", desc := "(LFollowingRefs$Plan;Ljava/util/ArrayDeque;)V" } : Jvm.MethodName)) ∈ lw_all := lw_g (lw_at lw_m9 9 rfl) rfl
theorem q2093 : (Jvm.Cond.instanceMethod ({ cls := "FollowingRefs$Sets", name := "meant", desc := "(LFollowingRefs$Plan;Ljava/util/ArrayDeque;)V" } : Jvm.MethodName)) ∈ lw_all := lw_g (lw_at lw_m9 10 rfl) rfl
theorem q2094 : (Jvm.Cond.code ({ cls := "FollowingRefs$Sets", name := "meant", desc := "(LFollowingRefs$Plan;Ljava/util/ArrayDeque;)V" } : Jvm.MethodName) prog_22_method_2_code (6 : Nat) (Option.none : Option Jvm.ClassFile.FieldType)) ∈ lw_all := lw_g (lw_at lw_m9 11 rfl) rfl
theorem q2095 : (Jvm.Cond.methodLink "FollowingRefs$Sets" (16 : Nat) ({ cls := "java/util/ArrayDeque", name := "iterator", desc := "()Ljava/util/Iterator;" } : Jvm.MethodName)) ∈ lw_all := lw_g (lw_at lw_m9 12 rfl) rfl
theorem q2097 : (Jvm.Cond.methodLink "FollowingRefs$Sets" (22 : Nat) ({ cls := "java/util/Iterator", name := "hasNext", desc := "()Z" } : Jvm.MethodName)) ∈ lw_all := lw_g (lw_at lw_m9 14 rfl) rfl
theorem q2099 : (Jvm.Cond.methodLink "FollowingRefs$Sets" (28 : Nat) ({ cls := "java/util/Iterator", name := "next", desc := "()Ljava/lang/Object;" } : Jvm.MethodName)) ∈ lw_all := lw_g (lw_at lw_m9 16 rfl) rfl
theorem q2100 : (Jvm.Cond.classLink "FollowingRefs$Sets" (32 : Nat) "FollowingRefs$Row") ∈ lw_all := lw_g (lw_at lw_m9 17 rfl) rfl
theorem q2101 : (Jvm.Cond.methodLink "FollowingRefs$Sets" (34 : Nat) ({ cls := "FollowingRefs$Plan", name := "wants", desc := "(LFollowingRefs$Row;II)V" } : Jvm.MethodName)) ∈ lw_all := lw_g (lw_at lw_m9 18 rfl) rfl
theorem q2102 : (Jvm.Cond.instanceMethod ({ cls := "FollowingRefs$Plan", name := "wants", desc := "(LFollowingRefs$Row;II)V" } : Jvm.MethodName)) ∈ lw_all := lw_g (lw_at lw_m9 19 rfl) rfl
theorem q2103 : (Jvm.Cond.selects "FollowingRefs$Plan" ({ cls := "FollowingRefs$Plan", name := "wants", desc := "(LFollowingRefs$Row;II)V" } : Jvm.MethodName) ({ cls := "FollowingRefs$Plan", name := "wants", desc := "(LFollowingRefs$Row;II)V" } : Jvm.MethodName)) ∈ lw_all := lw_g (lw_at lw_m9 20 rfl) rfl
theorem q2104 : (Jvm.Cond.code ({ cls := "FollowingRefs$Plan", name := "wants", desc := "(LFollowingRefs$Row;II)V" } : Jvm.MethodName) prog_15_method_6_code (5 : Nat) (Option.none : Option Jvm.ClassFile.FieldType)) ∈ lw_all := lw_g (lw_at lw_m9 21 rfl) rfl
theorem q2105 : (Jvm.Cond.methodLink "FollowingRefs$Plan" (52 : Nat) ({ cls := "FollowingRefs$Plan", name := "wanted", desc := "(LFollowingRefs$Row;I)I" } : Jvm.MethodName)) ∈ lw_all := lw_g (lw_at lw_m9 22 rfl) rfl
theorem q2106 : (Jvm.Cond.instanceMethod ({ cls := "FollowingRefs$Plan", name := "wanted", desc := "(LFollowingRefs$Row;I)I" } : Jvm.MethodName)) ∈ lw_all := lw_g (lw_at lw_m9 23 rfl) rfl
theorem q2107 : (Jvm.Cond.selects "FollowingRefs$Plan" ({ cls := "FollowingRefs$Plan", name := "wanted", desc := "(LFollowingRefs$Row;I)I" } : Jvm.MethodName) ({ cls := "FollowingRefs$Plan", name := "wanted", desc := "(LFollowingRefs$Row;I)I" } : Jvm.MethodName)) ∈ lw_all := lw_g (lw_at lw_m9 24 rfl) rfl
theorem q2108 : (Jvm.Cond.code ({ cls := "FollowingRefs$Plan", name := "wanted", desc := "(LFollowingRefs$Row;I)I" } : Jvm.MethodName) prog_15_method_4_code (3 : Nat) (Option.some Jvm.ClassFile.FieldType.int)) ∈ lw_all := lw_g (lw_at lw_m9 25 rfl) rfl
theorem q2109 : (Jvm.Cond.methodLink "FollowingRefs$Finds" (68 : Nat) ({ cls := "FollowingRefs$Plan", name := "spreads", desc := "()V" } : Jvm.MethodName)) ∈ lw_all := lw_g (lw_at lw_m9 26 rfl) rfl
theorem q2110 : (Jvm.Cond.instanceMethod ({ cls := "FollowingRefs$Plan", name := "spreads", desc := "()V" } : Jvm.MethodName)) ∈ lw_all := lw_g (lw_at lw_m9 27 rfl) rfl
theorem q2111 : (Jvm.Cond.selects "FollowingRefs$Plan" ({ cls := "FollowingRefs$Plan", name := "spreads", desc := "()V" } : Jvm.MethodName) ({ cls := "FollowingRefs$Plan", name := "spreads", desc := "()V" } : Jvm.MethodName)) ∈ lw_all := lw_g (lw_at lw_m9 28 rfl) rfl
theorem q2112 : (Jvm.Cond.code ({ cls := "FollowingRefs$Plan", name := "spreads", desc := "()V" } : Jvm.MethodName) prog_15_method_14_code (3 : Nat) (Option.none : Option Jvm.ClassFile.FieldType)) ∈ lw_all := lw_g (lw_at lw_m9 29 rfl) rfl
theorem q2113 : (Jvm.Cond.methodLink "FollowingRefs$Plan" (177 : Nat) ({ cls := "FollowingRefs$Plan", name := "comesTo", desc := "(LFollowingRefs$Row;LFollowingRefs$Ref;)V" } : Jvm.MethodName)) ∈ lw_all := lw_g (lw_at lw_m9 30 rfl) rfl
theorem q2115 : (Jvm.Cond.instanceMethod ({ cls := "FollowingRefs$Plan", name := "comesTo", desc := "(LFollowingRefs$Row;LFollowingRefs$Ref;)V" } : Jvm.MethodName)) ∈ lw_all := lw_g (lw_at lw_m9 32 rfl) rfl
theorem q2116 : (Jvm.Cond.code ({ cls := "FollowingRefs$Plan", name := "comesTo", desc := "(LFollowingRefs$Row;LFollowingRefs$Ref;)V" } : Jvm.MethodName) prog_15_method_13_code (4 : Nat) (Option.none : Option Jvm.ClassFile.FieldType)) ∈ lw_all := lw_g (lw_at lw_m9 33 rfl) rfl
theorem q2117 : (Jvm.Cond.methodLink "FollowingRefs$Plan" (162 : Nat) ({ cls := "FollowingRefs$Plan", name := "clears", desc := "(LFollowingRefs$Row;LFollowingRefs$Ref;I)V" } : Jvm.MethodName)) ∈ lw_all := lw_g (lw_at lw_m9 34 rfl) rfl
theorem q2119 : (Jvm.Cond.instanceMethod ({ cls := "FollowingRefs$Plan", name := "clears", desc := "(LFollowingRefs$Row;LFollowingRefs$Ref;I)V" } : Jvm.MethodName)) ∈ lw_all := lw_g (lw_at lw_m9 36 rfl) rfl
theorem q2120 : (Jvm.Cond.code ({ cls := "FollowingRefs$Plan", name := "clears", desc := "(LFollowingRefs$Row;LFollowingRefs$Ref;I)V" } : Jvm.MethodName) prog_15_method_10_code (8 : Nat) (Option.none : Option Jvm.ClassFile.FieldType)) ∈ lw_all := lw_g (lw_at lw_m9 37 rfl) rfl
theorem q2121 : (Jvm.Cond.classLink "FollowingRefs$Plan" (81 : Nat) "FollowingRefs$Table") ∈ lw_all := lw_g (lw_at lw_m9 38 rfl) rfl
theorem q2122 : (Jvm.Cond.methodLink "FollowingRefs$Plan" (151 : Nat) ({ cls := "FollowingRefs$Plan", name := "wants", desc := "(LFollowingRefs$Row;II)V" } : Jvm.MethodName)) ∈ lw_all := lw_g (lw_at lw_m9 39 rfl) rfl
theorem q2123 : (Jvm.Cond.methodLink "FollowingRefs$Plan" (166 : Nat) ({ cls := "FollowingRefs$Plan", name := "isMoved", desc := "(LFollowingRefs$Row;LFollowingRefs$Ref;)Z" } : Jvm.MethodName)) ∈ lw_all := lw_g (lw_at lw_m9 40 rfl) rfl
theorem q2125 : (Jvm.Cond.instanceMethod ({ cls := "FollowingRefs$Plan", name := "isMoved", desc := "(LFollowingRefs$Row;LFollowingRefs$Ref;)Z" } : Jvm.MethodName)) ∈ lw_all := lw_g (lw_at lw_m9 42 rfl) rfl
theorem q2126 : (Jvm.Cond.code ({ cls := "FollowingRefs$Plan", name := "isMoved", desc := "(LFollowingRefs$Row;LFollowingRefs$Ref;)Z" } : Jvm.MethodName) prog_15_method_12_code (7 : Nat) (Option.some Jvm.ClassFile.FieldType.boolean)) ∈ lw_all := lw_g (lw_at lw_m9 43 rfl) rfl
theorem q2127 : (Jvm.Cond.methodLink "FollowingRefs$Plan" (155 : Nat) ({ cls := "FollowingRefs$Schema", name := "keyOf", desc := "(LFollowingRefs$Ref;)LFollowingRefs$Of;" } : Jvm.MethodName)) ∈ lw_all := lw_g (lw_at lw_m9 44 rfl) rfl
theorem q2128 : (Jvm.Cond.methodLink "FollowingRefs$Plan" (90 : Nat) ({ cls := "FollowingRefs$Plan", name := "cell", desc := "(LFollowingRefs$Row;I)I" } : Jvm.MethodName)) ∈ lw_all := lw_g (lw_at lw_m9 45 rfl) rfl
theorem q2129 : (Jvm.Cond.instanceMethod ({ cls := "FollowingRefs$Plan", name := "cell", desc := "(LFollowingRefs$Row;I)I" } : Jvm.MethodName)) ∈ lw_all := lw_g (lw_at lw_m9 46 rfl) rfl
theorem q2130 : (Jvm.Cond.selects "FollowingRefs$Plan" ({ cls := "FollowingRefs$Plan", name := "cell", desc := "(LFollowingRefs$Row;I)I" } : Jvm.MethodName) ({ cls := "FollowingRefs$Plan", name := "cell", desc := "(LFollowingRefs$Row;I)I" } : Jvm.MethodName)) ∈ lw_all := lw_g (lw_at lw_m9 47 rfl) rfl
theorem q2131 : (Jvm.Cond.code ({ cls := "FollowingRefs$Plan", name := "cell", desc := "(LFollowingRefs$Row;I)I" } : Jvm.MethodName) prog_15_method_5_code (3 : Nat) (Option.some Jvm.ClassFile.FieldType.int)) ∈ lw_all := lw_g (lw_at lw_m9 48 rfl) rfl
theorem q2132 : (Jvm.Cond.methodLink "FollowingRefs$Plan" (173 : Nat) ({ cls := "FollowingRefs$Plan", name := "changes", desc := "(LFollowingRefs$Row;LFollowingRefs$Ref;LFollowingRefs$Row;)V" } : Jvm.MethodName)) ∈ lw_all := lw_g (lw_at lw_m9 49 rfl) rfl
theorem q2134 : (Jvm.Cond.instanceMethod ({ cls := "FollowingRefs$Plan", name := "changes", desc := "(LFollowingRefs$Row;LFollowingRefs$Ref;LFollowingRefs$Row;)V" } : Jvm.MethodName)) ∈ lw_all := lw_g (lw_at lw_m9 51 rfl) rfl
theorem q2135 : (Jvm.Cond.code ({ cls := "FollowingRefs$Plan", name := "changes", desc := "(LFollowingRefs$Row;LFollowingRefs$Ref;LFollowingRefs$Row;)V" } : Jvm.MethodName) prog_15_method_11_code (6 : Nat) (Option.none : Option Jvm.ClassFile.FieldType)) ∈ lw_all := lw_g (lw_at lw_m9 52 rfl) rfl
theorem q2136 : (Jvm.Cond.methodLink "FollowingRefs$Finds" (77 : Nat) ({ cls := "java/util/BitSet", name := "cardinality", desc := "()I" } : Jvm.MethodName)) ∈ lw_all := lw_g (lw_at lw_m9 53 rfl) rfl
theorem q2137 : (Jvm.Cond.instanceMethod ({ cls := "java/util/BitSet", name := "cardinality", desc := "()I" } : Jvm.MethodName)) ∈ lw_all := lw_g (lw_at lw_m9 54 rfl) rfl
theorem q2138 : (Jvm.Cond.selects "java/util/BitSet" ({ cls := "java/util/BitSet", name := "cardinality", desc := "()I" } : Jvm.MethodName) ({ cls := "java/util/BitSet", name := "cardinality", desc := "()I" } : Jvm.MethodName)) ∈ lw_all := lw_g (lw_at lw_m9 55 rfl) rfl
theorem q2139 : (Jvm.Cond.code ({ cls := "java/util/BitSet", name := "cardinality", desc := "()I" } : Jvm.MethodName) prog_71_method_35_code (3 : Nat) (Option.some Jvm.ClassFile.FieldType.int)) ∈ lw_all := lw_g (lw_at lw_m9 56 rfl) rfl
theorem q2140 : (Jvm.Cond.methodLink "java/util/BitSet" (196 : Nat) ({ cls := "java/lang/Long", name := "bitCount", desc := "(J)I" } : Jvm.MethodName)) ∈ lw_all := lw_g (lw_at lw_m9 57 rfl) rfl
theorem q2141 : (Jvm.Cond.static ({ cls := "java/lang/Long", name := "bitCount", desc := "(J)I" } : Jvm.MethodName)) ∈ lw_all := lw_g (lw_at lw_m9 58 rfl) rfl
theorem q2142 : (Jvm.Cond.code ({ cls := "java/lang/Long", name := "bitCount", desc := "(J)I" } : Jvm.MethodName) prog_47_method_50_code (2 : Nat) (Option.some Jvm.ClassFile.FieldType.int)) ∈ lw_all := lw_g (lw_at lw_m9 59 rfl) rfl
theorem q2143 : (Jvm.Cond.constantLong "java/lang/Long" (314 : Nat) (6148914691236517205 : Int64)) ∈ lw_all := lw_g (lw_at lw_m9 60 rfl) rfl
theorem q2144 : (Jvm.Cond.constantLong "java/lang/Long" (316 : Nat) (3689348814741910323 : Int64)) ∈ lw_all := lw_g (lw_at lw_m9 61 rfl) rfl
theorem q2145 : (Jvm.Cond.constantLong "java/lang/Long" (318 : Nat) (1085102592571150095 : Int64)) ∈ lw_all := lw_g (lw_at lw_m9 62 rfl) rfl
theorem q2146 : (Jvm.Cond.methodLink "FollowingRefs$Finds" (91 : Nat) ({ cls := "FollowingRefs$Plan", name := "changed", desc := "()I" } : Jvm.MethodName)) ∈ lw_all := lw_g (lw_at lw_m9 63 rfl) rfl
theorem q2147 : (Jvm.Cond.instanceMethod ({ cls := "FollowingRefs$Plan", name := "changed", desc := "()I" } : Jvm.MethodName)) ∈ lw_all := lw_g (lw_at lw_m9 64 rfl) rfl
theorem q2148 : (Jvm.Cond.selects "FollowingRefs$Plan" ({ cls := "FollowingRefs$Plan", name := "changed", desc := "()I" } : Jvm.MethodName) ({ cls := "FollowingRefs$Plan", name := "changed", desc := "()I" } : Jvm.MethodName)) ∈ lw_all := lw_g (lw_at lw_m9 65 rfl) rfl
theorem q2149 : (Jvm.Cond.code ({ cls := "FollowingRefs$Plan", name := "changed", desc := "()I" } : Jvm.MethodName) prog_15_method_15_code (3 : Nat) (Option.some Jvm.ClassFile.FieldType.int)) ∈ lw_all := lw_g (lw_at lw_m9 66 rfl) rfl
theorem q2150 : (Jvm.Cond.methodLink "FollowingRefs$Plan" (181 : Nat) ({ cls := "FollowingRefs$Plan", name := "isChanged", desc := "(LFollowingRefs$Row;)Z" } : Jvm.MethodName)) ∈ lw_all := lw_g (lw_at lw_m9 67 rfl) rfl
theorem q2151 : (Jvm.Cond.instanceMethod ({ cls := "FollowingRefs$Plan", name := "isChanged", desc := "(LFollowingRefs$Row;)Z" } : Jvm.MethodName)) ∈ lw_all := lw_g (lw_at lw_m9 68 rfl) rfl
theorem q2152 : (Jvm.Cond.selects "FollowingRefs$Plan" ({ cls := "FollowingRefs$Plan", name := "isChanged", desc := "(LFollowingRefs$Row;)Z" } : Jvm.MethodName) ({ cls := "FollowingRefs$Plan", name := "isChanged", desc := "(LFollowingRefs$Row;)Z" } : Jvm.MethodName)) ∈ lw_all := lw_g (lw_at lw_m9 69 rfl) rfl
theorem q2153 : (Jvm.Cond.code ({ cls := "FollowingRefs$Plan", name := "isChanged", desc := "(LFollowingRefs$Row;)Z" } : Jvm.MethodName) prog_15_method_7_code (3 : Nat) (Option.some Jvm.ClassFile.FieldType.boolean)) ∈ lw_all := lw_g (lw_at lw_m9 70 rfl) rfl
theorem q2154 : (Jvm.Cond.methodLink "FollowingRefs$Finds" (99 : Nat) ({ cls := "FollowingRefs$Plan", name := "isDone", desc := "(LFollowingRefs$Store;)V" } : Jvm.MethodName)) ∈ lw_all := lw_g (lw_at lw_m9 71 rfl) rfl
theorem q2155 : (Jvm.Cond.instanceMethod ({ cls := "FollowingRefs$Plan", name := "isDone", desc := "(LFollowingRefs$Store;)V" } : Jvm.MethodName)) ∈ lw_all := lw_g (lw_at lw_m9 72 rfl) rfl
theorem q2156 : (Jvm.Cond.selects "FollowingRefs$Plan" ({ cls := "FollowingRefs$Plan", name := "isDone", desc := "(LFollowingRefs$Store;)V" } : Jvm.MethodName) ({ cls := "FollowingRefs$Plan", name := "isDone", desc := "(LFollowingRefs$Store;)V" } : Jvm.MethodName)) ∈ lw_all := lw_g (lw_at lw_m9 73 rfl) rfl
theorem q2157 : (Jvm.Cond.code ({ cls := "FollowingRefs$Plan", name := "isDone", desc := "(LFollowingRefs$Store;)V" } : Jvm.MethodName) prog_15_method_16_code (4 : Nat) (Option.none : Option Jvm.ClassFile.FieldType)) ∈ lw_all := lw_g (lw_at lw_m9 74 rfl) rfl
theorem q2158 : (Jvm.Cond.methodLink "FollowingRefs$Plan" (184 : Nat) ({ cls := "java/util/ArrayList", name := "iterator", desc := "()Ljava/util/Iterator;" } : Jvm.MethodName)) ∈ lw_all := lw_g (lw_at lw_m9 75 rfl) rfl
theorem q2159 : (Jvm.Cond.instanceMethod ({ cls := "java/util/ArrayList", name := "iterator", desc := "()Ljava/util/Iterator;" } : Jvm.MethodName)) ∈ lw_all := lw_g (lw_at lw_m9 76 rfl) rfl
theorem q2160 : (Jvm.Cond.selects "java/util/ArrayList" ({ cls := "java/util/ArrayList", name := "iterator", desc := "()Ljava/util/Iterator;" } : Jvm.MethodName) ({ cls := "java/util/ArrayList", name := "iterator", desc := "()Ljava/util/Iterator;" } : Jvm.MethodName)) ∈ lw_all := lw_g (lw_at lw_m9 77 rfl) rfl
theorem q2161 : (Jvm.Cond.code ({ cls := "java/util/ArrayList", name := "iterator", desc := "()Ljava/util/Iterator;" } : Jvm.MethodName) prog_66_method_55_code (1 : Nat) (Option.some (Jvm.ClassFile.FieldType.object "java/util/Iterator"))) ∈ lw_all := lw_g (lw_at lw_m9 78 rfl) rfl
theorem q2162 : (Jvm.Cond.classLink "java/util/ArrayList" (267 : Nat) "java/util/ArrayList$Itr") ∈ lw_all := lw_g (lw_at lw_m9 79 rfl) rfl
theorem q2163 : (Jvm.Cond.instantiable "java/util/ArrayList$Itr" (4 : Nat)) ∈ lw_all := lw_g (lw_at lw_m9 80 rfl) rfl
theorem q2164 : (Jvm.Cond.methodLink "java/util/ArrayList" (269 : Nat) ({ cls := "java/util/ArrayList$Itr", name := "<init>", desc := "(Ljava/util/ArrayList;)V" } : Jvm.MethodName)) ∈ lw_all := lw_g (lw_at lw_m9 81 rfl) rfl
theorem q2165 : (Jvm.Cond.instanceMethod ({ cls := "java/util/ArrayList$Itr", name := "<init>", desc := "(Ljava/util/ArrayList;)V" } : Jvm.MethodName)) ∈ lw_all := lw_g (lw_at lw_m9 82 rfl) rfl
theorem q2166 : (Jvm.Cond.code ({ cls := "java/util/ArrayList$Itr", name := "<init>", desc := "(Ljava/util/ArrayList;)V" } : Jvm.MethodName) prog_67_method_1_code (2 : Nat) (Option.none : Option Jvm.ClassFile.FieldType)) ∈ lw_all := lw_g (lw_at lw_m9 83 rfl) rfl
theorem q2167 : (Jvm.Cond.methodLink "java/util/ArrayList$Itr" (7 : Nat) ({ cls := "java/lang/Object", name := "<init>", desc := "()V" } : Jvm.MethodName)) ∈ lw_all := lw_g (lw_at lw_m9 84 rfl) rfl
theorem q2168 : (Jvm.Cond.fieldLink "java/util/ArrayList$ListItr" (13 : Nat) "java/util/ArrayList$ListItr" "cursor" "I") ∈ lw_all := lw_g (lw_at lw_m9 85 rfl) rfl
theorem q2169 : (Jvm.Cond.sameField "java/util/ArrayList$ListItr" "java/util/ArrayList$Itr" "cursor" "I") ∈ lw_all := lw_g (lw_at lw_m9 86 rfl) rfl
theorem q2170 : (Jvm.Cond.fieldLink "java/util/ArrayList$Itr" (25 : Nat) "java/util/ArrayList$Itr" "cursor" "I") ∈ lw_all := lw_g (lw_at lw_m9 87 rfl) rfl
theorem q2171 : (Jvm.Cond.fieldLink "java/util/ArrayList$Itr" (13 : Nat) "java/util/ArrayList$Itr" "lastRet" "I") ∈ lw_all := lw_g (lw_at lw_m9 88 rfl) rfl
theorem q2172 : (Jvm.Cond.fieldLink "java/util/ArrayList$ListItr" (34 : Nat) "java/util/ArrayList$ListItr" "lastRet" "I") ∈ lw_all := lw_g (lw_at lw_m9 89 rfl) rfl
theorem q2173 : (Jvm.Cond.sameField "java/util/ArrayList$ListItr" "java/util/ArrayList$Itr" "lastRet" "I") ∈ lw_all := lw_g (lw_at lw_m9 90 rfl) rfl
theorem q2174 : (Jvm.Cond.fieldLink "java/util/ArrayList$Itr" (22 : Nat) "java/util/ArrayList$Itr" "expectedModCount" "I") ∈ lw_all := lw_g (lw_at lw_m9 91 rfl) rfl
theorem q2175 : (Jvm.Cond.fieldLink "java/util/ArrayList$Itr" (1 : Nat) "java/util/ArrayList$Itr" "this$0" "Ljava/util/ArrayList;") ∈ lw_all := lw_g (lw_at lw_m9 92 rfl) rfl
theorem q2176 : (Jvm.Cond.lays "java/util/ArrayList$Itr" "java/util/ArrayList$Itr" "cursor" "I") ∈ lw_all := lw_g (lw_at lw_m9 93 rfl) rfl
theorem q2178 : (Jvm.Cond.lays "java/util/ArrayList$Itr" "java/util/ArrayList$Itr" "lastRet" "I") ∈ lw_all := lw_g (lw_at lw_m9 95 rfl) rfl
theorem q2180 : (Jvm.Cond.lays "java/util/ArrayList$Itr" "java/util/ArrayList$Itr" "expectedModCount" "I") ∈ lw_all := lw_g (lw_at lw_m9 97 rfl) rfl
theorem q2182 : (Jvm.Cond.laysFinal "java/util/ArrayList$Itr" "java/util/ArrayList$Itr" "this$0" "Ljava/util/ArrayList;") ∈ lw_all := lw_g (lw_at lw_m9 99 rfl) rfl
theorem q2186 : (Jvm.Cond.methodLink "FollowingRefs$Plan" (185 : Nat) ({ cls := "java/util/Iterator", name := "remove", desc := "()V" } : Jvm.MethodName)) ∈ lw_all := lw_g (lw_at lw_m9 103 rfl) rfl
theorem q2187 : (Jvm.Cond.interfaceMethod "java/util/Iterator" "java/util/Iterator" "remove" "()V") ∈ lw_tbl := lw_at lw_m9 104 rfl
theorem q2188 : (Jvm.Cond.declares ({ cls := "java/util/Iterator", name := "remove", desc := "()V" } : Jvm.MethodName)) ∈ lw_tbl := lw_at lw_m9 105 rfl
theorem q2193 : (Jvm.Cond.codeWith ({ cls := "java/util/AbstractList$Itr", name := "remove", desc := "()V" } : Jvm.MethodName) prog_61_method_4_code (2 : Nat) (Option.none : Option Jvm.ClassFile.FieldType) [((19 : Nat), (68 : Nat), (71 : Nat), (39 : Nat))]) ∈ lw_all := lw_g (lw_at lw_m9 110 rfl) rfl
theorem q2194 : (Jvm.Cond.classLink "java/util/AbstractList$Itr" (46 : Nat) "java/lang/IllegalStateException") ∈ lw_all := lw_g (lw_at lw_m9 111 rfl) rfl
theorem q2195 : (Jvm.Cond.instantiable "java/lang/IllegalStateException" (6 : Nat)) ∈ lw_all := lw_g (lw_at lw_m9 112 rfl) rfl
theorem q2198 : (Jvm.Cond.lays "java/lang/IllegalStateException" "java/lang/Throwable" "cause" "Ljava/lang/Throwable;") ∈ lw_all := lw_g (lw_at lw_m9 115 rfl) rfl
theorem q2199 : (Jvm.Cond.lays "java/lang/IllegalStateException" "java/lang/Throwable" "stackTrace" "[Ljava/lang/StackTraceElement;") ∈ lw_all := lw_g (lw_at lw_m9 116 rfl) rfl
theorem q2200 : (Jvm.Cond.lays "java/lang/IllegalStateException" "java/lang/Throwable" "suppressedExceptions" "Ljava/util/List;") ∈ lw_all := lw_g (lw_at lw_m9 117 rfl) rfl
theorem q2201 : (Jvm.Cond.lays "java/lang/IllegalStateException" "java/lang/Throwable" "detailMessage" "Ljava/lang/String;") ∈ lw_all := lw_g (lw_at lw_m9 118 rfl) rfl
theorem q2202 : (Jvm.Cond.lays "java/lang/IllegalStateException" "java/lang/Throwable" "backtrace" "Ljava/lang/Object;") ∈ lw_all := lw_g (lw_at lw_m9 119 rfl) rfl
theorem q2203 : (Jvm.Cond.methodLink "java/util/AbstractList$Itr" (48 : Nat) ({ cls := "java/lang/IllegalStateException", name := "<init>", desc := "()V" } : Jvm.MethodName)) ∈ lw_all := lw_g (lw_at lw_m9 120 rfl) rfl
theorem q2204 : (Jvm.Cond.instanceMethod ({ cls := "java/lang/IllegalStateException", name := "<init>", desc := "()V" } : Jvm.MethodName)) ∈ lw_all := lw_g (lw_at lw_m9 121 rfl) rfl
theorem q2205 : (Jvm.Cond.code ({ cls := "java/lang/IllegalStateException", name := "<init>", desc := "()V" } : Jvm.MethodName) prog_43_method_1_code (1 : Nat) (Option.none : Option Jvm.ClassFile.FieldType)) ∈ lw_all := lw_g (lw_at lw_m9 122 rfl) rfl
theorem q2206 : (Jvm.Cond.methodLink "java/lang/IllegalStateException" (1 : Nat) ({ cls := "java/lang/RuntimeException", name := "<init>", desc := "()V" } : Jvm.MethodName)) ∈ lw_all := lw_g (lw_at lw_m9 123 rfl) rfl
theorem q2207 : (Jvm.Cond.lays "java/lang/IllegalStateException" "java/lang/Throwable" "depth" "I") ∈ lw_all := lw_g (lw_at lw_m9 124 rfl) rfl
theorem q2209 : (Jvm.Cond.methodLink "java/util/AbstractList$Itr" (49 : Nat) ({ cls := "java/util/AbstractList", name := "remove", desc := "(I)Ljava/lang/Object;" } : Jvm.MethodName)) ∈ lw_all := lw_g (lw_at lw_m9 126 rfl) rfl
theorem q2211 : (Jvm.Cond.sameMethod "java/util/AbstractList" "java/util/AbstractList" "remove" "(I)Ljava/lang/Object;") ∈ lw_all := lw_g (lw_at lw_m9 128 rfl) rfl
theorem q2212 : (Jvm.Cond.selects "java/util/ArrayList" ({ cls := "java/util/AbstractList", name := "remove", desc := "(I)Ljava/lang/Object;" } : Jvm.MethodName) ({ cls := "java/util/ArrayList", name := "remove", desc := "(I)Ljava/lang/Object;" } : Jvm.MethodName)) ∈ lw_all := lw_g (lw_at lw_m9 129 rfl) rfl
theorem q2213 : (Jvm.Cond.instanceMethod ({ cls := "java/util/ArrayList", name := "remove", desc := "(I)Ljava/lang/Object;" } : Jvm.MethodName)) ∈ lw_all := lw_g (lw_at lw_m9 130 rfl) rfl
theorem q2214 : (Jvm.Cond.code ({ cls := "java/util/ArrayList", name := "remove", desc := "(I)Ljava/lang/Object;" } : Jvm.MethodName) prog_66_method_29_code (4 : Nat) (Option.some (Jvm.ClassFile.FieldType.object "java/lang/Object"))) ∈ lw_all := lw_g (lw_at lw_m9 131 rfl) rfl
theorem q2215 : (Jvm.Cond.methodLink "java/util/ArrayList" (144 : Nat) ({ cls := "java/util/ArrayList", name := "fastRemove", desc := "([Ljava/lang/Object;I)V" } : Jvm.MethodName)) ∈ lw_all := lw_g (lw_at lw_m9 132 rfl) rfl
theorem q2217 : (Jvm.Cond.instanceMethod ({ cls := "java/util/ArrayList", name := "fastRemove", desc := "([Ljava/lang/Object;I)V" } : Jvm.MethodName)) ∈ lw_all := lw_g (lw_at lw_m9 134 rfl) rfl
theorem q2218 : (Jvm.Cond.code ({ cls := "java/util/ArrayList", name := "fastRemove", desc := "([Ljava/lang/Object;I)V" } : Jvm.MethodName) prog_66_method_39_code (4 : Nat) (Option.none : Option Jvm.ClassFile.FieldType)) ∈ lw_all := lw_g (lw_at lw_m9 135 rfl) rfl
theorem q2219 : (Jvm.Cond.methodLink "java/util/ArrayList" (112 : Nat) ({ cls := "java/lang/System", name := "arraycopy", desc := "(Ljava/lang/Object;ILjava/lang/Object;II)V" } : Jvm.MethodName)) ∈ lw_all := lw_g (lw_at lw_m9 136 rfl) rfl
theorem q2220 : (Jvm.Cond.selects "java/util/LinkedList" ({ cls := "java/util/AbstractList", name := "remove", desc := "(I)Ljava/lang/Object;" } : Jvm.MethodName) ({ cls := "java/util/LinkedList", name := "remove", desc := "(I)Ljava/lang/Object;" } : Jvm.MethodName)) ∈ lw_all := lw_g (lw_at lw_m9 137 rfl) rfl
theorem q2221 : (Jvm.Cond.instanceMethod ({ cls := "java/util/LinkedList", name := "remove", desc := "(I)Ljava/lang/Object;" } : Jvm.MethodName)) ∈ lw_all := lw_g (lw_at lw_m9 138 rfl) rfl
theorem q2222 : (Jvm.Cond.code ({ cls := "java/util/LinkedList", name := "remove", desc := "(I)Ljava/lang/Object;" } : Jvm.MethodName) prog_79_method_25_code (2 : Nat) (Option.some (Jvm.ClassFile.FieldType.object "java/lang/Object"))) ∈ lw_all := lw_g (lw_at lw_m9 139 rfl) rfl
theorem q2223 : (Jvm.Cond.methodLink "java/util/LinkedList" (64 : Nat) ({ cls := "java/util/LinkedList", name := "unlink", desc := "(Ljava/util/LinkedList$Node;)Ljava/lang/Object;" } : Jvm.MethodName)) ∈ lw_all := lw_g (lw_at lw_m9 140 rfl) rfl
theorem q2224 : (Jvm.Cond.instanceMethod ({ cls := "java/util/LinkedList", name := "unlink", desc := "(Ljava/util/LinkedList$Node;)Ljava/lang/Object;" } : Jvm.MethodName)) ∈ lw_all := lw_g (lw_at lw_m9 141 rfl) rfl
theorem q2225 : (Jvm.Cond.selects "java/util/LinkedList" ({ cls := "java/util/LinkedList", name := "unlink", desc := "(Ljava/util/LinkedList$Node;)Ljava/lang/Object;" } : Jvm.MethodName) ({ cls := "java/util/LinkedList", name := "unlink", desc := "(Ljava/util/LinkedList$Node;)Ljava/lang/Object;" } : Jvm.MethodName)) ∈ lw_all := lw_g (lw_at lw_m9 142 rfl) rfl
theorem q2226 : (Jvm.Cond.code ({ cls := "java/util/LinkedList", name := "unlink", desc := "(Ljava/util/LinkedList$Node;)Ljava/lang/Object;" } : Jvm.MethodName) prog_79_method_8_code (5 : Nat) (Option.some (Jvm.ClassFile.FieldType.object "java/lang/Object"))) ∈ lw_all := lw_g (lw_at lw_m9 143 rfl) rfl
theorem q2227 : (Jvm.Cond.declares ({ cls := "java/util/AbstractList", name := "remove", desc := "(I)Ljava/lang/Object;" } : Jvm.MethodName)) ∈ lw_tbl := lw_at lw_m9 144 rfl
theorem q2228 : (Jvm.Cond.classLink "java/util/AbstractList$Itr" (52 : Nat) "java/util/ConcurrentModificationException") ∈ lw_all := lw_g (lw_at lw_m9 145 rfl) rfl
theorem q2229 : (Jvm.Cond.instantiable "java/util/ConcurrentModificationException" (6 : Nat)) ∈ lw_all := lw_g (lw_at lw_m9 146 rfl) rfl
theorem q2232 : (Jvm.Cond.lays "java/util/ConcurrentModificationException" "java/lang/Throwable" "cause" "Ljava/lang/Throwable;") ∈ lw_all := lw_g (lw_at lw_m9 149 rfl) rfl
theorem q2233 : (Jvm.Cond.lays "java/util/ConcurrentModificationException" "java/lang/Throwable" "stackTrace" "[Ljava/lang/StackTraceElement;") ∈ lw_all := lw_g (lw_at lw_m9 150 rfl) rfl
theorem q2234 : (Jvm.Cond.lays "java/util/ConcurrentModificationException" "java/lang/Throwable" "suppressedExceptions" "Ljava/util/List;") ∈ lw_all := lw_g (lw_at lw_m9 151 rfl) rfl
theorem q2235 : (Jvm.Cond.lays "java/util/ConcurrentModificationException" "java/lang/Throwable" "detailMessage" "Ljava/lang/String;") ∈ lw_all := lw_g (lw_at lw_m9 152 rfl) rfl
theorem q2236 : (Jvm.Cond.lays "java/util/ConcurrentModificationException" "java/lang/Throwable" "backtrace" "Ljava/lang/Object;") ∈ lw_all := lw_g (lw_at lw_m9 153 rfl) rfl
theorem q2237 : (Jvm.Cond.methodLink "java/util/AbstractList$Itr" (54 : Nat) ({ cls := "java/util/ConcurrentModificationException", name := "<init>", desc := "()V" } : Jvm.MethodName)) ∈ lw_all := lw_g (lw_at lw_m9 154 rfl) rfl
theorem q2238 : (Jvm.Cond.instanceMethod ({ cls := "java/util/ConcurrentModificationException", name := "<init>", desc := "()V" } : Jvm.MethodName)) ∈ lw_all := lw_g (lw_at lw_m9 155 rfl) rfl
theorem q2239 : (Jvm.Cond.code ({ cls := "java/util/ConcurrentModificationException", name := "<init>", desc := "()V" } : Jvm.MethodName) prog_76_method_1_code (1 : Nat) (Option.none : Option Jvm.ClassFile.FieldType)) ∈ lw_all := lw_g (lw_at lw_m9 156 rfl) rfl
theorem q2240 : (Jvm.Cond.methodLink "java/util/ConcurrentModificationException" (1 : Nat) ({ cls := "java/lang/RuntimeException", name := "<init>", desc := "()V" } : Jvm.MethodName)) ∈ lw_all := lw_g (lw_at lw_m9 157 rfl) rfl
theorem q2241 : (Jvm.Cond.lays "java/util/ConcurrentModificationException" "java/lang/Throwable" "depth" "I") ∈ lw_all := lw_g (lw_at lw_m9 158 rfl) rfl
theorem q2243 : (Jvm.Cond.selects "java/util/ArrayDeque$DeqIterator" ({ cls := "java/util/Iterator", name := "remove", desc := "()V" } : Jvm.MethodName) ({ cls := "java/util/ArrayDeque$DeqIterator", name := "remove", desc := "()V" } : Jvm.MethodName)) ∈ lw_all := lw_g (lw_at lw_m9 160 rfl) rfl
theorem q2244 : (Jvm.Cond.unhidden "java/util/ArrayDeque$DeqIterator" "remove" "()V") ∈ lw_tbl := lw_at lw_m9 161 rfl
theorem q2245 : (Jvm.Cond.instanceMethod ({ cls := "java/util/ArrayDeque$DeqIterator", name := "remove", desc := "()V" } : Jvm.MethodName)) ∈ lw_all := lw_g (lw_at lw_m9 162 rfl) rfl
theorem q2246 : (Jvm.Cond.publicMethod ({ cls := "java/util/ArrayDeque$DeqIterator", name := "remove", desc := "()V" } : Jvm.MethodName)) ∈ lw_tbl := lw_at lw_m9 163 rfl
theorem q2247 : (Jvm.Cond.code ({ cls := "java/util/ArrayDeque$DeqIterator", name := "remove", desc := "()V" } : Jvm.MethodName) prog_65_method_5_code (1 : Nat) (Option.none : Option Jvm.ClassFile.FieldType)) ∈ lw_all := lw_g (lw_at lw_m9 164 rfl) rfl
theorem q2248 : (Jvm.Cond.methodLink "java/util/ArrayDeque$DeqIterator" (53 : Nat) ({ cls := "java/util/ArrayDeque", name := "delete", desc := "(I)Z" } : Jvm.MethodName)) ∈ lw_all := lw_g (lw_at lw_m9 165 rfl) rfl
theorem q2249 : (Jvm.Cond.instanceMethod ({ cls := "java/util/ArrayDeque", name := "delete", desc := "(I)Z" } : Jvm.MethodName)) ∈ lw_all := lw_g (lw_at lw_m9 166 rfl) rfl
theorem q2250 : (Jvm.Cond.selects "java/util/ArrayDeque" ({ cls := "java/util/ArrayDeque", name := "delete", desc := "(I)Z" } : Jvm.MethodName) ({ cls := "java/util/ArrayDeque", name := "delete", desc := "(I)Z" } : Jvm.MethodName)) ∈ lw_all := lw_g (lw_at lw_m9 167 rfl) rfl
theorem q2251 : (Jvm.Cond.code ({ cls := "java/util/ArrayDeque", name := "delete", desc := "(I)Z" } : Jvm.MethodName) prog_64_method_36_code (8 : Nat) (Option.some Jvm.ClassFile.FieldType.boolean)) ∈ lw_all := lw_g (lw_at lw_m9 168 rfl) rfl
theorem q2252 : (Jvm.Cond.methodLink "java/util/ArrayDeque" (68 : Nat) ({ cls := "java/util/ArrayDeque", name := "dec", desc := "(II)I" } : Jvm.MethodName)) ∈ lw_all := lw_g (lw_at lw_m9 169 rfl) rfl
theorem q2253 : (Jvm.Cond.static ({ cls := "java/util/ArrayDeque", name := "dec", desc := "(II)I" } : Jvm.MethodName)) ∈ lw_all := lw_g (lw_at lw_m9 170 rfl) rfl
theorem q2254 : (Jvm.Cond.code ({ cls := "java/util/ArrayDeque", name := "dec", desc := "(II)I" } : Jvm.MethodName) prog_64_method_7_code (2 : Nat) (Option.some Jvm.ClassFile.FieldType.int)) ∈ lw_all := lw_g (lw_at lw_m9 171 rfl) rfl
theorem q2255 : (Jvm.Cond.methodLink "java/util/ArrayDeque$DeqIterator" (57 : Nat) ({ cls := "java/util/ArrayDeque$DeqIterator", name := "postDelete", desc := "(Z)V" } : Jvm.MethodName)) ∈ lw_all := lw_g (lw_at lw_m9 172 rfl) rfl
theorem q2256 : (Jvm.Cond.instanceMethod ({ cls := "java/util/ArrayDeque$DeqIterator", name := "postDelete", desc := "(Z)V" } : Jvm.MethodName)) ∈ lw_all := lw_g (lw_at lw_m9 173 rfl) rfl
theorem q2257 : (Jvm.Cond.selects "java/util/ArrayDeque$DeqIterator" ({ cls := "java/util/ArrayDeque$DeqIterator", name := "postDelete", desc := "(Z)V" } : Jvm.MethodName) ({ cls := "java/util/ArrayDeque$DeqIterator", name := "postDelete", desc := "(Z)V" } : Jvm.MethodName)) ∈ lw_all := lw_g (lw_at lw_m9 174 rfl) rfl
theorem q2258 : (Jvm.Cond.code ({ cls := "java/util/ArrayDeque$DeqIterator", name := "postDelete", desc := "(Z)V" } : Jvm.MethodName) prog_65_method_4_code (2 : Nat) (Option.none : Option Jvm.ClassFile.FieldType)) ∈ lw_all := lw_g (lw_at lw_m9 175 rfl) rfl
theorem q2259 : (Jvm.Cond.methodLink "java/util/ArrayDeque$DeqIterator" (47 : Nat) ({ cls := "java/util/ArrayDeque", name := "dec", desc := "(II)I" } : Jvm.MethodName)) ∈ lw_all := lw_g (lw_at lw_m9 176 rfl) rfl
theorem q2260 : (Jvm.Cond.selects "java/util/ArrayList$Itr" ({ cls := "java/util/Iterator", name := "remove", desc := "()V" } : Jvm.MethodName) ({ cls := "java/util/ArrayList$Itr", name := "remove", desc := "()V" } : Jvm.MethodName)) ∈ lw_all := lw_g (lw_at lw_m9 177 rfl) rfl
theorem q2261 : (Jvm.Cond.unhidden "java/util/ArrayList$Itr" "remove" "()V") ∈ lw_tbl := lw_at lw_m9 178 rfl
theorem q2262 : (Jvm.Cond.instanceMethod ({ cls := "java/util/ArrayList$Itr", name := "remove", desc := "()V" } : Jvm.MethodName)) ∈ lw_all := lw_g (lw_at lw_m9 179 rfl) rfl
theorem q2263 : (Jvm.Cond.publicMethod ({ cls := "java/util/ArrayList$Itr", name := "remove", desc := "()V" } : Jvm.MethodName)) ∈ lw_tbl := lw_at lw_m9 180 rfl
theorem q2264 : (Jvm.Cond.codeWith ({ cls := "java/util/ArrayList$Itr", name := "remove", desc := "()V" } : Jvm.MethodName) prog_67_method_4_code (2 : Nat) (Option.none : Option Jvm.ClassFile.FieldType) [((19 : Nat), (55 : Nat), (58 : Nat), (51 : Nat))]) ∈ lw_all := lw_g (lw_at lw_m9 181 rfl) rfl
theorem q2265 : (Jvm.Cond.classLink "java/util/ArrayList$Itr" (44 : Nat) "java/lang/IllegalStateException") ∈ lw_all := lw_g (lw_at lw_m9 182 rfl) rfl
theorem q2266 : (Jvm.Cond.methodLink "java/util/ArrayList$Itr" (46 : Nat) ({ cls := "java/lang/IllegalStateException", name := "<init>", desc := "()V" } : Jvm.MethodName)) ∈ lw_all := lw_g (lw_at lw_m9 183 rfl) rfl
theorem q2267 : (Jvm.Cond.methodLink "java/util/ArrayList$Itr" (47 : Nat) ({ cls := "java/util/ArrayList", name := "remove", desc := "(I)Ljava/lang/Object;" } : Jvm.MethodName)) ∈ lw_all := lw_g (lw_at lw_m9 184 rfl) rfl
theorem q2268 : (Jvm.Cond.classLink "java/util/ArrayList$Itr" (41 : Nat) "java/util/ConcurrentModificationException") ∈ lw_all := lw_g (lw_at lw_m9 185 rfl) rfl
theorem q2269 : (Jvm.Cond.methodLink "java/util/ArrayList$Itr" (43 : Nat) ({ cls := "java/util/ConcurrentModificationException", name := "<init>", desc := "()V" } : Jvm.MethodName)) ∈ lw_all := lw_g (lw_at lw_m9 186 rfl) rfl
theorem q2270 : (Jvm.Cond.selects "java/util/ArrayList$ListItr" ({ cls := "java/util/Iterator", name := "remove", desc := "()V" } : Jvm.MethodName) ({ cls := "java/util/ArrayList$Itr", name := "remove", desc := "()V" } : Jvm.MethodName)) ∈ lw_all := lw_g (lw_at lw_m9 187 rfl) rfl
theorem q2271 : (Jvm.Cond.unhidden "java/util/ArrayList$ListItr" "remove" "()V") ∈ lw_tbl := lw_at lw_m9 188 rfl
theorem q2272 : (Jvm.Cond.selects "java/util/LinkedList$ListItr" ({ cls := "java/util/Iterator", name := "remove", desc := "()V" } : Jvm.MethodName) ({ cls := "java/util/LinkedList$ListItr", name := "remove", desc := "()V" } : Jvm.MethodName)) ∈ lw_all := lw_g (lw_at lw_m9 189 rfl) rfl
theorem q2273 : (Jvm.Cond.unhidden "java/util/LinkedList$ListItr" "remove" "()V") ∈ lw_tbl := lw_at lw_m9 190 rfl
theorem q2274 : (Jvm.Cond.instanceMethod ({ cls := "java/util/LinkedList$ListItr", name := "remove", desc := "()V" } : Jvm.MethodName)) ∈ lw_all := lw_g (lw_at lw_m9 191 rfl) rfl
theorem q2275 : (Jvm.Cond.publicMethod ({ cls := "java/util/LinkedList$ListItr", name := "remove", desc := "()V" } : Jvm.MethodName)) ∈ lw_tbl := lw_at lw_m9 192 rfl
theorem q2276 : (Jvm.Cond.code ({ cls := "java/util/LinkedList$ListItr", name := "remove", desc := "()V" } : Jvm.MethodName) prog_80_method_8_code (2 : Nat) (Option.none : Option Jvm.ClassFile.FieldType)) ∈ lw_all := lw_g (lw_at lw_m9 193 rfl) rfl
theorem q2277 : (Jvm.Cond.methodLink "java/util/LinkedList$ListItr" (68 : Nat) ({ cls := "java/util/LinkedList", name := "unlink", desc := "(Ljava/util/LinkedList$Node;)Ljava/lang/Object;" } : Jvm.MethodName)) ∈ lw_all := lw_g (lw_at lw_m9 194 rfl) rfl
theorem q2278 : (Jvm.Cond.methodLink "FollowingRefs$Plan" (188 : Nat) ({ cls := "FollowingRefs$Plan", name := "other", desc := "(LFollowingRefs$Row;)LFollowingRefs$Row;" } : Jvm.MethodName)) ∈ lw_all := lw_g (lw_at lw_m9 195 rfl) rfl
theorem q2280 : (Jvm.Cond.instanceMethod ({ cls := "FollowingRefs$Plan", name := "other", desc := "(LFollowingRefs$Row;)LFollowingRefs$Row;" } : Jvm.MethodName)) ∈ lw_all := lw_g (lw_at lw_m9 197 rfl) rfl
theorem q2281 : (Jvm.Cond.code ({ cls := "FollowingRefs$Plan", name := "other", desc := "(LFollowingRefs$Row;)LFollowingRefs$Row;" } : Jvm.MethodName) prog_15_method_17_code (4 : Nat) (Option.some (Jvm.ClassFile.FieldType.object "FollowingRefs$Row"))) ∈ lw_all := lw_g (lw_at lw_m9 198 rfl) rfl
theorem q2282 : (Jvm.Cond.instantiable "FollowingRefs$Row" (3 : Nat)) ∈ lw_all := lw_g (lw_at lw_m9 199 rfl) rfl
theorem q2283 : (Jvm.Cond.methodLink "FollowingRefs$Plan" (195 : Nat) ({ cls := "FollowingRefs$Row", name := "<init>", desc := "(II[I)V" } : Jvm.MethodName)) ∈ lw_all := lw_g (lw_at lw_m9 200 rfl) rfl
theorem q2284 : (Jvm.Cond.instanceMethod ({ cls := "FollowingRefs$Row", name := "<init>", desc := "(II[I)V" } : Jvm.MethodName)) ∈ lw_all := lw_g (lw_at lw_m9 201 rfl) rfl
theorem q2285 : (Jvm.Cond.code ({ cls := "FollowingRefs$Row", name := "<init>", desc := "(II[I)V" } : Jvm.MethodName) prog_18_method_1_code (4 : Nat) (Option.none : Option Jvm.ClassFile.FieldType)) ∈ lw_all := lw_g (lw_at lw_m9 202 rfl) rfl
theorem q2286 : (Jvm.Cond.methodLink "FollowingRefs$Row" (3 : Nat) ({ cls := "java/lang/Object", name := "<init>", desc := "()V" } : Jvm.MethodName)) ∈ lw_all := lw_g (lw_at lw_m9 203 rfl) rfl
theorem q2287 : (Jvm.Cond.fieldLink "FollowingRefs$Row" (9 : Nat) "FollowingRefs$Row" "number" "I") ∈ lw_all := lw_g (lw_at lw_m9 204 rfl) rfl
theorem q2288 : (Jvm.Cond.fieldLinkNest "FollowingRefs$Violation" (24 : Nat) "FollowingRefs$Row" "number" "I" "FollowingRefs") ∈ lw_tbl := lw_at lw_m9 205 rfl
theorem q2289 : (Jvm.Cond.fieldLinkNest "FollowingRefs$Than" (30 : Nat) "FollowingRefs$Row" "number" "I" "FollowingRefs") ∈ lw_tbl := lw_at lw_m9 206 rfl
theorem q2290 : (Jvm.Cond.fieldLinkNest "FollowingRefs$Plan" (42 : Nat) "FollowingRefs$Row" "number" "I" "FollowingRefs") ∈ lw_tbl := lw_at lw_m9 207 rfl
theorem q2291 : (Jvm.Cond.fieldLinkNest "FollowingRefs$IsWhat" (63 : Nat) "FollowingRefs$Row" "number" "I" "FollowingRefs") ∈ lw_tbl := lw_at lw_m9 208 rfl
theorem q2292 : (Jvm.Cond.fieldLinkNest "FollowingRefs$Store" (66 : Nat) "FollowingRefs$Row" "number" "I" "FollowingRefs") ∈ lw_tbl := lw_at lw_m9 209 rfl
theorem q2293 : (Jvm.Cond.fieldLinkNest "FollowingRefs" (258 : Nat) "FollowingRefs$Row" "number" "I" "FollowingRefs") ∈ lw_tbl := lw_at lw_m9 210 rfl
theorem q2294 : (Jvm.Cond.fieldLink "FollowingRefs$Row" (15 : Nat) "FollowingRefs$Row" "table" "I") ∈ lw_all := lw_g (lw_at lw_m9 211 rfl) rfl
theorem q2295 : (Jvm.Cond.fieldLinkNest "FollowingRefs$Violation" (18 : Nat) "FollowingRefs$Row" "table" "I" "FollowingRefs") ∈ lw_tbl := lw_at lw_m9 212 rfl
theorem q2296 : (Jvm.Cond.fieldLinkNest "FollowingRefs$Finds" (15 : Nat) "FollowingRefs$Row" "table" "I" "FollowingRefs") ∈ lw_tbl := lw_at lw_m9 213 rfl
theorem q2297 : (Jvm.Cond.fieldLinkNest "FollowingRefs$InTable" (13 : Nat) "FollowingRefs$Row" "table" "I" "FollowingRefs") ∈ lw_tbl := lw_at lw_m9 214 rfl
theorem q2298 : (Jvm.Cond.fieldLinkNest "FollowingRefs$IsWhat" (27 : Nat) "FollowingRefs$Row" "table" "I" "FollowingRefs") ∈ lw_tbl := lw_at lw_m9 215 rfl
theorem q2299 : (Jvm.Cond.fieldLinkNest "FollowingRefs$Than" (49 : Nat) "FollowingRefs$Row" "table" "I" "FollowingRefs") ∈ lw_tbl := lw_at lw_m9 216 rfl
theorem q2300 : (Jvm.Cond.fieldLinkNest "FollowingRefs$Store" (69 : Nat) "FollowingRefs$Row" "table" "I" "FollowingRefs") ∈ lw_tbl := lw_at lw_m9 217 rfl
theorem q2301 : (Jvm.Cond.fieldLinkNest "FollowingRefs$Plan" (73 : Nat) "FollowingRefs$Row" "table" "I" "FollowingRefs") ∈ lw_tbl := lw_at lw_m9 218 rfl
theorem q2302 : (Jvm.Cond.fieldLinkNest "FollowingRefs" (255 : Nat) "FollowingRefs$Row" "table" "I" "FollowingRefs") ∈ lw_tbl := lw_at lw_m9 219 rfl
theorem q2303 : (Jvm.Cond.fieldLink "FollowingRefs$Row" (18 : Nat) "FollowingRefs$Row" "cells" "[I") ∈ lw_all := lw_g (lw_at lw_m9 220 rfl) rfl
theorem q2304 : (Jvm.Cond.fieldLinkNest "FollowingRefs$When" (21 : Nat) "FollowingRefs$Row" "cells" "[I" "FollowingRefs") ∈ lw_tbl := lw_at lw_m9 221 rfl
theorem q2305 : (Jvm.Cond.fieldLinkNest "FollowingRefs$Check" (31 : Nat) "FollowingRefs$Row" "cells" "[I" "FollowingRefs") ∈ lw_tbl := lw_at lw_m9 222 rfl
theorem q2306 : (Jvm.Cond.fieldLinkNest "FollowingRefs$IsWhat" (47 : Nat) "FollowingRefs$Row" "cells" "[I" "FollowingRefs") ∈ lw_tbl := lw_at lw_m9 223 rfl
theorem q2307 : (Jvm.Cond.fieldLinkNest "FollowingRefs$Than" (64 : Nat) "FollowingRefs$Row" "cells" "[I" "FollowingRefs") ∈ lw_tbl := lw_at lw_m9 224 rfl
theorem q2308 : (Jvm.Cond.fieldLinkNest "FollowingRefs$Plan" (55 : Nat) "FollowingRefs$Row" "cells" "[I" "FollowingRefs") ∈ lw_tbl := lw_at lw_m9 225 rfl
theorem q2309 : (Jvm.Cond.fieldLinkNest "FollowingRefs$Store" (117 : Nat) "FollowingRefs$Row" "cells" "[I" "FollowingRefs") ∈ lw_tbl := lw_at lw_m9 226 rfl
theorem q2310 : (Jvm.Cond.fieldLinkNest "FollowingRefs" (271 : Nat) "FollowingRefs$Row" "cells" "[I" "FollowingRefs") ∈ lw_tbl := lw_at lw_m9 227 rfl
theorem q2311 : (Jvm.Cond.laysFinal "FollowingRefs$Row" "FollowingRefs$Row" "number" "I") ∈ lw_all := lw_g (lw_at lw_m9 228 rfl) rfl
theorem q2313 : (Jvm.Cond.laysFinal "FollowingRefs$Row" "FollowingRefs$Row" "table" "I") ∈ lw_all := lw_g (lw_at lw_m9 230 rfl) rfl
theorem q2315 : (Jvm.Cond.laysFinal "FollowingRefs$Row" "FollowingRefs$Row" "cells" "[I") ∈ lw_all := lw_g (lw_at lw_m9 232 rfl) rfl
theorem q2318 : (Jvm.Cond.methodLink "FollowingRefs$Plan" (192 : Nat) ({ cls := "java/util/ArrayList", name := "set", desc := "(ILjava/lang/Object;)Ljava/lang/Object;" } : Jvm.MethodName)) ∈ lw_all := lw_g (lw_at lw_m9 235 rfl) rfl
theorem q2319 : (Jvm.Cond.instanceMethod ({ cls := "java/util/ArrayList", name := "set", desc := "(ILjava/lang/Object;)Ljava/lang/Object;" } : Jvm.MethodName)) ∈ lw_all := lw_g (lw_at lw_m9 236 rfl) rfl
theorem q2320 : (Jvm.Cond.selects "java/util/ArrayList" ({ cls := "java/util/ArrayList", name := "set", desc := "(ILjava/lang/Object;)Ljava/lang/Object;" } : Jvm.MethodName) ({ cls := "java/util/ArrayList", name := "set", desc := "(ILjava/lang/Object;)Ljava/lang/Object;" } : Jvm.MethodName)) ∈ lw_all := lw_g (lw_at lw_m9 237 rfl) rfl
theorem q2321 : (Jvm.Cond.code ({ cls := "java/util/ArrayList", name := "set", desc := "(ILjava/lang/Object;)Ljava/lang/Object;" } : Jvm.MethodName) prog_66_method_23_code (4 : Nat) (Option.some (Jvm.ClassFile.FieldType.object "java/lang/Object"))) ∈ lw_all := lw_g (lw_at lw_m9 238 rfl) rfl
theorem q2322 : (Jvm.Cond.selects "FollowingRefs$Inserts" ({ cls := "FollowingRefs$Statement", name := "lays", desc := "(LFollowingRefs$Plan;LFollowingRefs$Verdict;LFollowingRefs$Store;)V" } : Jvm.MethodName) ({ cls := "FollowingRefs$Inserts", name := "lays", desc := "(LFollowingRefs$Plan;LFollowingRefs$Verdict;LFollowingRefs$Store;)V" } : Jvm.MethodName)) ∈ lw_all := lw_g (lw_at lw_m9 239 rfl) rfl
theorem q2323 : (Jvm.Cond.instanceMethod ({ cls := "FollowingRefs$Inserts", name := "lays", desc := "(LFollowingRefs$Plan;LFollowingRefs$Verdict;LFollowingRefs$Store;)V" } : Jvm.MethodName)) ∈ lw_all := lw_g (lw_at lw_m10 0 rfl) rfl
theorem q2324 : (Jvm.Cond.code ({ cls := "FollowingRefs$Inserts", name := "lays", desc := "(LFollowingRefs$Plan;LFollowingRefs$Verdict;LFollowingRefs$Store;)V" } : Jvm.MethodName) prog_10_method_2_code (4 : Nat) (Option.none : Option Jvm.ClassFile.FieldType)) ∈ lw_all := lw_g (lw_at lw_m10 1 rfl) rfl
theorem q2325 : (Jvm.Cond.methodLink "FollowingRefs$Inserts" (21 : Nat) ({ cls := "java/util/ArrayList", name := "size", desc := "()I" } : Jvm.MethodName)) ∈ lw_all := lw_g (lw_at lw_m10 2 rfl) rfl
theorem q2326 : (Jvm.Cond.classLink "FollowingRefs$Inserts" (36 : Nat) "FollowingRefs$Row") ∈ lw_all := lw_g (lw_at lw_m10 3 rfl) rfl
theorem q2327 : (Jvm.Cond.methodLink "FollowingRefs$Inserts" (41 : Nat) ({ cls := "FollowingRefs$Row", name := "<init>", desc := "(II[I)V" } : Jvm.MethodName)) ∈ lw_all := lw_g (lw_at lw_m10 4 rfl) rfl
theorem q2328 : (Jvm.Cond.methodLink "FollowingRefs$Inserts" (44 : Nat) ({ cls := "java/util/ArrayList", name := "add", desc := "(Ljava/lang/Object;)Z" } : Jvm.MethodName)) ∈ lw_all := lw_g (lw_at lw_m10 5 rfl) rfl
theorem q2329 : (Jvm.Cond.selects "FollowingRefs$Sets" ({ cls := "FollowingRefs$Statement", name := "lays", desc := "(LFollowingRefs$Plan;LFollowingRefs$Verdict;LFollowingRefs$Store;)V" } : Jvm.MethodName) ({ cls := "FollowingRefs$Finds", name := "lays", desc := "(LFollowingRefs$Plan;LFollowingRefs$Verdict;LFollowingRefs$Store;)V" } : Jvm.MethodName)) ∈ lw_all := lw_g (lw_at lw_m10 6 rfl) rfl
theorem q2330 : (Jvm.Cond.methodLink "FollowingRefs$Statement" (49 : Nat) ({ cls := "FollowingRefs$Store", name := "violations", desc := "(Z)Ljava/util/LinkedList;" } : Jvm.MethodName)) ∈ lw_all := lw_g (lw_at lw_m10 7 rfl) rfl
theorem q2331 : (Jvm.Cond.instanceMethod ({ cls := "FollowingRefs$Store", name := "violations", desc := "(Z)Ljava/util/LinkedList;" } : Jvm.MethodName)) ∈ lw_all := lw_g (lw_at lw_m10 8 rfl) rfl
theorem q2332 : (Jvm.Cond.selects "FollowingRefs$Store" ({ cls := "FollowingRefs$Store", name := "violations", desc := "(Z)Ljava/util/LinkedList;" } : Jvm.MethodName) ({ cls := "FollowingRefs$Store", name := "violations", desc := "(Z)Ljava/util/LinkedList;" } : Jvm.MethodName)) ∈ lw_all := lw_g (lw_at lw_m10 9 rfl) rfl
theorem q2333 : (Jvm.Cond.code ({ cls := "FollowingRefs$Store", name := "violations", desc := "(Z)Ljava/util/LinkedList;" } : Jvm.MethodName) prog_26_method_11_code (4 : Nat) (Option.some (Jvm.ClassFile.FieldType.object "java/util/LinkedList"))) ∈ lw_all := lw_g (lw_at lw_m10 10 rfl) rfl
theorem q2334 : (Jvm.Cond.classLink "FollowingRefs$Store" (130 : Nat) "java/util/LinkedList") ∈ lw_all := lw_g (lw_at lw_m10 11 rfl) rfl
theorem q2335 : (Jvm.Cond.methodLink "FollowingRefs$Store" (160 : Nat) ({ cls := "java/util/LinkedList", name := "<init>", desc := "()V" } : Jvm.MethodName)) ∈ lw_all := lw_g (lw_at lw_m10 12 rfl) rfl
theorem q2336 : (Jvm.Cond.methodLink "FollowingRefs$Store" (161 : Nat) ({ cls := "FollowingRefs$Store", name := "violations", desc := "(LFollowingRefs$Row;ZLjava/util/LinkedList;)V" } : Jvm.MethodName)) ∈ lw_all := lw_g (lw_at lw_m10 13 rfl) rfl
theorem q2338 : (Jvm.Cond.instanceMethod ({ cls := "FollowingRefs$Store", name := "violations", desc := "(LFollowingRefs$Row;ZLjava/util/LinkedList;)V" } : Jvm.MethodName)) ∈ lw_all := lw_g (lw_at lw_m10 15 rfl) rfl
theorem q2339 : (Jvm.Cond.code ({ cls := "FollowingRefs$Store", name := "violations", desc := "(LFollowingRefs$Row;ZLjava/util/LinkedList;)V" } : Jvm.MethodName) prog_26_method_10_code (6 : Nat) (Option.none : Option Jvm.ClassFile.FieldType)) ∈ lw_all := lw_g (lw_at lw_m10 16 rfl) rfl
theorem q2340 : (Jvm.Cond.classLink "FollowingRefs$Store" (113 : Nat) "FollowingRefs$Table") ∈ lw_all := lw_g (lw_at lw_m10 17 rfl) rfl
theorem q2341 : (Jvm.Cond.methodLink "FollowingRefs$Store" (120 : Nat) ({ cls := "FollowingRefs$Schema", name := "isNeeded", desc := "(II)Z" } : Jvm.MethodName)) ∈ lw_all := lw_g (lw_at lw_m10 18 rfl) rfl
theorem q2342 : (Jvm.Cond.instanceMethod ({ cls := "FollowingRefs$Schema", name := "isNeeded", desc := "(II)Z" } : Jvm.MethodName)) ∈ lw_all := lw_g (lw_at lw_m10 19 rfl) rfl
theorem q2343 : (Jvm.Cond.selects "FollowingRefs$Schema" ({ cls := "FollowingRefs$Schema", name := "isNeeded", desc := "(II)Z" } : Jvm.MethodName) ({ cls := "FollowingRefs$Schema", name := "isNeeded", desc := "(II)Z" } : Jvm.MethodName)) ∈ lw_all := lw_g (lw_at lw_m10 20 rfl) rfl
theorem q2344 : (Jvm.Cond.code ({ cls := "FollowingRefs$Schema", name := "isNeeded", desc := "(II)Z" } : Jvm.MethodName) prog_19_method_7_code (4 : Nat) (Option.some Jvm.ClassFile.FieldType.boolean)) ∈ lw_all := lw_g (lw_at lw_m10 21 rfl) rfl
theorem q2345 : (Jvm.Cond.methodLink "FollowingRefs$Schema" (73 : Nat) ({ cls := "FollowingRefs$Of", name := "has", desc := "(I)Z" } : Jvm.MethodName)) ∈ lw_all := lw_g (lw_at lw_m10 22 rfl) rfl
theorem q2346 : (Jvm.Cond.instanceMethod ({ cls := "FollowingRefs$Of", name := "has", desc := "(I)Z" } : Jvm.MethodName)) ∈ lw_all := lw_g (lw_at lw_m10 23 rfl) rfl
theorem q2347 : (Jvm.Cond.selects "FollowingRefs$Of" ({ cls := "FollowingRefs$Of", name := "has", desc := "(I)Z" } : Jvm.MethodName) ({ cls := "FollowingRefs$Of", name := "has", desc := "(I)Z" } : Jvm.MethodName)) ∈ lw_all := lw_g (lw_at lw_m10 24 rfl) rfl
theorem q2349 : (Jvm.Cond.selects "FollowingRefs$Ref" ({ cls := "FollowingRefs$Of", name := "has", desc := "(I)Z" } : Jvm.MethodName) ({ cls := "FollowingRefs$Of", name := "has", desc := "(I)Z" } : Jvm.MethodName)) ∈ lw_all := lw_g (lw_at lw_m10 26 rfl) rfl
theorem q2350 : (Jvm.Cond.code ({ cls := "FollowingRefs$Of", name := "has", desc := "(I)Z" } : Jvm.MethodName) prog_14_method_2_code (6 : Nat) (Option.some Jvm.ClassFile.FieldType.boolean)) ∈ lw_all := lw_g (lw_at lw_m10 27 rfl) rfl
theorem q2351 : (Jvm.Cond.methodLink "FollowingRefs$Schema" (80 : Nat) ({ cls := "java/util/BitSet", name := "get", desc := "(I)Z" } : Jvm.MethodName)) ∈ lw_all := lw_g (lw_at lw_m10 28 rfl) rfl
theorem q2352 : (Jvm.Cond.classLink "FollowingRefs$Store" (124 : Nat) "FollowingRefs$Violation") ∈ lw_all := lw_g (lw_at lw_m10 29 rfl) rfl
theorem q2353 : (Jvm.Cond.instantiable "FollowingRefs$Violation" (4 : Nat)) ∈ lw_all := lw_g (lw_at lw_m10 30 rfl) rfl
theorem q2354 : (Jvm.Cond.methodLink "FollowingRefs$Store" (126 : Nat) ({ cls := "FollowingRefs$Violation", name := "<init>", desc := "(IILFollowingRefs$Row;)V" } : Jvm.MethodName)) ∈ lw_all := lw_g (lw_at lw_m10 31 rfl) rfl
theorem q2355 : (Jvm.Cond.instanceMethod ({ cls := "FollowingRefs$Violation", name := "<init>", desc := "(IILFollowingRefs$Row;)V" } : Jvm.MethodName)) ∈ lw_all := lw_g (lw_at lw_m10 32 rfl) rfl
theorem q2356 : (Jvm.Cond.code ({ cls := "FollowingRefs$Violation", name := "<init>", desc := "(IILFollowingRefs$Row;)V" } : Jvm.MethodName) prog_32_method_1_code (4 : Nat) (Option.none : Option Jvm.ClassFile.FieldType)) ∈ lw_all := lw_g (lw_at lw_m10 33 rfl) rfl
theorem q2357 : (Jvm.Cond.methodLink "FollowingRefs$Violation" (3 : Nat) ({ cls := "java/lang/Object", name := "<init>", desc := "()V" } : Jvm.MethodName)) ∈ lw_all := lw_g (lw_at lw_m10 34 rfl) rfl
theorem q2358 : (Jvm.Cond.fieldLink "FollowingRefs$Violation" (9 : Nat) "FollowingRefs$Violation" "kind" "I") ∈ lw_all := lw_g (lw_at lw_m10 35 rfl) rfl
theorem q2359 : (Jvm.Cond.fieldLinkNest "FollowingRefs$Statement" (68 : Nat) "FollowingRefs$Violation" "kind" "I" "FollowingRefs") ∈ lw_tbl := lw_at lw_m10 36 rfl
theorem q2360 : (Jvm.Cond.fieldLinkNest "FollowingRefs" (222 : Nat) "FollowingRefs$Violation" "kind" "I" "FollowingRefs") ∈ lw_tbl := lw_at lw_m10 37 rfl
theorem q2361 : (Jvm.Cond.fieldLink "FollowingRefs$Violation" (23 : Nat) "FollowingRefs$Violation" "table" "I") ∈ lw_all := lw_g (lw_at lw_m10 38 rfl) rfl
theorem q2362 : (Jvm.Cond.fieldLink "FollowingRefs$Violation" (15 : Nat) "FollowingRefs$Violation" "number" "I") ∈ lw_all := lw_g (lw_at lw_m10 39 rfl) rfl
theorem q2363 : (Jvm.Cond.fieldLinkNest "FollowingRefs" (223 : Nat) "FollowingRefs$Violation" "number" "I" "FollowingRefs") ∈ lw_tbl := lw_at lw_m10 40 rfl
theorem q2364 : (Jvm.Cond.fieldLink "FollowingRefs$Violation" (25 : Nat) "FollowingRefs$Violation" "row" "I") ∈ lw_all := lw_g (lw_at lw_m10 41 rfl) rfl
theorem q2365 : (Jvm.Cond.fieldLinkNest "FollowingRefs$Store" (183 : Nat) "FollowingRefs$Violation" "row" "I" "FollowingRefs") ∈ lw_tbl := lw_at lw_m10 42 rfl
theorem q2366 : (Jvm.Cond.fieldLinkNest "FollowingRefs" (226 : Nat) "FollowingRefs$Violation" "row" "I" "FollowingRefs") ∈ lw_tbl := lw_at lw_m10 43 rfl
theorem q2367 : (Jvm.Cond.laysFinal "FollowingRefs$Violation" "FollowingRefs$Violation" "kind" "I") ∈ lw_all := lw_g (lw_at lw_m10 44 rfl) rfl
theorem q2369 : (Jvm.Cond.laysFinal "FollowingRefs$Violation" "FollowingRefs$Violation" "table" "I") ∈ lw_all := lw_g (lw_at lw_m10 46 rfl) rfl
theorem q2371 : (Jvm.Cond.laysFinal "FollowingRefs$Violation" "FollowingRefs$Violation" "number" "I") ∈ lw_all := lw_g (lw_at lw_m10 48 rfl) rfl
theorem q2373 : (Jvm.Cond.laysFinal "FollowingRefs$Violation" "FollowingRefs$Violation" "row" "I") ∈ lw_all := lw_g (lw_at lw_m10 50 rfl) rfl
theorem q2376 : (Jvm.Cond.methodLink "FollowingRefs$Store" (129 : Nat) ({ cls := "java/util/LinkedList", name := "addLast", desc := "(Ljava/lang/Object;)V" } : Jvm.MethodName)) ∈ lw_all := lw_g (lw_at lw_m10 53 rfl) rfl
theorem q2377 : (Jvm.Cond.instanceMethod ({ cls := "java/util/LinkedList", name := "addLast", desc := "(Ljava/lang/Object;)V" } : Jvm.MethodName)) ∈ lw_all := lw_g (lw_at lw_m10 54 rfl) rfl
theorem q2378 : (Jvm.Cond.selects "java/util/LinkedList" ({ cls := "java/util/LinkedList", name := "addLast", desc := "(Ljava/lang/Object;)V" } : Jvm.MethodName) ({ cls := "java/util/LinkedList", name := "addLast", desc := "(Ljava/lang/Object;)V" } : Jvm.MethodName)) ∈ lw_all := lw_g (lw_at lw_m10 55 rfl) rfl
theorem q2379 : (Jvm.Cond.code ({ cls := "java/util/LinkedList", name := "addLast", desc := "(Ljava/lang/Object;)V" } : Jvm.MethodName) prog_79_method_14_code (2 : Nat) (Option.none : Option Jvm.ClassFile.FieldType)) ∈ lw_all := lw_g (lw_at lw_m10 56 rfl) rfl
theorem q2380 : (Jvm.Cond.methodLink "java/util/LinkedList" (57 : Nat) ({ cls := "java/util/LinkedList", name := "linkLast", desc := "(Ljava/lang/Object;)V" } : Jvm.MethodName)) ∈ lw_all := lw_g (lw_at lw_m10 57 rfl) rfl
theorem q2381 : (Jvm.Cond.instanceMethod ({ cls := "java/util/LinkedList", name := "linkLast", desc := "(Ljava/lang/Object;)V" } : Jvm.MethodName)) ∈ lw_all := lw_g (lw_at lw_m10 58 rfl) rfl
theorem q2382 : (Jvm.Cond.selects "java/util/LinkedList" ({ cls := "java/util/LinkedList", name := "linkLast", desc := "(Ljava/lang/Object;)V" } : Jvm.MethodName) ({ cls := "java/util/LinkedList", name := "linkLast", desc := "(Ljava/lang/Object;)V" } : Jvm.MethodName)) ∈ lw_all := lw_g (lw_at lw_m10 59 rfl) rfl
theorem q2383 : (Jvm.Cond.code ({ cls := "java/util/LinkedList", name := "linkLast", desc := "(Ljava/lang/Object;)V" } : Jvm.MethodName) prog_79_method_4_code (4 : Nat) (Option.none : Option Jvm.ClassFile.FieldType)) ∈ lw_all := lw_g (lw_at lw_m10 60 rfl) rfl
theorem q2384 : (Jvm.Cond.classLink "java/util/LinkedList" (22 : Nat) "java/util/LinkedList$Node") ∈ lw_all := lw_g (lw_at lw_m10 61 rfl) rfl
theorem q2385 : (Jvm.Cond.instantiable "java/util/LinkedList$Node" (3 : Nat)) ∈ lw_all := lw_g (lw_at lw_m10 62 rfl) rfl
theorem q2386 : (Jvm.Cond.methodLink "java/util/LinkedList" (24 : Nat) ({ cls := "java/util/LinkedList$Node", name := "<init>", desc := "(Ljava/util/LinkedList$Node;Ljava/lang/Object;Ljava/util/LinkedList$Node;)V" } : Jvm.MethodName)) ∈ lw_all := lw_g (lw_at lw_m10 63 rfl) rfl
theorem q2387 : (Jvm.Cond.instanceMethod ({ cls := "java/util/LinkedList$Node", name := "<init>", desc := "(Ljava/util/LinkedList$Node;Ljava/lang/Object;Ljava/util/LinkedList$Node;)V" } : Jvm.MethodName)) ∈ lw_all := lw_g (lw_at lw_m10 64 rfl) rfl
theorem q2388 : (Jvm.Cond.code ({ cls := "java/util/LinkedList$Node", name := "<init>", desc := "(Ljava/util/LinkedList$Node;Ljava/lang/Object;Ljava/util/LinkedList$Node;)V" } : Jvm.MethodName) prog_81_method_1_code (4 : Nat) (Option.none : Option Jvm.ClassFile.FieldType)) ∈ lw_all := lw_g (lw_at lw_m10 65 rfl) rfl
theorem q2389 : (Jvm.Cond.methodLink "java/util/LinkedList$Node" (1 : Nat) ({ cls := "java/lang/Object", name := "<init>", desc := "()V" } : Jvm.MethodName)) ∈ lw_all := lw_g (lw_at lw_m10 66 rfl) rfl
theorem q2390 : (Jvm.Cond.fieldLink "java/util/LinkedList$Node" (7 : Nat) "java/util/LinkedList$Node" "item" "Ljava/lang/Object;") ∈ lw_all := lw_g (lw_at lw_m10 67 rfl) rfl
theorem q2391 : (Jvm.Cond.fieldLink "java/util/LinkedList$ListItr" (52 : Nat) "java/util/LinkedList$Node" "item" "Ljava/lang/Object;") ∈ lw_all := lw_g (lw_at lw_m10 68 rfl) rfl
theorem q2392 : (Jvm.Cond.fieldLink "java/util/LinkedList" (39 : Nat) "java/util/LinkedList$Node" "item" "Ljava/lang/Object;") ∈ lw_all := lw_g (lw_at lw_m10 69 rfl) rfl
theorem q2393 : (Jvm.Cond.fieldLink "java/util/LinkedList$Node" (13 : Nat) "java/util/LinkedList$Node" "next" "Ljava/util/LinkedList$Node;") ∈ lw_all := lw_g (lw_at lw_m10 70 rfl) rfl
theorem q2394 : (Jvm.Cond.fieldLink "java/util/LinkedList$ListItr" (49 : Nat) "java/util/LinkedList$Node" "next" "Ljava/util/LinkedList$Node;") ∈ lw_all := lw_g (lw_at lw_m10 71 rfl) rfl
theorem q2395 : (Jvm.Cond.fieldLink "java/util/LinkedList" (36 : Nat) "java/util/LinkedList$Node" "next" "Ljava/util/LinkedList$Node;") ∈ lw_all := lw_g (lw_at lw_m10 72 rfl) rfl
theorem q2396 : (Jvm.Cond.fieldLink "java/util/LinkedList$Node" (17 : Nat) "java/util/LinkedList$Node" "prev" "Ljava/util/LinkedList$Node;") ∈ lw_all := lw_g (lw_at lw_m10 73 rfl) rfl
theorem q2397 : (Jvm.Cond.fieldLink "java/util/LinkedList" (30 : Nat) "java/util/LinkedList$Node" "prev" "Ljava/util/LinkedList$Node;") ∈ lw_all := lw_g (lw_at lw_m10 74 rfl) rfl
theorem q2398 : (Jvm.Cond.lays "java/util/LinkedList$Node" "java/util/LinkedList$Node" "item" "Ljava/lang/Object;") ∈ lw_all := lw_g (lw_at lw_m10 75 rfl) rfl
theorem q2400 : (Jvm.Cond.lays "java/util/LinkedList$Node" "java/util/LinkedList$Node" "next" "Ljava/util/LinkedList$Node;") ∈ lw_all := lw_g (lw_at lw_m10 77 rfl) rfl
theorem q2402 : (Jvm.Cond.lays "java/util/LinkedList$Node" "java/util/LinkedList$Node" "prev" "Ljava/util/LinkedList$Node;") ∈ lw_all := lw_g (lw_at lw_m10 79 rfl) rfl
theorem q2405 : (Jvm.Cond.classLink "FollowingRefs$Store" (90 : Nat) "FollowingRefs$Of") ∈ lw_all := lw_g (lw_at lw_m10 82 rfl) rfl
theorem q2406 : (Jvm.Cond.methodLink "FollowingRefs$Store" (138 : Nat) ({ cls := "FollowingRefs$Store", name := "isTwice", desc := "(LFollowingRefs$Row;LFollowingRefs$Of;)Z" } : Jvm.MethodName)) ∈ lw_all := lw_g (lw_at lw_m10 83 rfl) rfl
theorem q2408 : (Jvm.Cond.instanceMethod ({ cls := "FollowingRefs$Store", name := "isTwice", desc := "(LFollowingRefs$Row;LFollowingRefs$Of;)Z" } : Jvm.MethodName)) ∈ lw_all := lw_g (lw_at lw_m10 85 rfl) rfl
theorem q2409 : (Jvm.Cond.code ({ cls := "FollowingRefs$Store", name := "isTwice", desc := "(LFollowingRefs$Row;LFollowingRefs$Of;)Z" } : Jvm.MethodName) prog_26_method_8_code (5 : Nat) (Option.some Jvm.ClassFile.FieldType.boolean)) ∈ lw_all := lw_g (lw_at lw_m10 86 rfl) rfl
theorem q2410 : (Jvm.Cond.classLink "FollowingRefs$Store" (73 : Nat) "FollowingRefs$Ref") ∈ lw_all := lw_g (lw_at lw_m10 87 rfl) rfl
theorem q2411 : (Jvm.Cond.methodLink "FollowingRefs$Store" (145 : Nat) ({ cls := "FollowingRefs$Store", name := "isBroken", desc := "(LFollowingRefs$Row;LFollowingRefs$Ref;)Z" } : Jvm.MethodName)) ∈ lw_all := lw_g (lw_at lw_m10 88 rfl) rfl
theorem q2413 : (Jvm.Cond.instanceMethod ({ cls := "FollowingRefs$Store", name := "isBroken", desc := "(LFollowingRefs$Row;LFollowingRefs$Ref;)Z" } : Jvm.MethodName)) ∈ lw_all := lw_g (lw_at lw_m10 90 rfl) rfl
theorem q2414 : (Jvm.Cond.code ({ cls := "FollowingRefs$Store", name := "isBroken", desc := "(LFollowingRefs$Row;LFollowingRefs$Ref;)Z" } : Jvm.MethodName) prog_26_method_9_code (3 : Nat) (Option.some Jvm.ClassFile.FieldType.boolean)) ∈ lw_all := lw_g (lw_at lw_m10 91 rfl) rfl
theorem q2415 : (Jvm.Cond.methodLink "FollowingRefs$Store" (100 : Nat) ({ cls := "FollowingRefs$Store", name := "parent", desc := "(LFollowingRefs$Row;LFollowingRefs$Ref;)LFollowingRefs$Row;" } : Jvm.MethodName)) ∈ lw_all := lw_g (lw_at lw_m10 92 rfl) rfl
theorem q2416 : (Jvm.Cond.methodLink "FollowingRefs$Store" (107 : Nat) ({ cls := "FollowingRefs$Row", name := "hasNone", desc := "([I)Z" } : Jvm.MethodName)) ∈ lw_all := lw_g (lw_at lw_m10 93 rfl) rfl
theorem q2417 : (Jvm.Cond.instanceMethod ({ cls := "FollowingRefs$Row", name := "hasNone", desc := "([I)Z" } : Jvm.MethodName)) ∈ lw_all := lw_g (lw_at lw_m10 94 rfl) rfl
theorem q2418 : (Jvm.Cond.selects "FollowingRefs$Row" ({ cls := "FollowingRefs$Row", name := "hasNone", desc := "([I)Z" } : Jvm.MethodName) ({ cls := "FollowingRefs$Row", name := "hasNone", desc := "([I)Z" } : Jvm.MethodName)) ∈ lw_all := lw_g (lw_at lw_m10 95 rfl) rfl
theorem q2419 : (Jvm.Cond.code ({ cls := "FollowingRefs$Row", name := "hasNone", desc := "([I)Z" } : Jvm.MethodName) prog_18_method_3_code (6 : Nat) (Option.some Jvm.ClassFile.FieldType.boolean)) ∈ lw_all := lw_g (lw_at lw_m10 96 rfl) rfl
theorem q2420 : (Jvm.Cond.classLink "FollowingRefs$Store" (152 : Nat) "FollowingRefs$Check") ∈ lw_all := lw_g (lw_at lw_m10 97 rfl) rfl
theorem q2421 : (Jvm.Cond.methodLink "FollowingRefs$Store" (156 : Nat) ({ cls := "FollowingRefs$Check", name := "holds", desc := "(LFollowingRefs$Row;)Z" } : Jvm.MethodName)) ∈ lw_all := lw_g (lw_at lw_m10 98 rfl) rfl
theorem q2422 : (Jvm.Cond.instanceMethod ({ cls := "FollowingRefs$Check", name := "holds", desc := "(LFollowingRefs$Row;)Z" } : Jvm.MethodName)) ∈ lw_all := lw_g (lw_at lw_m10 99 rfl) rfl
theorem q2423 : (Jvm.Cond.selects "FollowingRefs$Check" ({ cls := "FollowingRefs$Check", name := "holds", desc := "(LFollowingRefs$Row;)Z" } : Jvm.MethodName) ({ cls := "FollowingRefs$Check", name := "holds", desc := "(LFollowingRefs$Row;)Z" } : Jvm.MethodName)) ∈ lw_all := lw_g (lw_at lw_m10 100 rfl) rfl
theorem q2424 : (Jvm.Cond.code ({ cls := "FollowingRefs$Check", name := "holds", desc := "(LFollowingRefs$Row;)Z" } : Jvm.MethodName) prog_4_method_2_code (4 : Nat) (Option.some Jvm.ClassFile.FieldType.boolean)) ∈ lw_all := lw_g (lw_at lw_m10 101 rfl) rfl
theorem q2425 : (Jvm.Cond.methodLinkNest "FollowingRefs$Check" (37 : Nat) ({ cls := "FollowingRefs", name := "isSo", desc := "(III)Z" } : Jvm.MethodName) "FollowingRefs") ∈ lw_tbl := lw_at lw_m10 102 rfl
theorem q2426 : (Jvm.Cond.methodLink "FollowingRefs$Store" (165 : Nat) ({ cls := "java/util/Collections", name := "sort", desc := "(Ljava/util/List;)V" } : Jvm.MethodName)) ∈ lw_all := lw_g (lw_at lw_m10 103 rfl) rfl
theorem q2427 : (Jvm.Cond.static ({ cls := "java/util/Collections", name := "sort", desc := "(Ljava/util/List;)V" } : Jvm.MethodName)) ∈ lw_all := lw_g (lw_at lw_m10 104 rfl) rfl
theorem q2428 : (Jvm.Cond.code ({ cls := "java/util/Collections", name := "sort", desc := "(Ljava/util/List;)V" } : Jvm.MethodName) prog_73_method_2_code (1 : Nat) (Option.none : Option Jvm.ClassFile.FieldType)) ∈ lw_all := lw_g (lw_at lw_m10 105 rfl) rfl
theorem q2430 : (Jvm.Cond.methodLink "java/util/Collections" (7 : Nat) ({ cls := "java/util/List", name := "sort", desc := "(Ljava/util/Comparator;)V" } : Jvm.MethodName)) ∈ lw_all := lw_g (lw_at lw_m10 107 rfl) rfl
theorem q2431 : (Jvm.Cond.interfaceMethod "java/util/List" "java/util/List" "sort" "(Ljava/util/Comparator;)V") ∈ lw_tbl := lw_at lw_m10 108 rfl
theorem q2432 : (Jvm.Cond.declares ({ cls := "java/util/List", name := "sort", desc := "(Ljava/util/Comparator;)V" } : Jvm.MethodName)) ∈ lw_tbl := lw_at lw_m10 109 rfl
theorem q2433 : (Jvm.Cond.castable "java/util/ArrayList" "java/util/List") ∈ lw_tbl := lw_at lw_m10 110 rfl
theorem q2434 : (Jvm.Cond.selects "java/util/ArrayList" ({ cls := "java/util/List", name := "sort", desc := "(Ljava/util/Comparator;)V" } : Jvm.MethodName) ({ cls := "java/util/ArrayList", name := "sort", desc := "(Ljava/util/Comparator;)V" } : Jvm.MethodName)) ∈ lw_all := lw_g (lw_at lw_m10 111 rfl) rfl
theorem q2435 : (Jvm.Cond.unhidden "java/util/ArrayList" "sort" "(Ljava/util/Comparator;)V") ∈ lw_tbl := lw_at lw_m10 112 rfl
theorem q2436 : (Jvm.Cond.instanceMethod ({ cls := "java/util/ArrayList", name := "sort", desc := "(Ljava/util/Comparator;)V" } : Jvm.MethodName)) ∈ lw_all := lw_g (lw_at lw_m10 113 rfl) rfl
theorem q2437 : (Jvm.Cond.publicMethod ({ cls := "java/util/ArrayList", name := "sort", desc := "(Ljava/util/Comparator;)V" } : Jvm.MethodName)) ∈ lw_tbl := lw_at lw_m10 114 rfl
theorem q2438 : (Jvm.Cond.code ({ cls := "java/util/ArrayList", name := "sort", desc := "(Ljava/util/Comparator;)V" } : Jvm.MethodName) prog_66_method_66_code (3 : Nat) (Option.none : Option Jvm.ClassFile.FieldType)) ∈ lw_all := lw_g (lw_at lw_m10 115 rfl) rfl
theorem q2439 : (Jvm.Cond.methodLink "java/util/ArrayList" (325 : Nat) ({ cls := "java/util/Arrays", name := "sort", desc := "([Ljava/lang/Object;IILjava/util/Comparator;)V" } : Jvm.MethodName)) ∈ lw_all := lw_g (lw_at lw_m10 116 rfl) rfl
theorem q2440 : (Jvm.Cond.static ({ cls := "java/util/Arrays", name := "sort", desc := "([Ljava/lang/Object;IILjava/util/Comparator;)V" } : Jvm.MethodName)) ∈ lw_all := lw_g (lw_at lw_m10 117 rfl) rfl
theorem q2441 : (Jvm.Cond.code ({ cls := "java/util/Arrays", name := "sort", desc := "([Ljava/lang/Object;IILjava/util/Comparator;)V" } : Jvm.MethodName) prog_69_method_43_code (4 : Nat) (Option.none : Option Jvm.ClassFile.FieldType)) ∈ lw_all := lw_g (lw_at lw_m10 118 rfl) rfl
theorem q2442 : (Jvm.Cond.methodLink "java/util/Arrays" (164 : Nat) ({ cls := "java/util/Arrays", name := "sort", desc := "([Ljava/lang/Object;II)V" } : Jvm.MethodName)) ∈ lw_all := lw_g (lw_at lw_m10 119 rfl) rfl
theorem q2443 : (Jvm.Cond.static ({ cls := "java/util/Arrays", name := "sort", desc := "([Ljava/lang/Object;II)V" } : Jvm.MethodName)) ∈ lw_all := lw_g (lw_at lw_m10 120 rfl) rfl
theorem q2444 : (Jvm.Cond.code ({ cls := "java/util/Arrays", name := "sort", desc := "([Ljava/lang/Object;II)V" } : Jvm.MethodName) prog_69_method_37_code (3 : Nat) (Option.none : Option Jvm.ClassFile.FieldType)) ∈ lw_all := lw_g (lw_at lw_m10 121 rfl) rfl
theorem q2445 : (Jvm.Cond.methodLink "java/util/Arrays" (13 : Nat) ({ cls := "java/util/Arrays", name := "rangeCheck", desc := "(III)V" } : Jvm.MethodName)) ∈ lw_all := lw_g (lw_at lw_m10 122 rfl) rfl
theorem q2446 : (Jvm.Cond.static ({ cls := "java/util/Arrays", name := "rangeCheck", desc := "(III)V" } : Jvm.MethodName)) ∈ lw_all := lw_g (lw_at lw_m10 123 rfl) rfl
theorem q2447 : (Jvm.Cond.code ({ cls := "java/util/Arrays", name := "rangeCheck", desc := "(III)V" } : Jvm.MethodName) prog_69_method_30_code (3 : Nat) (Option.none : Option Jvm.ClassFile.FieldType)) ∈ lw_all := lw_g (lw_at lw_m10 124 rfl) rfl
theorem q2448 : (Jvm.Cond.fieldLinkNest "java/util/Arrays" (112 : Nat) "java/util/Arrays$LegacyMergeSort" "userRequested" "Z" "java/util/Arrays") ∈ lw_tbl := lw_at lw_m10 125 rfl
theorem q2450 : (Jvm.Cond.methodLink "java/util/Arrays" (122 : Nat) ({ cls := "java/util/ComparableTimSort", name := "sort", desc := "([Ljava/lang/Object;II[Ljava/lang/Object;II)V" } : Jvm.MethodName)) ∈ lw_all := lw_g (lw_at lw_m10 127 rfl) rfl
theorem q2451 : (Jvm.Cond.static ({ cls := "java/util/ComparableTimSort", name := "sort", desc := "([Ljava/lang/Object;II[Ljava/lang/Object;II)V" } : Jvm.MethodName)) ∈ lw_all := lw_g (lw_at lw_m10 128 rfl) rfl
theorem q2452 : (Jvm.Cond.code ({ cls := "java/util/ComparableTimSort", name := "sort", desc := "([Ljava/lang/Object;II[Ljava/lang/Object;II)V" } : Jvm.MethodName) prog_74_method_2_code (11 : Nat) (Option.none : Option Jvm.ClassFile.FieldType)) ∈ lw_all := lw_g (lw_at lw_m10 129 rfl) rfl
theorem q2453 : (Jvm.Cond.fieldLink "java/util/ComparableTimSort" (37 : Nat) "java/util/ComparableTimSort" "$assertionsDisabled" "Z") ∈ lw_all := lw_g (lw_at lw_m10 130 rfl) rfl
theorem q2455 : (Jvm.Cond.methodLink "java/util/ComparableTimSort" (44 : Nat) ({ cls := "java/util/ComparableTimSort", name := "countRunAndMakeAscending", desc := "([Ljava/lang/Object;II)I" } : Jvm.MethodName)) ∈ lw_all := lw_g (lw_at lw_m10 132 rfl) rfl
theorem q2456 : (Jvm.Cond.static ({ cls := "java/util/ComparableTimSort", name := "countRunAndMakeAscending", desc := "([Ljava/lang/Object;II)I" } : Jvm.MethodName)) ∈ lw_all := lw_g (lw_at lw_m10 133 rfl) rfl
theorem q2457 : (Jvm.Cond.code ({ cls := "java/util/ComparableTimSort", name := "countRunAndMakeAscending", desc := "([Ljava/lang/Object;II)I" } : Jvm.MethodName) prog_74_method_4_code (4 : Nat) (Option.some Jvm.ClassFile.FieldType.int)) ∈ lw_all := lw_g (lw_at lw_m10 134 rfl) rfl
theorem q2458 : (Jvm.Cond.classLink "java/util/ComparableTimSort" (69 : Nat) "java/lang/Comparable") ∈ lw_all := lw_g (lw_at lw_m10 135 rfl) rfl
theorem q2460 : (Jvm.Cond.methodLink "java/util/ComparableTimSort" (71 : Nat) ({ cls := "java/lang/Comparable", name := "compareTo", desc := "(Ljava/lang/Object;)I" } : Jvm.MethodName)) ∈ lw_all := lw_g (lw_at lw_m10 137 rfl) rfl
theorem q2461 : (Jvm.Cond.interfaceMethod "java/lang/Comparable" "java/lang/Comparable" "compareTo" "(Ljava/lang/Object;)I") ∈ lw_tbl := lw_at lw_m10 138 rfl
theorem q2462 : (Jvm.Cond.declares ({ cls := "java/lang/Comparable", name := "compareTo", desc := "(Ljava/lang/Object;)I" } : Jvm.MethodName)) ∈ lw_tbl := lw_at lw_m10 139 rfl
theorem q2463 : (Jvm.Cond.castable "FollowingRefs$Violation" "java/lang/Comparable") ∈ lw_tbl := lw_at lw_m10 140 rfl
theorem q2464 : (Jvm.Cond.selects "FollowingRefs$Violation" ({ cls := "java/lang/Comparable", name := "compareTo", desc := "(Ljava/lang/Object;)I" } : Jvm.MethodName) ({ cls := "FollowingRefs$Violation", name := "compareTo", desc := "(Ljava/lang/Object;)I" } : Jvm.MethodName)) ∈ lw_all := lw_g (lw_at lw_m10 141 rfl) rfl
theorem q2465 : (Jvm.Cond.unhidden "FollowingRefs$Violation" "compareTo" "(Ljava/lang/Object;)I") ∈ lw_tbl := lw_at lw_m10 142 rfl
theorem q2466 : (Jvm.Cond.instanceMethod ({ cls := "FollowingRefs$Violation", name := "compareTo", desc := "(Ljava/lang/Object;)I" } : Jvm.MethodName)) ∈ lw_all := lw_g (lw_at lw_m10 143 rfl) rfl
theorem q2467 : (Jvm.Cond.publicMethod ({ cls := "FollowingRefs$Violation", name := "compareTo", desc := "(Ljava/lang/Object;)I" } : Jvm.MethodName)) ∈ lw_tbl := lw_at lw_m10 144 rfl
theorem q2468 : (Jvm.Cond.code ({ cls := "FollowingRefs$Violation", name := "compareTo", desc := "(Ljava/lang/Object;)I" } : Jvm.MethodName) prog_32_method_3_code (2 : Nat) (Option.some Jvm.ClassFile.FieldType.int)) ∈ lw_all := lw_g (lw_at lw_m10 145 rfl) rfl
theorem q2469 : (Jvm.Cond.classLink "FollowingRefs$Violation" (10 : Nat) "FollowingRefs$Violation") ∈ lw_all := lw_g (lw_at lw_m10 146 rfl) rfl
theorem q2470 : (Jvm.Cond.methodLink "FollowingRefs$Violation" (28 : Nat) ({ cls := "FollowingRefs$Violation", name := "compareTo", desc := "(LFollowingRefs$Violation;)I" } : Jvm.MethodName)) ∈ lw_all := lw_g (lw_at lw_m10 147 rfl) rfl
theorem q2471 : (Jvm.Cond.instanceMethod ({ cls := "FollowingRefs$Violation", name := "compareTo", desc := "(LFollowingRefs$Violation;)I" } : Jvm.MethodName)) ∈ lw_all := lw_g (lw_at lw_m10 148 rfl) rfl
theorem q2472 : (Jvm.Cond.selects "FollowingRefs$Violation" ({ cls := "FollowingRefs$Violation", name := "compareTo", desc := "(LFollowingRefs$Violation;)I" } : Jvm.MethodName) ({ cls := "FollowingRefs$Violation", name := "compareTo", desc := "(LFollowingRefs$Violation;)I" } : Jvm.MethodName)) ∈ lw_all := lw_g (lw_at lw_m10 149 rfl) rfl
theorem q2473 : (Jvm.Cond.code ({ cls := "FollowingRefs$Violation", name := "compareTo", desc := "(LFollowingRefs$Violation;)I" } : Jvm.MethodName) prog_32_method_2_code (2 : Nat) (Option.some Jvm.ClassFile.FieldType.int)) ∈ lw_all := lw_g (lw_at lw_m10 150 rfl) rfl
theorem q2474 : (Jvm.Cond.castable "java/lang/Integer" "java/lang/Comparable") ∈ lw_tbl := lw_at lw_m10 151 rfl
theorem q2475 : (Jvm.Cond.selects "java/lang/Integer" ({ cls := "java/lang/Comparable", name := "compareTo", desc := "(Ljava/lang/Object;)I" } : Jvm.MethodName) ({ cls := "java/lang/Integer", name := "compareTo", desc := "(Ljava/lang/Object;)I" } : Jvm.MethodName)) ∈ lw_all := lw_g (lw_at lw_m10 152 rfl) rfl
theorem q2476 : (Jvm.Cond.unhidden "java/lang/Integer" "compareTo" "(Ljava/lang/Object;)I") ∈ lw_tbl := lw_at lw_m10 153 rfl
theorem q2477 : (Jvm.Cond.instanceMethod ({ cls := "java/lang/Integer", name := "compareTo", desc := "(Ljava/lang/Object;)I" } : Jvm.MethodName)) ∈ lw_all := lw_g (lw_at lw_m10 154 rfl) rfl
theorem q2478 : (Jvm.Cond.publicMethod ({ cls := "java/lang/Integer", name := "compareTo", desc := "(Ljava/lang/Object;)I" } : Jvm.MethodName)) ∈ lw_tbl := lw_at lw_m10 155 rfl
theorem q2479 : (Jvm.Cond.code ({ cls := "java/lang/Integer", name := "compareTo", desc := "(Ljava/lang/Object;)I" } : Jvm.MethodName) prog_44_method_63_code (2 : Nat) (Option.some Jvm.ClassFile.FieldType.int)) ∈ lw_all := lw_g (lw_at lw_m10 156 rfl) rfl
theorem q2480 : (Jvm.Cond.methodLink "java/lang/Integer" (284 : Nat) ({ cls := "java/lang/Integer", name := "compareTo", desc := "(Ljava/lang/Integer;)I" } : Jvm.MethodName)) ∈ lw_all := lw_g (lw_at lw_m10 157 rfl) rfl
theorem q2481 : (Jvm.Cond.instanceMethod ({ cls := "java/lang/Integer", name := "compareTo", desc := "(Ljava/lang/Integer;)I" } : Jvm.MethodName)) ∈ lw_all := lw_g (lw_at lw_m10 158 rfl) rfl
theorem q2482 : (Jvm.Cond.selects "java/lang/Integer" ({ cls := "java/lang/Integer", name := "compareTo", desc := "(Ljava/lang/Integer;)I" } : Jvm.MethodName) ({ cls := "java/lang/Integer", name := "compareTo", desc := "(Ljava/lang/Integer;)I" } : Jvm.MethodName)) ∈ lw_all := lw_g (lw_at lw_m10 159 rfl) rfl
theorem q2483 : (Jvm.Cond.code ({ cls := "java/lang/Integer", name := "compareTo", desc := "(Ljava/lang/Integer;)I" } : Jvm.MethodName) prog_44_method_39_code (2 : Nat) (Option.some Jvm.ClassFile.FieldType.int)) ∈ lw_all := lw_g (lw_at lw_m10 160 rfl) rfl
theorem q2484 : (Jvm.Cond.methodLink "java/lang/Integer" (259 : Nat) ({ cls := "java/lang/Integer", name := "compare", desc := "(II)I" } : Jvm.MethodName)) ∈ lw_all := lw_g (lw_at lw_m10 161 rfl) rfl
theorem q2485 : (Jvm.Cond.static ({ cls := "java/lang/Integer", name := "compare", desc := "(II)I" } : Jvm.MethodName)) ∈ lw_all := lw_g (lw_at lw_m10 162 rfl) rfl
theorem q2486 : (Jvm.Cond.code ({ cls := "java/lang/Integer", name := "compare", desc := "(II)I" } : Jvm.MethodName) prog_44_method_40_code (2 : Nat) (Option.some Jvm.ClassFile.FieldType.int)) ∈ lw_all := lw_g (lw_at lw_m10 163 rfl) rfl
theorem q2487 : (Jvm.Cond.castable "java/lang/String" "java/lang/Comparable") ∈ lw_tbl := lw_at lw_m10 164 rfl
theorem q2488 : (Jvm.Cond.selects "java/lang/String" ({ cls := "java/lang/Comparable", name := "compareTo", desc := "(Ljava/lang/Object;)I" } : Jvm.MethodName) ({ cls := "java/lang/String", name := "compareTo", desc := "(Ljava/lang/Object;)I" } : Jvm.MethodName)) ∈ lw_all := lw_g (lw_at lw_m10 165 rfl) rfl
theorem q2489 : (Jvm.Cond.unhidden "java/lang/String" "compareTo" "(Ljava/lang/Object;)I") ∈ lw_tbl := lw_at lw_m10 166 rfl
theorem q2490 : (Jvm.Cond.instanceMethod ({ cls := "java/lang/String", name := "compareTo", desc := "(Ljava/lang/Object;)I" } : Jvm.MethodName)) ∈ lw_all := lw_g (lw_at lw_m10 167 rfl) rfl
theorem q2491 : (Jvm.Cond.publicMethod ({ cls := "java/lang/String", name := "compareTo", desc := "(Ljava/lang/Object;)I" } : Jvm.MethodName)) ∈ lw_tbl := lw_at lw_m10 168 rfl
theorem q2492 : (Jvm.Cond.code ({ cls := "java/lang/String", name := "compareTo", desc := "(Ljava/lang/Object;)I" } : Jvm.MethodName) prog_51_method_162_code (2 : Nat) (Option.some Jvm.ClassFile.FieldType.int)) ∈ lw_all := lw_g (lw_at lw_m10 169 rfl) rfl
theorem q2493 : (Jvm.Cond.methodLink "java/lang/String" (1084 : Nat) ({ cls := "java/lang/String", name := "compareTo", desc := "(Ljava/lang/String;)I" } : Jvm.MethodName)) ∈ lw_all := lw_g (lw_at lw_m10 170 rfl) rfl
theorem q2494 : (Jvm.Cond.instanceMethod ({ cls := "java/lang/String", name := "compareTo", desc := "(Ljava/lang/String;)I" } : Jvm.MethodName)) ∈ lw_all := lw_g (lw_at lw_m10 171 rfl) rfl
theorem q2495 : (Jvm.Cond.selects "java/lang/String" ({ cls := "java/lang/String", name := "compareTo", desc := "(Ljava/lang/String;)I" } : Jvm.MethodName) ({ cls := "java/lang/String", name := "compareTo", desc := "(Ljava/lang/String;)I" } : Jvm.MethodName)) ∈ lw_all := lw_g (lw_at lw_m10 172 rfl) rfl
theorem q2496 : (Jvm.Cond.code ({ cls := "java/lang/String", name := "compareTo", desc := "(Ljava/lang/String;)I" } : Jvm.MethodName) prog_51_method_71_code (5 : Nat) (Option.some Jvm.ClassFile.FieldType.int)) ∈ lw_all := lw_g (lw_at lw_m10 173 rfl) rfl
theorem q2497 : (Jvm.Cond.methodLink "java/lang/String" (586 : Nat) ({ cls := "java/lang/StringLatin1", name := "compareTo", desc := "([B[B)I" } : Jvm.MethodName)) ∈ lw_all := lw_g (lw_at lw_m10 174 rfl) rfl
theorem q2498 : (Jvm.Cond.static ({ cls := "java/lang/StringLatin1", name := "compareTo", desc := "([B[B)I" } : Jvm.MethodName)) ∈ lw_all := lw_g (lw_at lw_m10 175 rfl) rfl
theorem q2499 : (Jvm.Cond.code ({ cls := "java/lang/StringLatin1", name := "compareTo", desc := "([B[B)I" } : Jvm.MethodName) prog_53_method_14_code (4 : Nat) (Option.some Jvm.ClassFile.FieldType.int)) ∈ lw_all := lw_g (lw_at lw_m10 176 rfl) rfl
theorem q2500 : (Jvm.Cond.methodLink "java/lang/StringLatin1" (34 : Nat) ({ cls := "java/lang/StringLatin1", name := "compareTo", desc := "([B[BII)I" } : Jvm.MethodName)) ∈ lw_all := lw_g (lw_at lw_m10 177 rfl) rfl
theorem q2501 : (Jvm.Cond.static ({ cls := "java/lang/StringLatin1", name := "compareTo", desc := "([B[BII)I" } : Jvm.MethodName)) ∈ lw_all := lw_g (lw_at lw_m10 178 rfl) rfl
theorem q2502 : (Jvm.Cond.code ({ cls := "java/lang/StringLatin1", name := "compareTo", desc := "([B[BII)I" } : Jvm.MethodName) prog_53_method_15_code (6 : Nat) (Option.some Jvm.ClassFile.FieldType.int)) ∈ lw_all := lw_g (lw_at lw_m10 179 rfl) rfl
theorem q2503 : (Jvm.Cond.methodLink "java/lang/StringLatin1" (38 : Nat) ({ cls := "java/lang/Math", name := "min", desc := "(II)I" } : Jvm.MethodName)) ∈ lw_all := lw_g (lw_at lw_m10 180 rfl) rfl
theorem q2504 : (Jvm.Cond.methodLink "java/lang/StringLatin1" (44 : Nat) ({ cls := "jdk/internal/util/ArraysSupport", name := "mismatch", desc := "([B[BI)I" } : Jvm.MethodName)) ∈ lw_all := lw_g (lw_at lw_m10 181 rfl) rfl
theorem q2505 : (Jvm.Cond.static ({ cls := "jdk/internal/util/ArraysSupport", name := "mismatch", desc := "([B[BI)I" } : Jvm.MethodName)) ∈ lw_all := lw_g (lw_at lw_m10 182 rfl) rfl
theorem q2506 : (Jvm.Cond.code ({ cls := "jdk/internal/util/ArraysSupport", name := "mismatch", desc := "([B[BI)I" } : Jvm.MethodName) prog_92_method_13_code (4 : Nat) (Option.some Jvm.ClassFile.FieldType.int)) ∈ lw_all := lw_g (lw_at lw_m10 183 rfl) rfl
theorem q2507 : (Jvm.Cond.fieldLink "jdk/internal/util/ArraysSupport" (126 : Nat) "jdk/internal/misc/Unsafe" "ARRAY_BYTE_BASE_OFFSET" "I") ∈ lw_all := lw_g (lw_at lw_m10 184 rfl) rfl
theorem q2509 : (Jvm.Cond.fieldLink "jdk/internal/util/ArraysSupport" (129 : Nat) "jdk/internal/util/ArraysSupport" "LOG2_ARRAY_BYTE_INDEX_SCALE" "I") ∈ lw_all := lw_g (lw_at lw_m10 186 rfl) rfl
theorem q2511 : (Jvm.Cond.methodLink "java/lang/StringLatin1" (50 : Nat) ({ cls := "java/lang/StringLatin1", name := "getChar", desc := "([BI)C" } : Jvm.MethodName)) ∈ lw_all := lw_g (lw_at lw_m10 188 rfl) rfl
theorem q2512 : (Jvm.Cond.static ({ cls := "java/lang/StringLatin1", name := "getChar", desc := "([BI)C" } : Jvm.MethodName)) ∈ lw_all := lw_g (lw_at lw_m10 189 rfl) rfl
theorem q2513 : (Jvm.Cond.code ({ cls := "java/lang/StringLatin1", name := "getChar", desc := "([BI)C" } : Jvm.MethodName) prog_53_method_44_code (2 : Nat) (Option.some Jvm.ClassFile.FieldType.char)) ∈ lw_all := lw_g (lw_at lw_m10 190 rfl) rfl
theorem q2514 : (Jvm.Cond.methodLink "java/lang/String" (590 : Nat) ({ cls := "java/lang/StringUTF16", name := "compareTo", desc := "([B[B)I" } : Jvm.MethodName)) ∈ lw_all := lw_g (lw_at lw_m10 191 rfl) rfl
theorem q2515 : (Jvm.Cond.static ({ cls := "java/lang/StringUTF16", name := "compareTo", desc := "([B[B)I" } : Jvm.MethodName)) ∈ lw_all := lw_g (lw_at lw_m10 192 rfl) rfl
theorem q2516 : (Jvm.Cond.code ({ cls := "java/lang/StringUTF16", name := "compareTo", desc := "([B[B)I" } : Jvm.MethodName) prog_54_method_29_code (4 : Nat) (Option.some Jvm.ClassFile.FieldType.int)) ∈ lw_all := lw_g (lw_at lw_m10 193 rfl) rfl
theorem q2517 : (Jvm.Cond.methodLink "java/lang/StringUTF16" (176 : Nat) ({ cls := "java/lang/StringUTF16", name := "compareValues", desc := "([B[BII)I" } : Jvm.MethodName)) ∈ lw_all := lw_g (lw_at lw_m10 194 rfl) rfl
theorem q2518 : (Jvm.Cond.static ({ cls := "java/lang/StringUTF16", name := "compareValues", desc := "([B[BII)I" } : Jvm.MethodName)) ∈ lw_all := lw_g (lw_at lw_m10 195 rfl) rfl
theorem q2519 : (Jvm.Cond.code ({ cls := "java/lang/StringUTF16", name := "compareValues", desc := "([B[BII)I" } : Jvm.MethodName) prog_54_method_31_code (8 : Nat) (Option.some Jvm.ClassFile.FieldType.int)) ∈ lw_all := lw_g (lw_at lw_m10 196 rfl) rfl
theorem q2520 : (Jvm.Cond.methodLink "java/lang/StringUTF16" (183 : Nat) ({ cls := "java/lang/Math", name := "min", desc := "(II)I" } : Jvm.MethodName)) ∈ lw_all := lw_g (lw_at lw_m10 197 rfl) rfl
theorem q2521 : (Jvm.Cond.methodLink "java/lang/String" (591 : Nat) ({ cls := "java/lang/StringLatin1", name := "compareToUTF16", desc := "([B[B)I" } : Jvm.MethodName)) ∈ lw_all := lw_g (lw_at lw_m10 198 rfl) rfl
theorem q2522 : (Jvm.Cond.static ({ cls := "java/lang/StringLatin1", name := "compareToUTF16", desc := "([B[B)I" } : Jvm.MethodName)) ∈ lw_all := lw_g (lw_at lw_m10 199 rfl) rfl
theorem q2523 : (Jvm.Cond.code ({ cls := "java/lang/StringLatin1", name := "compareToUTF16", desc := "([B[B)I" } : Jvm.MethodName) prog_53_method_16_code (4 : Nat) (Option.some Jvm.ClassFile.FieldType.int)) ∈ lw_all := lw_g (lw_at lw_m10 200 rfl) rfl
theorem q2524 : (Jvm.Cond.methodLink "java/lang/StringLatin1" (54 : Nat) ({ cls := "java/lang/StringLatin1", name := "length", desc := "([B)I" } : Jvm.MethodName)) ∈ lw_all := lw_g (lw_at lw_m10 201 rfl) rfl
theorem q2525 : (Jvm.Cond.static ({ cls := "java/lang/StringLatin1", name := "length", desc := "([B)I" } : Jvm.MethodName)) ∈ lw_all := lw_g (lw_at lw_m10 202 rfl) rfl
theorem q2526 : (Jvm.Cond.code ({ cls := "java/lang/StringLatin1", name := "length", desc := "([B)I" } : Jvm.MethodName) prog_53_method_5_code (1 : Nat) (Option.some Jvm.ClassFile.FieldType.int)) ∈ lw_all := lw_g (lw_at lw_m10 203 rfl) rfl
theorem q2527 : (Jvm.Cond.methodLink "java/lang/StringLatin1" (58 : Nat) ({ cls := "java/lang/StringUTF16", name := "length", desc := "([B)I" } : Jvm.MethodName)) ∈ lw_all := lw_g (lw_at lw_m10 204 rfl) rfl
theorem q2528 : (Jvm.Cond.methodLink "java/lang/StringLatin1" (59 : Nat) ({ cls := "java/lang/StringLatin1", name := "compareToUTF16Values", desc := "([B[BII)I" } : Jvm.MethodName)) ∈ lw_all := lw_g (lw_at lw_m10 205 rfl) rfl
theorem q2529 : (Jvm.Cond.static ({ cls := "java/lang/StringLatin1", name := "compareToUTF16Values", desc := "([B[BII)I" } : Jvm.MethodName)) ∈ lw_all := lw_g (lw_at lw_m10 206 rfl) rfl
theorem q2530 : (Jvm.Cond.code ({ cls := "java/lang/StringLatin1", name := "compareToUTF16Values", desc := "([B[BII)I" } : Jvm.MethodName) prog_53_method_18_code (8 : Nat) (Option.some Jvm.ClassFile.FieldType.int)) ∈ lw_all := lw_g (lw_at lw_m10 207 rfl) rfl
theorem q2531 : (Jvm.Cond.methodLink "java/lang/StringLatin1" (65 : Nat) ({ cls := "java/lang/StringUTF16", name := "getChar", desc := "([BI)C" } : Jvm.MethodName)) ∈ lw_all := lw_g (lw_at lw_m10 208 rfl) rfl
theorem q2532 : (Jvm.Cond.methodLink "java/lang/String" (594 : Nat) ({ cls := "java/lang/StringUTF16", name := "compareToLatin1", desc := "([B[B)I" } : Jvm.MethodName)) ∈ lw_all := lw_g (lw_at lw_m10 209 rfl) rfl
theorem q2533 : (Jvm.Cond.static ({ cls := "java/lang/StringUTF16", name := "compareToLatin1", desc := "([B[B)I" } : Jvm.MethodName)) ∈ lw_all := lw_g (lw_at lw_m10 210 rfl) rfl
theorem q2534 : (Jvm.Cond.code ({ cls := "java/lang/StringUTF16", name := "compareToLatin1", desc := "([B[B)I" } : Jvm.MethodName) prog_54_method_32_code (2 : Nat) (Option.some Jvm.ClassFile.FieldType.int)) ∈ lw_all := lw_g (lw_at lw_m10 211 rfl) rfl
theorem q2535 : (Jvm.Cond.methodLink "java/lang/StringUTF16" (189 : Nat) ({ cls := "java/lang/StringLatin1", name := "compareToUTF16", desc := "([B[B)I" } : Jvm.MethodName)) ∈ lw_all := lw_g (lw_at lw_m10 212 rfl) rfl
theorem q2536 : (Jvm.Cond.castable "java/lang/StringBuilder" "java/lang/Comparable") ∈ lw_tbl := lw_at lw_m10 213 rfl
theorem q2537 : (Jvm.Cond.selects "java/lang/StringBuilder" ({ cls := "java/lang/Comparable", name := "compareTo", desc := "(Ljava/lang/Object;)I" } : Jvm.MethodName) ({ cls := "java/lang/StringBuilder", name := "compareTo", desc := "(Ljava/lang/Object;)I" } : Jvm.MethodName)) ∈ lw_all := lw_g (lw_at lw_m10 214 rfl) rfl
theorem q2538 : (Jvm.Cond.unhidden "java/lang/StringBuilder" "compareTo" "(Ljava/lang/Object;)I") ∈ lw_tbl := lw_at lw_m10 215 rfl
theorem q2539 : (Jvm.Cond.instanceMethod ({ cls := "java/lang/StringBuilder", name := "compareTo", desc := "(Ljava/lang/Object;)I" } : Jvm.MethodName)) ∈ lw_all := lw_g (lw_at lw_m10 216 rfl) rfl
theorem q2540 : (Jvm.Cond.publicMethod ({ cls := "java/lang/StringBuilder", name := "compareTo", desc := "(Ljava/lang/Object;)I" } : Jvm.MethodName)) ∈ lw_tbl := lw_at lw_m10 217 rfl
theorem q2541 : (Jvm.Cond.code ({ cls := "java/lang/StringBuilder", name := "compareTo", desc := "(Ljava/lang/Object;)I" } : Jvm.MethodName) prog_52_method_97_code (2 : Nat) (Option.some Jvm.ClassFile.FieldType.int)) ∈ lw_all := lw_g (lw_at lw_m10 218 rfl) rfl
theorem q2542 : (Jvm.Cond.classLink "java/lang/StringBuilder" (24 : Nat) "java/lang/StringBuilder") ∈ lw_all := lw_g (lw_at lw_m10 219 rfl) rfl
theorem q2543 : (Jvm.Cond.methodLink "java/lang/StringBuilder" (346 : Nat) ({ cls := "java/lang/StringBuilder", name := "compareTo", desc := "(Ljava/lang/StringBuilder;)I" } : Jvm.MethodName)) ∈ lw_all := lw_g (lw_at lw_m10 220 rfl) rfl
theorem q2544 : (Jvm.Cond.instanceMethod ({ cls := "java/lang/StringBuilder", name := "compareTo", desc := "(Ljava/lang/StringBuilder;)I" } : Jvm.MethodName)) ∈ lw_all := lw_g (lw_at lw_m10 221 rfl) rfl
theorem q2545 : (Jvm.Cond.selects "java/lang/StringBuilder" ({ cls := "java/lang/StringBuilder", name := "compareTo", desc := "(Ljava/lang/StringBuilder;)I" } : Jvm.MethodName) ({ cls := "java/lang/StringBuilder", name := "compareTo", desc := "(Ljava/lang/StringBuilder;)I" } : Jvm.MethodName)) ∈ lw_all := lw_g (lw_at lw_m10 222 rfl) rfl
theorem q2546 : (Jvm.Cond.code ({ cls := "java/lang/StringBuilder", name := "compareTo", desc := "(Ljava/lang/StringBuilder;)I" } : Jvm.MethodName) prog_52_method_5_code (2 : Nat) (Option.some Jvm.ClassFile.FieldType.int)) ∈ lw_all := lw_g (lw_at lw_m10 223 rfl) rfl
theorem q2547 : (Jvm.Cond.methodLink "java/lang/StringBuilder" (13 : Nat) ({ cls := "java/lang/AbstractStringBuilder", name := "compareTo", desc := "(Ljava/lang/AbstractStringBuilder;)I" } : Jvm.MethodName)) ∈ lw_all := lw_g (lw_at lw_m10 224 rfl) rfl
theorem q2548 : (Jvm.Cond.instanceMethod ({ cls := "java/lang/AbstractStringBuilder", name := "compareTo", desc := "(Ljava/lang/AbstractStringBuilder;)I" } : Jvm.MethodName)) ∈ lw_all := lw_g (lw_at lw_m10 225 rfl) rfl
theorem q2549 : (Jvm.Cond.code ({ cls := "java/lang/AbstractStringBuilder", name := "compareTo", desc := "(Ljava/lang/AbstractStringBuilder;)I" } : Jvm.MethodName) prog_37_method_5_code (6 : Nat) (Option.some Jvm.ClassFile.FieldType.int)) ∈ lw_all := lw_g (lw_at lw_m10 226 rfl) rfl
theorem q2550 : (Jvm.Cond.methodLink "java/lang/AbstractStringBuilder" (87 : Nat) ({ cls := "java/lang/StringLatin1", name := "compareTo", desc := "([B[BII)I" } : Jvm.MethodName)) ∈ lw_all := lw_g (lw_at lw_m10 227 rfl) rfl
theorem q2551 : (Jvm.Cond.methodLink "java/lang/AbstractStringBuilder" (93 : Nat) ({ cls := "java/lang/StringUTF16", name := "compareTo", desc := "([B[BII)I" } : Jvm.MethodName)) ∈ lw_all := lw_g (lw_at lw_m10 228 rfl) rfl
theorem q2552 : (Jvm.Cond.static ({ cls := "java/lang/StringUTF16", name := "compareTo", desc := "([B[BII)I" } : Jvm.MethodName)) ∈ lw_all := lw_g (lw_at lw_m10 229 rfl) rfl
theorem q2553 : (Jvm.Cond.code ({ cls := "java/lang/StringUTF16", name := "compareTo", desc := "([B[BII)I" } : Jvm.MethodName) prog_54_method_30_code (4 : Nat) (Option.some Jvm.ClassFile.FieldType.int)) ∈ lw_all := lw_g (lw_at lw_m10 230 rfl) rfl
theorem q2554 : (Jvm.Cond.methodLink "java/lang/StringUTF16" (180 : Nat) ({ cls := "java/lang/StringUTF16", name := "checkOffset", desc := "(I[B)V" } : Jvm.MethodName)) ∈ lw_all := lw_g (lw_at lw_m10 231 rfl) rfl
theorem q2555 : (Jvm.Cond.static ({ cls := "java/lang/StringUTF16", name := "checkOffset", desc := "(I[B)V" } : Jvm.MethodName)) ∈ lw_all := lw_g (lw_at lw_m10 232 rfl) rfl
theorem q2556 : (Jvm.Cond.code ({ cls := "java/lang/StringUTF16", name := "checkOffset", desc := "(I[B)V" } : Jvm.MethodName) prog_54_method_92_code (2 : Nat) (Option.none : Option Jvm.ClassFile.FieldType)) ∈ lw_all := lw_g (lw_at lw_m10 233 rfl) rfl
theorem q2557 : (Jvm.Cond.methodLink "java/lang/StringUTF16" (417 : Nat) ({ cls := "java/lang/String", name := "checkOffset", desc := "(II)V" } : Jvm.MethodName)) ∈ lw_all := lw_g (lw_at lw_m10 234 rfl) rfl
theorem q2558 : (Jvm.Cond.static ({ cls := "java/lang/String", name := "checkOffset", desc := "(II)V" } : Jvm.MethodName)) ∈ lw_all := lw_g (lw_at lw_m10 235 rfl) rfl
theorem q2559 : (Jvm.Cond.code ({ cls := "java/lang/String", name := "checkOffset", desc := "(II)V" } : Jvm.MethodName) prog_51_method_156_code (2 : Nat) (Option.none : Option Jvm.ClassFile.FieldType)) ∈ lw_all := lw_g (lw_at lw_m10 236 rfl) rfl
theorem q2560 : (Jvm.Cond.methodLink "java/lang/AbstractStringBuilder" (94 : Nat) ({ cls := "java/lang/StringLatin1", name := "compareToUTF16", desc := "([B[BII)I" } : Jvm.MethodName)) ∈ lw_all := lw_g (lw_at lw_m10 237 rfl) rfl
theorem q2561 : (Jvm.Cond.static ({ cls := "java/lang/StringLatin1", name := "compareToUTF16", desc := "([B[BII)I" } : Jvm.MethodName)) ∈ lw_all := lw_g (lw_at lw_m10 238 rfl) rfl
theorem q2562 : (Jvm.Cond.code ({ cls := "java/lang/StringLatin1", name := "compareToUTF16", desc := "([B[BII)I" } : Jvm.MethodName) prog_53_method_17_code (4 : Nat) (Option.some Jvm.ClassFile.FieldType.int)) ∈ lw_all := lw_g (lw_at lw_m10 239 rfl) rfl
theorem q2563 : (Jvm.Cond.methodLink "java/lang/StringLatin1" (62 : Nat) ({ cls := "java/lang/String", name := "checkOffset", desc := "(II)V" } : Jvm.MethodName)) ∈ lw_all := lw_g (lw_at lw_m11 0 rfl) rfl
theorem q2564 : (Jvm.Cond.methodLink "java/lang/AbstractStringBuilder" (97 : Nat) ({ cls := "java/lang/StringUTF16", name := "compareToLatin1", desc := "([B[BII)I" } : Jvm.MethodName)) ∈ lw_all := lw_g (lw_at lw_m11 1 rfl) rfl
theorem q2565 : (Jvm.Cond.static ({ cls := "java/lang/StringUTF16", name := "compareToLatin1", desc := "([B[BII)I" } : Jvm.MethodName)) ∈ lw_all := lw_g (lw_at lw_m11 2 rfl) rfl
theorem q2566 : (Jvm.Cond.code ({ cls := "java/lang/StringUTF16", name := "compareToLatin1", desc := "([B[BII)I" } : Jvm.MethodName) prog_54_method_33_code (4 : Nat) (Option.some Jvm.ClassFile.FieldType.int)) ∈ lw_all := lw_g (lw_at lw_m11 3 rfl) rfl
theorem q2567 : (Jvm.Cond.methodLink "java/lang/StringUTF16" (193 : Nat) ({ cls := "java/lang/StringLatin1", name := "compareToUTF16", desc := "([B[BII)I" } : Jvm.MethodName)) ∈ lw_all := lw_g (lw_at lw_m11 4 rfl) rfl
theorem q2568 : (Jvm.Cond.methodLink "java/util/ComparableTimSort" (81 : Nat) ({ cls := "java/util/ComparableTimSort", name := "reverseRange", desc := "([Ljava/lang/Object;II)V" } : Jvm.MethodName)) ∈ lw_all := lw_g (lw_at lw_m11 5 rfl) rfl
theorem q2569 : (Jvm.Cond.static ({ cls := "java/util/ComparableTimSort", name := "reverseRange", desc := "([Ljava/lang/Object;II)V" } : Jvm.MethodName)) ∈ lw_all := lw_g (lw_at lw_m11 6 rfl) rfl
theorem q2570 : (Jvm.Cond.code ({ cls := "java/util/ComparableTimSort", name := "reverseRange", desc := "([Ljava/lang/Object;II)V" } : Jvm.MethodName) prog_74_method_5_code (4 : Nat) (Option.none : Option Jvm.ClassFile.FieldType)) ∈ lw_all := lw_g (lw_at lw_m11 7 rfl) rfl
theorem q2571 : (Jvm.Cond.methodLink "java/util/ComparableTimSort" (48 : Nat) ({ cls := "java/util/ComparableTimSort", name := "binarySort", desc := "([Ljava/lang/Object;III)V" } : Jvm.MethodName)) ∈ lw_all := lw_g (lw_at lw_m11 8 rfl) rfl
theorem q2572 : (Jvm.Cond.static ({ cls := "java/util/ComparableTimSort", name := "binarySort", desc := "([Ljava/lang/Object;III)V" } : Jvm.MethodName)) ∈ lw_all := lw_g (lw_at lw_m11 9 rfl) rfl
theorem q2573 : (Jvm.Cond.code ({ cls := "java/util/ComparableTimSort", name := "binarySort", desc := "([Ljava/lang/Object;III)V" } : Jvm.MethodName) prog_74_method_3_code (8 : Nat) (Option.none : Option Jvm.ClassFile.FieldType)) ∈ lw_all := lw_g (lw_at lw_m11 10 rfl) rfl
theorem q2574 : (Jvm.Cond.methodLink "java/util/ComparableTimSort" (75 : Nat) ({ cls := "java/lang/System", name := "arraycopy", desc := "(Ljava/lang/Object;ILjava/lang/Object;II)V" } : Jvm.MethodName)) ∈ lw_all := lw_g (lw_at lw_m11 11 rfl) rfl
theorem q2575 : (Jvm.Cond.classLink "java/util/ComparableTimSort" (7 : Nat) "java/util/ComparableTimSort") ∈ lw_all := lw_g (lw_at lw_m11 12 rfl) rfl
theorem q2576 : (Jvm.Cond.instantiable "java/util/ComparableTimSort" (8 : Nat)) ∈ lw_all := lw_g (lw_at lw_m11 13 rfl) rfl
theorem q2577 : (Jvm.Cond.methodLink "java/util/ComparableTimSort" (52 : Nat) ({ cls := "java/util/ComparableTimSort", name := "<init>", desc := "([Ljava/lang/Object;[Ljava/lang/Object;II)V" } : Jvm.MethodName)) ∈ lw_all := lw_g (lw_at lw_m11 14 rfl) rfl
theorem q2578 : (Jvm.Cond.instanceMethod ({ cls := "java/util/ComparableTimSort", name := "<init>", desc := "([Ljava/lang/Object;[Ljava/lang/Object;II)V" } : Jvm.MethodName)) ∈ lw_all := lw_g (lw_at lw_m11 15 rfl) rfl
theorem q2579 : (Jvm.Cond.code ({ cls := "java/util/ComparableTimSort", name := "<init>", desc := "([Ljava/lang/Object;[Ljava/lang/Object;II)V" } : Jvm.MethodName) prog_74_method_1_code (8 : Nat) (Option.none : Option Jvm.ClassFile.FieldType)) ∈ lw_all := lw_g (lw_at lw_m11 16 rfl) rfl
theorem q2580 : (Jvm.Cond.methodLink "java/util/ComparableTimSort" (1 : Nat) ({ cls := "java/lang/Object", name := "<init>", desc := "()V" } : Jvm.MethodName)) ∈ lw_all := lw_g (lw_at lw_m11 17 rfl) rfl
theorem q2581 : (Jvm.Cond.classLink "java/util/ComparableTimSort" (2 : Nat) "java/lang/Object") ∈ lw_all := lw_g (lw_at lw_m11 18 rfl) rfl
theorem q2582 : (Jvm.Cond.constant "java/util/ComparableTimSort" (29 : Nat) (119151 : Int32)) ∈ lw_all := lw_g (lw_at lw_m11 19 rfl) rfl
theorem q2583 : (Jvm.Cond.fieldLink "java/util/ComparableTimSort" (16 : Nat) "java/util/ComparableTimSort" "a" "[Ljava/lang/Object;") ∈ lw_all := lw_g (lw_at lw_m11 20 rfl) rfl
theorem q2584 : (Jvm.Cond.fieldLink "java/util/ComparableTimSort" (9 : Nat) "java/util/ComparableTimSort" "minGallop" "I") ∈ lw_all := lw_g (lw_at lw_m11 21 rfl) rfl
theorem q2585 : (Jvm.Cond.fieldLink "java/util/ComparableTimSort" (20 : Nat) "java/util/ComparableTimSort" "tmp" "[Ljava/lang/Object;") ∈ lw_all := lw_g (lw_at lw_m11 22 rfl) rfl
theorem q2586 : (Jvm.Cond.fieldLink "java/util/ComparableTimSort" (23 : Nat) "java/util/ComparableTimSort" "tmpBase" "I") ∈ lw_all := lw_g (lw_at lw_m11 23 rfl) rfl
theorem q2587 : (Jvm.Cond.fieldLink "java/util/ComparableTimSort" (26 : Nat) "java/util/ComparableTimSort" "tmpLen" "I") ∈ lw_all := lw_g (lw_at lw_m11 24 rfl) rfl
theorem q2588 : (Jvm.Cond.fieldLink "java/util/ComparableTimSort" (13 : Nat) "java/util/ComparableTimSort" "stackSize" "I") ∈ lw_all := lw_g (lw_at lw_m11 25 rfl) rfl
theorem q2589 : (Jvm.Cond.fieldLink "java/util/ComparableTimSort" (30 : Nat) "java/util/ComparableTimSort" "runBase" "[I") ∈ lw_all := lw_g (lw_at lw_m11 26 rfl) rfl
theorem q2590 : (Jvm.Cond.fieldLink "java/util/ComparableTimSort" (34 : Nat) "java/util/ComparableTimSort" "runLen" "[I") ∈ lw_all := lw_g (lw_at lw_m11 27 rfl) rfl
theorem q2591 : (Jvm.Cond.laysFinal "java/util/ComparableTimSort" "java/util/ComparableTimSort" "a" "[Ljava/lang/Object;") ∈ lw_all := lw_g (lw_at lw_m11 28 rfl) rfl
theorem q2593 : (Jvm.Cond.lays "java/util/ComparableTimSort" "java/util/ComparableTimSort" "minGallop" "I") ∈ lw_all := lw_g (lw_at lw_m11 30 rfl) rfl
theorem q2595 : (Jvm.Cond.lays "java/util/ComparableTimSort" "java/util/ComparableTimSort" "tmp" "[Ljava/lang/Object;") ∈ lw_all := lw_g (lw_at lw_m11 32 rfl) rfl
theorem q2597 : (Jvm.Cond.lays "java/util/ComparableTimSort" "java/util/ComparableTimSort" "tmpBase" "I") ∈ lw_all := lw_g (lw_at lw_m11 34 rfl) rfl
theorem q2599 : (Jvm.Cond.lays "java/util/ComparableTimSort" "java/util/ComparableTimSort" "tmpLen" "I") ∈ lw_all := lw_g (lw_at lw_m11 36 rfl) rfl
theorem q2601 : (Jvm.Cond.lays "java/util/ComparableTimSort" "java/util/ComparableTimSort" "stackSize" "I") ∈ lw_all := lw_g (lw_at lw_m11 38 rfl) rfl
theorem q2603 : (Jvm.Cond.laysFinal "java/util/ComparableTimSort" "java/util/ComparableTimSort" "runBase" "[I") ∈ lw_all := lw_g (lw_at lw_m11 40 rfl) rfl
theorem q2605 : (Jvm.Cond.laysFinal "java/util/ComparableTimSort" "java/util/ComparableTimSort" "runLen" "[I") ∈ lw_all := lw_g (lw_at lw_m11 42 rfl) rfl
theorem q2608 : (Jvm.Cond.methodLink "java/util/ComparableTimSort" (55 : Nat) ({ cls := "java/util/ComparableTimSort", name := "minRunLength", desc := "(I)I" } : Jvm.MethodName)) ∈ lw_all := lw_g (lw_at lw_m11 45 rfl) rfl
theorem q2609 : (Jvm.Cond.static ({ cls := "java/util/ComparableTimSort", name := "minRunLength", desc := "(I)I" } : Jvm.MethodName)) ∈ lw_all := lw_g (lw_at lw_m11 46 rfl) rfl
theorem q2610 : (Jvm.Cond.code ({ cls := "java/util/ComparableTimSort", name := "minRunLength", desc := "(I)I" } : Jvm.MethodName) prog_74_method_6_code (2 : Nat) (Option.some Jvm.ClassFile.FieldType.int)) ∈ lw_all := lw_g (lw_at lw_m11 47 rfl) rfl
theorem q2611 : (Jvm.Cond.methodLink "java/util/ComparableTimSort" (59 : Nat) ({ cls := "java/util/ComparableTimSort", name := "pushRun", desc := "(II)V" } : Jvm.MethodName)) ∈ lw_all := lw_g (lw_at lw_m11 48 rfl) rfl
theorem q2613 : (Jvm.Cond.instanceMethod ({ cls := "java/util/ComparableTimSort", name := "pushRun", desc := "(II)V" } : Jvm.MethodName)) ∈ lw_all := lw_g (lw_at lw_m11 50 rfl) rfl
theorem q2614 : (Jvm.Cond.code ({ cls := "java/util/ComparableTimSort", name := "pushRun", desc := "(II)V" } : Jvm.MethodName) prog_74_method_7_code (3 : Nat) (Option.none : Option Jvm.ClassFile.FieldType)) ∈ lw_all := lw_g (lw_at lw_m11 51 rfl) rfl
theorem q2615 : (Jvm.Cond.methodLink "java/util/ComparableTimSort" (63 : Nat) ({ cls := "java/util/ComparableTimSort", name := "mergeCollapse", desc := "()V" } : Jvm.MethodName)) ∈ lw_all := lw_g (lw_at lw_m11 52 rfl) rfl
theorem q2617 : (Jvm.Cond.instanceMethod ({ cls := "java/util/ComparableTimSort", name := "mergeCollapse", desc := "()V" } : Jvm.MethodName)) ∈ lw_all := lw_g (lw_at lw_m11 54 rfl) rfl
theorem q2618 : (Jvm.Cond.code ({ cls := "java/util/ComparableTimSort", name := "mergeCollapse", desc := "()V" } : Jvm.MethodName) prog_74_method_8_code (2 : Nat) (Option.none : Option Jvm.ClassFile.FieldType)) ∈ lw_all := lw_g (lw_at lw_m11 55 rfl) rfl
theorem q2619 : (Jvm.Cond.methodLink "java/util/ComparableTimSort" (85 : Nat) ({ cls := "java/util/ComparableTimSort", name := "mergeAt", desc := "(I)V" } : Jvm.MethodName)) ∈ lw_all := lw_g (lw_at lw_m11 56 rfl) rfl
theorem q2621 : (Jvm.Cond.instanceMethod ({ cls := "java/util/ComparableTimSort", name := "mergeAt", desc := "(I)V" } : Jvm.MethodName)) ∈ lw_all := lw_g (lw_at lw_m11 58 rfl) rfl
theorem q2622 : (Jvm.Cond.code ({ cls := "java/util/ComparableTimSort", name := "mergeAt", desc := "(I)V" } : Jvm.MethodName) prog_74_method_10_code (7 : Nat) (Option.none : Option Jvm.ClassFile.FieldType)) ∈ lw_all := lw_g (lw_at lw_m11 59 rfl) rfl
theorem q2623 : (Jvm.Cond.methodLink "java/util/ComparableTimSort" (89 : Nat) ({ cls := "java/util/ComparableTimSort", name := "gallopRight", desc := "(Ljava/lang/Comparable;[Ljava/lang/Object;III)I" } : Jvm.MethodName)) ∈ lw_all := lw_g (lw_at lw_m11 60 rfl) rfl
theorem q2624 : (Jvm.Cond.static ({ cls := "java/util/ComparableTimSort", name := "gallopRight", desc := "(Ljava/lang/Comparable;[Ljava/lang/Object;III)I" } : Jvm.MethodName)) ∈ lw_all := lw_g (lw_at lw_m11 61 rfl) rfl
theorem q2625 : (Jvm.Cond.code ({ cls := "java/util/ComparableTimSort", name := "gallopRight", desc := "(Ljava/lang/Comparable;[Ljava/lang/Object;III)I" } : Jvm.MethodName) prog_74_method_12_code (9 : Nat) (Option.some Jvm.ClassFile.FieldType.int)) ∈ lw_all := lw_g (lw_at lw_m11 62 rfl) rfl
theorem q2626 : (Jvm.Cond.methodLink "java/util/ComparableTimSort" (93 : Nat) ({ cls := "java/util/ComparableTimSort", name := "gallopLeft", desc := "(Ljava/lang/Comparable;[Ljava/lang/Object;III)I" } : Jvm.MethodName)) ∈ lw_all := lw_g (lw_at lw_m11 63 rfl) rfl
theorem q2627 : (Jvm.Cond.static ({ cls := "java/util/ComparableTimSort", name := "gallopLeft", desc := "(Ljava/lang/Comparable;[Ljava/lang/Object;III)I" } : Jvm.MethodName)) ∈ lw_all := lw_g (lw_at lw_m11 64 rfl) rfl
theorem q2628 : (Jvm.Cond.code ({ cls := "java/util/ComparableTimSort", name := "gallopLeft", desc := "(Ljava/lang/Comparable;[Ljava/lang/Object;III)I" } : Jvm.MethodName) prog_74_method_11_code (9 : Nat) (Option.some Jvm.ClassFile.FieldType.int)) ∈ lw_all := lw_g (lw_at lw_m11 65 rfl) rfl
theorem q2629 : (Jvm.Cond.methodLink "java/util/ComparableTimSort" (96 : Nat) ({ cls := "java/util/ComparableTimSort", name := "mergeLo", desc := "(IIII)V" } : Jvm.MethodName)) ∈ lw_all := lw_g (lw_at lw_m11 66 rfl) rfl
theorem q2631 : (Jvm.Cond.instanceMethod ({ cls := "java/util/ComparableTimSort", name := "mergeLo", desc := "(IIII)V" } : Jvm.MethodName)) ∈ lw_all := lw_g (lw_at lw_m11 68 rfl) rfl
theorem q2632 : (Jvm.Cond.code ({ cls := "java/util/ComparableTimSort", name := "mergeLo", desc := "(IIII)V" } : Jvm.MethodName) prog_74_method_13_code (13 : Nat) (Option.none : Option Jvm.ClassFile.FieldType)) ∈ lw_all := lw_g (lw_at lw_m11 69 rfl) rfl
theorem q2633 : (Jvm.Cond.methodLink "java/util/ComparableTimSort" (103 : Nat) ({ cls := "java/util/ComparableTimSort", name := "ensureCapacity", desc := "(I)[Ljava/lang/Object;" } : Jvm.MethodName)) ∈ lw_all := lw_g (lw_at lw_m11 70 rfl) rfl
theorem q2635 : (Jvm.Cond.instanceMethod ({ cls := "java/util/ComparableTimSort", name := "ensureCapacity", desc := "(I)[Ljava/lang/Object;" } : Jvm.MethodName)) ∈ lw_all := lw_g (lw_at lw_m11 72 rfl) rfl
theorem q2636 : (Jvm.Cond.code ({ cls := "java/util/ComparableTimSort", name := "ensureCapacity", desc := "(I)[Ljava/lang/Object;" } : Jvm.MethodName) prog_74_method_15_code (4 : Nat) (Option.some (Jvm.ClassFile.FieldType.array (Jvm.ClassFile.FieldType.object "java/lang/Object")))) ∈ lw_all := lw_g (lw_at lw_m11 73 rfl) rfl
theorem q2637 : (Jvm.Cond.methodLink "java/util/ComparableTimSort" (114 : Nat) ({ cls := "java/lang/Integer", name := "numberOfLeadingZeros", desc := "(I)I" } : Jvm.MethodName)) ∈ lw_all := lw_g (lw_at lw_m11 74 rfl) rfl
theorem q2638 : (Jvm.Cond.methodLink "java/util/ComparableTimSort" (119 : Nat) ({ cls := "java/lang/Math", name := "min", desc := "(II)I" } : Jvm.MethodName)) ∈ lw_all := lw_g (lw_at lw_m11 75 rfl) rfl
theorem q2639 : (Jvm.Cond.methodLink "java/util/ComparableTimSort" (100 : Nat) ({ cls := "java/util/ComparableTimSort", name := "mergeHi", desc := "(IIII)V" } : Jvm.MethodName)) ∈ lw_all := lw_g (lw_at lw_m11 76 rfl) rfl
theorem q2641 : (Jvm.Cond.instanceMethod ({ cls := "java/util/ComparableTimSort", name := "mergeHi", desc := "(IIII)V" } : Jvm.MethodName)) ∈ lw_all := lw_g (lw_at lw_m11 78 rfl) rfl
theorem q2642 : (Jvm.Cond.code ({ cls := "java/util/ComparableTimSort", name := "mergeHi", desc := "(IIII)V" } : Jvm.MethodName) prog_74_method_14_code (14 : Nat) (Option.none : Option Jvm.ClassFile.FieldType)) ∈ lw_all := lw_g (lw_at lw_m11 79 rfl) rfl
theorem q2643 : (Jvm.Cond.methodLink "java/util/ComparableTimSort" (66 : Nat) ({ cls := "java/util/ComparableTimSort", name := "mergeForceCollapse", desc := "()V" } : Jvm.MethodName)) ∈ lw_all := lw_g (lw_at lw_m11 80 rfl) rfl
theorem q2645 : (Jvm.Cond.instanceMethod ({ cls := "java/util/ComparableTimSort", name := "mergeForceCollapse", desc := "()V" } : Jvm.MethodName)) ∈ lw_all := lw_g (lw_at lw_m11 82 rfl) rfl
theorem q2646 : (Jvm.Cond.code ({ cls := "java/util/ComparableTimSort", name := "mergeForceCollapse", desc := "()V" } : Jvm.MethodName) prog_74_method_9_code (2 : Nat) (Option.none : Option Jvm.ClassFile.FieldType)) ∈ lw_all := lw_g (lw_at lw_m11 83 rfl) rfl
theorem q2647 : (Jvm.Cond.methodLink "java/util/Arrays" (79 : Nat) ({ cls := "java/util/TimSort", name := "sort", desc := "([Ljava/lang/Object;IILjava/util/Comparator;[Ljava/lang/Object;II)V" } : Jvm.MethodName)) ∈ lw_all := lw_g (lw_at lw_m11 84 rfl) rfl
theorem q2648 : (Jvm.Cond.static ({ cls := "java/util/TimSort", name := "sort", desc := "([Ljava/lang/Object;IILjava/util/Comparator;[Ljava/lang/Object;II)V" } : Jvm.MethodName)) ∈ lw_all := lw_g (lw_at lw_m11 85 rfl) rfl
theorem q2649 : (Jvm.Cond.code ({ cls := "java/util/TimSort", name := "sort", desc := "([Ljava/lang/Object;IILjava/util/Comparator;[Ljava/lang/Object;II)V" } : Jvm.MethodName) prog_89_method_2_code (12 : Nat) (Option.none : Option Jvm.ClassFile.FieldType)) ∈ lw_all := lw_g (lw_at lw_m11 86 rfl) rfl
theorem q2650 : (Jvm.Cond.fieldLink "java/util/TimSort" (57 : Nat) "java/util/TimSort" "$assertionsDisabled" "Z") ∈ lw_all := lw_g (lw_at lw_m11 87 rfl) rfl
theorem q2652 : (Jvm.Cond.methodLink "java/util/TimSort" (64 : Nat) ({ cls := "java/util/TimSort", name := "countRunAndMakeAscending", desc := "([Ljava/lang/Object;IILjava/util/Comparator;)I" } : Jvm.MethodName)) ∈ lw_all := lw_g (lw_at lw_m11 89 rfl) rfl
theorem q2653 : (Jvm.Cond.static ({ cls := "java/util/TimSort", name := "countRunAndMakeAscending", desc := "([Ljava/lang/Object;IILjava/util/Comparator;)I" } : Jvm.MethodName)) ∈ lw_all := lw_g (lw_at lw_m11 90 rfl) rfl
theorem q2654 : (Jvm.Cond.code ({ cls := "java/util/TimSort", name := "countRunAndMakeAscending", desc := "([Ljava/lang/Object;IILjava/util/Comparator;)I" } : Jvm.MethodName) prog_89_method_4_code (5 : Nat) (Option.some Jvm.ClassFile.FieldType.int)) ∈ lw_all := lw_g (lw_at lw_m11 91 rfl) rfl
theorem q2659 : (Jvm.Cond.methodLink "java/util/TimSort" (101 : Nat) ({ cls := "java/util/TimSort", name := "reverseRange", desc := "([Ljava/lang/Object;II)V" } : Jvm.MethodName)) ∈ lw_all := lw_g (lw_at lw_m11 96 rfl) rfl
theorem q2660 : (Jvm.Cond.static ({ cls := "java/util/TimSort", name := "reverseRange", desc := "([Ljava/lang/Object;II)V" } : Jvm.MethodName)) ∈ lw_all := lw_g (lw_at lw_m11 97 rfl) rfl
theorem q2661 : (Jvm.Cond.code ({ cls := "java/util/TimSort", name := "reverseRange", desc := "([Ljava/lang/Object;II)V" } : Jvm.MethodName) prog_89_method_5_code (4 : Nat) (Option.none : Option Jvm.ClassFile.FieldType)) ∈ lw_all := lw_g (lw_at lw_m11 98 rfl) rfl
theorem q2662 : (Jvm.Cond.methodLink "java/util/TimSort" (68 : Nat) ({ cls := "java/util/TimSort", name := "binarySort", desc := "([Ljava/lang/Object;IIILjava/util/Comparator;)V" } : Jvm.MethodName)) ∈ lw_all := lw_g (lw_at lw_m11 99 rfl) rfl
theorem q2663 : (Jvm.Cond.static ({ cls := "java/util/TimSort", name := "binarySort", desc := "([Ljava/lang/Object;IIILjava/util/Comparator;)V" } : Jvm.MethodName)) ∈ lw_all := lw_g (lw_at lw_m11 100 rfl) rfl
theorem q2664 : (Jvm.Cond.code ({ cls := "java/util/TimSort", name := "binarySort", desc := "([Ljava/lang/Object;IIILjava/util/Comparator;)V" } : Jvm.MethodName) prog_89_method_3_code (9 : Nat) (Option.none : Option Jvm.ClassFile.FieldType)) ∈ lw_all := lw_g (lw_at lw_m11 101 rfl) rfl
theorem q2665 : (Jvm.Cond.methodLink "java/util/TimSort" (95 : Nat) ({ cls := "java/lang/System", name := "arraycopy", desc := "(Ljava/lang/Object;ILjava/lang/Object;II)V" } : Jvm.MethodName)) ∈ lw_all := lw_g (lw_at lw_m11 102 rfl) rfl
theorem q2666 : (Jvm.Cond.castable "java/util/LinkedList" "java/util/List") ∈ lw_tbl := lw_at lw_m11 103 rfl
theorem q2668 : (Jvm.Cond.instanceMethod ({ cls := "java/util/List", name := "sort", desc := "(Ljava/util/Comparator;)V" } : Jvm.MethodName)) ∈ lw_all := lw_g (lw_at lw_m11 105 rfl) rfl
theorem q2669 : (Jvm.Cond.publicMethod ({ cls := "java/util/List", name := "sort", desc := "(Ljava/util/Comparator;)V" } : Jvm.MethodName)) ∈ lw_tbl := lw_at lw_m11 106 rfl
theorem q2670 : (Jvm.Cond.code ({ cls := "java/util/List", name := "sort", desc := "(Ljava/util/Comparator;)V" } : Jvm.MethodName) prog_82_method_15_code (8 : Nat) (Option.none : Option Jvm.ClassFile.FieldType)) ∈ lw_all := lw_g (lw_at lw_m11 107 rfl) rfl
theorem q2672 : (Jvm.Cond.methodLink "java/util/List" (32 : Nat) ({ cls := "java/util/List", name := "toArray", desc := "()[Ljava/lang/Object;" } : Jvm.MethodName)) ∈ lw_all := lw_g (lw_at lw_m11 109 rfl) rfl
theorem q2673 : (Jvm.Cond.interfaceMethod "java/util/List" "java/util/List" "toArray" "()[Ljava/lang/Object;") ∈ lw_tbl := lw_at lw_m11 110 rfl
theorem q2674 : (Jvm.Cond.declares ({ cls := "java/util/List", name := "toArray", desc := "()[Ljava/lang/Object;" } : Jvm.MethodName)) ∈ lw_tbl := lw_at lw_m11 111 rfl
theorem q2675 : (Jvm.Cond.selects "java/util/ArrayList" ({ cls := "java/util/List", name := "toArray", desc := "()[Ljava/lang/Object;" } : Jvm.MethodName) ({ cls := "java/util/ArrayList", name := "toArray", desc := "()[Ljava/lang/Object;" } : Jvm.MethodName)) ∈ lw_all := lw_g (lw_at lw_m11 112 rfl) rfl
theorem q2676 : (Jvm.Cond.unhidden "java/util/ArrayList" "toArray" "()[Ljava/lang/Object;") ∈ lw_tbl := lw_at lw_m11 113 rfl
theorem q2677 : (Jvm.Cond.instanceMethod ({ cls := "java/util/ArrayList", name := "toArray", desc := "()[Ljava/lang/Object;" } : Jvm.MethodName)) ∈ lw_all := lw_g (lw_at lw_m11 114 rfl) rfl
theorem q2678 : (Jvm.Cond.publicMethod ({ cls := "java/util/ArrayList", name := "toArray", desc := "()[Ljava/lang/Object;" } : Jvm.MethodName)) ∈ lw_tbl := lw_at lw_m11 115 rfl
theorem q2679 : (Jvm.Cond.code ({ cls := "java/util/ArrayList", name := "toArray", desc := "()[Ljava/lang/Object;" } : Jvm.MethodName) prog_66_method_16_code (1 : Nat) (Option.some (Jvm.ClassFile.FieldType.array (Jvm.ClassFile.FieldType.object "java/lang/Object")))) ∈ lw_all := lw_g (lw_at lw_m11 116 rfl) rfl
theorem q2680 : (Jvm.Cond.selects "java/util/LinkedList" ({ cls := "java/util/List", name := "toArray", desc := "()[Ljava/lang/Object;" } : Jvm.MethodName) ({ cls := "java/util/LinkedList", name := "toArray", desc := "()[Ljava/lang/Object;" } : Jvm.MethodName)) ∈ lw_all := lw_g (lw_at lw_m11 117 rfl) rfl
theorem q2681 : (Jvm.Cond.unhidden "java/util/LinkedList" "toArray" "()[Ljava/lang/Object;") ∈ lw_tbl := lw_at lw_m11 118 rfl
theorem q2682 : (Jvm.Cond.instanceMethod ({ cls := "java/util/LinkedList", name := "toArray", desc := "()[Ljava/lang/Object;" } : Jvm.MethodName)) ∈ lw_all := lw_g (lw_at lw_m11 119 rfl) rfl
theorem q2683 : (Jvm.Cond.publicMethod ({ cls := "java/util/LinkedList", name := "toArray", desc := "()[Ljava/lang/Object;" } : Jvm.MethodName)) ∈ lw_tbl := lw_at lw_m11 120 rfl
theorem q2684 : (Jvm.Cond.code ({ cls := "java/util/LinkedList", name := "toArray", desc := "()[Ljava/lang/Object;" } : Jvm.MethodName) prog_79_method_53_code (4 : Nat) (Option.some (Jvm.ClassFile.FieldType.array (Jvm.ClassFile.FieldType.object "java/lang/Object")))) ∈ lw_all := lw_g (lw_at lw_m11 121 rfl) rfl
theorem q2685 : (Jvm.Cond.classLink "java/util/LinkedList" (68 : Nat) "java/lang/Object") ∈ lw_all := lw_g (lw_at lw_m11 122 rfl) rfl
theorem q2686 : (Jvm.Cond.methodLink "java/util/List" (36 : Nat) ({ cls := "java/util/Arrays", name := "sort", desc := "([Ljava/lang/Object;Ljava/util/Comparator;)V" } : Jvm.MethodName)) ∈ lw_all := lw_g (lw_at lw_m11 123 rfl) rfl
theorem q2687 : (Jvm.Cond.static ({ cls := "java/util/Arrays", name := "sort", desc := "([Ljava/lang/Object;Ljava/util/Comparator;)V" } : Jvm.MethodName)) ∈ lw_all := lw_g (lw_at lw_m11 124 rfl) rfl
theorem q2688 : (Jvm.Cond.code ({ cls := "java/util/Arrays", name := "sort", desc := "([Ljava/lang/Object;Ljava/util/Comparator;)V" } : Jvm.MethodName) prog_69_method_41_code (2 : Nat) (Option.none : Option Jvm.ClassFile.FieldType)) ∈ lw_all := lw_g (lw_at lw_m11 125 rfl) rfl
theorem q2689 : (Jvm.Cond.methodLink "java/util/Arrays" (156 : Nat) ({ cls := "java/util/Arrays", name := "sort", desc := "([Ljava/lang/Object;)V" } : Jvm.MethodName)) ∈ lw_all := lw_g (lw_at lw_m11 126 rfl) rfl
theorem q2690 : (Jvm.Cond.static ({ cls := "java/util/Arrays", name := "sort", desc := "([Ljava/lang/Object;)V" } : Jvm.MethodName)) ∈ lw_all := lw_g (lw_at lw_m11 127 rfl) rfl
theorem q2691 : (Jvm.Cond.code ({ cls := "java/util/Arrays", name := "sort", desc := "([Ljava/lang/Object;)V" } : Jvm.MethodName) prog_69_method_35_code (1 : Nat) (Option.none : Option Jvm.ClassFile.FieldType)) ∈ lw_all := lw_g (lw_at lw_m11 128 rfl) rfl
theorem q2693 : (Jvm.Cond.methodLink "java/util/List" (7 : Nat) ({ cls := "java/util/List", name := "listIterator", desc := "()Ljava/util/ListIterator;" } : Jvm.MethodName)) ∈ lw_all := lw_g (lw_at lw_m11 130 rfl) rfl
theorem q2694 : (Jvm.Cond.interfaceMethod "java/util/List" "java/util/List" "listIterator" "()Ljava/util/ListIterator;") ∈ lw_tbl := lw_at lw_m11 131 rfl
theorem q2695 : (Jvm.Cond.declares ({ cls := "java/util/List", name := "listIterator", desc := "()Ljava/util/ListIterator;" } : Jvm.MethodName)) ∈ lw_tbl := lw_at lw_m11 132 rfl
theorem q2696 : (Jvm.Cond.selects "java/util/ArrayList" ({ cls := "java/util/List", name := "listIterator", desc := "()Ljava/util/ListIterator;" } : Jvm.MethodName) ({ cls := "java/util/ArrayList", name := "listIterator", desc := "()Ljava/util/ListIterator;" } : Jvm.MethodName)) ∈ lw_all := lw_g (lw_at lw_m11 133 rfl) rfl
theorem q2697 : (Jvm.Cond.unhidden "java/util/ArrayList" "listIterator" "()Ljava/util/ListIterator;") ∈ lw_tbl := lw_at lw_m11 134 rfl
theorem q2698 : (Jvm.Cond.instanceMethod ({ cls := "java/util/ArrayList", name := "listIterator", desc := "()Ljava/util/ListIterator;" } : Jvm.MethodName)) ∈ lw_all := lw_g (lw_at lw_m11 135 rfl) rfl
theorem q2699 : (Jvm.Cond.publicMethod ({ cls := "java/util/ArrayList", name := "listIterator", desc := "()Ljava/util/ListIterator;" } : Jvm.MethodName)) ∈ lw_tbl := lw_at lw_m11 136 rfl
theorem q2700 : (Jvm.Cond.code ({ cls := "java/util/ArrayList", name := "listIterator", desc := "()Ljava/util/ListIterator;" } : Jvm.MethodName) prog_66_method_54_code (1 : Nat) (Option.some (Jvm.ClassFile.FieldType.object "java/util/ListIterator"))) ∈ lw_all := lw_g (lw_at lw_m11 137 rfl) rfl
theorem q2701 : (Jvm.Cond.classLink "java/util/ArrayList" (262 : Nat) "java/util/ArrayList$ListItr") ∈ lw_all := lw_g (lw_at lw_m11 138 rfl) rfl
theorem q2703 : (Jvm.Cond.methodLink "java/util/ArrayList" (264 : Nat) ({ cls := "java/util/ArrayList$ListItr", name := "<init>", desc := "(Ljava/util/ArrayList;I)V" } : Jvm.MethodName)) ∈ lw_all := lw_g (lw_at lw_m11 140 rfl) rfl
theorem q2704 : (Jvm.Cond.instanceMethod ({ cls := "java/util/ArrayList$ListItr", name := "<init>", desc := "(Ljava/util/ArrayList;I)V" } : Jvm.MethodName)) ∈ lw_all := lw_g (lw_at lw_m11 141 rfl) rfl
theorem q2705 : (Jvm.Cond.code ({ cls := "java/util/ArrayList$ListItr", name := "<init>", desc := "(Ljava/util/ArrayList;I)V" } : Jvm.MethodName) prog_68_method_1_code (3 : Nat) (Option.none : Option Jvm.ClassFile.FieldType)) ∈ lw_all := lw_g (lw_at lw_m11 142 rfl) rfl
theorem q2706 : (Jvm.Cond.methodLink "java/util/ArrayList$ListItr" (7 : Nat) ({ cls := "java/util/ArrayList$Itr", name := "<init>", desc := "(Ljava/util/ArrayList;)V" } : Jvm.MethodName)) ∈ lw_all := lw_g (lw_at lw_m11 143 rfl) rfl
theorem q2707 : (Jvm.Cond.fieldLink "java/util/ArrayList$ListItr" (1 : Nat) "java/util/ArrayList$ListItr" "this$0" "Ljava/util/ArrayList;") ∈ lw_all := lw_g (lw_at lw_m11 144 rfl) rfl
theorem q2715 : (Jvm.Cond.selects "java/util/LinkedList" ({ cls := "java/util/List", name := "listIterator", desc := "()Ljava/util/ListIterator;" } : Jvm.MethodName) ({ cls := "java/util/AbstractList", name := "listIterator", desc := "()Ljava/util/ListIterator;" } : Jvm.MethodName)) ∈ lw_all := lw_g (lw_at lw_m11 152 rfl) rfl
theorem q2716 : (Jvm.Cond.unhidden "java/util/LinkedList" "listIterator" "()Ljava/util/ListIterator;") ∈ lw_tbl := lw_at lw_m11 153 rfl
theorem q2717 : (Jvm.Cond.instanceMethod ({ cls := "java/util/AbstractList", name := "listIterator", desc := "()Ljava/util/ListIterator;" } : Jvm.MethodName)) ∈ lw_all := lw_g (lw_at lw_m11 154 rfl) rfl
theorem q2718 : (Jvm.Cond.publicMethod ({ cls := "java/util/AbstractList", name := "listIterator", desc := "()Ljava/util/ListIterator;" } : Jvm.MethodName)) ∈ lw_tbl := lw_at lw_m11 155 rfl
theorem q2719 : (Jvm.Cond.code ({ cls := "java/util/AbstractList", name := "listIterator", desc := "()Ljava/util/ListIterator;" } : Jvm.MethodName) prog_60_method_12_code (1 : Nat) (Option.some (Jvm.ClassFile.FieldType.object "java/util/ListIterator"))) ∈ lw_all := lw_g (lw_at lw_m11 156 rfl) rfl
theorem q2720 : (Jvm.Cond.methodLink "java/util/AbstractList" (47 : Nat) ({ cls := "java/util/AbstractList", name := "listIterator", desc := "(I)Ljava/util/ListIterator;" } : Jvm.MethodName)) ∈ lw_all := lw_g (lw_at lw_m11 157 rfl) rfl
theorem q2722 : (Jvm.Cond.sameMethod "java/util/AbstractList" "java/util/AbstractList" "listIterator" "(I)Ljava/util/ListIterator;") ∈ lw_all := lw_g (lw_at lw_m11 159 rfl) rfl
theorem q2723 : (Jvm.Cond.selects "java/util/ArrayList" ({ cls := "java/util/AbstractList", name := "listIterator", desc := "(I)Ljava/util/ListIterator;" } : Jvm.MethodName) ({ cls := "java/util/ArrayList", name := "listIterator", desc := "(I)Ljava/util/ListIterator;" } : Jvm.MethodName)) ∈ lw_all := lw_g (lw_at lw_m11 160 rfl) rfl
theorem q2724 : (Jvm.Cond.instanceMethod ({ cls := "java/util/ArrayList", name := "listIterator", desc := "(I)Ljava/util/ListIterator;" } : Jvm.MethodName)) ∈ lw_all := lw_g (lw_at lw_m11 161 rfl) rfl
theorem q2725 : (Jvm.Cond.code ({ cls := "java/util/ArrayList", name := "listIterator", desc := "(I)Ljava/util/ListIterator;" } : Jvm.MethodName) prog_66_method_53_code (2 : Nat) (Option.some (Jvm.ClassFile.FieldType.object "java/util/ListIterator"))) ∈ lw_all := lw_g (lw_at lw_m11 162 rfl) rfl
theorem q2726 : (Jvm.Cond.methodLink "java/util/ArrayList" (135 : Nat) ({ cls := "java/util/ArrayList", name := "rangeCheckForAdd", desc := "(I)V" } : Jvm.MethodName)) ∈ lw_all := lw_g (lw_at lw_m11 163 rfl) rfl
theorem q2728 : (Jvm.Cond.instanceMethod ({ cls := "java/util/ArrayList", name := "rangeCheckForAdd", desc := "(I)V" } : Jvm.MethodName)) ∈ lw_all := lw_g (lw_at lw_m11 165 rfl) rfl
theorem q2729 : (Jvm.Cond.code ({ cls := "java/util/ArrayList", name := "rangeCheckForAdd", desc := "(I)V" } : Jvm.MethodName) prog_66_method_45_code (2 : Nat) (Option.none : Option Jvm.ClassFile.FieldType)) ∈ lw_all := lw_g (lw_at lw_m11 166 rfl) rfl
theorem q2730 : (Jvm.Cond.selects "java/util/LinkedList" ({ cls := "java/util/AbstractList", name := "listIterator", desc := "(I)Ljava/util/ListIterator;" } : Jvm.MethodName) ({ cls := "java/util/LinkedList", name := "listIterator", desc := "(I)Ljava/util/ListIterator;" } : Jvm.MethodName)) ∈ lw_all := lw_g (lw_at lw_m11 167 rfl) rfl
theorem q2731 : (Jvm.Cond.instanceMethod ({ cls := "java/util/LinkedList", name := "listIterator", desc := "(I)Ljava/util/ListIterator;" } : Jvm.MethodName)) ∈ lw_all := lw_g (lw_at lw_m11 168 rfl) rfl
theorem q2732 : (Jvm.Cond.code ({ cls := "java/util/LinkedList", name := "listIterator", desc := "(I)Ljava/util/ListIterator;" } : Jvm.MethodName) prog_79_method_49_code (2 : Nat) (Option.some (Jvm.ClassFile.FieldType.object "java/util/ListIterator"))) ∈ lw_all := lw_g (lw_at lw_m11 169 rfl) rfl
theorem q2733 : (Jvm.Cond.methodLink "java/util/LinkedList" (76 : Nat) ({ cls := "java/util/LinkedList", name := "checkPositionIndex", desc := "(I)V" } : Jvm.MethodName)) ∈ lw_all := lw_g (lw_at lw_m11 170 rfl) rfl
theorem q2735 : (Jvm.Cond.instanceMethod ({ cls := "java/util/LinkedList", name := "checkPositionIndex", desc := "(I)V" } : Jvm.MethodName)) ∈ lw_all := lw_g (lw_at lw_m11 172 rfl) rfl
theorem q2736 : (Jvm.Cond.code ({ cls := "java/util/LinkedList", name := "checkPositionIndex", desc := "(I)V" } : Jvm.MethodName) prog_79_method_30_code (2 : Nat) (Option.none : Option Jvm.ClassFile.FieldType)) ∈ lw_all := lw_g (lw_at lw_m11 173 rfl) rfl
theorem q2737 : (Jvm.Cond.methodLink "java/util/LinkedList" (128 : Nat) ({ cls := "java/util/LinkedList", name := "isPositionIndex", desc := "(I)Z" } : Jvm.MethodName)) ∈ lw_all := lw_g (lw_at lw_m11 174 rfl) rfl
theorem q2739 : (Jvm.Cond.instanceMethod ({ cls := "java/util/LinkedList", name := "isPositionIndex", desc := "(I)Z" } : Jvm.MethodName)) ∈ lw_all := lw_g (lw_at lw_m11 176 rfl) rfl
theorem q2740 : (Jvm.Cond.code ({ cls := "java/util/LinkedList", name := "isPositionIndex", desc := "(I)Z" } : Jvm.MethodName) prog_79_method_27_code (2 : Nat) (Option.some Jvm.ClassFile.FieldType.boolean)) ∈ lw_all := lw_g (lw_at lw_m11 177 rfl) rfl
theorem q2741 : (Jvm.Cond.classLink "java/util/LinkedList" (150 : Nat) "java/util/LinkedList$ListItr") ∈ lw_all := lw_g (lw_at lw_m11 178 rfl) rfl
theorem q2742 : (Jvm.Cond.instantiable "java/util/LinkedList$ListItr" (5 : Nat)) ∈ lw_all := lw_g (lw_at lw_m11 179 rfl) rfl
theorem q2743 : (Jvm.Cond.methodLink "java/util/LinkedList" (152 : Nat) ({ cls := "java/util/LinkedList$ListItr", name := "<init>", desc := "(Ljava/util/LinkedList;I)V" } : Jvm.MethodName)) ∈ lw_all := lw_g (lw_at lw_m11 180 rfl) rfl
theorem q2744 : (Jvm.Cond.instanceMethod ({ cls := "java/util/LinkedList$ListItr", name := "<init>", desc := "(Ljava/util/LinkedList;I)V" } : Jvm.MethodName)) ∈ lw_all := lw_g (lw_at lw_m11 181 rfl) rfl
theorem q2745 : (Jvm.Cond.code ({ cls := "java/util/LinkedList$ListItr", name := "<init>", desc := "(Ljava/util/LinkedList;I)V" } : Jvm.MethodName) prog_80_method_1_code (3 : Nat) (Option.none : Option Jvm.ClassFile.FieldType)) ∈ lw_all := lw_g (lw_at lw_m11 182 rfl) rfl
theorem q2746 : (Jvm.Cond.methodLink "java/util/LinkedList$ListItr" (7 : Nat) ({ cls := "java/lang/Object", name := "<init>", desc := "()V" } : Jvm.MethodName)) ∈ lw_all := lw_g (lw_at lw_m11 183 rfl) rfl
theorem q2747 : (Jvm.Cond.methodLink "java/util/LinkedList$ListItr" (25 : Nat) ({ cls := "java/util/LinkedList", name := "node", desc := "(I)Ljava/util/LinkedList$Node;" } : Jvm.MethodName)) ∈ lw_all := lw_g (lw_at lw_m11 184 rfl) rfl
theorem q2748 : (Jvm.Cond.fieldLink "java/util/LinkedList$ListItr" (46 : Nat) "java/util/LinkedList$ListItr" "lastReturned" "Ljava/util/LinkedList$Node;") ∈ lw_all := lw_g (lw_at lw_m11 185 rfl) rfl
theorem q2749 : (Jvm.Cond.fieldLink "java/util/LinkedList$ListItr" (29 : Nat) "java/util/LinkedList$ListItr" "next" "Ljava/util/LinkedList$Node;") ∈ lw_all := lw_g (lw_at lw_m11 186 rfl) rfl
theorem q2750 : (Jvm.Cond.fieldLink "java/util/LinkedList$ListItr" (33 : Nat) "java/util/LinkedList$ListItr" "nextIndex" "I") ∈ lw_all := lw_g (lw_at lw_m11 187 rfl) rfl
theorem q2751 : (Jvm.Cond.fieldLink "java/util/LinkedList$ListItr" (19 : Nat) "java/util/LinkedList$ListItr" "expectedModCount" "I") ∈ lw_all := lw_g (lw_at lw_m11 188 rfl) rfl
theorem q2752 : (Jvm.Cond.fieldLink "java/util/LinkedList$ListItr" (1 : Nat) "java/util/LinkedList$ListItr" "this$0" "Ljava/util/LinkedList;") ∈ lw_all := lw_g (lw_at lw_m11 189 rfl) rfl
theorem q2753 : (Jvm.Cond.lays "java/util/LinkedList$ListItr" "java/util/LinkedList$ListItr" "lastReturned" "Ljava/util/LinkedList$Node;") ∈ lw_all := lw_g (lw_at lw_m11 190 rfl) rfl
theorem q2755 : (Jvm.Cond.lays "java/util/LinkedList$ListItr" "java/util/LinkedList$ListItr" "next" "Ljava/util/LinkedList$Node;") ∈ lw_all := lw_g (lw_at lw_m11 192 rfl) rfl
theorem q2757 : (Jvm.Cond.lays "java/util/LinkedList$ListItr" "java/util/LinkedList$ListItr" "nextIndex" "I") ∈ lw_all := lw_g (lw_at lw_m11 194 rfl) rfl
theorem q2759 : (Jvm.Cond.lays "java/util/LinkedList$ListItr" "java/util/LinkedList$ListItr" "expectedModCount" "I") ∈ lw_all := lw_g (lw_at lw_m11 196 rfl) rfl
theorem q2761 : (Jvm.Cond.laysFinal "java/util/LinkedList$ListItr" "java/util/LinkedList$ListItr" "this$0" "Ljava/util/LinkedList;") ∈ lw_all := lw_g (lw_at lw_m11 198 rfl) rfl
theorem q2764 : (Jvm.Cond.declares ({ cls := "java/util/AbstractList", name := "listIterator", desc := "(I)Ljava/util/ListIterator;" } : Jvm.MethodName)) ∈ lw_tbl := lw_at lw_m11 201 rfl
theorem q2766 : (Jvm.Cond.methodLink "java/util/List" (19 : Nat) ({ cls := "java/util/ListIterator", name := "next", desc := "()Ljava/lang/Object;" } : Jvm.MethodName)) ∈ lw_all := lw_g (lw_at lw_m11 203 rfl) rfl
theorem q2767 : (Jvm.Cond.interfaceMethod "java/util/ListIterator" "java/util/ListIterator" "next" "()Ljava/lang/Object;") ∈ lw_tbl := lw_at lw_m11 204 rfl
theorem q2768 : (Jvm.Cond.declares ({ cls := "java/util/ListIterator", name := "next", desc := "()Ljava/lang/Object;" } : Jvm.MethodName)) ∈ lw_tbl := lw_at lw_m11 205 rfl
theorem q2771 : (Jvm.Cond.castable "java/util/ArrayList$ListItr" "java/util/ListIterator") ∈ lw_tbl := lw_at lw_m11 208 rfl
theorem q2772 : (Jvm.Cond.selects "java/util/ArrayList$ListItr" ({ cls := "java/util/ListIterator", name := "next", desc := "()Ljava/lang/Object;" } : Jvm.MethodName) ({ cls := "java/util/ArrayList$Itr", name := "next", desc := "()Ljava/lang/Object;" } : Jvm.MethodName)) ∈ lw_all := lw_g (lw_at lw_m11 209 rfl) rfl
theorem q2773 : (Jvm.Cond.castable "java/util/LinkedList$ListItr" "java/util/ListIterator") ∈ lw_tbl := lw_at lw_m11 210 rfl
theorem q2774 : (Jvm.Cond.selects "java/util/LinkedList$ListItr" ({ cls := "java/util/ListIterator", name := "next", desc := "()Ljava/lang/Object;" } : Jvm.MethodName) ({ cls := "java/util/LinkedList$ListItr", name := "next", desc := "()Ljava/lang/Object;" } : Jvm.MethodName)) ∈ lw_all := lw_g (lw_at lw_m11 211 rfl) rfl
theorem q2776 : (Jvm.Cond.methodLink "java/util/List" (28 : Nat) ({ cls := "java/util/ListIterator", name := "set", desc := "(Ljava/lang/Object;)V" } : Jvm.MethodName)) ∈ lw_all := lw_g (lw_at lw_m11 213 rfl) rfl
theorem q2777 : (Jvm.Cond.interfaceMethod "java/util/ListIterator" "java/util/ListIterator" "set" "(Ljava/lang/Object;)V") ∈ lw_tbl := lw_at lw_m11 214 rfl
theorem q2778 : (Jvm.Cond.declares ({ cls := "java/util/ListIterator", name := "set", desc := "(Ljava/lang/Object;)V" } : Jvm.MethodName)) ∈ lw_tbl := lw_at lw_m11 215 rfl
theorem q2783 : (Jvm.Cond.codeWith ({ cls := "java/util/AbstractList$ListItr", name := "set", desc := "(Ljava/lang/Object;)V" } : Jvm.MethodName) prog_62_method_6_code (3 : Nat) (Option.none : Option Jvm.ClassFile.FieldType) [((19 : Nat), (43 : Nat), (46 : Nat), (30 : Nat))]) ∈ lw_all := lw_g (lw_at lw_m11 220 rfl) rfl
theorem q2784 : (Jvm.Cond.classLink "java/util/AbstractList$ListItr" (37 : Nat) "java/lang/IllegalStateException") ∈ lw_all := lw_g (lw_at lw_m11 221 rfl) rfl
theorem q2785 : (Jvm.Cond.methodLink "java/util/AbstractList$ListItr" (39 : Nat) ({ cls := "java/lang/IllegalStateException", name := "<init>", desc := "()V" } : Jvm.MethodName)) ∈ lw_all := lw_g (lw_at lw_m11 222 rfl) rfl
theorem q2790 : (Jvm.Cond.methodLink "java/util/AbstractList$ListItr" (41 : Nat) ({ cls := "java/util/AbstractList", name := "set", desc := "(ILjava/lang/Object;)Ljava/lang/Object;" } : Jvm.MethodName)) ∈ lw_all := lw_g (lw_at lw_m11 227 rfl) rfl
theorem q2792 : (Jvm.Cond.sameMethod "java/util/AbstractList" "java/util/AbstractList" "set" "(ILjava/lang/Object;)Ljava/lang/Object;") ∈ lw_all := lw_g (lw_at lw_m11 229 rfl) rfl
theorem q2793 : (Jvm.Cond.selects "java/util/ArrayList" ({ cls := "java/util/AbstractList", name := "set", desc := "(ILjava/lang/Object;)Ljava/lang/Object;" } : Jvm.MethodName) ({ cls := "java/util/ArrayList", name := "set", desc := "(ILjava/lang/Object;)Ljava/lang/Object;" } : Jvm.MethodName)) ∈ lw_all := lw_g (lw_at lw_m11 230 rfl) rfl
theorem q2794 : (Jvm.Cond.selects "java/util/LinkedList" ({ cls := "java/util/AbstractList", name := "set", desc := "(ILjava/lang/Object;)Ljava/lang/Object;" } : Jvm.MethodName) ({ cls := "java/util/LinkedList", name := "set", desc := "(ILjava/lang/Object;)Ljava/lang/Object;" } : Jvm.MethodName)) ∈ lw_all := lw_g (lw_at lw_m11 231 rfl) rfl
theorem q2795 : (Jvm.Cond.instanceMethod ({ cls := "java/util/LinkedList", name := "set", desc := "(ILjava/lang/Object;)Ljava/lang/Object;" } : Jvm.MethodName)) ∈ lw_all := lw_g (lw_at lw_m11 232 rfl) rfl
theorem q2796 : (Jvm.Cond.code ({ cls := "java/util/LinkedList", name := "set", desc := "(ILjava/lang/Object;)Ljava/lang/Object;" } : Jvm.MethodName) prog_79_method_23_code (5 : Nat) (Option.some (Jvm.ClassFile.FieldType.object "java/lang/Object"))) ∈ lw_all := lw_g (lw_at lw_m11 233 rfl) rfl
theorem q2797 : (Jvm.Cond.declares ({ cls := "java/util/AbstractList", name := "set", desc := "(ILjava/lang/Object;)Ljava/lang/Object;" } : Jvm.MethodName)) ∈ lw_tbl := lw_at lw_m11 234 rfl
theorem q2798 : (Jvm.Cond.classLink "java/util/AbstractList$ListItr" (51 : Nat) "java/util/ConcurrentModificationException") ∈ lw_all := lw_g (lw_at lw_m11 235 rfl) rfl
theorem q2799 : (Jvm.Cond.methodLink "java/util/AbstractList$ListItr" (53 : Nat) ({ cls := "java/util/ConcurrentModificationException", name := "<init>", desc := "()V" } : Jvm.MethodName)) ∈ lw_all := lw_g (lw_at lw_m11 236 rfl) rfl
theorem q2800 : (Jvm.Cond.selects "java/util/ArrayList$ListItr" ({ cls := "java/util/ListIterator", name := "set", desc := "(Ljava/lang/Object;)V" } : Jvm.MethodName) ({ cls := "java/util/ArrayList$ListItr", name := "set", desc := "(Ljava/lang/Object;)V" } : Jvm.MethodName)) ∈ lw_all := lw_g (lw_at lw_m11 237 rfl) rfl
theorem q2801 : (Jvm.Cond.unhidden "java/util/ArrayList$ListItr" "set" "(Ljava/lang/Object;)V") ∈ lw_tbl := lw_at lw_m11 238 rfl
theorem q2802 : (Jvm.Cond.instanceMethod ({ cls := "java/util/ArrayList$ListItr", name := "set", desc := "(Ljava/lang/Object;)V" } : Jvm.MethodName)) ∈ lw_all := lw_g (lw_at lw_m11 239 rfl) rfl
theorem q2803 : (Jvm.Cond.publicMethod ({ cls := "java/util/ArrayList$ListItr", name := "set", desc := "(Ljava/lang/Object;)V" } : Jvm.MethodName)) ∈ lw_tbl := lw_at lw_m12 0 rfl
theorem q2804 : (Jvm.Cond.codeWith ({ cls := "java/util/ArrayList$ListItr", name := "set", desc := "(Ljava/lang/Object;)V" } : Jvm.MethodName) prog_68_method_6_code (3 : Nat) (Option.none : Option Jvm.ClassFile.FieldType) [((19 : Nat), (32 : Nat), (35 : Nat), (44 : Nat))]) ∈ lw_all := lw_g (lw_at lw_m12 1 rfl) rfl
theorem q2805 : (Jvm.Cond.classLink "java/util/ArrayList$ListItr" (37 : Nat) "java/lang/IllegalStateException") ∈ lw_all := lw_g (lw_at lw_m12 2 rfl) rfl
theorem q2806 : (Jvm.Cond.methodLink "java/util/ArrayList$ListItr" (39 : Nat) ({ cls := "java/lang/IllegalStateException", name := "<init>", desc := "()V" } : Jvm.MethodName)) ∈ lw_all := lw_g (lw_at lw_m12 3 rfl) rfl
theorem q2807 : (Jvm.Cond.methodLink "java/util/ArrayList$ListItr" (17 : Nat) ({ cls := "java/util/ArrayList$ListItr", name := "checkForComodification", desc := "()V" } : Jvm.MethodName)) ∈ lw_all := lw_g (lw_at lw_m12 4 rfl) rfl
theorem q2808 : (Jvm.Cond.sameMethod "java/util/ArrayList$ListItr" "java/util/ArrayList$Itr" "checkForComodification" "()V") ∈ lw_all := lw_g (lw_at lw_m12 5 rfl) rfl
theorem q2810 : (Jvm.Cond.selects "java/util/ArrayList$ListItr" ({ cls := "java/util/ArrayList$ListItr", name := "checkForComodification", desc := "()V" } : Jvm.MethodName) ({ cls := "java/util/ArrayList$Itr", name := "checkForComodification", desc := "()V" } : Jvm.MethodName)) ∈ lw_all := lw_g (lw_at lw_m12 7 rfl) rfl
theorem q2811 : (Jvm.Cond.methodLink "java/util/ArrayList$ListItr" (40 : Nat) ({ cls := "java/util/ArrayList", name := "set", desc := "(ILjava/lang/Object;)Ljava/lang/Object;" } : Jvm.MethodName)) ∈ lw_all := lw_g (lw_at lw_m12 8 rfl) rfl
theorem q2812 : (Jvm.Cond.classLink "java/util/ArrayList$ListItr" (31 : Nat) "java/util/ConcurrentModificationException") ∈ lw_all := lw_g (lw_at lw_m12 9 rfl) rfl
theorem q2813 : (Jvm.Cond.methodLink "java/util/ArrayList$ListItr" (33 : Nat) ({ cls := "java/util/ConcurrentModificationException", name := "<init>", desc := "()V" } : Jvm.MethodName)) ∈ lw_all := lw_g (lw_at lw_m12 10 rfl) rfl
theorem q2814 : (Jvm.Cond.selects "java/util/LinkedList$ListItr" ({ cls := "java/util/ListIterator", name := "set", desc := "(Ljava/lang/Object;)V" } : Jvm.MethodName) ({ cls := "java/util/LinkedList$ListItr", name := "set", desc := "(Ljava/lang/Object;)V" } : Jvm.MethodName)) ∈ lw_all := lw_g (lw_at lw_m12 11 rfl) rfl
theorem q2815 : (Jvm.Cond.unhidden "java/util/LinkedList$ListItr" "set" "(Ljava/lang/Object;)V") ∈ lw_tbl := lw_at lw_m12 12 rfl
theorem q2816 : (Jvm.Cond.instanceMethod ({ cls := "java/util/LinkedList$ListItr", name := "set", desc := "(Ljava/lang/Object;)V" } : Jvm.MethodName)) ∈ lw_all := lw_g (lw_at lw_m12 13 rfl) rfl
theorem q2817 : (Jvm.Cond.publicMethod ({ cls := "java/util/LinkedList$ListItr", name := "set", desc := "(Ljava/lang/Object;)V" } : Jvm.MethodName)) ∈ lw_tbl := lw_at lw_m12 14 rfl
theorem q2818 : (Jvm.Cond.code ({ cls := "java/util/LinkedList$ListItr", name := "set", desc := "(Ljava/lang/Object;)V" } : Jvm.MethodName) prog_80_method_9_code (2 : Nat) (Option.none : Option Jvm.ClassFile.FieldType)) ∈ lw_all := lw_g (lw_at lw_m12 15 rfl) rfl
theorem q2819 : (Jvm.Cond.methodLink "FollowingRefs$Statement" (56 : Nat) ({ cls := "java/util/LinkedList", name := "isEmpty", desc := "()Z" } : Jvm.MethodName)) ∈ lw_all := lw_g (lw_at lw_m12 16 rfl) rfl
theorem q2820 : (Jvm.Cond.sameMethod "java/util/LinkedList" "java/util/AbstractCollection" "isEmpty" "()Z") ∈ lw_all := lw_g (lw_at lw_m12 17 rfl) rfl
theorem q2822 : (Jvm.Cond.selects "java/util/LinkedList" ({ cls := "java/util/LinkedList", name := "isEmpty", desc := "()Z" } : Jvm.MethodName) ({ cls := "java/util/AbstractCollection", name := "isEmpty", desc := "()Z" } : Jvm.MethodName)) ∈ lw_all := lw_g (lw_at lw_m12 19 rfl) rfl
theorem q2823 : (Jvm.Cond.instanceMethod ({ cls := "java/util/AbstractCollection", name := "isEmpty", desc := "()Z" } : Jvm.MethodName)) ∈ lw_all := lw_g (lw_at lw_m12 20 rfl) rfl
theorem q2824 : (Jvm.Cond.code ({ cls := "java/util/AbstractCollection", name := "isEmpty", desc := "()Z" } : Jvm.MethodName) prog_59_method_4_code (1 : Nat) (Option.some Jvm.ClassFile.FieldType.boolean)) ∈ lw_all := lw_g (lw_at lw_m12 21 rfl) rfl
theorem q2825 : (Jvm.Cond.methodLink "java/util/AbstractCollection" (7 : Nat) ({ cls := "java/util/AbstractCollection", name := "size", desc := "()I" } : Jvm.MethodName)) ∈ lw_all := lw_g (lw_at lw_m12 22 rfl) rfl
theorem q2826 : (Jvm.Cond.methodLink "FollowingRefs$Statement" (62 : Nat) ({ cls := "java/util/LinkedList", name := "getFirst", desc := "()Ljava/lang/Object;" } : Jvm.MethodName)) ∈ lw_all := lw_g (lw_at lw_m12 23 rfl) rfl
theorem q2827 : (Jvm.Cond.instanceMethod ({ cls := "java/util/LinkedList", name := "getFirst", desc := "()Ljava/lang/Object;" } : Jvm.MethodName)) ∈ lw_all := lw_g (lw_at lw_m12 24 rfl) rfl
theorem q2828 : (Jvm.Cond.selects "java/util/LinkedList" ({ cls := "java/util/LinkedList", name := "getFirst", desc := "()Ljava/lang/Object;" } : Jvm.MethodName) ({ cls := "java/util/LinkedList", name := "getFirst", desc := "()Ljava/lang/Object;" } : Jvm.MethodName)) ∈ lw_all := lw_g (lw_at lw_m12 25 rfl) rfl
theorem q2829 : (Jvm.Cond.code ({ cls := "java/util/LinkedList", name := "getFirst", desc := "()Ljava/lang/Object;" } : Jvm.MethodName) prog_79_method_9_code (2 : Nat) (Option.some (Jvm.ClassFile.FieldType.object "java/lang/Object"))) ∈ lw_all := lw_g (lw_at lw_m12 26 rfl) rfl
theorem q2830 : (Jvm.Cond.classLink "java/util/LinkedList" (43 : Nat) "java/util/NoSuchElementException") ∈ lw_all := lw_g (lw_at lw_m12 27 rfl) rfl
theorem q2831 : (Jvm.Cond.methodLink "java/util/LinkedList" (45 : Nat) ({ cls := "java/util/NoSuchElementException", name := "<init>", desc := "()V" } : Jvm.MethodName)) ∈ lw_all := lw_g (lw_at lw_m12 28 rfl) rfl
theorem q2832 : (Jvm.Cond.classLink "FollowingRefs$Statement" (66 : Nat) "FollowingRefs$Violation") ∈ lw_all := lw_g (lw_at lw_m12 29 rfl) rfl
theorem q2833 : (Jvm.Cond.methodLink "FollowingRefs" (180 : Nat) ({ cls := "FollowingRefs", name := "lives", desc := "()V" } : Jvm.MethodName)) ∈ lw_all := lw_g (lw_at lw_m12 30 rfl) rfl
theorem q2835 : (Jvm.Cond.instanceMethod ({ cls := "FollowingRefs", name := "lives", desc := "()V" } : Jvm.MethodName)) ∈ lw_all := lw_g (lw_at lw_m12 32 rfl) rfl
theorem q2836 : (Jvm.Cond.code ({ cls := "FollowingRefs", name := "lives", desc := "()V" } : Jvm.MethodName) prog_1_method_16_code (1 : Nat) (Option.none : Option Jvm.ClassFile.FieldType)) ∈ lw_all := lw_g (lw_at lw_m12 33 rfl) rfl
theorem q2837 : (Jvm.Cond.methodLink "FollowingRefs" (186 : Nat) ({ cls := "FollowingRefs", name := "snap", desc := "()V" } : Jvm.MethodName)) ∈ lw_all := lw_g (lw_at lw_m12 34 rfl) rfl
theorem q2839 : (Jvm.Cond.instanceMethod ({ cls := "FollowingRefs", name := "snap", desc := "()V" } : Jvm.MethodName)) ∈ lw_all := lw_g (lw_at lw_m12 36 rfl) rfl
theorem q2840 : (Jvm.Cond.code ({ cls := "FollowingRefs", name := "snap", desc := "()V" } : Jvm.MethodName) prog_1_method_14_code (3 : Nat) (Option.none : Option Jvm.ClassFile.FieldType)) ∈ lw_all := lw_g (lw_at lw_m12 37 rfl) rfl
theorem q2841 : (Jvm.Cond.methodLink "FollowingRefsLaw" (49 : Nat) ({ cls := "FollowingRefs", name := "would", desc := "()I" } : Jvm.MethodName)) ∈ lw_all := lw_g (lw_at lw_m12 38 rfl) rfl
theorem q2842 : (Jvm.Cond.instanceMethod ({ cls := "FollowingRefs", name := "would", desc := "()I" } : Jvm.MethodName)) ∈ lw_all := lw_g (lw_at lw_m12 39 rfl) rfl
theorem q2843 : (Jvm.Cond.selects "FollowingRefs" ({ cls := "FollowingRefs", name := "would", desc := "()I" } : Jvm.MethodName) ({ cls := "FollowingRefs", name := "would", desc := "()I" } : Jvm.MethodName)) ∈ lw_all := lw_g (lw_at lw_m12 40 rfl) rfl
theorem q2844 : (Jvm.Cond.code ({ cls := "FollowingRefs", name := "would", desc := "()I" } : Jvm.MethodName) prog_1_method_18_code (1 : Nat) (Option.some Jvm.ClassFile.FieldType.int)) ∈ lw_all := lw_g (lw_at lw_m12 41 rfl) rfl
theorem q2845 : (Jvm.Cond.methodLink "FollowingRefsLaw" (53 : Nat) ({ cls := "FollowingRefs", name := "judged", desc := "(I)I" } : Jvm.MethodName)) ∈ lw_all := lw_g (lw_at lw_m12 42 rfl) rfl
theorem q2846 : (Jvm.Cond.instanceMethod ({ cls := "FollowingRefs", name := "judged", desc := "(I)I" } : Jvm.MethodName)) ∈ lw_all := lw_g (lw_at lw_m12 43 rfl) rfl
theorem q2847 : (Jvm.Cond.selects "FollowingRefs" ({ cls := "FollowingRefs", name := "judged", desc := "(I)I" } : Jvm.MethodName) ({ cls := "FollowingRefs", name := "judged", desc := "(I)I" } : Jvm.MethodName)) ∈ lw_all := lw_g (lw_at lw_m12 44 rfl) rfl
theorem q2848 : (Jvm.Cond.code ({ cls := "FollowingRefs", name := "judged", desc := "(I)I" } : Jvm.MethodName) prog_1_method_19_code (2 : Nat) (Option.some Jvm.ClassFile.FieldType.int)) ∈ lw_all := lw_g (lw_at lw_m12 45 rfl) rfl
theorem q2849 : (Jvm.Cond.methodLink "FollowingRefsLaw" (58 : Nat) ({ cls := "FollowingRefs", name := "goes", desc := "(I)I" } : Jvm.MethodName)) ∈ lw_all := lw_g (lw_at lw_m12 46 rfl) rfl
theorem q2850 : (Jvm.Cond.instanceMethod ({ cls := "FollowingRefs", name := "goes", desc := "(I)I" } : Jvm.MethodName)) ∈ lw_all := lw_g (lw_at lw_m12 47 rfl) rfl
theorem q2851 : (Jvm.Cond.selects "FollowingRefs" ({ cls := "FollowingRefs", name := "goes", desc := "(I)I" } : Jvm.MethodName) ({ cls := "FollowingRefs", name := "goes", desc := "(I)I" } : Jvm.MethodName)) ∈ lw_all := lw_g (lw_at lw_m12 48 rfl) rfl
theorem q2852 : (Jvm.Cond.code ({ cls := "FollowingRefs", name := "goes", desc := "(I)I" } : Jvm.MethodName) prog_1_method_20_code (4 : Nat) (Option.some Jvm.ClassFile.FieldType.int)) ∈ lw_all := lw_g (lw_at lw_m12 49 rfl) rfl
theorem q2853 : (Jvm.Cond.methodLink "FollowingRefs" (205 : Nat) ({ cls := "java/util/BitSet", name := "nextSetBit", desc := "(I)I" } : Jvm.MethodName)) ∈ lw_all := lw_g (lw_at lw_m12 50 rfl) rfl
theorem q2854 : (Jvm.Cond.instanceMethod ({ cls := "java/util/BitSet", name := "nextSetBit", desc := "(I)I" } : Jvm.MethodName)) ∈ lw_all := lw_g (lw_at lw_m12 51 rfl) rfl
theorem q2855 : (Jvm.Cond.selects "java/util/BitSet" ({ cls := "java/util/BitSet", name := "nextSetBit", desc := "(I)I" } : Jvm.MethodName) ({ cls := "java/util/BitSet", name := "nextSetBit", desc := "(I)I" } : Jvm.MethodName)) ∈ lw_all := lw_g (lw_at lw_m12 52 rfl) rfl
theorem q2856 : (Jvm.Cond.code ({ cls := "java/util/BitSet", name := "nextSetBit", desc := "(I)I" } : Jvm.MethodName) prog_71_method_28_code (5 : Nat) (Option.some Jvm.ClassFile.FieldType.int)) ∈ lw_all := lw_g (lw_at lw_m12 53 rfl) rfl
theorem q2857 : (Jvm.Cond.constantLong "java/util/BitSet" (165 : Nat) (-1 : Int64)) ∈ lw_all := lw_g (lw_at lw_m12 54 rfl) rfl
theorem q2858 : (Jvm.Cond.methodLink "java/util/BitSet" (182 : Nat) ({ cls := "java/lang/Long", name := "numberOfTrailingZeros", desc := "(J)I" } : Jvm.MethodName)) ∈ lw_all := lw_g (lw_at lw_m12 55 rfl) rfl
theorem q2859 : (Jvm.Cond.methodLink "FollowingRefsLaw" (62 : Nat) ({ cls := "FollowingRefs", name := "steps", desc := "(I)I" } : Jvm.MethodName)) ∈ lw_all := lw_g (lw_at lw_m12 56 rfl) rfl
theorem q2860 : (Jvm.Cond.instanceMethod ({ cls := "FollowingRefs", name := "steps", desc := "(I)I" } : Jvm.MethodName)) ∈ lw_all := lw_g (lw_at lw_m12 57 rfl) rfl
theorem q2861 : (Jvm.Cond.selects "FollowingRefs" ({ cls := "FollowingRefs", name := "steps", desc := "(I)I" } : Jvm.MethodName) ({ cls := "FollowingRefs", name := "steps", desc := "(I)I" } : Jvm.MethodName)) ∈ lw_all := lw_g (lw_at lw_m12 58 rfl) rfl
theorem q2862 : (Jvm.Cond.code ({ cls := "FollowingRefs", name := "steps", desc := "(I)I" } : Jvm.MethodName) prog_1_method_21_code (2 : Nat) (Option.some Jvm.ClassFile.FieldType.int)) ∈ lw_all := lw_g (lw_at lw_m12 59 rfl) rfl
theorem q2863 : (Jvm.Cond.methodLink "FollowingRefs" (211 : Nat) ({ cls := "FollowingRefs", name := "isIn", desc := "(III)Z" } : Jvm.MethodName)) ∈ lw_all := lw_g (lw_at lw_m12 60 rfl) rfl
theorem q2864 : (Jvm.Cond.methodLink "FollowingRefsLaw" (66 : Nat) ({ cls := "FollowingRefs", name := "violated", desc := "(II)I" } : Jvm.MethodName)) ∈ lw_all := lw_g (lw_at lw_m12 61 rfl) rfl
theorem q2865 : (Jvm.Cond.instanceMethod ({ cls := "FollowingRefs", name := "violated", desc := "(II)I" } : Jvm.MethodName)) ∈ lw_all := lw_g (lw_at lw_m12 62 rfl) rfl
theorem q2866 : (Jvm.Cond.selects "FollowingRefs" ({ cls := "FollowingRefs", name := "violated", desc := "(II)I" } : Jvm.MethodName) ({ cls := "FollowingRefs", name := "violated", desc := "(II)I" } : Jvm.MethodName)) ∈ lw_all := lw_g (lw_at lw_m12 63 rfl) rfl
theorem q2867 : (Jvm.Cond.code ({ cls := "FollowingRefs", name := "violated", desc := "(II)I" } : Jvm.MethodName) prog_1_method_22_code (4 : Nat) (Option.some Jvm.ClassFile.FieldType.int)) ∈ lw_all := lw_g (lw_at lw_m12 64 rfl) rfl
theorem q2868 : (Jvm.Cond.methodLink "FollowingRefs" (218 : Nat) ({ cls := "java/util/LinkedList", name := "size", desc := "()I" } : Jvm.MethodName)) ∈ lw_all := lw_g (lw_at lw_m12 65 rfl) rfl
theorem q2869 : (Jvm.Cond.methodLink "FollowingRefs" (219 : Nat) ({ cls := "java/util/LinkedList", name := "get", desc := "(I)Ljava/lang/Object;" } : Jvm.MethodName)) ∈ lw_all := lw_g (lw_at lw_m12 66 rfl) rfl
theorem q2870 : (Jvm.Cond.classLink "FollowingRefs" (220 : Nat) "FollowingRefs$Violation") ∈ lw_all := lw_g (lw_at lw_m12 67 rfl) rfl
theorem q2871 : (Jvm.Cond.methodLink "FollowingRefsLaw" (70 : Nat) ({ cls := "FollowingRefs", name := "begin", desc := "()I" } : Jvm.MethodName)) ∈ lw_all := lw_g (lw_at lw_m12 68 rfl) rfl
theorem q2872 : (Jvm.Cond.instanceMethod ({ cls := "FollowingRefs", name := "begin", desc := "()I" } : Jvm.MethodName)) ∈ lw_all := lw_g (lw_at lw_m12 69 rfl) rfl
theorem q2873 : (Jvm.Cond.selects "FollowingRefs" ({ cls := "FollowingRefs", name := "begin", desc := "()I" } : Jvm.MethodName) ({ cls := "FollowingRefs", name := "begin", desc := "()I" } : Jvm.MethodName)) ∈ lw_all := lw_g (lw_at lw_m12 70 rfl) rfl
theorem q2874 : (Jvm.Cond.code ({ cls := "FollowingRefs", name := "begin", desc := "()I" } : Jvm.MethodName) prog_1_method_24_code (1 : Nat) (Option.some Jvm.ClassFile.FieldType.int)) ∈ lw_all := lw_g (lw_at lw_m12 71 rfl) rfl
theorem q2875 : (Jvm.Cond.methodLink "FollowingRefs" (236 : Nat) ({ cls := "FollowingRefs", name := "turns", desc := "(I)I" } : Jvm.MethodName)) ∈ lw_all := lw_g (lw_at lw_m12 72 rfl) rfl
theorem q2877 : (Jvm.Cond.instanceMethod ({ cls := "FollowingRefs", name := "turns", desc := "(I)I" } : Jvm.MethodName)) ∈ lw_all := lw_g (lw_at lw_m12 74 rfl) rfl
theorem q2878 : (Jvm.Cond.code ({ cls := "FollowingRefs", name := "turns", desc := "(I)I" } : Jvm.MethodName) prog_1_method_23_code (3 : Nat) (Option.some Jvm.ClassFile.FieldType.int)) ∈ lw_all := lw_g (lw_at lw_m12 75 rfl) rfl
theorem q2879 : (Jvm.Cond.classLink "FollowingRefs" (229 : Nat) "FollowingRefs$Turns") ∈ lw_all := lw_g (lw_at lw_m12 76 rfl) rfl
theorem q2880 : (Jvm.Cond.instantiable "FollowingRefs$Turns" (1 : Nat)) ∈ lw_all := lw_g (lw_at lw_m12 77 rfl) rfl
theorem q2881 : (Jvm.Cond.methodLink "FollowingRefs" (231 : Nat) ({ cls := "FollowingRefs$Turns", name := "<init>", desc := "(I)V" } : Jvm.MethodName)) ∈ lw_all := lw_g (lw_at lw_m12 78 rfl) rfl
theorem q2882 : (Jvm.Cond.instanceMethod ({ cls := "FollowingRefs$Turns", name := "<init>", desc := "(I)V" } : Jvm.MethodName)) ∈ lw_all := lw_g (lw_at lw_m12 79 rfl) rfl
theorem q2883 : (Jvm.Cond.code ({ cls := "FollowingRefs$Turns", name := "<init>", desc := "(I)V" } : Jvm.MethodName) prog_29_method_1_code (2 : Nat) (Option.none : Option Jvm.ClassFile.FieldType)) ∈ lw_all := lw_g (lw_at lw_m12 80 rfl) rfl
theorem q2884 : (Jvm.Cond.methodLinkNest "FollowingRefs$Turns" (1 : Nat) ({ cls := "FollowingRefs$Act", name := "<init>", desc := "()V" } : Jvm.MethodName) "FollowingRefs") ∈ lw_tbl := lw_at lw_m12 81 rfl
theorem q2885 : (Jvm.Cond.instanceMethod ({ cls := "FollowingRefs$Act", name := "<init>", desc := "()V" } : Jvm.MethodName)) ∈ lw_all := lw_g (lw_at lw_m12 82 rfl) rfl
theorem q2886 : (Jvm.Cond.code ({ cls := "FollowingRefs$Act", name := "<init>", desc := "()V" } : Jvm.MethodName) prog_2_method_1_code (1 : Nat) (Option.none : Option Jvm.ClassFile.FieldType)) ∈ lw_all := lw_g (lw_at lw_m12 83 rfl) rfl
theorem q2887 : (Jvm.Cond.methodLink "FollowingRefs$Act" (1 : Nat) ({ cls := "java/lang/Object", name := "<init>", desc := "()V" } : Jvm.MethodName)) ∈ lw_all := lw_g (lw_at lw_m12 84 rfl) rfl
theorem q2888 : (Jvm.Cond.fieldLink "FollowingRefs$Turns" (7 : Nat) "FollowingRefs$Turns" "what" "I") ∈ lw_all := lw_g (lw_at lw_m12 85 rfl) rfl
theorem q2889 : (Jvm.Cond.laysFinal "FollowingRefs$Turns" "FollowingRefs$Turns" "what" "I") ∈ lw_all := lw_g (lw_at lw_m12 86 rfl) rfl
theorem q2892 : (Jvm.Cond.methodLink "FollowingRefs" (233 : Nat) ({ cls := "FollowingRefs$Turns", name := "does", desc := "(LFollowingRefs$Store;LFollowingRefs$Plan;)I" } : Jvm.MethodName)) ∈ lw_all := lw_g (lw_at lw_m12 89 rfl) rfl
theorem q2893 : (Jvm.Cond.instanceMethod ({ cls := "FollowingRefs$Turns", name := "does", desc := "(LFollowingRefs$Store;LFollowingRefs$Plan;)I" } : Jvm.MethodName)) ∈ lw_all := lw_g (lw_at lw_m12 90 rfl) rfl
theorem q2894 : (Jvm.Cond.selects "FollowingRefs$Turns" ({ cls := "FollowingRefs$Turns", name := "does", desc := "(LFollowingRefs$Store;LFollowingRefs$Plan;)I" } : Jvm.MethodName) ({ cls := "FollowingRefs$Turns", name := "does", desc := "(LFollowingRefs$Store;LFollowingRefs$Plan;)I" } : Jvm.MethodName)) ∈ lw_all := lw_g (lw_at lw_m12 91 rfl) rfl
theorem q2895 : (Jvm.Cond.code ({ cls := "FollowingRefs$Turns", name := "does", desc := "(LFollowingRefs$Store;LFollowingRefs$Plan;)I" } : Jvm.MethodName) prog_29_method_2_code (3 : Nat) (Option.some Jvm.ClassFile.FieldType.int)) ∈ lw_all := lw_g (lw_at lw_m12 92 rfl) rfl
theorem q2896 : (Jvm.Cond.methodLink "FollowingRefs$Turns" (19 : Nat) ({ cls := "FollowingRefs$Store", name := "opens", desc := "()V" } : Jvm.MethodName)) ∈ lw_all := lw_g (lw_at lw_m12 93 rfl) rfl
theorem q2897 : (Jvm.Cond.instanceMethod ({ cls := "FollowingRefs$Store", name := "opens", desc := "()V" } : Jvm.MethodName)) ∈ lw_all := lw_g (lw_at lw_m12 94 rfl) rfl
theorem q2898 : (Jvm.Cond.selects "FollowingRefs$Store" ({ cls := "FollowingRefs$Store", name := "opens", desc := "()V" } : Jvm.MethodName) ({ cls := "FollowingRefs$Store", name := "opens", desc := "()V" } : Jvm.MethodName)) ∈ lw_all := lw_g (lw_at lw_m12 95 rfl) rfl
theorem q2899 : (Jvm.Cond.code ({ cls := "FollowingRefs$Store", name := "opens", desc := "()V" } : Jvm.MethodName) prog_26_method_13_code (1 : Nat) (Option.none : Option Jvm.ClassFile.FieldType)) ∈ lw_all := lw_g (lw_at lw_m12 96 rfl) rfl
theorem q2900 : (Jvm.Cond.methodLink "FollowingRefs$Turns" (22 : Nat) ({ cls := "FollowingRefs$Store", name := "violations", desc := "(Z)Ljava/util/LinkedList;" } : Jvm.MethodName)) ∈ lw_all := lw_g (lw_at lw_m12 97 rfl) rfl
theorem q2901 : (Jvm.Cond.methodLink "FollowingRefs$Turns" (26 : Nat) ({ cls := "java/util/LinkedList", name := "isEmpty", desc := "()Z" } : Jvm.MethodName)) ∈ lw_all := lw_g (lw_at lw_m12 98 rfl) rfl
theorem q2902 : (Jvm.Cond.methodLink "FollowingRefs$Turns" (32 : Nat) ({ cls := "FollowingRefs$Store", name := "closes", desc := "()V" } : Jvm.MethodName)) ∈ lw_all := lw_g (lw_at lw_m12 99 rfl) rfl
theorem q2903 : (Jvm.Cond.instanceMethod ({ cls := "FollowingRefs$Store", name := "closes", desc := "()V" } : Jvm.MethodName)) ∈ lw_all := lw_g (lw_at lw_m12 100 rfl) rfl
theorem q2904 : (Jvm.Cond.selects "FollowingRefs$Store" ({ cls := "FollowingRefs$Store", name := "closes", desc := "()V" } : Jvm.MethodName) ({ cls := "FollowingRefs$Store", name := "closes", desc := "()V" } : Jvm.MethodName)) ∈ lw_all := lw_g (lw_at lw_m12 101 rfl) rfl
theorem q2905 : (Jvm.Cond.code ({ cls := "FollowingRefs$Store", name := "closes", desc := "()V" } : Jvm.MethodName) prog_26_method_14_code (1 : Nat) (Option.none : Option Jvm.ClassFile.FieldType)) ∈ lw_all := lw_g (lw_at lw_m12 102 rfl) rfl
theorem q2906 : (Jvm.Cond.methodLink "FollowingRefs$Turns" (35 : Nat) ({ cls := "FollowingRefs$Store", name := "goesBack", desc := "()V" } : Jvm.MethodName)) ∈ lw_all := lw_g (lw_at lw_m12 103 rfl) rfl
theorem q2907 : (Jvm.Cond.instanceMethod ({ cls := "FollowingRefs$Store", name := "goesBack", desc := "()V" } : Jvm.MethodName)) ∈ lw_all := lw_g (lw_at lw_m12 104 rfl) rfl
theorem q2908 : (Jvm.Cond.selects "FollowingRefs$Store" ({ cls := "FollowingRefs$Store", name := "goesBack", desc := "()V" } : Jvm.MethodName) ({ cls := "FollowingRefs$Store", name := "goesBack", desc := "()V" } : Jvm.MethodName)) ∈ lw_all := lw_g (lw_at lw_m12 105 rfl) rfl
theorem q2909 : (Jvm.Cond.code ({ cls := "FollowingRefs$Store", name := "goesBack", desc := "()V" } : Jvm.MethodName) prog_26_method_15_code (1 : Nat) (Option.none : Option Jvm.ClassFile.FieldType)) ∈ lw_all := lw_g (lw_at lw_m12 106 rfl) rfl
theorem q2910 : (Jvm.Cond.methodLink "FollowingRefs$Store" (189 : Nat) ({ cls := "FollowingRefs$Store", name := "closes", desc := "()V" } : Jvm.MethodName)) ∈ lw_all := lw_g (lw_at lw_m12 107 rfl) rfl
theorem q2911 : (Jvm.Cond.methodLink "FollowingRefsLaw" (74 : Nat) ({ cls := "FollowingRefs", name := "commit", desc := "()I" } : Jvm.MethodName)) ∈ lw_all := lw_g (lw_at lw_m12 108 rfl) rfl
theorem q2912 : (Jvm.Cond.instanceMethod ({ cls := "FollowingRefs", name := "commit", desc := "()I" } : Jvm.MethodName)) ∈ lw_all := lw_g (lw_at lw_m12 109 rfl) rfl
theorem q2913 : (Jvm.Cond.selects "FollowingRefs" ({ cls := "FollowingRefs", name := "commit", desc := "()I" } : Jvm.MethodName) ({ cls := "FollowingRefs", name := "commit", desc := "()I" } : Jvm.MethodName)) ∈ lw_all := lw_g (lw_at lw_m12 110 rfl) rfl
theorem q2914 : (Jvm.Cond.code ({ cls := "FollowingRefs", name := "commit", desc := "()I" } : Jvm.MethodName) prog_1_method_25_code (1 : Nat) (Option.some Jvm.ClassFile.FieldType.int)) ∈ lw_all := lw_g (lw_at lw_m12 111 rfl) rfl
theorem q2915 : (Jvm.Cond.methodLink "FollowingRefs" (243 : Nat) ({ cls := "FollowingRefs$Store", name := "violations", desc := "(Z)Ljava/util/LinkedList;" } : Jvm.MethodName)) ∈ lw_all := lw_g (lw_at lw_m12 112 rfl) rfl
theorem q2916 : (Jvm.Cond.methodLink "FollowingRefsLaw" (78 : Nat) ({ cls := "FollowingRefs", name := "back", desc := "()I" } : Jvm.MethodName)) ∈ lw_all := lw_g (lw_at lw_m12 113 rfl) rfl
theorem q2917 : (Jvm.Cond.instanceMethod ({ cls := "FollowingRefs", name := "back", desc := "()I" } : Jvm.MethodName)) ∈ lw_all := lw_g (lw_at lw_m12 114 rfl) rfl
theorem q2918 : (Jvm.Cond.selects "FollowingRefs" ({ cls := "FollowingRefs", name := "back", desc := "()I" } : Jvm.MethodName) ({ cls := "FollowingRefs", name := "back", desc := "()I" } : Jvm.MethodName)) ∈ lw_all := lw_g (lw_at lw_m12 115 rfl) rfl
theorem q2919 : (Jvm.Cond.code ({ cls := "FollowingRefs", name := "back", desc := "()I" } : Jvm.MethodName) prog_1_method_26_code (1 : Nat) (Option.some Jvm.ClassFile.FieldType.int)) ∈ lw_all := lw_g (lw_at lw_m12 116 rfl) rfl
theorem q2920 : (Jvm.Cond.methodLink "FollowingRefsLaw" (82 : Nat) ({ cls := "FollowingRefs", name := "undo", desc := "()I" } : Jvm.MethodName)) ∈ lw_all := lw_g (lw_at lw_m12 117 rfl) rfl
theorem q2921 : (Jvm.Cond.instanceMethod ({ cls := "FollowingRefs", name := "undo", desc := "()I" } : Jvm.MethodName)) ∈ lw_all := lw_g (lw_at lw_m12 118 rfl) rfl
theorem q2922 : (Jvm.Cond.selects "FollowingRefs" ({ cls := "FollowingRefs", name := "undo", desc := "()I" } : Jvm.MethodName) ({ cls := "FollowingRefs", name := "undo", desc := "()I" } : Jvm.MethodName)) ∈ lw_all := lw_g (lw_at lw_m12 119 rfl) rfl
theorem q2923 : (Jvm.Cond.code ({ cls := "FollowingRefs", name := "undo", desc := "()I" } : Jvm.MethodName) prog_1_method_27_code (1 : Nat) (Option.some Jvm.ClassFile.FieldType.int)) ∈ lw_all := lw_g (lw_at lw_m12 120 rfl) rfl
theorem q2924 : (Jvm.Cond.methodLink "FollowingRefsLaw" (86 : Nat) ({ cls := "FollowingRefs", name := "now", desc := "(I)I" } : Jvm.MethodName)) ∈ lw_all := lw_g (lw_at lw_m12 121 rfl) rfl
theorem q2925 : (Jvm.Cond.instanceMethod ({ cls := "FollowingRefs", name := "now", desc := "(I)I" } : Jvm.MethodName)) ∈ lw_all := lw_g (lw_at lw_m12 122 rfl) rfl
theorem q2926 : (Jvm.Cond.selects "FollowingRefs" ({ cls := "FollowingRefs", name := "now", desc := "(I)I" } : Jvm.MethodName) ({ cls := "FollowingRefs", name := "now", desc := "(I)I" } : Jvm.MethodName)) ∈ lw_all := lw_g (lw_at lw_m12 123 rfl) rfl
theorem q2927 : (Jvm.Cond.code ({ cls := "FollowingRefs", name := "now", desc := "(I)I" } : Jvm.MethodName) prog_1_method_28_code (2 : Nat) (Option.some Jvm.ClassFile.FieldType.int)) ∈ lw_all := lw_g (lw_at lw_m12 124 rfl) rfl
theorem q2928 : (Jvm.Cond.methodLink "FollowingRefs" (147 : Nat) ({ cls := "java/util/ArrayList", name := "size", desc := "()I" } : Jvm.MethodName)) ∈ lw_all := lw_g (lw_at lw_m12 125 rfl) rfl
theorem q2929 : (Jvm.Cond.methodLink "FollowingRefsLaw" (90 : Nat) ({ cls := "FollowingRefs", name := "rows", desc := "(I)I" } : Jvm.MethodName)) ∈ lw_all := lw_g (lw_at lw_m12 126 rfl) rfl
theorem q2930 : (Jvm.Cond.instanceMethod ({ cls := "FollowingRefs", name := "rows", desc := "(I)I" } : Jvm.MethodName)) ∈ lw_all := lw_g (lw_at lw_m12 127 rfl) rfl
theorem q2931 : (Jvm.Cond.selects "FollowingRefs" ({ cls := "FollowingRefs", name := "rows", desc := "(I)I" } : Jvm.MethodName) ({ cls := "FollowingRefs", name := "rows", desc := "(I)I" } : Jvm.MethodName)) ∈ lw_all := lw_g (lw_at lw_m12 128 rfl) rfl
theorem q2932 : (Jvm.Cond.code ({ cls := "FollowingRefs", name := "rows", desc := "(I)I" } : Jvm.MethodName) prog_1_method_29_code (4 : Nat) (Option.some Jvm.ClassFile.FieldType.int)) ∈ lw_all := lw_g (lw_at lw_m12 129 rfl) rfl
theorem q2933 : (Jvm.Cond.methodLink "FollowingRefs" (252 : Nat) ({ cls := "FollowingRefs", name := "isTable", desc := "(I)Z" } : Jvm.MethodName)) ∈ lw_all := lw_g (lw_at lw_m12 130 rfl) rfl
theorem q2935 : (Jvm.Cond.instanceMethod ({ cls := "FollowingRefs", name := "isTable", desc := "(I)Z" } : Jvm.MethodName)) ∈ lw_all := lw_g (lw_at lw_m12 132 rfl) rfl
theorem q2936 : (Jvm.Cond.code ({ cls := "FollowingRefs", name := "isTable", desc := "(I)Z" } : Jvm.MethodName) prog_1_method_12_code (2 : Nat) (Option.some Jvm.ClassFile.FieldType.boolean)) ∈ lw_all := lw_g (lw_at lw_m12 133 rfl) rfl
theorem q2937 : (Jvm.Cond.methodLink "FollowingRefs" (131 : Nat) ({ cls := "FollowingRefs$Schema", name := "isTable", desc := "(I)Z" } : Jvm.MethodName)) ∈ lw_all := lw_g (lw_at lw_m12 134 rfl) rfl
theorem q2938 : (Jvm.Cond.instanceMethod ({ cls := "FollowingRefs$Schema", name := "isTable", desc := "(I)Z" } : Jvm.MethodName)) ∈ lw_all := lw_g (lw_at lw_m12 135 rfl) rfl
theorem q2939 : (Jvm.Cond.selects "FollowingRefs$Schema" ({ cls := "FollowingRefs$Schema", name := "isTable", desc := "(I)Z" } : Jvm.MethodName) ({ cls := "FollowingRefs$Schema", name := "isTable", desc := "(I)Z" } : Jvm.MethodName)) ∈ lw_all := lw_g (lw_at lw_m12 136 rfl) rfl
theorem q2940 : (Jvm.Cond.code ({ cls := "FollowingRefs$Schema", name := "isTable", desc := "(I)Z" } : Jvm.MethodName) prog_19_method_2_code (2 : Nat) (Option.some Jvm.ClassFile.FieldType.boolean)) ∈ lw_all := lw_g (lw_at lw_m12 137 rfl) rfl
theorem q2941 : (Jvm.Cond.methodLinkNest "FollowingRefs$Schema" (31 : Nat) ({ cls := "FollowingRefs", name := "isIn", desc := "(III)Z" } : Jvm.MethodName) "FollowingRefs") ∈ lw_tbl := lw_at lw_m12 138 rfl
theorem q2942 : (Jvm.Cond.methodLink "FollowingRefs" (138 : Nat) ({ cls := "java/util/ArrayList", name := "get", desc := "(I)Ljava/lang/Object;" } : Jvm.MethodName)) ∈ lw_all := lw_g (lw_at lw_m12 139 rfl) rfl
theorem q2943 : (Jvm.Cond.classLink "FollowingRefs" (253 : Nat) "FollowingRefs$Row") ∈ lw_all := lw_g (lw_at lw_m12 140 rfl) rfl
theorem q2944 : (Jvm.Cond.methodLink "FollowingRefsLaw" (94 : Nat) ({ cls := "FollowingRefs", name := "row", desc := "(II)I" } : Jvm.MethodName)) ∈ lw_all := lw_g (lw_at lw_m12 141 rfl) rfl
theorem q2945 : (Jvm.Cond.instanceMethod ({ cls := "FollowingRefs", name := "row", desc := "(II)I" } : Jvm.MethodName)) ∈ lw_all := lw_g (lw_at lw_m12 142 rfl) rfl
theorem q2946 : (Jvm.Cond.selects "FollowingRefs" ({ cls := "FollowingRefs", name := "row", desc := "(II)I" } : Jvm.MethodName) ({ cls := "FollowingRefs", name := "row", desc := "(II)I" } : Jvm.MethodName)) ∈ lw_all := lw_g (lw_at lw_m12 143 rfl) rfl
theorem q2947 : (Jvm.Cond.code ({ cls := "FollowingRefs", name := "row", desc := "(II)I" } : Jvm.MethodName) prog_1_method_30_code (6 : Nat) (Option.some Jvm.ClassFile.FieldType.int)) ∈ lw_all := lw_g (lw_at lw_m12 144 rfl) rfl
theorem q2948 : (Jvm.Cond.methodLink "FollowingRefsLaw" (98 : Nat) ({ cls := "FollowingRefs", name := "tableOf", desc := "(I)I" } : Jvm.MethodName)) ∈ lw_all := lw_g (lw_at lw_m12 145 rfl) rfl
theorem q2949 : (Jvm.Cond.instanceMethod ({ cls := "FollowingRefs", name := "tableOf", desc := "(I)I" } : Jvm.MethodName)) ∈ lw_all := lw_g (lw_at lw_m12 146 rfl) rfl
theorem q2950 : (Jvm.Cond.selects "FollowingRefs" ({ cls := "FollowingRefs", name := "tableOf", desc := "(I)I" } : Jvm.MethodName) ({ cls := "FollowingRefs", name := "tableOf", desc := "(I)I" } : Jvm.MethodName)) ∈ lw_all := lw_g (lw_at lw_m12 147 rfl) rfl
theorem q2951 : (Jvm.Cond.code ({ cls := "FollowingRefs", name := "tableOf", desc := "(I)I" } : Jvm.MethodName) prog_1_method_31_code (3 : Nat) (Option.some Jvm.ClassFile.FieldType.int)) ∈ lw_all := lw_g (lw_at lw_m12 148 rfl) rfl
theorem q2952 : (Jvm.Cond.methodLink "FollowingRefs" (259 : Nat) ({ cls := "FollowingRefs$Store", name := "find", desc := "(I)LFollowingRefs$Row;" } : Jvm.MethodName)) ∈ lw_all := lw_g (lw_at lw_m12 149 rfl) rfl
theorem q2953 : (Jvm.Cond.instanceMethod ({ cls := "FollowingRefs$Store", name := "find", desc := "(I)LFollowingRefs$Row;" } : Jvm.MethodName)) ∈ lw_all := lw_g (lw_at lw_m12 150 rfl) rfl
theorem q2954 : (Jvm.Cond.selects "FollowingRefs$Store" ({ cls := "FollowingRefs$Store", name := "find", desc := "(I)LFollowingRefs$Row;" } : Jvm.MethodName) ({ cls := "FollowingRefs$Store", name := "find", desc := "(I)LFollowingRefs$Row;" } : Jvm.MethodName)) ∈ lw_all := lw_g (lw_at lw_m12 151 rfl) rfl
theorem q2955 : (Jvm.Cond.code ({ cls := "FollowingRefs$Store", name := "find", desc := "(I)LFollowingRefs$Row;" } : Jvm.MethodName) prog_26_method_5_code (3 : Nat) (Option.some (Jvm.ClassFile.FieldType.object "FollowingRefs$Row"))) ∈ lw_all := lw_g (lw_at lw_m12 152 rfl) rfl
theorem q2956 : (Jvm.Cond.methodLink "FollowingRefsLaw" (111 : Nat) ({ cls := "FollowingRefs", name := "refers", desc := "(II)I" } : Jvm.MethodName)) ∈ lw_all := lw_g (lw_at lw_m12 153 rfl) rfl
theorem q2957 : (Jvm.Cond.instanceMethod ({ cls := "FollowingRefs", name := "refers", desc := "(II)I" } : Jvm.MethodName)) ∈ lw_all := lw_g (lw_at lw_m12 154 rfl) rfl
theorem q2958 : (Jvm.Cond.selects "FollowingRefs" ({ cls := "FollowingRefs", name := "refers", desc := "(II)I" } : Jvm.MethodName) ({ cls := "FollowingRefs", name := "refers", desc := "(II)I" } : Jvm.MethodName)) ∈ lw_all := lw_g (lw_at lw_m12 155 rfl) rfl
theorem q2959 : (Jvm.Cond.code ({ cls := "FollowingRefs", name := "refers", desc := "(II)I" } : Jvm.MethodName) prog_1_method_33_code (5 : Nat) (Option.some Jvm.ClassFile.FieldType.int)) ∈ lw_all := lw_g (lw_at lw_m12 156 rfl) rfl
theorem q2960 : (Jvm.Cond.classLink "FollowingRefs" (277 : Nat) "FollowingRefs$Ref") ∈ lw_all := lw_g (lw_at lw_m12 157 rfl) rfl
theorem q2961 : (Jvm.Cond.methodLink "FollowingRefs" (279 : Nat) ({ cls := "FollowingRefs$Store", name := "parent", desc := "(LFollowingRefs$Row;LFollowingRefs$Ref;)LFollowingRefs$Row;" } : Jvm.MethodName)) ∈ lw_all := lw_g (lw_at lw_m12 158 rfl) rfl
theorem q2962 : (Jvm.Cond.methodLink "FollowingRefsLaw" (115 : Nat) ({ cls := "FollowingRefs", name := "referred", desc := "(I)I" } : Jvm.MethodName)) ∈ lw_all := lw_g (lw_at lw_m12 159 rfl) rfl
theorem q2963 : (Jvm.Cond.instanceMethod ({ cls := "FollowingRefs", name := "referred", desc := "(I)I" } : Jvm.MethodName)) ∈ lw_all := lw_g (lw_at lw_m12 160 rfl) rfl
theorem q2964 : (Jvm.Cond.selects "FollowingRefs" ({ cls := "FollowingRefs", name := "referred", desc := "(I)I" } : Jvm.MethodName) ({ cls := "FollowingRefs", name := "referred", desc := "(I)I" } : Jvm.MethodName)) ∈ lw_all := lw_g (lw_at lw_m12 161 rfl) rfl
theorem q2965 : (Jvm.Cond.code ({ cls := "FollowingRefs", name := "referred", desc := "(I)I" } : Jvm.MethodName) prog_1_method_34_code (3 : Nat) (Option.some Jvm.ClassFile.FieldType.int)) ∈ lw_all := lw_g (lw_at lw_m12 162 rfl) rfl
theorem q2966 : (Jvm.Cond.methodLink "FollowingRefs" (283 : Nat) ({ cls := "FollowingRefs$Store", name := "referred", desc := "(LFollowingRefs$Row;)I" } : Jvm.MethodName)) ∈ lw_all := lw_g (lw_at lw_m12 163 rfl) rfl
theorem q2967 : (Jvm.Cond.instanceMethod ({ cls := "FollowingRefs$Store", name := "referred", desc := "(LFollowingRefs$Row;)I" } : Jvm.MethodName)) ∈ lw_all := lw_g (lw_at lw_m12 164 rfl) rfl
theorem q2968 : (Jvm.Cond.selects "FollowingRefs$Store" ({ cls := "FollowingRefs$Store", name := "referred", desc := "(LFollowingRefs$Row;)I" } : Jvm.MethodName) ({ cls := "FollowingRefs$Store", name := "referred", desc := "(LFollowingRefs$Row;)I" } : Jvm.MethodName)) ∈ lw_all := lw_g (lw_at lw_m12 165 rfl) rfl
theorem q2969 : (Jvm.Cond.code ({ cls := "FollowingRefs$Store", name := "referred", desc := "(LFollowingRefs$Row;)I" } : Jvm.MethodName) prog_26_method_7_code (5 : Nat) (Option.some Jvm.ClassFile.FieldType.int)) ∈ lw_all := lw_g (lw_at lw_m12 166 rfl) rfl
theorem q2970 : (Jvm.Cond.methodLink "FollowingRefsLaw" (119 : Nat) ({ cls := "FollowingRefs", name := "table", desc := "(II)I" } : Jvm.MethodName)) ∈ lw_all := lw_g (lw_at lw_m12 167 rfl) rfl
theorem q2971 : (Jvm.Cond.instanceMethod ({ cls := "FollowingRefs", name := "table", desc := "(II)I" } : Jvm.MethodName)) ∈ lw_all := lw_g (lw_at lw_m12 168 rfl) rfl
theorem q2972 : (Jvm.Cond.selects "FollowingRefs" ({ cls := "FollowingRefs", name := "table", desc := "(II)I" } : Jvm.MethodName) ({ cls := "FollowingRefs", name := "table", desc := "(II)I" } : Jvm.MethodName)) ∈ lw_all := lw_g (lw_at lw_m12 169 rfl) rfl
theorem q2973 : (Jvm.Cond.code ({ cls := "FollowingRefs", name := "table", desc := "(II)I" } : Jvm.MethodName) prog_1_method_36_code (5 : Nat) (Option.some Jvm.ClassFile.FieldType.int)) ∈ lw_all := lw_g (lw_at lw_m12 170 rfl) rfl
theorem q2974 : (Jvm.Cond.classLink "FollowingRefs" (206 : Nat) "java/util/BitSet") ∈ lw_all := lw_g (lw_at lw_m12 171 rfl) rfl
theorem q2975 : (Jvm.Cond.methodLink "FollowingRefs" (287 : Nat) ({ cls := "java/util/BitSet", name := "<init>", desc := "()V" } : Jvm.MethodName)) ∈ lw_all := lw_g (lw_at lw_m12 172 rfl) rfl
theorem q2976 : (Jvm.Cond.classLink "FollowingRefs" (291 : Nat) "FollowingRefs$Of") ∈ lw_all := lw_g (lw_at lw_m12 173 rfl) rfl
theorem q2977 : (Jvm.Cond.methodLink "FollowingRefs" (294 : Nat) ({ cls := "java/util/BitSet", name := "set", desc := "(I)V" } : Jvm.MethodName)) ∈ lw_all := lw_g (lw_at lw_m12 174 rfl) rfl
theorem q2978 : (Jvm.Cond.methodLink "FollowingRefs" (298 : Nat) ({ cls := "FollowingRefs$Schema", name := "keyOf", desc := "(LFollowingRefs$Ref;)LFollowingRefs$Of;" } : Jvm.MethodName)) ∈ lw_all := lw_g (lw_at lw_m12 175 rfl) rfl
theorem q2979 : (Jvm.Cond.methodLink "FollowingRefs" (302 : Nat) ({ cls := "FollowingRefs", name := "colsOf", desc := "(I)I" } : Jvm.MethodName)) ∈ lw_all := lw_g (lw_at lw_m12 176 rfl) rfl
theorem q2981 : (Jvm.Cond.instanceMethod ({ cls := "FollowingRefs", name := "colsOf", desc := "(I)I" } : Jvm.MethodName)) ∈ lw_all := lw_g (lw_at lw_m12 178 rfl) rfl
theorem q2982 : (Jvm.Cond.code ({ cls := "FollowingRefs", name := "colsOf", desc := "(I)I" } : Jvm.MethodName) prog_1_method_13_code (2 : Nat) (Option.some Jvm.ClassFile.FieldType.int)) ∈ lw_all := lw_g (lw_at lw_m12 179 rfl) rfl
theorem q2983 : (Jvm.Cond.classLink "FollowingRefs" (142 : Nat) "FollowingRefs$Table") ∈ lw_all := lw_g (lw_at lw_m12 180 rfl) rfl
theorem q2984 : (Jvm.Cond.methodLink "FollowingRefs" (305 : Nat) ({ cls := "FollowingRefs$Schema", name := "perils", desc := "(I)Ljava/util/BitSet;" } : Jvm.MethodName)) ∈ lw_all := lw_g (lw_at lw_m12 181 rfl) rfl
theorem q2985 : (Jvm.Cond.instanceMethod ({ cls := "FollowingRefs$Schema", name := "perils", desc := "(I)Ljava/util/BitSet;" } : Jvm.MethodName)) ∈ lw_all := lw_g (lw_at lw_m12 182 rfl) rfl
theorem q2986 : (Jvm.Cond.selects "FollowingRefs$Schema" ({ cls := "FollowingRefs$Schema", name := "perils", desc := "(I)Ljava/util/BitSet;" } : Jvm.MethodName) ({ cls := "FollowingRefs$Schema", name := "perils", desc := "(I)Ljava/util/BitSet;" } : Jvm.MethodName)) ∈ lw_all := lw_g (lw_at lw_m12 183 rfl) rfl
theorem q2987 : (Jvm.Cond.code ({ cls := "FollowingRefs$Schema", name := "perils", desc := "(I)Ljava/util/BitSet;" } : Jvm.MethodName) prog_19_method_8_code (7 : Nat) (Option.some (Jvm.ClassFile.FieldType.object "java/util/BitSet"))) ∈ lw_all := lw_g (lw_at lw_m12 184 rfl) rfl
theorem q2988 : (Jvm.Cond.classLink "FollowingRefs$Schema" (81 : Nat) "java/util/BitSet") ∈ lw_all := lw_g (lw_at lw_m12 185 rfl) rfl
theorem q2989 : (Jvm.Cond.methodLink "FollowingRefs$Schema" (84 : Nat) ({ cls := "java/util/BitSet", name := "<init>", desc := "()V" } : Jvm.MethodName)) ∈ lw_all := lw_g (lw_at lw_m12 186 rfl) rfl
theorem q2990 : (Jvm.Cond.classLink "FollowingRefs$Schema" (85 : Nat) "java/util/ArrayDeque") ∈ lw_all := lw_g (lw_at lw_m12 187 rfl) rfl
theorem q2991 : (Jvm.Cond.methodLink "FollowingRefs$Schema" (87 : Nat) ({ cls := "java/util/ArrayDeque", name := "<init>", desc := "()V" } : Jvm.MethodName)) ∈ lw_all := lw_g (lw_at lw_m12 188 rfl) rfl
theorem q2992 : (Jvm.Cond.methodLink "FollowingRefs$Schema" (88 : Nat) ({ cls := "java/lang/Integer", name := "valueOf", desc := "(I)Ljava/lang/Integer;" } : Jvm.MethodName)) ∈ lw_all := lw_g (lw_at lw_m12 189 rfl) rfl
theorem q2993 : (Jvm.Cond.static ({ cls := "java/lang/Integer", name := "valueOf", desc := "(I)Ljava/lang/Integer;" } : Jvm.MethodName)) ∈ lw_all := lw_g (lw_at lw_m12 190 rfl) rfl
theorem q2994 : (Jvm.Cond.code ({ cls := "java/lang/Integer", name := "valueOf", desc := "(I)Ljava/lang/Integer;" } : Jvm.MethodName) prog_44_method_22_code (1 : Nat) (Option.some (Jvm.ClassFile.FieldType.object "java/lang/Integer"))) ∈ lw_all := lw_g (lw_at lw_m12 191 rfl) rfl
theorem q2995 : (Jvm.Cond.fieldLink "java/lang/Integer" (191 : Nat) "java/lang/Integer$IntegerCache" "high" "I") ∈ lw_all := lw_g (lw_at lw_m12 192 rfl) rfl
theorem q2997 : (Jvm.Cond.fieldLink "java/lang/Integer" (195 : Nat) "java/lang/Integer$IntegerCache" "cache" "[Ljava/lang/Integer;") ∈ lw_all := lw_g (lw_at lw_m12 194 rfl) rfl
theorem q2999 : (Jvm.Cond.instantiable "java/lang/Integer" (1 : Nat)) ∈ lw_all := lw_g (lw_at lw_m12 196 rfl) rfl
theorem q3000 : (Jvm.Cond.methodLink "java/lang/Integer" (199 : Nat) ({ cls := "java/lang/Integer", name := "<init>", desc := "(I)V" } : Jvm.MethodName)) ∈ lw_all := lw_g (lw_at lw_m12 197 rfl) rfl
theorem q3001 : (Jvm.Cond.instanceMethod ({ cls := "java/lang/Integer", name := "<init>", desc := "(I)V" } : Jvm.MethodName)) ∈ lw_all := lw_g (lw_at lw_m12 198 rfl) rfl
theorem q3002 : (Jvm.Cond.code ({ cls := "java/lang/Integer", name := "<init>", desc := "(I)V" } : Jvm.MethodName) prog_44_method_23_code (2 : Nat) (Option.none : Option Jvm.ClassFile.FieldType)) ∈ lw_all := lw_g (lw_at lw_m12 199 rfl) rfl
theorem q3003 : (Jvm.Cond.methodLink "java/lang/Integer" (202 : Nat) ({ cls := "java/lang/Number", name := "<init>", desc := "()V" } : Jvm.MethodName)) ∈ lw_all := lw_g (lw_at lw_m12 200 rfl) rfl
theorem q3004 : (Jvm.Cond.instanceMethod ({ cls := "java/lang/Number", name := "<init>", desc := "()V" } : Jvm.MethodName)) ∈ lw_all := lw_g (lw_at lw_m12 201 rfl) rfl
theorem q3005 : (Jvm.Cond.code ({ cls := "java/lang/Number", name := "<init>", desc := "()V" } : Jvm.MethodName) prog_49_method_1_code (1 : Nat) (Option.none : Option Jvm.ClassFile.FieldType)) ∈ lw_all := lw_g (lw_at lw_m12 202 rfl) rfl
theorem q3006 : (Jvm.Cond.methodLink "java/lang/Number" (1 : Nat) ({ cls := "java/lang/Object", name := "<init>", desc := "()V" } : Jvm.MethodName)) ∈ lw_all := lw_g (lw_at lw_m12 203 rfl) rfl
theorem q3007 : (Jvm.Cond.fieldLink "java/lang/Integer" (205 : Nat) "java/lang/Integer" "value" "I") ∈ lw_all := lw_g (lw_at lw_m12 204 rfl) rfl
theorem q3008 : (Jvm.Cond.laysFinal "java/lang/Integer" "java/lang/Integer" "value" "I") ∈ lw_all := lw_g (lw_at lw_m12 205 rfl) rfl
theorem q3011 : (Jvm.Cond.methodLink "FollowingRefs$Schema" (94 : Nat) ({ cls := "java/util/ArrayDeque", name := "addLast", desc := "(Ljava/lang/Object;)V" } : Jvm.MethodName)) ∈ lw_all := lw_g (lw_at lw_m12 208 rfl) rfl
theorem q3012 : (Jvm.Cond.methodLink "FollowingRefs$Schema" (98 : Nat) ({ cls := "java/util/ArrayDeque", name := "isEmpty", desc := "()Z" } : Jvm.MethodName)) ∈ lw_all := lw_g (lw_at lw_m12 209 rfl) rfl
theorem q3013 : (Jvm.Cond.methodLink "FollowingRefs$Schema" (102 : Nat) ({ cls := "java/util/ArrayDeque", name := "pollFirst", desc := "()Ljava/lang/Object;" } : Jvm.MethodName)) ∈ lw_all := lw_g (lw_at lw_m12 210 rfl) rfl
theorem q3014 : (Jvm.Cond.classLink "FollowingRefs$Schema" (89 : Nat) "java/lang/Integer") ∈ lw_all := lw_g (lw_at lw_m12 211 rfl) rfl
theorem q3015 : (Jvm.Cond.methodLink "FollowingRefs$Schema" (106 : Nat) ({ cls := "java/lang/Integer", name := "intValue", desc := "()I" } : Jvm.MethodName)) ∈ lw_all := lw_g (lw_at lw_m12 212 rfl) rfl
theorem q3016 : (Jvm.Cond.classLink "FollowingRefs$Schema" (65 : Nat) "FollowingRefs$Ref") ∈ lw_all := lw_g (lw_at lw_m12 213 rfl) rfl
theorem q3017 : (Jvm.Cond.methodLink "FollowingRefs$Schema" (112 : Nat) ({ cls := "FollowingRefs$Schema", name := "keyOf", desc := "(LFollowingRefs$Ref;)LFollowingRefs$Of;" } : Jvm.MethodName)) ∈ lw_all := lw_g (lw_at lw_m12 214 rfl) rfl
theorem q3018 : (Jvm.Cond.methodLink "FollowingRefs$Schema" (117 : Nat) ({ cls := "java/util/BitSet", name := "set", desc := "(I)V" } : Jvm.MethodName)) ∈ lw_all := lw_g (lw_at lw_m12 215 rfl) rfl
theorem q3019 : (Jvm.Cond.methodLink "FollowingRefs" (309 : Nat) ({ cls := "FollowingRefs", name := "bits", desc := "(Ljava/util/BitSet;)I" } : Jvm.MethodName)) ∈ lw_all := lw_g (lw_at lw_m12 216 rfl) rfl
theorem q3020 : (Jvm.Cond.static ({ cls := "FollowingRefs", name := "bits", desc := "(Ljava/util/BitSet;)I" } : Jvm.MethodName)) ∈ lw_all := lw_g (lw_at lw_m12 217 rfl) rfl
theorem q3021 : (Jvm.Cond.code ({ cls := "FollowingRefs", name := "bits", desc := "(Ljava/util/BitSet;)I" } : Jvm.MethodName) prog_1_method_35_code (3 : Nat) (Option.some Jvm.ClassFile.FieldType.int)) ∈ lw_all := lw_g (lw_at lw_m12 218 rfl) rfl
theorem q3022 : (Jvm.Cond.methodLink "FollowingRefsLaw" (127 : Nat) ({ cls := "FollowingRefs", name := "ref", desc := "(II)I" } : Jvm.MethodName)) ∈ lw_all := lw_g (lw_at lw_m12 219 rfl) rfl
theorem q3023 : (Jvm.Cond.instanceMethod ({ cls := "FollowingRefs", name := "ref", desc := "(II)I" } : Jvm.MethodName)) ∈ lw_all := lw_g (lw_at lw_m12 220 rfl) rfl
theorem q3024 : (Jvm.Cond.selects "FollowingRefs" ({ cls := "FollowingRefs", name := "ref", desc := "(II)I" } : Jvm.MethodName) ({ cls := "FollowingRefs", name := "ref", desc := "(II)I" } : Jvm.MethodName)) ∈ lw_all := lw_g (lw_at lw_m12 221 rfl) rfl
theorem q3025 : (Jvm.Cond.code ({ cls := "FollowingRefs", name := "ref", desc := "(II)I" } : Jvm.MethodName) prog_1_method_38_code (4 : Nat) (Option.some Jvm.ClassFile.FieldType.int)) ∈ lw_all := lw_g (lw_at lw_m12 222 rfl) rfl
theorem q3026 : (Jvm.Cond.methodLink "FollowingRefsLaw" (131 : Nat) ({ cls := "FollowingRefs", name := "order", desc := "()I" } : Jvm.MethodName)) ∈ lw_all := lw_g (lw_at lw_m12 223 rfl) rfl
theorem q3027 : (Jvm.Cond.instanceMethod ({ cls := "FollowingRefs", name := "order", desc := "()I" } : Jvm.MethodName)) ∈ lw_all := lw_g (lw_at lw_m12 224 rfl) rfl
theorem q3028 : (Jvm.Cond.selects "FollowingRefs" ({ cls := "FollowingRefs", name := "order", desc := "()I" } : Jvm.MethodName) ({ cls := "FollowingRefs", name := "order", desc := "()I" } : Jvm.MethodName)) ∈ lw_all := lw_g (lw_at lw_m12 225 rfl) rfl
theorem q3029 : (Jvm.Cond.code ({ cls := "FollowingRefs", name := "order", desc := "()I" } : Jvm.MethodName) prog_1_method_40_code (5 : Nat) (Option.some Jvm.ClassFile.FieldType.int)) ∈ lw_all := lw_g (lw_at lw_m12 226 rfl) rfl
theorem q3030 : (Jvm.Cond.methodLink "FollowingRefs" (338 : Nat) ({ cls := "java/util/BitSet", name := "get", desc := "(I)Z" } : Jvm.MethodName)) ∈ lw_all := lw_g (lw_at lw_m12 227 rfl) rfl
theorem q3031 : (Jvm.Cond.methodLink "FollowingRefs" (340 : Nat) ({ cls := "FollowingRefs", name := "isReady", desc := "(ILjava/util/BitSet;)Z" } : Jvm.MethodName)) ∈ lw_all := lw_g (lw_at lw_m12 228 rfl) rfl
theorem q3033 : (Jvm.Cond.instanceMethod ({ cls := "FollowingRefs", name := "isReady", desc := "(ILjava/util/BitSet;)Z" } : Jvm.MethodName)) ∈ lw_all := lw_g (lw_at lw_m12 230 rfl) rfl
theorem q3034 : (Jvm.Cond.code ({ cls := "FollowingRefs", name := "isReady", desc := "(ILjava/util/BitSet;)Z" } : Jvm.MethodName) prog_1_method_39_code (5 : Nat) (Option.some Jvm.ClassFile.FieldType.boolean)) ∈ lw_all := lw_g (lw_at lw_m12 231 rfl) rfl
theorem q3035 : (Jvm.Cond.methodLink "FollowingRefs" (344 : Nat) ({ cls := "java/lang/Integer", name := "valueOf", desc := "(I)Ljava/lang/Integer;" } : Jvm.MethodName)) ∈ lw_all := lw_g (lw_at lw_m12 232 rfl) rfl
theorem q3036 : (Jvm.Cond.methodLink "FollowingRefs" (350 : Nat) ({ cls := "java/util/ArrayList", name := "add", desc := "(Ljava/lang/Object;)Z" } : Jvm.MethodName)) ∈ lw_all := lw_g (lw_at lw_m12 233 rfl) rfl
theorem q3037 : (Jvm.Cond.methodLink "FollowingRefs" (354 : Nat) ({ cls := "java/util/ArrayList", name := "clear", desc := "()V" } : Jvm.MethodName)) ∈ lw_all := lw_g (lw_at lw_m12 234 rfl) rfl
theorem q3038 : (Jvm.Cond.methodLink "FollowingRefs" (357 : Nat) ({ cls := "java/util/ArrayList", name := "iterator", desc := "()Ljava/util/Iterator;" } : Jvm.MethodName)) ∈ lw_all := lw_g (lw_at lw_m12 235 rfl) rfl
theorem q3040 : (Jvm.Cond.methodLink "FollowingRefs" (361 : Nat) ({ cls := "java/util/Iterator", name := "hasNext", desc := "()Z" } : Jvm.MethodName)) ∈ lw_all := lw_g (lw_at lw_m12 237 rfl) rfl
theorem q3042 : (Jvm.Cond.methodLink "FollowingRefs" (367 : Nat) ({ cls := "java/util/Iterator", name := "next", desc := "()Ljava/lang/Object;" } : Jvm.MethodName)) ∈ lw_all := lw_g (lw_at lw_m12 239 rfl) rfl
theorem q3043 : (Jvm.Cond.classLink "FollowingRefs" (345 : Nat) "java/lang/Integer") ∈ lw_all := lw_g (lw_at lw_m13 0 rfl) rfl
theorem q3044 : (Jvm.Cond.methodLink "FollowingRefs" (371 : Nat) ({ cls := "java/lang/Integer", name := "intValue", desc := "()I" } : Jvm.MethodName)) ∈ lw_all := lw_g (lw_at lw_m13 1 rfl) rfl
theorem q3045 : (Jvm.Cond.methodLink "FollowingRefsLaw" (135 : Nat) ({ cls := "FollowingRefs", name := "orderAt", desc := "(I)I" } : Jvm.MethodName)) ∈ lw_all := lw_g (lw_at lw_m13 2 rfl) rfl
theorem q3046 : (Jvm.Cond.instanceMethod ({ cls := "FollowingRefs", name := "orderAt", desc := "(I)I" } : Jvm.MethodName)) ∈ lw_all := lw_g (lw_at lw_m13 3 rfl) rfl
theorem q3047 : (Jvm.Cond.selects "FollowingRefs" ({ cls := "FollowingRefs", name := "orderAt", desc := "(I)I" } : Jvm.MethodName) ({ cls := "FollowingRefs", name := "orderAt", desc := "(I)I" } : Jvm.MethodName)) ∈ lw_all := lw_g (lw_at lw_m13 4 rfl) rfl
theorem q3048 : (Jvm.Cond.code ({ cls := "FollowingRefs", name := "orderAt", desc := "(I)I" } : Jvm.MethodName) prog_1_method_41_code (2 : Nat) (Option.some Jvm.ClassFile.FieldType.int)) ∈ lw_all := lw_g (lw_at lw_m13 5 rfl) rfl
theorem q3049 : (Jvm.Cond.methodLink "FollowingRefsLaw" (142 : Nat) ({ cls := "FollowingRefs", name := "tag", desc := "(I)I" } : Jvm.MethodName)) ∈ lw_all := lw_g (lw_at lw_m13 6 rfl) rfl
theorem q3050 : (Jvm.Cond.instanceMethod ({ cls := "FollowingRefs", name := "tag", desc := "(I)I" } : Jvm.MethodName)) ∈ lw_all := lw_g (lw_at lw_m13 7 rfl) rfl
theorem q3051 : (Jvm.Cond.selects "FollowingRefs" ({ cls := "FollowingRefs", name := "tag", desc := "(I)I" } : Jvm.MethodName) ({ cls := "FollowingRefs", name := "tag", desc := "(I)I" } : Jvm.MethodName)) ∈ lw_all := lw_g (lw_at lw_m13 8 rfl) rfl
theorem q3052 : (Jvm.Cond.code ({ cls := "FollowingRefs", name := "tag", desc := "(I)I" } : Jvm.MethodName) prog_1_method_43_code (5 : Nat) (Option.some Jvm.ClassFile.FieldType.int)) ∈ lw_all := lw_g (lw_at lw_m13 9 rfl) rfl
theorem q3053 : (Jvm.Cond.classLink "FollowingRefs" (374 : Nat) "java/lang/StringBuilder") ∈ lw_all := lw_g (lw_at lw_m13 10 rfl) rfl
theorem q3054 : (Jvm.Cond.methodLink "FollowingRefs" (379 : Nat) ({ cls := "java/lang/StringBuilder", name := "<init>", desc := "(Ljava/lang/String;)V" } : Jvm.MethodName)) ∈ lw_all := lw_g (lw_at lw_m13 11 rfl) rfl
theorem q3055 : (Jvm.Cond.instanceMethod ({ cls := "java/lang/StringBuilder", name := "<init>", desc := "(Ljava/lang/String;)V" } : Jvm.MethodName)) ∈ lw_all := lw_g (lw_at lw_m13 12 rfl) rfl
theorem q3056 : (Jvm.Cond.code ({ cls := "java/lang/StringBuilder", name := "<init>", desc := "(Ljava/lang/String;)V" } : Jvm.MethodName) prog_52_method_3_code (2 : Nat) (Option.none : Option Jvm.ClassFile.FieldType)) ∈ lw_all := lw_g (lw_at lw_m13 13 rfl) rfl
theorem q3057 : (Jvm.Cond.methodLink "java/lang/StringBuilder" (7 : Nat) ({ cls := "java/lang/AbstractStringBuilder", name := "<init>", desc := "(Ljava/lang/String;)V" } : Jvm.MethodName)) ∈ lw_all := lw_g (lw_at lw_m13 14 rfl) rfl
theorem q3058 : (Jvm.Cond.instanceMethod ({ cls := "java/lang/AbstractStringBuilder", name := "<init>", desc := "(Ljava/lang/String;)V" } : Jvm.MethodName)) ∈ lw_all := lw_g (lw_at lw_m13 15 rfl) rfl
theorem q3059 : (Jvm.Cond.code ({ cls := "java/lang/AbstractStringBuilder", name := "<init>", desc := "(Ljava/lang/String;)V" } : Jvm.MethodName) prog_37_method_3_code (5 : Nat) (Option.none : Option Jvm.ClassFile.FieldType)) ∈ lw_all := lw_g (lw_at lw_m13 16 rfl) rfl
theorem q3060 : (Jvm.Cond.constant "java/lang/AbstractStringBuilder" (38 : Nat) (2147483631 : Int32)) ∈ lw_all := lw_g (lw_at lw_m13 17 rfl) rfl
theorem q3061 : (Jvm.Cond.methodLink "java/lang/AbstractStringBuilder" (43 : Nat) ({ cls := "java/lang/AbstractStringBuilder", name := "append", desc := "(Ljava/lang/String;)Ljava/lang/AbstractStringBuilder;" } : Jvm.MethodName)) ∈ lw_all := lw_g (lw_at lw_m13 18 rfl) rfl
theorem q3062 : (Jvm.Cond.instanceMethod ({ cls := "java/lang/StringBuilder", name := "append", desc := "(Ljava/lang/String;)Ljava/lang/AbstractStringBuilder;" } : Jvm.MethodName)) ∈ lw_all := lw_g (lw_at lw_m13 19 rfl) rfl
theorem q3063 : (Jvm.Cond.code ({ cls := "java/lang/StringBuilder", name := "append", desc := "(Ljava/lang/String;)Ljava/lang/AbstractStringBuilder;" } : Jvm.MethodName) prog_52_method_80_code (2 : Nat) (Option.some (Jvm.ClassFile.FieldType.object "java/lang/AbstractStringBuilder"))) ∈ lw_all := lw_g (lw_at lw_m13 20 rfl) rfl
theorem q3064 : (Jvm.Cond.methodLink "java/lang/StringBuilder" (23 : Nat) ({ cls := "java/lang/StringBuilder", name := "append", desc := "(Ljava/lang/String;)Ljava/lang/StringBuilder;" } : Jvm.MethodName)) ∈ lw_all := lw_g (lw_at lw_m13 21 rfl) rfl
theorem q3066 : (Jvm.Cond.methodLink "FollowingRefs" (384 : Nat) ({ cls := "java/lang/StringBuilder", name := "append", desc := "(Ljava/lang/String;)Ljava/lang/StringBuilder;" } : Jvm.MethodName)) ∈ lw_all := lw_g (lw_at lw_m13 23 rfl) rfl
theorem q3067 : (Jvm.Cond.methodLink "FollowingRefs" (388 : Nat) ({ cls := "java/lang/StringBuilder", name := "append", desc := "(I)Ljava/lang/StringBuilder;" } : Jvm.MethodName)) ∈ lw_all := lw_g (lw_at lw_m13 24 rfl) rfl
theorem q3068 : (Jvm.Cond.instanceMethod ({ cls := "java/lang/StringBuilder", name := "append", desc := "(I)Ljava/lang/StringBuilder;" } : Jvm.MethodName)) ∈ lw_all := lw_g (lw_at lw_m13 25 rfl) rfl
theorem q3069 : (Jvm.Cond.selects "java/lang/StringBuilder" ({ cls := "java/lang/StringBuilder", name := "append", desc := "(I)Ljava/lang/StringBuilder;" } : Jvm.MethodName) ({ cls := "java/lang/StringBuilder", name := "append", desc := "(I)Ljava/lang/StringBuilder;" } : Jvm.MethodName)) ∈ lw_all := lw_g (lw_at lw_m13 26 rfl) rfl
theorem q3070 : (Jvm.Cond.code ({ cls := "java/lang/StringBuilder", name := "append", desc := "(I)Ljava/lang/StringBuilder;" } : Jvm.MethodName) prog_52_method_15_code (2 : Nat) (Option.some (Jvm.ClassFile.FieldType.object "java/lang/StringBuilder"))) ∈ lw_all := lw_g (lw_at lw_m13 27 rfl) rfl
theorem q3071 : (Jvm.Cond.methodLink "java/lang/StringBuilder" (53 : Nat) ({ cls := "java/lang/AbstractStringBuilder", name := "append", desc := "(I)Ljava/lang/AbstractStringBuilder;" } : Jvm.MethodName)) ∈ lw_all := lw_g (lw_at lw_m13 28 rfl) rfl
theorem q3072 : (Jvm.Cond.instanceMethod ({ cls := "java/lang/AbstractStringBuilder", name := "append", desc := "(I)Ljava/lang/AbstractStringBuilder;" } : Jvm.MethodName)) ∈ lw_all := lw_g (lw_at lw_m13 29 rfl) rfl
theorem q3073 : (Jvm.Cond.code ({ cls := "java/lang/AbstractStringBuilder", name := "append", desc := "(I)Ljava/lang/AbstractStringBuilder;" } : Jvm.MethodName) prog_37_method_32_code (4 : Nat) (Option.some (Jvm.ClassFile.FieldType.object "java/lang/AbstractStringBuilder"))) ∈ lw_all := lw_g (lw_at lw_m13 30 rfl) rfl
theorem q3074 : (Jvm.Cond.methodLink "java/lang/AbstractStringBuilder" (245 : Nat) ({ cls := "java/lang/Integer", name := "stringSize", desc := "(I)I" } : Jvm.MethodName)) ∈ lw_all := lw_g (lw_at lw_m13 31 rfl) rfl
theorem q3075 : (Jvm.Cond.static ({ cls := "java/lang/Integer", name := "stringSize", desc := "(I)I" } : Jvm.MethodName)) ∈ lw_all := lw_g (lw_at lw_m13 32 rfl) rfl
theorem q3076 : (Jvm.Cond.code ({ cls := "java/lang/Integer", name := "stringSize", desc := "(I)I" } : Jvm.MethodName) prog_44_method_13_code (4 : Nat) (Option.some Jvm.ClassFile.FieldType.int)) ∈ lw_all := lw_g (lw_at lw_m13 33 rfl) rfl
theorem q3077 : (Jvm.Cond.methodLink "java/lang/AbstractStringBuilder" (248 : Nat) ({ cls := "java/lang/Integer", name := "getChars", desc := "(II[B)I" } : Jvm.MethodName)) ∈ lw_all := lw_g (lw_at lw_m13 34 rfl) rfl
theorem q3078 : (Jvm.Cond.static ({ cls := "java/lang/Integer", name := "getChars", desc := "(II[B)I" } : Jvm.MethodName)) ∈ lw_all := lw_g (lw_at lw_m13 35 rfl) rfl
theorem q3079 : (Jvm.Cond.code ({ cls := "java/lang/Integer", name := "getChars", desc := "(II[B)I" } : Jvm.MethodName) prog_44_method_12_code (7 : Nat) (Option.some Jvm.ClassFile.FieldType.int)) ∈ lw_all := lw_g (lw_at lw_m13 36 rfl) rfl
theorem q3080 : (Jvm.Cond.fieldLink "java/lang/Integer" (83 : Nat) "java/lang/Integer" "DigitOnes" "[B") ∈ lw_all := lw_g (lw_at lw_m13 37 rfl) rfl
theorem q3082 : (Jvm.Cond.fieldLink "java/lang/Integer" (87 : Nat) "java/lang/Integer" "DigitTens" "[B") ∈ lw_all := lw_g (lw_at lw_m13 39 rfl) rfl
theorem q3084 : (Jvm.Cond.methodLink "java/lang/AbstractStringBuilder" (251 : Nat) ({ cls := "java/lang/StringUTF16", name := "getChars", desc := "(III[B)I" } : Jvm.MethodName)) ∈ lw_all := lw_g (lw_at lw_m13 41 rfl) rfl
theorem q3085 : (Jvm.Cond.static ({ cls := "java/lang/StringUTF16", name := "getChars", desc := "(III[B)I" } : Jvm.MethodName)) ∈ lw_all := lw_g (lw_at lw_m13 42 rfl) rfl
theorem q3086 : (Jvm.Cond.code ({ cls := "java/lang/StringUTF16", name := "getChars", desc := "(III[B)I" } : Jvm.MethodName) prog_54_method_77_code (5 : Nat) (Option.some Jvm.ClassFile.FieldType.int)) ∈ lw_all := lw_g (lw_at lw_m13 43 rfl) rfl
theorem q3087 : (Jvm.Cond.methodLink "java/lang/StringUTF16" (393 : Nat) ({ cls := "java/lang/StringUTF16", name := "getChars", desc := "(II[B)I" } : Jvm.MethodName)) ∈ lw_all := lw_g (lw_at lw_m13 44 rfl) rfl
theorem q3088 : (Jvm.Cond.static ({ cls := "java/lang/StringUTF16", name := "getChars", desc := "(II[B)I" } : Jvm.MethodName)) ∈ lw_all := lw_g (lw_at lw_m13 45 rfl) rfl
theorem q3089 : (Jvm.Cond.code ({ cls := "java/lang/StringUTF16", name := "getChars", desc := "(II[B)I" } : Jvm.MethodName) prog_54_method_89_code (7 : Nat) (Option.some Jvm.ClassFile.FieldType.int)) ∈ lw_all := lw_g (lw_at lw_m13 46 rfl) rfl
theorem q3090 : (Jvm.Cond.fieldLink "java/lang/StringUTF16" (403 : Nat) "java/lang/Integer" "DigitOnes" "[B") ∈ lw_all := lw_g (lw_at lw_m13 47 rfl) rfl
theorem q3091 : (Jvm.Cond.fieldLink "java/lang/StringUTF16" (407 : Nat) "java/lang/Integer" "DigitTens" "[B") ∈ lw_all := lw_g (lw_at lw_m13 48 rfl) rfl
theorem q3093 : (Jvm.Cond.methodLink "FollowingRefs" (393 : Nat) ({ cls := "java/lang/StringBuilder", name := "toString", desc := "()Ljava/lang/String;" } : Jvm.MethodName)) ∈ lw_all := lw_g (lw_at lw_m13 50 rfl) rfl
theorem q3094 : (Jvm.Cond.methodLink "FollowingRefs" (397 : Nat) ({ cls := "java/lang/String", name := "length", desc := "()I" } : Jvm.MethodName)) ∈ lw_all := lw_g (lw_at lw_m13 51 rfl) rfl
theorem q3095 : (Jvm.Cond.methodLink "FollowingRefsLaw" (146 : Nat) ({ cls := "FollowingRefs", name := "byteAt", desc := "(I)I" } : Jvm.MethodName)) ∈ lw_all := lw_g (lw_at lw_m13 52 rfl) rfl
theorem q3096 : (Jvm.Cond.instanceMethod ({ cls := "FollowingRefs", name := "byteAt", desc := "(I)I" } : Jvm.MethodName)) ∈ lw_all := lw_g (lw_at lw_m13 53 rfl) rfl
theorem q3097 : (Jvm.Cond.selects "FollowingRefs" ({ cls := "FollowingRefs", name := "byteAt", desc := "(I)I" } : Jvm.MethodName) ({ cls := "FollowingRefs", name := "byteAt", desc := "(I)I" } : Jvm.MethodName)) ∈ lw_all := lw_g (lw_at lw_m13 54 rfl) rfl
theorem q3098 : (Jvm.Cond.code ({ cls := "FollowingRefs", name := "byteAt", desc := "(I)I" } : Jvm.MethodName) prog_1_method_44_code (2 : Nat) (Option.some Jvm.ClassFile.FieldType.int)) ∈ lw_all := lw_g (lw_at lw_m13 55 rfl) rfl
theorem q3099 : (Jvm.Cond.methodLink "FollowingRefs" (402 : Nat) ({ cls := "java/lang/String", name := "charAt", desc := "(I)C" } : Jvm.MethodName)) ∈ lw_all := lw_g (lw_at lw_m13 56 rfl) rfl
theorem q3100 : (Jvm.Cond.instanceMethod ({ cls := "java/lang/String", name := "charAt", desc := "(I)C" } : Jvm.MethodName)) ∈ lw_all := lw_g (lw_at lw_m13 57 rfl) rfl
theorem q3101 : (Jvm.Cond.selects "java/lang/String" ({ cls := "java/lang/String", name := "charAt", desc := "(I)C" } : Jvm.MethodName) ({ cls := "java/lang/String", name := "charAt", desc := "(I)C" } : Jvm.MethodName)) ∈ lw_all := lw_g (lw_at lw_m13 58 rfl) rfl
theorem q3102 : (Jvm.Cond.code ({ cls := "java/lang/String", name := "charAt", desc := "(I)C" } : Jvm.MethodName) prog_51_method_56_code (2 : Nat) (Option.some Jvm.ClassFile.FieldType.char)) ∈ lw_all := lw_g (lw_at lw_m13 59 rfl) rfl
theorem q3103 : (Jvm.Cond.methodLink "java/lang/String" (495 : Nat) ({ cls := "java/lang/StringLatin1", name := "charAt", desc := "([BI)C" } : Jvm.MethodName)) ∈ lw_all := lw_g (lw_at lw_m13 60 rfl) rfl
theorem q3104 : (Jvm.Cond.static ({ cls := "java/lang/StringLatin1", name := "charAt", desc := "([BI)C" } : Jvm.MethodName)) ∈ lw_all := lw_g (lw_at lw_m13 61 rfl) rfl
theorem q3105 : (Jvm.Cond.code ({ cls := "java/lang/StringLatin1", name := "charAt", desc := "([BI)C" } : Jvm.MethodName) prog_53_method_2_code (2 : Nat) (Option.some Jvm.ClassFile.FieldType.char)) ∈ lw_all := lw_g (lw_at lw_m13 62 rfl) rfl
theorem q3106 : (Jvm.Cond.methodLink "java/lang/StringLatin1" (9 : Nat) ({ cls := "java/lang/String", name := "checkIndex", desc := "(II)V" } : Jvm.MethodName)) ∈ lw_all := lw_g (lw_at lw_m13 63 rfl) rfl
theorem q3107 : (Jvm.Cond.methodLink "java/lang/String" (498 : Nat) ({ cls := "java/lang/StringUTF16", name := "charAt", desc := "([BI)C" } : Jvm.MethodName)) ∈ lw_all := lw_g (lw_at lw_m13 64 rfl) rfl
theorem q3108 : (Jvm.Cond.static ({ cls := "java/lang/StringUTF16", name := "charAt", desc := "([BI)C" } : Jvm.MethodName)) ∈ lw_all := lw_g (lw_at lw_m13 65 rfl) rfl
theorem q3109 : (Jvm.Cond.code ({ cls := "java/lang/StringUTF16", name := "charAt", desc := "([BI)C" } : Jvm.MethodName) prog_54_method_83_code (2 : Nat) (Option.some Jvm.ClassFile.FieldType.char)) ∈ lw_all := lw_g (lw_at lw_m13 66 rfl) rfl
theorem q3110 : (Jvm.Cond.methodLink "FollowingRefsLaw" (150 : Nat) ({ cls := "FollowingRefs", name := "drawn", desc := "(II)I" } : Jvm.MethodName)) ∈ lw_all := lw_g (lw_at lw_m13 67 rfl) rfl
theorem q3111 : (Jvm.Cond.instanceMethod ({ cls := "FollowingRefs", name := "drawn", desc := "(II)I" } : Jvm.MethodName)) ∈ lw_all := lw_g (lw_at lw_m13 68 rfl) rfl
theorem q3112 : (Jvm.Cond.selects "FollowingRefs" ({ cls := "FollowingRefs", name := "drawn", desc := "(II)I" } : Jvm.MethodName) ({ cls := "FollowingRefs", name := "drawn", desc := "(II)I" } : Jvm.MethodName)) ∈ lw_all := lw_g (lw_at lw_m13 69 rfl) rfl
theorem q3113 : (Jvm.Cond.code ({ cls := "FollowingRefs", name := "drawn", desc := "(II)I" } : Jvm.MethodName) prog_1_method_49_code (5 : Nat) (Option.some Jvm.ClassFile.FieldType.int)) ∈ lw_all := lw_g (lw_at lw_m13 70 rfl) rfl
theorem q3114 : (Jvm.Cond.methodLink "FollowingRefs" (447 : Nat) ({ cls := "java/util/ArrayList", name := "isEmpty", desc := "()Z" } : Jvm.MethodName)) ∈ lw_all := lw_g (lw_at lw_m13 71 rfl) rfl
theorem q3115 : (Jvm.Cond.instanceMethod ({ cls := "java/util/ArrayList", name := "isEmpty", desc := "()Z" } : Jvm.MethodName)) ∈ lw_all := lw_g (lw_at lw_m13 72 rfl) rfl
theorem q3116 : (Jvm.Cond.selects "java/util/ArrayList" ({ cls := "java/util/ArrayList", name := "isEmpty", desc := "()Z" } : Jvm.MethodName) ({ cls := "java/util/ArrayList", name := "isEmpty", desc := "()Z" } : Jvm.MethodName)) ∈ lw_all := lw_g (lw_at lw_m13 73 rfl) rfl
theorem q3117 : (Jvm.Cond.code ({ cls := "java/util/ArrayList", name := "isEmpty", desc := "()Z" } : Jvm.MethodName) prog_66_method_9_code (1 : Nat) (Option.some Jvm.ClassFile.FieldType.boolean)) ∈ lw_all := lw_g (lw_at lw_m13 74 rfl) rfl
theorem q3118 : (Jvm.Cond.methodLink "FollowingRefs" (450 : Nat) ({ cls := "FollowingRefs", name := "drawsOne", desc := "()Z" } : Jvm.MethodName)) ∈ lw_all := lw_g (lw_at lw_m13 75 rfl) rfl
theorem q3120 : (Jvm.Cond.instanceMethod ({ cls := "FollowingRefs", name := "drawsOne", desc := "()Z" } : Jvm.MethodName)) ∈ lw_all := lw_g (lw_at lw_m13 77 rfl) rfl
theorem q3121 : (Jvm.Cond.code ({ cls := "FollowingRefs", name := "drawsOne", desc := "()Z" } : Jvm.MethodName) prog_1_method_48_code (3 : Nat) (Option.some Jvm.ClassFile.FieldType.boolean)) ∈ lw_all := lw_g (lw_at lw_m13 78 rfl) rfl
theorem q3122 : (Jvm.Cond.methodLink "FollowingRefs" (421 : Nat) ({ cls := "FollowingRefs", name := "draw", desc := "(I)I" } : Jvm.MethodName)) ∈ lw_all := lw_g (lw_at lw_m13 79 rfl) rfl
theorem q3124 : (Jvm.Cond.instanceMethod ({ cls := "FollowingRefs", name := "draw", desc := "(I)I" } : Jvm.MethodName)) ∈ lw_all := lw_g (lw_at lw_m13 81 rfl) rfl
theorem q3125 : (Jvm.Cond.code ({ cls := "FollowingRefs", name := "draw", desc := "(I)I" } : Jvm.MethodName) prog_1_method_45_code (2 : Nat) (Option.some Jvm.ClassFile.FieldType.int)) ∈ lw_all := lw_g (lw_at lw_m13 82 rfl) rfl
theorem q3126 : (Jvm.Cond.constant "FollowingRefs" (409 : Nat) (1103515245 : Int32)) ∈ lw_all := lw_g (lw_at lw_m13 83 rfl) rfl
theorem q3127 : (Jvm.Cond.methodLink "FollowingRefs" (443 : Nat) ({ cls := "FollowingRefs", name := "drawsStatement", desc := "(II)LFollowingRefs$Statement;" } : Jvm.MethodName)) ∈ lw_all := lw_g (lw_at lw_m13 84 rfl) rfl
theorem q3129 : (Jvm.Cond.instanceMethod ({ cls := "FollowingRefs", name := "drawsStatement", desc := "(II)LFollowingRefs$Statement;" } : Jvm.MethodName)) ∈ lw_all := lw_g (lw_at lw_m13 86 rfl) rfl
theorem q3130 : (Jvm.Cond.code ({ cls := "FollowingRefs", name := "drawsStatement", desc := "(II)LFollowingRefs$Statement;" } : Jvm.MethodName) prog_1_method_47_code (6 : Nat) (Option.some (Jvm.ClassFile.FieldType.object "FollowingRefs$Statement"))) ∈ lw_all := lw_g (lw_at lw_m13 87 rfl) rfl
theorem q3131 : (Jvm.Cond.methodLink "FollowingRefs" (415 : Nat) ({ cls := "java/util/Arrays", name := "fill", desc := "([II)V" } : Jvm.MethodName)) ∈ lw_all := lw_g (lw_at lw_m13 88 rfl) rfl
theorem q3132 : (Jvm.Cond.classLink "FollowingRefs" (424 : Nat) "FollowingRefs$Inserts") ∈ lw_all := lw_g (lw_at lw_m13 89 rfl) rfl
theorem q3133 : (Jvm.Cond.methodLink "FollowingRefs" (426 : Nat) ({ cls := "FollowingRefs$Inserts", name := "<init>", desc := "(I[I)V" } : Jvm.MethodName)) ∈ lw_all := lw_g (lw_at lw_m13 90 rfl) rfl
theorem q3134 : (Jvm.Cond.classLink "FollowingRefs" (429 : Nat) "FollowingRefs$Deletes") ∈ lw_all := lw_g (lw_at lw_m13 91 rfl) rfl
theorem q3135 : (Jvm.Cond.methodLink "FollowingRefs" (431 : Nat) ({ cls := "FollowingRefs", name := "one", desc := "(II)Ljava/util/ArrayList;" } : Jvm.MethodName)) ∈ lw_all := lw_g (lw_at lw_m13 92 rfl) rfl
theorem q3136 : (Jvm.Cond.static ({ cls := "FollowingRefs", name := "one", desc := "(II)Ljava/util/ArrayList;" } : Jvm.MethodName)) ∈ lw_all := lw_g (lw_at lw_m13 93 rfl) rfl
theorem q3137 : (Jvm.Cond.code ({ cls := "FollowingRefs", name := "one", desc := "(II)Ljava/util/ArrayList;" } : Jvm.MethodName) prog_1_method_46_code (3 : Nat) (Option.some (Jvm.ClassFile.FieldType.object "java/util/ArrayList"))) ∈ lw_all := lw_g (lw_at lw_m13 94 rfl) rfl
theorem q3138 : (Jvm.Cond.classLink "FollowingRefs" (410 : Nat) "FollowingRefs$When") ∈ lw_all := lw_g (lw_at lw_m13 95 rfl) rfl
theorem q3139 : (Jvm.Cond.methodLink "FollowingRefs" (412 : Nat) ({ cls := "FollowingRefs$When", name := "<init>", desc := "(III)V" } : Jvm.MethodName)) ∈ lw_all := lw_g (lw_at lw_m13 96 rfl) rfl
theorem q3140 : (Jvm.Cond.methodLink "FollowingRefs" (435 : Nat) ({ cls := "FollowingRefs$Deletes", name := "<init>", desc := "(ILjava/util/ArrayList;)V" } : Jvm.MethodName)) ∈ lw_all := lw_g (lw_at lw_m13 97 rfl) rfl
theorem q3141 : (Jvm.Cond.classLink "FollowingRefs" (438 : Nat) "FollowingRefs$Sets") ∈ lw_all := lw_g (lw_at lw_m13 98 rfl) rfl
theorem q3142 : (Jvm.Cond.methodLink "FollowingRefs" (440 : Nat) ({ cls := "FollowingRefs$Sets", name := "<init>", desc := "(I[I[ILjava/util/ArrayList;)V" } : Jvm.MethodName)) ∈ lw_all := lw_g (lw_at lw_m13 99 rfl) rfl
theorem q3143 : (Jvm.Cond.methodLink "FollowingRefsLaw" (154 : Nat) ({ cls := "FollowingRefs", name := "book", desc := "(I)I" } : Jvm.MethodName)) ∈ lw_all := lw_g (lw_at lw_m13 100 rfl) rfl
theorem q3144 : (Jvm.Cond.instanceMethod ({ cls := "FollowingRefs", name := "book", desc := "(I)I" } : Jvm.MethodName)) ∈ lw_all := lw_g (lw_at lw_m13 101 rfl) rfl
theorem q3145 : (Jvm.Cond.selects "FollowingRefs" ({ cls := "FollowingRefs", name := "book", desc := "(I)I" } : Jvm.MethodName) ({ cls := "FollowingRefs", name := "book", desc := "(I)I" } : Jvm.MethodName)) ∈ lw_all := lw_g (lw_at lw_m13 102 rfl) rfl
theorem q3146 : (Jvm.Cond.codeWith ({ cls := "FollowingRefs", name := "book", desc := "(I)I" } : Jvm.MethodName) prog_1_method_50_code (4 : Nat) (Option.some Jvm.ClassFile.FieldType.int) [((23 : Nat), (56 : Nat), (57 : Nat), (123 : Nat))]) ∈ lw_all := lw_g (lw_at lw_m13 103 rfl) rfl
theorem q3147 : (Jvm.Cond.classLink "FollowingRefs" (453 : Nat) "FollowingRefs$BookReader") ∈ lw_all := lw_g (lw_at lw_m13 104 rfl) rfl
theorem q3148 : (Jvm.Cond.instantiable "FollowingRefs$BookReader" (11 : Nat)) ∈ lw_all := lw_g (lw_at lw_m13 105 rfl) rfl
theorem q3149 : (Jvm.Cond.methodLink "FollowingRefs" (455 : Nat) ({ cls := "FollowingRefs$BookReader", name := "<init>", desc := "([BILFollowingRefs$Schema;)V" } : Jvm.MethodName)) ∈ lw_all := lw_g (lw_at lw_m13 106 rfl) rfl
theorem q3150 : (Jvm.Cond.instanceMethod ({ cls := "FollowingRefs$BookReader", name := "<init>", desc := "([BILFollowingRefs$Schema;)V" } : Jvm.MethodName)) ∈ lw_all := lw_g (lw_at lw_m13 107 rfl) rfl
theorem q3151 : (Jvm.Cond.code ({ cls := "FollowingRefs$BookReader", name := "<init>", desc := "([BILFollowingRefs$Schema;)V" } : Jvm.MethodName) prog_3_method_1_code (4 : Nat) (Option.none : Option Jvm.ClassFile.FieldType)) ∈ lw_all := lw_g (lw_at lw_m13 108 rfl) rfl
theorem q3152 : (Jvm.Cond.methodLink "FollowingRefs$BookReader" (3 : Nat) ({ cls := "FollowingRefs$Reader", name := "<init>", desc := "([BIILFollowingRefs$Schema;)V" } : Jvm.MethodName)) ∈ lw_all := lw_g (lw_at lw_m13 109 rfl) rfl
theorem q3153 : (Jvm.Cond.classLink "FollowingRefs$BookReader" (9 : Nat) "java/util/ArrayList") ∈ lw_all := lw_g (lw_at lw_m13 110 rfl) rfl
theorem q3154 : (Jvm.Cond.methodLink "FollowingRefs$BookReader" (11 : Nat) ({ cls := "java/util/ArrayList", name := "<init>", desc := "()V" } : Jvm.MethodName)) ∈ lw_all := lw_g (lw_at lw_m13 111 rfl) rfl
theorem q3155 : (Jvm.Cond.fieldLink "FollowingRefs$BookReader" (14 : Nat) "FollowingRefs$BookReader" "acts" "Ljava/util/ArrayList;") ∈ lw_all := lw_g (lw_at lw_m13 112 rfl) rfl
theorem q3156 : (Jvm.Cond.laysFinal "FollowingRefs$BookReader" "FollowingRefs$BookReader" "acts" "Ljava/util/ArrayList;") ∈ lw_all := lw_g (lw_at lw_m13 113 rfl) rfl
theorem q3158 : (Jvm.Cond.laysFinal "FollowingRefs$BookReader" "FollowingRefs$Reader" "tape" "[B") ∈ lw_all := lw_g (lw_at lw_m13 115 rfl) rfl
theorem q3159 : (Jvm.Cond.laysFinal "FollowingRefs$BookReader" "FollowingRefs$Reader" "size" "I") ∈ lw_all := lw_g (lw_at lw_m13 116 rfl) rfl
theorem q3160 : (Jvm.Cond.laysFinal "FollowingRefs$BookReader" "FollowingRefs$Reader" "limit" "I") ∈ lw_all := lw_g (lw_at lw_m13 117 rfl) rfl
theorem q3161 : (Jvm.Cond.lays "FollowingRefs$BookReader" "FollowingRefs$Reader" "to" "I") ∈ lw_all := lw_g (lw_at lw_m13 118 rfl) rfl
theorem q3162 : (Jvm.Cond.laysFinal "FollowingRefs$BookReader" "FollowingRefs$Reader" "s" "LFollowingRefs$Schema;") ∈ lw_all := lw_g (lw_at lw_m13 119 rfl) rfl
theorem q3163 : (Jvm.Cond.lays "FollowingRefs$BookReader" "FollowingRefs$Reader" "kind" "I") ∈ lw_all := lw_g (lw_at lw_m13 120 rfl) rfl
theorem q3164 : (Jvm.Cond.lays "FollowingRefs$BookReader" "FollowingRefs$Reader" "from" "I") ∈ lw_all := lw_g (lw_at lw_m13 121 rfl) rfl
theorem q3165 : (Jvm.Cond.lays "FollowingRefs$BookReader" "FollowingRefs$Reader" "number" "I") ∈ lw_all := lw_g (lw_at lw_m13 122 rfl) rfl
theorem q3166 : (Jvm.Cond.lays "FollowingRefs$BookReader" "FollowingRefs$Reader" "sign" "I") ∈ lw_all := lw_g (lw_at lw_m13 123 rfl) rfl
theorem q3167 : (Jvm.Cond.lays "FollowingRefs$BookReader" "FollowingRefs$Reader" "word" "Ljava/lang/String;") ∈ lw_all := lw_g (lw_at lw_m13 124 rfl) rfl
theorem q3169 : (Jvm.Cond.methodLink "FollowingRefs" (456 : Nat) ({ cls := "FollowingRefs$BookReader", name := "read", desc := "()Ljava/util/ArrayList;" } : Jvm.MethodName)) ∈ lw_all := lw_g (lw_at lw_m13 126 rfl) rfl
theorem q3170 : (Jvm.Cond.instanceMethod ({ cls := "FollowingRefs$BookReader", name := "read", desc := "()Ljava/util/ArrayList;" } : Jvm.MethodName)) ∈ lw_all := lw_g (lw_at lw_m13 127 rfl) rfl
theorem q3171 : (Jvm.Cond.selects "FollowingRefs$BookReader" ({ cls := "FollowingRefs$BookReader", name := "read", desc := "()Ljava/util/ArrayList;" } : Jvm.MethodName) ({ cls := "FollowingRefs$BookReader", name := "read", desc := "()Ljava/util/ArrayList;" } : Jvm.MethodName)) ∈ lw_all := lw_g (lw_at lw_m13 128 rfl) rfl
theorem q3172 : (Jvm.Cond.code ({ cls := "FollowingRefs$BookReader", name := "read", desc := "()Ljava/util/ArrayList;" } : Jvm.MethodName) prog_3_method_2_code (1 : Nat) (Option.some (Jvm.ClassFile.FieldType.object "java/util/ArrayList"))) ∈ lw_all := lw_g (lw_at lw_m13 129 rfl) rfl
theorem q3173 : (Jvm.Cond.methodLink "FollowingRefs$BookReader" (20 : Nat) ({ cls := "FollowingRefs$BookReader", name := "go", desc := "()V" } : Jvm.MethodName)) ∈ lw_all := lw_g (lw_at lw_m13 130 rfl) rfl
theorem q3174 : (Jvm.Cond.sameMethod "FollowingRefs$BookReader" "FollowingRefs$Reader" "go" "()V") ∈ lw_all := lw_g (lw_at lw_m13 131 rfl) rfl
theorem q3175 : (Jvm.Cond.selects "FollowingRefs$BookReader" ({ cls := "FollowingRefs$BookReader", name := "go", desc := "()V" } : Jvm.MethodName) ({ cls := "FollowingRefs$Reader", name := "go", desc := "()V" } : Jvm.MethodName)) ∈ lw_all := lw_g (lw_at lw_m13 132 rfl) rfl
theorem q3176 : (Jvm.Cond.methodLink "FollowingRefs$BookReader" (27 : Nat) ({ cls := "FollowingRefs$BookReader", name := "act", desc := "()LFollowingRefs$Act;" } : Jvm.MethodName)) ∈ lw_all := lw_g (lw_at lw_m13 133 rfl) rfl
theorem q3178 : (Jvm.Cond.instanceMethod ({ cls := "FollowingRefs$BookReader", name := "act", desc := "()LFollowingRefs$Act;" } : Jvm.MethodName)) ∈ lw_all := lw_g (lw_at lw_m13 135 rfl) rfl
theorem q3179 : (Jvm.Cond.code ({ cls := "FollowingRefs$BookReader", name := "act", desc := "()LFollowingRefs$Act;" } : Jvm.MethodName) prog_3_method_3_code (2 : Nat) (Option.some (Jvm.ClassFile.FieldType.object "FollowingRefs$Act"))) ∈ lw_all := lw_g (lw_at lw_m13 136 rfl) rfl
theorem q3181 : (Jvm.Cond.methodLink "FollowingRefs$BookReader" (40 : Nat) ({ cls := "FollowingRefs$BookReader", name := "is", desc := "(Ljava/lang/String;)Z" } : Jvm.MethodName)) ∈ lw_all := lw_g (lw_at lw_m13 138 rfl) rfl
theorem q3182 : (Jvm.Cond.sameMethod "FollowingRefs$BookReader" "FollowingRefs$Reader" "is" "(Ljava/lang/String;)Z") ∈ lw_all := lw_g (lw_at lw_m13 139 rfl) rfl
theorem q3183 : (Jvm.Cond.selects "FollowingRefs$BookReader" ({ cls := "FollowingRefs$BookReader", name := "is", desc := "(Ljava/lang/String;)Z" } : Jvm.MethodName) ({ cls := "FollowingRefs$Reader", name := "is", desc := "(Ljava/lang/String;)Z" } : Jvm.MethodName)) ∈ lw_all := lw_g (lw_at lw_m13 140 rfl) rfl
theorem q3186 : (Jvm.Cond.methodLink "FollowingRefs$BookReader" (48 : Nat) ({ cls := "FollowingRefs$BookReader", name := "isStatement", desc := "()Z" } : Jvm.MethodName)) ∈ lw_all := lw_g (lw_at lw_m13 143 rfl) rfl
theorem q3187 : (Jvm.Cond.sameMethod "FollowingRefs$BookReader" "FollowingRefs$Reader" "isStatement" "()Z") ∈ lw_all := lw_g (lw_at lw_m13 144 rfl) rfl
theorem q3188 : (Jvm.Cond.selects "FollowingRefs$BookReader" ({ cls := "FollowingRefs$BookReader", name := "isStatement", desc := "()Z" } : Jvm.MethodName) ({ cls := "FollowingRefs$Reader", name := "isStatement", desc := "()Z" } : Jvm.MethodName)) ∈ lw_all := lw_g (lw_at lw_m13 145 rfl) rfl
theorem q3189 : (Jvm.Cond.methodLink "FollowingRefs$BookReader" (52 : Nat) ({ cls := "FollowingRefs$BookReader", name := "need", desc := "(ZI)V" } : Jvm.MethodName)) ∈ lw_all := lw_g (lw_at lw_m13 146 rfl) rfl
theorem q3190 : (Jvm.Cond.sameMethod "FollowingRefs$BookReader" "FollowingRefs$Reader" "need" "(ZI)V") ∈ lw_all := lw_g (lw_at lw_m13 147 rfl) rfl
theorem q3191 : (Jvm.Cond.selects "FollowingRefs$BookReader" ({ cls := "FollowingRefs$BookReader", name := "need", desc := "(ZI)V" } : Jvm.MethodName) ({ cls := "FollowingRefs$Reader", name := "need", desc := "(ZI)V" } : Jvm.MethodName)) ∈ lw_all := lw_g (lw_at lw_m13 148 rfl) rfl
theorem q3192 : (Jvm.Cond.methodLink "FollowingRefs$BookReader" (56 : Nat) ({ cls := "java/util/ArrayList", name := "size", desc := "()I" } : Jvm.MethodName)) ∈ lw_all := lw_g (lw_at lw_m13 149 rfl) rfl
theorem q3193 : (Jvm.Cond.classLink "FollowingRefs$BookReader" (60 : Nat) "FollowingRefs$States") ∈ lw_all := lw_g (lw_at lw_m13 150 rfl) rfl
theorem q3194 : (Jvm.Cond.instantiable "FollowingRefs$States" (1 : Nat)) ∈ lw_all := lw_g (lw_at lw_m13 151 rfl) rfl
theorem q3195 : (Jvm.Cond.methodLink "FollowingRefs$BookReader" (62 : Nat) ({ cls := "FollowingRefs$BookReader", name := "statement", desc := "()LFollowingRefs$Statement;" } : Jvm.MethodName)) ∈ lw_all := lw_g (lw_at lw_m13 152 rfl) rfl
theorem q3196 : (Jvm.Cond.sameMethod "FollowingRefs$BookReader" "FollowingRefs$Reader" "statement" "()LFollowingRefs$Statement;") ∈ lw_all := lw_g (lw_at lw_m13 153 rfl) rfl
theorem q3197 : (Jvm.Cond.selects "FollowingRefs$BookReader" ({ cls := "FollowingRefs$BookReader", name := "statement", desc := "()LFollowingRefs$Statement;" } : Jvm.MethodName) ({ cls := "FollowingRefs$Reader", name := "statement", desc := "()LFollowingRefs$Statement;" } : Jvm.MethodName)) ∈ lw_all := lw_g (lw_at lw_m13 154 rfl) rfl
theorem q3198 : (Jvm.Cond.methodLink "FollowingRefs$BookReader" (66 : Nat) ({ cls := "FollowingRefs$States", name := "<init>", desc := "(LFollowingRefs$Statement;)V" } : Jvm.MethodName)) ∈ lw_all := lw_g (lw_at lw_m13 155 rfl) rfl
theorem q3199 : (Jvm.Cond.instanceMethod ({ cls := "FollowingRefs$States", name := "<init>", desc := "(LFollowingRefs$Statement;)V" } : Jvm.MethodName)) ∈ lw_all := lw_g (lw_at lw_m13 156 rfl) rfl
theorem q3200 : (Jvm.Cond.code ({ cls := "FollowingRefs$States", name := "<init>", desc := "(LFollowingRefs$Statement;)V" } : Jvm.MethodName) prog_25_method_1_code (2 : Nat) (Option.none : Option Jvm.ClassFile.FieldType)) ∈ lw_all := lw_g (lw_at lw_m13 157 rfl) rfl
theorem q3201 : (Jvm.Cond.methodLinkNest "FollowingRefs$States" (1 : Nat) ({ cls := "FollowingRefs$Act", name := "<init>", desc := "()V" } : Jvm.MethodName) "FollowingRefs") ∈ lw_tbl := lw_at lw_m13 158 rfl
theorem q3202 : (Jvm.Cond.fieldLink "FollowingRefs$States" (7 : Nat) "FollowingRefs$States" "s" "LFollowingRefs$Statement;") ∈ lw_all := lw_g (lw_at lw_m13 159 rfl) rfl
theorem q3203 : (Jvm.Cond.laysFinal "FollowingRefs$States" "FollowingRefs$States" "s" "LFollowingRefs$Statement;") ∈ lw_all := lw_g (lw_at lw_m13 160 rfl) rfl
theorem q3206 : (Jvm.Cond.classLink "FollowingRefs$BookReader" (69 : Nat) "FollowingRefs$Turns") ∈ lw_all := lw_g (lw_at lw_m13 163 rfl) rfl
theorem q3207 : (Jvm.Cond.methodLink "FollowingRefs$BookReader" (71 : Nat) ({ cls := "FollowingRefs$Turns", name := "<init>", desc := "(I)V" } : Jvm.MethodName)) ∈ lw_all := lw_g (lw_at lw_m13 164 rfl) rfl
theorem q3208 : (Jvm.Cond.methodLink "FollowingRefs$BookReader" (31 : Nat) ({ cls := "java/util/ArrayList", name := "add", desc := "(Ljava/lang/Object;)Z" } : Jvm.MethodName)) ∈ lw_all := lw_g (lw_at lw_m13 165 rfl) rfl
theorem q3209 : (Jvm.Cond.methodLink "FollowingRefs$BookReader" (35 : Nat) ({ cls := "FollowingRefs$BookReader", name := "end", desc := "()V" } : Jvm.MethodName)) ∈ lw_all := lw_g (lw_at lw_m13 166 rfl) rfl
theorem q3210 : (Jvm.Cond.sameMethod "FollowingRefs$BookReader" "FollowingRefs$Reader" "end" "()V") ∈ lw_all := lw_g (lw_at lw_m13 167 rfl) rfl
theorem q3211 : (Jvm.Cond.selects "FollowingRefs$BookReader" ({ cls := "FollowingRefs$BookReader", name := "end", desc := "()V" } : Jvm.MethodName) ({ cls := "FollowingRefs$Reader", name := "end", desc := "()V" } : Jvm.MethodName)) ∈ lw_all := lw_g (lw_at lw_m13 168 rfl) rfl
theorem q3212 : (Jvm.Cond.methodLink "FollowingRefs" (459 : Nat) ({ cls := "FollowingRefs", name := "lived", desc := "(Ljava/util/ArrayList;Z)I" } : Jvm.MethodName)) ∈ lw_all := lw_g (lw_at lw_m13 169 rfl) rfl
theorem q3214 : (Jvm.Cond.instanceMethod ({ cls := "FollowingRefs", name := "lived", desc := "(Ljava/util/ArrayList;Z)I" } : Jvm.MethodName)) ∈ lw_all := lw_g (lw_at lw_m13 171 rfl) rfl
theorem q3215 : (Jvm.Cond.code ({ cls := "FollowingRefs", name := "lived", desc := "(Ljava/util/ArrayList;Z)I" } : Jvm.MethodName) prog_1_method_51_code (5 : Nat) (Option.some Jvm.ClassFile.FieldType.int)) ∈ lw_all := lw_g (lw_at lw_m13 172 rfl) rfl
theorem q3216 : (Jvm.Cond.classLink "FollowingRefs" (463 : Nat) "FollowingRefs$Act") ∈ lw_all := lw_g (lw_at lw_m13 173 rfl) rfl
theorem q3217 : (Jvm.Cond.methodLink "FollowingRefs" (465 : Nat) ({ cls := "FollowingRefs$Act", name := "does", desc := "(LFollowingRefs$Store;LFollowingRefs$Plan;)I" } : Jvm.MethodName)) ∈ lw_all := lw_g (lw_at lw_m13 174 rfl) rfl
theorem q3218 : (Jvm.Cond.declares ({ cls := "FollowingRefs$Act", name := "does", desc := "(LFollowingRefs$Store;LFollowingRefs$Plan;)I" } : Jvm.MethodName)) ∈ lw_tbl := lw_at lw_m13 175 rfl
theorem q3219 : (Jvm.Cond.sameMethod "FollowingRefs$Act" "FollowingRefs$Act" "does" "(LFollowingRefs$Store;LFollowingRefs$Plan;)I") ∈ lw_all := lw_g (lw_at lw_m13 176 rfl) rfl
theorem q3220 : (Jvm.Cond.selects "FollowingRefs$States" ({ cls := "FollowingRefs$Act", name := "does", desc := "(LFollowingRefs$Store;LFollowingRefs$Plan;)I" } : Jvm.MethodName) ({ cls := "FollowingRefs$States", name := "does", desc := "(LFollowingRefs$Store;LFollowingRefs$Plan;)I" } : Jvm.MethodName)) ∈ lw_all := lw_g (lw_at lw_m13 177 rfl) rfl
theorem q3221 : (Jvm.Cond.instanceMethod ({ cls := "FollowingRefs$States", name := "does", desc := "(LFollowingRefs$Store;LFollowingRefs$Plan;)I" } : Jvm.MethodName)) ∈ lw_all := lw_g (lw_at lw_m13 178 rfl) rfl
theorem q3222 : (Jvm.Cond.code ({ cls := "FollowingRefs$States", name := "does", desc := "(LFollowingRefs$Store;LFollowingRefs$Plan;)I" } : Jvm.MethodName) prog_25_method_2_code (3 : Nat) (Option.some Jvm.ClassFile.FieldType.int)) ∈ lw_all := lw_g (lw_at lw_m13 179 rfl) rfl
theorem q3223 : (Jvm.Cond.methodLink "FollowingRefs$States" (13 : Nat) ({ cls := "FollowingRefs$Statement", name := "does", desc := "(LFollowingRefs$Store;LFollowingRefs$Plan;)LFollowingRefs$Verdict;" } : Jvm.MethodName)) ∈ lw_all := lw_g (lw_at lw_m13 180 rfl) rfl
theorem q3224 : (Jvm.Cond.selects "FollowingRefs$Turns" ({ cls := "FollowingRefs$Act", name := "does", desc := "(LFollowingRefs$Store;LFollowingRefs$Plan;)I" } : Jvm.MethodName) ({ cls := "FollowingRefs$Turns", name := "does", desc := "(LFollowingRefs$Store;LFollowingRefs$Plan;)I" } : Jvm.MethodName)) ∈ lw_all := lw_g (lw_at lw_m13 181 rfl) rfl
theorem q3225 : (Jvm.Cond.methodLink "FollowingRefsLaw" (158 : Nat) ({ cls := "FollowingRefs", name := "told", desc := "(I)I" } : Jvm.MethodName)) ∈ lw_all := lw_g (lw_at lw_m13 182 rfl) rfl
theorem q3226 : (Jvm.Cond.instanceMethod ({ cls := "FollowingRefs", name := "told", desc := "(I)I" } : Jvm.MethodName)) ∈ lw_all := lw_g (lw_at lw_m13 183 rfl) rfl
theorem q3227 : (Jvm.Cond.selects "FollowingRefs" ({ cls := "FollowingRefs", name := "told", desc := "(I)I" } : Jvm.MethodName) ({ cls := "FollowingRefs", name := "told", desc := "(I)I" } : Jvm.MethodName)) ∈ lw_all := lw_g (lw_at lw_m13 184 rfl) rfl
theorem q3228 : (Jvm.Cond.code ({ cls := "FollowingRefs", name := "told", desc := "(I)I" } : Jvm.MethodName) prog_1_method_52_code (2 : Nat) (Option.some Jvm.ClassFile.FieldType.int)) ∈ lw_all := lw_g (lw_at lw_m13 185 rfl) rfl
theorem q3229 : (Jvm.Cond.methodLink "FollowingRefsLaw" (162 : Nat) ({ cls := "FollowingRefs", name := "sentence", desc := "()I" } : Jvm.MethodName)) ∈ lw_all := lw_g (lw_at lw_m13 186 rfl) rfl
theorem q3230 : (Jvm.Cond.instanceMethod ({ cls := "FollowingRefs", name := "sentence", desc := "()I" } : Jvm.MethodName)) ∈ lw_all := lw_g (lw_at lw_m13 187 rfl) rfl
theorem q3231 : (Jvm.Cond.selects "FollowingRefs" ({ cls := "FollowingRefs", name := "sentence", desc := "()I" } : Jvm.MethodName) ({ cls := "FollowingRefs", name := "sentence", desc := "()I" } : Jvm.MethodName)) ∈ lw_all := lw_g (lw_at lw_m13 188 rfl) rfl
theorem q3232 : (Jvm.Cond.codeWith ({ cls := "FollowingRefs", name := "sentence", desc := "()I" } : Jvm.MethodName) prog_1_method_53_code (3 : Nat) (Option.some Jvm.ClassFile.FieldType.int) [((10 : Nat), (39 : Nat), (40 : Nat), (123 : Nat))]) ∈ lw_all := lw_g (lw_at lw_m13 189 rfl) rfl
theorem q3233 : (Jvm.Cond.classLink "FollowingRefs" (466 : Nat) "FollowingRefs$SentenceReader") ∈ lw_all := lw_g (lw_at lw_m13 190 rfl) rfl
theorem q3234 : (Jvm.Cond.instantiable "FollowingRefs$SentenceReader" (12 : Nat)) ∈ lw_all := lw_g (lw_at lw_m13 191 rfl) rfl
theorem q3235 : (Jvm.Cond.methodLink "FollowingRefs" (468 : Nat) ({ cls := "FollowingRefs$SentenceReader", name := "<init>", desc := "([BILFollowingRefs$Schema;)V" } : Jvm.MethodName)) ∈ lw_all := lw_g (lw_at lw_m13 192 rfl) rfl
theorem q3236 : (Jvm.Cond.instanceMethod ({ cls := "FollowingRefs$SentenceReader", name := "<init>", desc := "([BILFollowingRefs$Schema;)V" } : Jvm.MethodName)) ∈ lw_all := lw_g (lw_at lw_m13 193 rfl) rfl
theorem q3237 : (Jvm.Cond.code ({ cls := "FollowingRefs$SentenceReader", name := "<init>", desc := "([BILFollowingRefs$Schema;)V" } : Jvm.MethodName) prog_21_method_1_code (4 : Nat) (Option.none : Option Jvm.ClassFile.FieldType)) ∈ lw_all := lw_g (lw_at lw_m13 194 rfl) rfl
theorem q3238 : (Jvm.Cond.methodLink "FollowingRefs$SentenceReader" (3 : Nat) ({ cls := "FollowingRefs$Reader", name := "<init>", desc := "([BIILFollowingRefs$Schema;)V" } : Jvm.MethodName)) ∈ lw_all := lw_g (lw_at lw_m13 195 rfl) rfl
theorem q3239 : (Jvm.Cond.fieldLink "FollowingRefs$SentenceReader" (101 : Nat) "FollowingRefs$SentenceReader" "ones" "I") ∈ lw_all := lw_g (lw_at lw_m13 196 rfl) rfl
theorem q3240 : (Jvm.Cond.fieldLinkNest "FollowingRefs" (472 : Nat) "FollowingRefs$SentenceReader" "ones" "I" "FollowingRefs") ∈ lw_tbl := lw_at lw_m13 197 rfl
theorem q3241 : (Jvm.Cond.fieldLink "FollowingRefs$SentenceReader" (104 : Nat) "FollowingRefs$SentenceReader" "within" "I") ∈ lw_all := lw_g (lw_at lw_m13 198 rfl) rfl
theorem q3242 : (Jvm.Cond.lays "FollowingRefs$SentenceReader" "FollowingRefs$SentenceReader" "ones" "I") ∈ lw_all := lw_g (lw_at lw_m13 199 rfl) rfl
theorem q3244 : (Jvm.Cond.lays "FollowingRefs$SentenceReader" "FollowingRefs$SentenceReader" "within" "I") ∈ lw_all := lw_g (lw_at lw_m13 201 rfl) rfl
theorem q3246 : (Jvm.Cond.laysFinal "FollowingRefs$SentenceReader" "FollowingRefs$Reader" "tape" "[B") ∈ lw_all := lw_g (lw_at lw_m13 203 rfl) rfl
theorem q3247 : (Jvm.Cond.laysFinal "FollowingRefs$SentenceReader" "FollowingRefs$Reader" "size" "I") ∈ lw_all := lw_g (lw_at lw_m13 204 rfl) rfl
theorem q3248 : (Jvm.Cond.laysFinal "FollowingRefs$SentenceReader" "FollowingRefs$Reader" "limit" "I") ∈ lw_all := lw_g (lw_at lw_m13 205 rfl) rfl
theorem q3249 : (Jvm.Cond.lays "FollowingRefs$SentenceReader" "FollowingRefs$Reader" "to" "I") ∈ lw_all := lw_g (lw_at lw_m13 206 rfl) rfl
theorem q3250 : (Jvm.Cond.laysFinal "FollowingRefs$SentenceReader" "FollowingRefs$Reader" "s" "LFollowingRefs$Schema;") ∈ lw_all := lw_g (lw_at lw_m13 207 rfl) rfl
theorem q3251 : (Jvm.Cond.lays "FollowingRefs$SentenceReader" "FollowingRefs$Reader" "kind" "I") ∈ lw_all := lw_g (lw_at lw_m13 208 rfl) rfl
theorem q3252 : (Jvm.Cond.lays "FollowingRefs$SentenceReader" "FollowingRefs$Reader" "from" "I") ∈ lw_all := lw_g (lw_at lw_m13 209 rfl) rfl
theorem q3253 : (Jvm.Cond.lays "FollowingRefs$SentenceReader" "FollowingRefs$Reader" "number" "I") ∈ lw_all := lw_g (lw_at lw_m13 210 rfl) rfl
theorem q3254 : (Jvm.Cond.lays "FollowingRefs$SentenceReader" "FollowingRefs$Reader" "sign" "I") ∈ lw_all := lw_g (lw_at lw_m13 211 rfl) rfl
theorem q3255 : (Jvm.Cond.lays "FollowingRefs$SentenceReader" "FollowingRefs$Reader" "word" "Ljava/lang/String;") ∈ lw_all := lw_g (lw_at lw_m13 212 rfl) rfl
theorem q3257 : (Jvm.Cond.methodLink "FollowingRefs" (469 : Nat) ({ cls := "FollowingRefs$SentenceReader", name := "read", desc := "()LFollowingRefs$Cond;" } : Jvm.MethodName)) ∈ lw_all := lw_g (lw_at lw_m13 214 rfl) rfl
theorem q3258 : (Jvm.Cond.instanceMethod ({ cls := "FollowingRefs$SentenceReader", name := "read", desc := "()LFollowingRefs$Cond;" } : Jvm.MethodName)) ∈ lw_all := lw_g (lw_at lw_m13 215 rfl) rfl
theorem q3259 : (Jvm.Cond.selects "FollowingRefs$SentenceReader" ({ cls := "FollowingRefs$SentenceReader", name := "read", desc := "()LFollowingRefs$Cond;" } : Jvm.MethodName) ({ cls := "FollowingRefs$SentenceReader", name := "read", desc := "()LFollowingRefs$Cond;" } : Jvm.MethodName)) ∈ lw_all := lw_g (lw_at lw_m13 216 rfl) rfl
theorem q3260 : (Jvm.Cond.code ({ cls := "FollowingRefs$SentenceReader", name := "read", desc := "()LFollowingRefs$Cond;" } : Jvm.MethodName) prog_21_method_2_code (2 : Nat) (Option.some (Jvm.ClassFile.FieldType.object "FollowingRefs$Cond"))) ∈ lw_all := lw_g (lw_at lw_m13 217 rfl) rfl
theorem q3261 : (Jvm.Cond.methodLink "FollowingRefs$SentenceReader" (9 : Nat) ({ cls := "FollowingRefs$SentenceReader", name := "go", desc := "()V" } : Jvm.MethodName)) ∈ lw_all := lw_g (lw_at lw_m13 218 rfl) rfl
theorem q3262 : (Jvm.Cond.sameMethod "FollowingRefs$SentenceReader" "FollowingRefs$Reader" "go" "()V") ∈ lw_all := lw_g (lw_at lw_m13 219 rfl) rfl
theorem q3263 : (Jvm.Cond.selects "FollowingRefs$SentenceReader" ({ cls := "FollowingRefs$SentenceReader", name := "go", desc := "()V" } : Jvm.MethodName) ({ cls := "FollowingRefs$Reader", name := "go", desc := "()V" } : Jvm.MethodName)) ∈ lw_all := lw_g (lw_at lw_m13 220 rfl) rfl
theorem q3264 : (Jvm.Cond.methodLink "FollowingRefs$SentenceReader" (15 : Nat) ({ cls := "FollowingRefs$SentenceReader", name := "or", desc := "()LFollowingRefs$Cond;" } : Jvm.MethodName)) ∈ lw_all := lw_g (lw_at lw_m13 221 rfl) rfl
theorem q3266 : (Jvm.Cond.instanceMethod ({ cls := "FollowingRefs$SentenceReader", name := "or", desc := "()LFollowingRefs$Cond;" } : Jvm.MethodName)) ∈ lw_all := lw_g (lw_at lw_m13 223 rfl) rfl
theorem q3267 : (Jvm.Cond.code ({ cls := "FollowingRefs$SentenceReader", name := "or", desc := "()LFollowingRefs$Cond;" } : Jvm.MethodName) prog_21_method_3_code (2 : Nat) (Option.some (Jvm.ClassFile.FieldType.object "FollowingRefs$Cond"))) ∈ lw_all := lw_g (lw_at lw_m13 224 rfl) rfl
theorem q3268 : (Jvm.Cond.methodLink "FollowingRefs$SentenceReader" (27 : Nat) ({ cls := "FollowingRefs$SentenceReader", name := "and", desc := "()LFollowingRefs$Cond;" } : Jvm.MethodName)) ∈ lw_all := lw_g (lw_at lw_m13 225 rfl) rfl
theorem q3270 : (Jvm.Cond.instanceMethod ({ cls := "FollowingRefs$SentenceReader", name := "and", desc := "()LFollowingRefs$Cond;" } : Jvm.MethodName)) ∈ lw_all := lw_g (lw_at lw_m13 227 rfl) rfl
theorem q3271 : (Jvm.Cond.code ({ cls := "FollowingRefs$SentenceReader", name := "and", desc := "()LFollowingRefs$Cond;" } : Jvm.MethodName) prog_21_method_4_code (2 : Nat) (Option.some (Jvm.ClassFile.FieldType.object "FollowingRefs$Cond"))) ∈ lw_all := lw_g (lw_at lw_m13 228 rfl) rfl
theorem q3272 : (Jvm.Cond.methodLink "FollowingRefs$SentenceReader" (40 : Nat) ({ cls := "FollowingRefs$SentenceReader", name := "says", desc := "()LFollowingRefs$Cond;" } : Jvm.MethodName)) ∈ lw_all := lw_g (lw_at lw_m13 229 rfl) rfl
theorem q3274 : (Jvm.Cond.instanceMethod ({ cls := "FollowingRefs$SentenceReader", name := "says", desc := "()LFollowingRefs$Cond;" } : Jvm.MethodName)) ∈ lw_all := lw_g (lw_at lw_m13 231 rfl) rfl
theorem q3275 : (Jvm.Cond.code ({ cls := "FollowingRefs$SentenceReader", name := "says", desc := "()LFollowingRefs$Cond;" } : Jvm.MethodName) prog_21_method_6_code (7 : Nat) (Option.some (Jvm.ClassFile.FieldType.object "FollowingRefs$Cond"))) ∈ lw_all := lw_g (lw_at lw_m13 232 rfl) rfl
theorem q3277 : (Jvm.Cond.methodLink "FollowingRefs$SentenceReader" (31 : Nat) ({ cls := "FollowingRefs$SentenceReader", name := "is", desc := "(Ljava/lang/String;)Z" } : Jvm.MethodName)) ∈ lw_all := lw_g (lw_at lw_m13 234 rfl) rfl
theorem q3278 : (Jvm.Cond.sameMethod "FollowingRefs$SentenceReader" "FollowingRefs$Reader" "is" "(Ljava/lang/String;)Z") ∈ lw_all := lw_g (lw_at lw_m13 235 rfl) rfl
theorem q3279 : (Jvm.Cond.selects "FollowingRefs$SentenceReader" ({ cls := "FollowingRefs$SentenceReader", name := "is", desc := "(Ljava/lang/String;)Z" } : Jvm.MethodName) ({ cls := "FollowingRefs$Reader", name := "is", desc := "(Ljava/lang/String;)Z" } : Jvm.MethodName)) ∈ lw_all := lw_g (lw_at lw_m13 236 rfl) rfl
theorem q3285 : (Jvm.Cond.methodLink "FollowingRefs$SentenceReader" (95 : Nat) ({ cls := "FollowingRefs$SentenceReader", name := "isName", desc := "()Z" } : Jvm.MethodName)) ∈ lw_all := lw_g (lw_at lw_m14 2 rfl) rfl
theorem q3286 : (Jvm.Cond.sameMethod "FollowingRefs$SentenceReader" "FollowingRefs$Reader" "isName" "()Z") ∈ lw_all := lw_g (lw_at lw_m14 3 rfl) rfl
theorem q3287 : (Jvm.Cond.selects "FollowingRefs$SentenceReader" ({ cls := "FollowingRefs$SentenceReader", name := "isName", desc := "()Z" } : Jvm.MethodName) ({ cls := "FollowingRefs$Reader", name := "isName", desc := "()Z" } : Jvm.MethodName)) ∈ lw_all := lw_g (lw_at lw_m14 4 rfl) rfl
theorem q3288 : (Jvm.Cond.methodLink "FollowingRefs$SentenceReader" (23 : Nat) ({ cls := "FollowingRefs$SentenceReader", name := "need", desc := "(ZI)V" } : Jvm.MethodName)) ∈ lw_all := lw_g (lw_at lw_m14 5 rfl) rfl
theorem q3289 : (Jvm.Cond.sameMethod "FollowingRefs$SentenceReader" "FollowingRefs$Reader" "need" "(ZI)V") ∈ lw_all := lw_g (lw_at lw_m14 6 rfl) rfl
theorem q3290 : (Jvm.Cond.selects "FollowingRefs$SentenceReader" ({ cls := "FollowingRefs$SentenceReader", name := "need", desc := "(ZI)V" } : Jvm.MethodName) ({ cls := "FollowingRefs$Reader", name := "need", desc := "(ZI)V" } : Jvm.MethodName)) ∈ lw_all := lw_g (lw_at lw_m14 7 rfl) rfl
theorem q3291 : (Jvm.Cond.methodLink "FollowingRefs$SentenceReader" (98 : Nat) ({ cls := "FollowingRefs$SentenceReader", name := "isAnyCol", desc := "()Z" } : Jvm.MethodName)) ∈ lw_all := lw_g (lw_at lw_m14 8 rfl) rfl
theorem q3293 : (Jvm.Cond.instanceMethod ({ cls := "FollowingRefs$SentenceReader", name := "isAnyCol", desc := "()Z" } : Jvm.MethodName)) ∈ lw_all := lw_g (lw_at lw_m14 10 rfl) rfl
theorem q3294 : (Jvm.Cond.code ({ cls := "FollowingRefs$SentenceReader", name := "isAnyCol", desc := "()Z" } : Jvm.MethodName) prog_21_method_5_code (3 : Nat) (Option.some Jvm.ClassFile.FieldType.boolean)) ∈ lw_all := lw_g (lw_at lw_m14 11 rfl) rfl
theorem q3295 : (Jvm.Cond.methodLink "FollowingRefs$SentenceReader" (54 : Nat) ({ cls := "java/util/ArrayList", name := "iterator", desc := "()Ljava/util/Iterator;" } : Jvm.MethodName)) ∈ lw_all := lw_g (lw_at lw_m14 12 rfl) rfl
theorem q3297 : (Jvm.Cond.methodLink "FollowingRefs$SentenceReader" (60 : Nat) ({ cls := "java/util/Iterator", name := "hasNext", desc := "()Z" } : Jvm.MethodName)) ∈ lw_all := lw_g (lw_at lw_m14 14 rfl) rfl
theorem q3299 : (Jvm.Cond.methodLink "FollowingRefs$SentenceReader" (66 : Nat) ({ cls := "java/util/Iterator", name := "next", desc := "()Ljava/lang/Object;" } : Jvm.MethodName)) ∈ lw_all := lw_g (lw_at lw_m14 16 rfl) rfl
theorem q3300 : (Jvm.Cond.classLink "FollowingRefs$SentenceReader" (70 : Nat) "FollowingRefs$Table") ∈ lw_all := lw_g (lw_at lw_m14 17 rfl) rfl
theorem q3301 : (Jvm.Cond.methodLink "FollowingRefs$SentenceReader" (76 : Nat) ({ cls := "FollowingRefs$Table", name := "find", desc := "(Ljava/lang/String;)I" } : Jvm.MethodName)) ∈ lw_all := lw_g (lw_at lw_m14 18 rfl) rfl
theorem q3302 : (Jvm.Cond.methodLink "FollowingRefs$SentenceReader" (107 : Nat) ({ cls := "FollowingRefs$SentenceReader", name := "bracket", desc := "()LFollowingRefs$Cond;" } : Jvm.MethodName)) ∈ lw_all := lw_g (lw_at lw_m14 19 rfl) rfl
theorem q3304 : (Jvm.Cond.instanceMethod ({ cls := "FollowingRefs$SentenceReader", name := "bracket", desc := "()LFollowingRefs$Cond;" } : Jvm.MethodName)) ∈ lw_all := lw_g (lw_at lw_m14 21 rfl) rfl
theorem q3305 : (Jvm.Cond.code ({ cls := "FollowingRefs$SentenceReader", name := "bracket", desc := "()LFollowingRefs$Cond;" } : Jvm.MethodName) prog_21_method_7_code (2 : Nat) (Option.some (Jvm.ClassFile.FieldType.object "FollowingRefs$Cond"))) ∈ lw_all := lw_g (lw_at lw_m14 22 rfl) rfl
theorem q3306 : (Jvm.Cond.classLink "FollowingRefs$SentenceReader" (110 : Nat) "FollowingRefs$Not") ∈ lw_all := lw_g (lw_at lw_m14 23 rfl) rfl
theorem q3307 : (Jvm.Cond.instantiable "FollowingRefs$Not" (1 : Nat)) ∈ lw_all := lw_g (lw_at lw_m14 24 rfl) rfl
theorem q3308 : (Jvm.Cond.methodLink "FollowingRefs$SentenceReader" (112 : Nat) ({ cls := "FollowingRefs$Not", name := "<init>", desc := "(LFollowingRefs$Cond;)V" } : Jvm.MethodName)) ∈ lw_all := lw_g (lw_at lw_m14 25 rfl) rfl
theorem q3309 : (Jvm.Cond.instanceMethod ({ cls := "FollowingRefs$Not", name := "<init>", desc := "(LFollowingRefs$Cond;)V" } : Jvm.MethodName)) ∈ lw_all := lw_g (lw_at lw_m14 26 rfl) rfl
theorem q3310 : (Jvm.Cond.code ({ cls := "FollowingRefs$Not", name := "<init>", desc := "(LFollowingRefs$Cond;)V" } : Jvm.MethodName) prog_13_method_1_code (2 : Nat) (Option.none : Option Jvm.ClassFile.FieldType)) ∈ lw_all := lw_g (lw_at lw_m14 27 rfl) rfl
theorem q3311 : (Jvm.Cond.methodLinkNest "FollowingRefs$Not" (1 : Nat) ({ cls := "FollowingRefs$Cond", name := "<init>", desc := "()V" } : Jvm.MethodName) "FollowingRefs") ∈ lw_tbl := lw_at lw_m14 28 rfl
theorem q3312 : (Jvm.Cond.instanceMethod ({ cls := "FollowingRefs$Cond", name := "<init>", desc := "()V" } : Jvm.MethodName)) ∈ lw_all := lw_g (lw_at lw_m14 29 rfl) rfl
theorem q3313 : (Jvm.Cond.code ({ cls := "FollowingRefs$Cond", name := "<init>", desc := "()V" } : Jvm.MethodName) prog_5_method_1_code (1 : Nat) (Option.none : Option Jvm.ClassFile.FieldType)) ∈ lw_all := lw_g (lw_at lw_m14 30 rfl) rfl
theorem q3314 : (Jvm.Cond.methodLink "FollowingRefs$Cond" (1 : Nat) ({ cls := "java/lang/Object", name := "<init>", desc := "()V" } : Jvm.MethodName)) ∈ lw_all := lw_g (lw_at lw_m14 31 rfl) rfl
theorem q3315 : (Jvm.Cond.fieldLink "FollowingRefs$Not" (7 : Nat) "FollowingRefs$Not" "c" "LFollowingRefs$Cond;") ∈ lw_all := lw_g (lw_at lw_m14 32 rfl) rfl
theorem q3316 : (Jvm.Cond.laysFinal "FollowingRefs$Not" "FollowingRefs$Not" "c" "LFollowingRefs$Cond;") ∈ lw_all := lw_g (lw_at lw_m14 33 rfl) rfl
theorem q3319 : (Jvm.Cond.classLink "FollowingRefs$SentenceReader" (115 : Nat) "FollowingRefs$IsWhat") ∈ lw_all := lw_g (lw_at lw_m14 36 rfl) rfl
theorem q3320 : (Jvm.Cond.instantiable "FollowingRefs$IsWhat" (1 : Nat)) ∈ lw_all := lw_g (lw_at lw_m14 37 rfl) rfl
theorem q3321 : (Jvm.Cond.methodLink "FollowingRefs$SentenceReader" (117 : Nat) ({ cls := "FollowingRefs$IsWhat", name := "<init>", desc := "(I)V" } : Jvm.MethodName)) ∈ lw_all := lw_g (lw_at lw_m14 38 rfl) rfl
theorem q3322 : (Jvm.Cond.instanceMethod ({ cls := "FollowingRefs$IsWhat", name := "<init>", desc := "(I)V" } : Jvm.MethodName)) ∈ lw_all := lw_g (lw_at lw_m14 39 rfl) rfl
theorem q3323 : (Jvm.Cond.code ({ cls := "FollowingRefs$IsWhat", name := "<init>", desc := "(I)V" } : Jvm.MethodName) prog_11_method_1_code (2 : Nat) (Option.none : Option Jvm.ClassFile.FieldType)) ∈ lw_all := lw_g (lw_at lw_m14 40 rfl) rfl
theorem q3324 : (Jvm.Cond.methodLinkNest "FollowingRefs$IsWhat" (3 : Nat) ({ cls := "FollowingRefs$Cond", name := "<init>", desc := "()V" } : Jvm.MethodName) "FollowingRefs") ∈ lw_tbl := lw_at lw_m14 41 rfl
theorem q3325 : (Jvm.Cond.fieldLink "FollowingRefs$IsWhat" (9 : Nat) "FollowingRefs$IsWhat" "what" "I") ∈ lw_all := lw_g (lw_at lw_m14 42 rfl) rfl
theorem q3326 : (Jvm.Cond.laysFinal "FollowingRefs$IsWhat" "FollowingRefs$IsWhat" "what" "I") ∈ lw_all := lw_g (lw_at lw_m14 43 rfl) rfl
theorem q3329 : (Jvm.Cond.classLink "FollowingRefs$SentenceReader" (120 : Nat) "FollowingRefs$InTable") ∈ lw_all := lw_g (lw_at lw_m14 46 rfl) rfl
theorem q3330 : (Jvm.Cond.instantiable "FollowingRefs$InTable" (1 : Nat)) ∈ lw_all := lw_g (lw_at lw_m14 47 rfl) rfl
theorem q3331 : (Jvm.Cond.methodLink "FollowingRefs$SentenceReader" (122 : Nat) ({ cls := "FollowingRefs$SentenceReader", name := "table", desc := "()I" } : Jvm.MethodName)) ∈ lw_all := lw_g (lw_at lw_m14 48 rfl) rfl
theorem q3332 : (Jvm.Cond.sameMethod "FollowingRefs$SentenceReader" "FollowingRefs$Reader" "table" "()I") ∈ lw_all := lw_g (lw_at lw_m14 49 rfl) rfl
theorem q3333 : (Jvm.Cond.selects "FollowingRefs$SentenceReader" ({ cls := "FollowingRefs$SentenceReader", name := "table", desc := "()I" } : Jvm.MethodName) ({ cls := "FollowingRefs$Reader", name := "table", desc := "()I" } : Jvm.MethodName)) ∈ lw_all := lw_g (lw_at lw_m14 50 rfl) rfl
theorem q3334 : (Jvm.Cond.methodLink "FollowingRefs$SentenceReader" (126 : Nat) ({ cls := "FollowingRefs$InTable", name := "<init>", desc := "(I)V" } : Jvm.MethodName)) ∈ lw_all := lw_g (lw_at lw_m14 51 rfl) rfl
theorem q3335 : (Jvm.Cond.instanceMethod ({ cls := "FollowingRefs$InTable", name := "<init>", desc := "(I)V" } : Jvm.MethodName)) ∈ lw_all := lw_g (lw_at lw_m14 52 rfl) rfl
theorem q3336 : (Jvm.Cond.code ({ cls := "FollowingRefs$InTable", name := "<init>", desc := "(I)V" } : Jvm.MethodName) prog_9_method_1_code (2 : Nat) (Option.none : Option Jvm.ClassFile.FieldType)) ∈ lw_all := lw_g (lw_at lw_m14 53 rfl) rfl
theorem q3337 : (Jvm.Cond.methodLinkNest "FollowingRefs$InTable" (1 : Nat) ({ cls := "FollowingRefs$Cond", name := "<init>", desc := "()V" } : Jvm.MethodName) "FollowingRefs") ∈ lw_tbl := lw_at lw_m14 54 rfl
theorem q3338 : (Jvm.Cond.fieldLink "FollowingRefs$InTable" (7 : Nat) "FollowingRefs$InTable" "table" "I") ∈ lw_all := lw_g (lw_at lw_m14 55 rfl) rfl
theorem q3339 : (Jvm.Cond.laysFinal "FollowingRefs$InTable" "FollowingRefs$InTable" "table" "I") ∈ lw_all := lw_g (lw_at lw_m14 56 rfl) rfl
theorem q3342 : (Jvm.Cond.classLink "FollowingRefs$SentenceReader" (127 : Nat) "FollowingRefs$Than") ∈ lw_all := lw_g (lw_at lw_m14 59 rfl) rfl
theorem q3343 : (Jvm.Cond.instantiable "FollowingRefs$Than" (3 : Nat)) ∈ lw_all := lw_g (lw_at lw_m14 60 rfl) rfl
theorem q3344 : (Jvm.Cond.methodLink "FollowingRefs$SentenceReader" (129 : Nat) ({ cls := "FollowingRefs$SentenceReader", name := "than", desc := "()I" } : Jvm.MethodName)) ∈ lw_all := lw_g (lw_at lw_m14 61 rfl) rfl
theorem q3345 : (Jvm.Cond.sameMethod "FollowingRefs$SentenceReader" "FollowingRefs$Reader" "than" "()I") ∈ lw_all := lw_g (lw_at lw_m14 62 rfl) rfl
theorem q3346 : (Jvm.Cond.selects "FollowingRefs$SentenceReader" ({ cls := "FollowingRefs$SentenceReader", name := "than", desc := "()I" } : Jvm.MethodName) ({ cls := "FollowingRefs$Reader", name := "than", desc := "()I" } : Jvm.MethodName)) ∈ lw_all := lw_g (lw_at lw_m14 63 rfl) rfl
theorem q3347 : (Jvm.Cond.methodLink "FollowingRefs$SentenceReader" (132 : Nat) ({ cls := "FollowingRefs$SentenceReader", name := "number", desc := "(II)I" } : Jvm.MethodName)) ∈ lw_all := lw_g (lw_at lw_m14 64 rfl) rfl
theorem q3348 : (Jvm.Cond.sameMethod "FollowingRefs$SentenceReader" "FollowingRefs$Reader" "number" "(II)I") ∈ lw_all := lw_g (lw_at lw_m14 65 rfl) rfl
theorem q3349 : (Jvm.Cond.selects "FollowingRefs$SentenceReader" ({ cls := "FollowingRefs$SentenceReader", name := "number", desc := "(II)I" } : Jvm.MethodName) ({ cls := "FollowingRefs$Reader", name := "number", desc := "(II)I" } : Jvm.MethodName)) ∈ lw_all := lw_g (lw_at lw_m14 66 rfl) rfl
theorem q3350 : (Jvm.Cond.methodLink "FollowingRefs$SentenceReader" (136 : Nat) ({ cls := "FollowingRefs$Than", name := "<init>", desc := "(Ljava/lang/String;II)V" } : Jvm.MethodName)) ∈ lw_all := lw_g (lw_at lw_m14 67 rfl) rfl
theorem q3351 : (Jvm.Cond.instanceMethod ({ cls := "FollowingRefs$Than", name := "<init>", desc := "(Ljava/lang/String;II)V" } : Jvm.MethodName)) ∈ lw_all := lw_g (lw_at lw_m14 68 rfl) rfl
theorem q3352 : (Jvm.Cond.code ({ cls := "FollowingRefs$Than", name := "<init>", desc := "(Ljava/lang/String;II)V" } : Jvm.MethodName) prog_28_method_1_code (4 : Nat) (Option.none : Option Jvm.ClassFile.FieldType)) ∈ lw_all := lw_g (lw_at lw_m14 69 rfl) rfl
theorem q3353 : (Jvm.Cond.methodLinkNest "FollowingRefs$Than" (3 : Nat) ({ cls := "FollowingRefs$Cond", name := "<init>", desc := "()V" } : Jvm.MethodName) "FollowingRefs") ∈ lw_tbl := lw_at lw_m14 70 rfl
theorem q3354 : (Jvm.Cond.fieldLink "FollowingRefs$Than" (9 : Nat) "FollowingRefs$Than" "col" "Ljava/lang/String;") ∈ lw_all := lw_g (lw_at lw_m14 71 rfl) rfl
theorem q3355 : (Jvm.Cond.fieldLink "FollowingRefs$Than" (15 : Nat) "FollowingRefs$Than" "sign" "I") ∈ lw_all := lw_g (lw_at lw_m14 72 rfl) rfl
theorem q3356 : (Jvm.Cond.fieldLink "FollowingRefs$Than" (19 : Nat) "FollowingRefs$Than" "number" "I") ∈ lw_all := lw_g (lw_at lw_m14 73 rfl) rfl
theorem q3357 : (Jvm.Cond.laysFinal "FollowingRefs$Than" "FollowingRefs$Than" "col" "Ljava/lang/String;") ∈ lw_all := lw_g (lw_at lw_m14 74 rfl) rfl
theorem q3359 : (Jvm.Cond.laysFinal "FollowingRefs$Than" "FollowingRefs$Than" "sign" "I") ∈ lw_all := lw_g (lw_at lw_m14 76 rfl) rfl
theorem q3361 : (Jvm.Cond.laysFinal "FollowingRefs$Than" "FollowingRefs$Than" "number" "I") ∈ lw_all := lw_g (lw_at lw_m14 78 rfl) rfl
theorem q3365 : (Jvm.Cond.classLink "FollowingRefs$SentenceReader" (35 : Nat) "FollowingRefs$Two") ∈ lw_all := lw_g (lw_at lw_m14 82 rfl) rfl
theorem q3366 : (Jvm.Cond.instantiable "FollowingRefs$Two" (3 : Nat)) ∈ lw_all := lw_g (lw_at lw_m14 83 rfl) rfl
theorem q3367 : (Jvm.Cond.methodLink "FollowingRefs$SentenceReader" (37 : Nat) ({ cls := "FollowingRefs$Two", name := "<init>", desc := "(LFollowingRefs$Cond;LFollowingRefs$Cond;Z)V" } : Jvm.MethodName)) ∈ lw_all := lw_g (lw_at lw_m14 84 rfl) rfl
theorem q3368 : (Jvm.Cond.instanceMethod ({ cls := "FollowingRefs$Two", name := "<init>", desc := "(LFollowingRefs$Cond;LFollowingRefs$Cond;Z)V" } : Jvm.MethodName)) ∈ lw_all := lw_g (lw_at lw_m14 85 rfl) rfl
theorem q3369 : (Jvm.Cond.code ({ cls := "FollowingRefs$Two", name := "<init>", desc := "(LFollowingRefs$Cond;LFollowingRefs$Cond;Z)V" } : Jvm.MethodName) prog_30_method_1_code (4 : Nat) (Option.none : Option Jvm.ClassFile.FieldType)) ∈ lw_all := lw_g (lw_at lw_m14 86 rfl) rfl
theorem q3370 : (Jvm.Cond.methodLinkNest "FollowingRefs$Two" (1 : Nat) ({ cls := "FollowingRefs$Cond", name := "<init>", desc := "()V" } : Jvm.MethodName) "FollowingRefs") ∈ lw_tbl := lw_at lw_m14 87 rfl
theorem q3371 : (Jvm.Cond.fieldLink "FollowingRefs$Two" (7 : Nat) "FollowingRefs$Two" "one" "LFollowingRefs$Cond;") ∈ lw_all := lw_g (lw_at lw_m14 88 rfl) rfl
theorem q3372 : (Jvm.Cond.fieldLink "FollowingRefs$Two" (13 : Nat) "FollowingRefs$Two" "other" "LFollowingRefs$Cond;") ∈ lw_all := lw_g (lw_at lw_m14 89 rfl) rfl
theorem q3373 : (Jvm.Cond.fieldLink "FollowingRefs$Two" (16 : Nat) "FollowingRefs$Two" "both" "Z") ∈ lw_all := lw_g (lw_at lw_m14 90 rfl) rfl
theorem q3374 : (Jvm.Cond.laysFinal "FollowingRefs$Two" "FollowingRefs$Two" "one" "LFollowingRefs$Cond;") ∈ lw_all := lw_g (lw_at lw_m14 91 rfl) rfl
theorem q3376 : (Jvm.Cond.laysFinal "FollowingRefs$Two" "FollowingRefs$Two" "other" "LFollowingRefs$Cond;") ∈ lw_all := lw_g (lw_at lw_m14 93 rfl) rfl
theorem q3378 : (Jvm.Cond.laysFinal "FollowingRefs$Two" "FollowingRefs$Two" "both" "Z") ∈ lw_all := lw_g (lw_at lw_m14 95 rfl) rfl
theorem q3382 : (Jvm.Cond.methodLink "FollowingRefsLaw" (166 : Nat) ({ cls := "FollowingRefs", name := "said", desc := "(I)I" } : Jvm.MethodName)) ∈ lw_all := lw_g (lw_at lw_m14 99 rfl) rfl
theorem q3383 : (Jvm.Cond.instanceMethod ({ cls := "FollowingRefs", name := "said", desc := "(I)I" } : Jvm.MethodName)) ∈ lw_all := lw_g (lw_at lw_m14 100 rfl) rfl
theorem q3384 : (Jvm.Cond.selects "FollowingRefs" ({ cls := "FollowingRefs", name := "said", desc := "(I)I" } : Jvm.MethodName) ({ cls := "FollowingRefs", name := "said", desc := "(I)I" } : Jvm.MethodName)) ∈ lw_all := lw_g (lw_at lw_m14 101 rfl) rfl
theorem q3385 : (Jvm.Cond.code ({ cls := "FollowingRefs", name := "said", desc := "(I)I" } : Jvm.MethodName) prog_1_method_54_code (5 : Nat) (Option.some Jvm.ClassFile.FieldType.int)) ∈ lw_all := lw_g (lw_at lw_m14 102 rfl) rfl
theorem q3386 : (Jvm.Cond.methodLink "FollowingRefs" (475 : Nat) ({ cls := "FollowingRefs$Store", name := "marks", desc := "()V" } : Jvm.MethodName)) ∈ lw_all := lw_g (lw_at lw_m14 103 rfl) rfl
theorem q3387 : (Jvm.Cond.instanceMethod ({ cls := "FollowingRefs$Store", name := "marks", desc := "()V" } : Jvm.MethodName)) ∈ lw_all := lw_g (lw_at lw_m14 104 rfl) rfl
theorem q3388 : (Jvm.Cond.selects "FollowingRefs$Store" ({ cls := "FollowingRefs$Store", name := "marks", desc := "()V" } : Jvm.MethodName) ({ cls := "FollowingRefs$Store", name := "marks", desc := "()V" } : Jvm.MethodName)) ∈ lw_all := lw_g (lw_at lw_m14 105 rfl) rfl
theorem q3389 : (Jvm.Cond.code ({ cls := "FollowingRefs$Store", name := "marks", desc := "()V" } : Jvm.MethodName) prog_26_method_12_code (2 : Nat) (Option.none : Option Jvm.ClassFile.FieldType)) ∈ lw_all := lw_g (lw_at lw_m14 106 rfl) rfl
theorem q3390 : (Jvm.Cond.methodLink "FollowingRefs$Store" (171 : Nat) ({ cls := "java/util/BitSet", name := "clear", desc := "()V" } : Jvm.MethodName)) ∈ lw_all := lw_g (lw_at lw_m14 107 rfl) rfl
theorem q3391 : (Jvm.Cond.methodLink "FollowingRefs$Store" (172 : Nat) ({ cls := "FollowingRefs$Store", name := "violations", desc := "(Z)Ljava/util/LinkedList;" } : Jvm.MethodName)) ∈ lw_all := lw_g (lw_at lw_m14 108 rfl) rfl
theorem q3392 : (Jvm.Cond.methodLink "FollowingRefs$Store" (175 : Nat) ({ cls := "java/util/LinkedList", name := "isEmpty", desc := "()Z" } : Jvm.MethodName)) ∈ lw_all := lw_g (lw_at lw_m14 109 rfl) rfl
theorem q3393 : (Jvm.Cond.methodLink "FollowingRefs$Store" (179 : Nat) ({ cls := "java/util/LinkedList", name := "removeFirst", desc := "()Ljava/lang/Object;" } : Jvm.MethodName)) ∈ lw_all := lw_g (lw_at lw_m14 110 rfl) rfl
theorem q3394 : (Jvm.Cond.instanceMethod ({ cls := "java/util/LinkedList", name := "removeFirst", desc := "()Ljava/lang/Object;" } : Jvm.MethodName)) ∈ lw_all := lw_g (lw_at lw_m14 111 rfl) rfl
theorem q3395 : (Jvm.Cond.selects "java/util/LinkedList" ({ cls := "java/util/LinkedList", name := "removeFirst", desc := "()Ljava/lang/Object;" } : Jvm.MethodName) ({ cls := "java/util/LinkedList", name := "removeFirst", desc := "()Ljava/lang/Object;" } : Jvm.MethodName)) ∈ lw_all := lw_g (lw_at lw_m14 112 rfl) rfl
theorem q3396 : (Jvm.Cond.code ({ cls := "java/util/LinkedList", name := "removeFirst", desc := "()Ljava/lang/Object;" } : Jvm.MethodName) prog_79_method_11_code (2 : Nat) (Option.some (Jvm.ClassFile.FieldType.object "java/lang/Object"))) ∈ lw_all := lw_g (lw_at lw_m14 113 rfl) rfl
theorem q3397 : (Jvm.Cond.methodLink "java/util/LinkedList" (46 : Nat) ({ cls := "java/util/LinkedList", name := "unlinkFirst", desc := "(Ljava/util/LinkedList$Node;)Ljava/lang/Object;" } : Jvm.MethodName)) ∈ lw_all := lw_g (lw_at lw_m14 114 rfl) rfl
theorem q3399 : (Jvm.Cond.instanceMethod ({ cls := "java/util/LinkedList", name := "unlinkFirst", desc := "(Ljava/util/LinkedList$Node;)Ljava/lang/Object;" } : Jvm.MethodName)) ∈ lw_all := lw_g (lw_at lw_m14 116 rfl) rfl
theorem q3400 : (Jvm.Cond.code ({ cls := "java/util/LinkedList", name := "unlinkFirst", desc := "(Ljava/util/LinkedList$Node;)Ljava/lang/Object;" } : Jvm.MethodName) prog_79_method_6_code (4 : Nat) (Option.some (Jvm.ClassFile.FieldType.object "java/lang/Object"))) ∈ lw_all := lw_g (lw_at lw_m14 117 rfl) rfl
theorem q3401 : (Jvm.Cond.methodLink "FollowingRefs$Store" (186 : Nat) ({ cls := "java/util/BitSet", name := "set", desc := "(I)V" } : Jvm.MethodName)) ∈ lw_all := lw_g (lw_at lw_m14 118 rfl) rfl
theorem q3402 : (Jvm.Cond.methodLink "FollowingRefs" (478 : Nat) ({ cls := "FollowingRefs$Cond", name := "holds", desc := "(LFollowingRefs$Store;LFollowingRefs$Row;)Z" } : Jvm.MethodName)) ∈ lw_all := lw_g (lw_at lw_m14 119 rfl) rfl
theorem q3403 : (Jvm.Cond.declares ({ cls := "FollowingRefs$Cond", name := "holds", desc := "(LFollowingRefs$Store;LFollowingRefs$Row;)Z" } : Jvm.MethodName)) ∈ lw_tbl := lw_at lw_m14 120 rfl
theorem q3404 : (Jvm.Cond.sameMethod "FollowingRefs$Cond" "FollowingRefs$Cond" "holds" "(LFollowingRefs$Store;LFollowingRefs$Row;)Z") ∈ lw_all := lw_g (lw_at lw_m14 121 rfl) rfl
theorem q3405 : (Jvm.Cond.selects "FollowingRefs$InTable" ({ cls := "FollowingRefs$Cond", name := "holds", desc := "(LFollowingRefs$Store;LFollowingRefs$Row;)Z" } : Jvm.MethodName) ({ cls := "FollowingRefs$InTable", name := "holds", desc := "(LFollowingRefs$Store;LFollowingRefs$Row;)Z" } : Jvm.MethodName)) ∈ lw_all := lw_g (lw_at lw_m14 122 rfl) rfl
theorem q3406 : (Jvm.Cond.instanceMethod ({ cls := "FollowingRefs$InTable", name := "holds", desc := "(LFollowingRefs$Store;LFollowingRefs$Row;)Z" } : Jvm.MethodName)) ∈ lw_all := lw_g (lw_at lw_m14 123 rfl) rfl
theorem q3407 : (Jvm.Cond.code ({ cls := "FollowingRefs$InTable", name := "holds", desc := "(LFollowingRefs$Store;LFollowingRefs$Row;)Z" } : Jvm.MethodName) prog_9_method_2_code (3 : Nat) (Option.some Jvm.ClassFile.FieldType.boolean)) ∈ lw_all := lw_g (lw_at lw_m14 124 rfl) rfl
theorem q3408 : (Jvm.Cond.selects "FollowingRefs$IsWhat" ({ cls := "FollowingRefs$Cond", name := "holds", desc := "(LFollowingRefs$Store;LFollowingRefs$Row;)Z" } : Jvm.MethodName) ({ cls := "FollowingRefs$IsWhat", name := "holds", desc := "(LFollowingRefs$Store;LFollowingRefs$Row;)Z" } : Jvm.MethodName)) ∈ lw_all := lw_g (lw_at lw_m14 125 rfl) rfl
theorem q3409 : (Jvm.Cond.instanceMethod ({ cls := "FollowingRefs$IsWhat", name := "holds", desc := "(LFollowingRefs$Store;LFollowingRefs$Row;)Z" } : Jvm.MethodName)) ∈ lw_all := lw_g (lw_at lw_m14 126 rfl) rfl
theorem q3410 : (Jvm.Cond.code ({ cls := "FollowingRefs$IsWhat", name := "holds", desc := "(LFollowingRefs$Store;LFollowingRefs$Row;)Z" } : Jvm.MethodName) prog_11_method_3_code (3 : Nat) (Option.some Jvm.ClassFile.FieldType.boolean)) ∈ lw_all := lw_g (lw_at lw_m14 127 rfl) rfl
theorem q3411 : (Jvm.Cond.methodLink "FollowingRefs$IsWhat" (51 : Nat) ({ cls := "FollowingRefs$IsWhat", name := "isBare", desc := "(LFollowingRefs$Store;LFollowingRefs$Row;)Z" } : Jvm.MethodName)) ∈ lw_all := lw_g (lw_at lw_m14 128 rfl) rfl
theorem q3413 : (Jvm.Cond.instanceMethod ({ cls := "FollowingRefs$IsWhat", name := "isBare", desc := "(LFollowingRefs$Store;LFollowingRefs$Row;)Z" } : Jvm.MethodName)) ∈ lw_all := lw_g (lw_at lw_m14 130 rfl) rfl
theorem q3414 : (Jvm.Cond.code ({ cls := "FollowingRefs$IsWhat", name := "isBare", desc := "(LFollowingRefs$Store;LFollowingRefs$Row;)Z" } : Jvm.MethodName) prog_11_method_2_code (4 : Nat) (Option.some Jvm.ClassFile.FieldType.boolean)) ∈ lw_all := lw_g (lw_at lw_m14 131 rfl) rfl
theorem q3415 : (Jvm.Cond.methodLink "FollowingRefs$IsWhat" (32 : Nat) ({ cls := "java/util/ArrayList", name := "get", desc := "(I)Ljava/lang/Object;" } : Jvm.MethodName)) ∈ lw_all := lw_g (lw_at lw_m14 132 rfl) rfl
theorem q3416 : (Jvm.Cond.classLink "FollowingRefs$IsWhat" (38 : Nat) "FollowingRefs$Table") ∈ lw_all := lw_g (lw_at lw_m14 133 rfl) rfl
theorem q3417 : (Jvm.Cond.methodLink "FollowingRefs$IsWhat" (43 : Nat) ({ cls := "java/util/ArrayList", name := "size", desc := "()I" } : Jvm.MethodName)) ∈ lw_all := lw_g (lw_at lw_m14 134 rfl) rfl
theorem q3418 : (Jvm.Cond.methodLink "FollowingRefs$IsWhat" (55 : Nat) ({ cls := "FollowingRefs$Store", name := "referred", desc := "(LFollowingRefs$Row;)I" } : Jvm.MethodName)) ∈ lw_all := lw_g (lw_at lw_m14 135 rfl) rfl
theorem q3419 : (Jvm.Cond.methodLink "FollowingRefs$IsWhat" (66 : Nat) ({ cls := "java/util/BitSet", name := "get", desc := "(I)Z" } : Jvm.MethodName)) ∈ lw_all := lw_g (lw_at lw_m14 136 rfl) rfl
theorem q3420 : (Jvm.Cond.selects "FollowingRefs$Not" ({ cls := "FollowingRefs$Cond", name := "holds", desc := "(LFollowingRefs$Store;LFollowingRefs$Row;)Z" } : Jvm.MethodName) ({ cls := "FollowingRefs$Not", name := "holds", desc := "(LFollowingRefs$Store;LFollowingRefs$Row;)Z" } : Jvm.MethodName)) ∈ lw_all := lw_g (lw_at lw_m14 137 rfl) rfl
theorem q3421 : (Jvm.Cond.instanceMethod ({ cls := "FollowingRefs$Not", name := "holds", desc := "(LFollowingRefs$Store;LFollowingRefs$Row;)Z" } : Jvm.MethodName)) ∈ lw_all := lw_g (lw_at lw_m14 138 rfl) rfl
theorem q3422 : (Jvm.Cond.code ({ cls := "FollowingRefs$Not", name := "holds", desc := "(LFollowingRefs$Store;LFollowingRefs$Row;)Z" } : Jvm.MethodName) prog_13_method_2_code (3 : Nat) (Option.some Jvm.ClassFile.FieldType.boolean)) ∈ lw_all := lw_g (lw_at lw_m14 139 rfl) rfl
theorem q3423 : (Jvm.Cond.methodLink "FollowingRefs$Not" (13 : Nat) ({ cls := "FollowingRefs$Cond", name := "holds", desc := "(LFollowingRefs$Store;LFollowingRefs$Row;)Z" } : Jvm.MethodName)) ∈ lw_all := lw_g (lw_at lw_m14 140 rfl) rfl
theorem q3424 : (Jvm.Cond.instanceMethod ({ cls := "FollowingRefs$Than", name := "holds", desc := "(LFollowingRefs$Store;LFollowingRefs$Row;)Z" } : Jvm.MethodName)) ∈ lw_all := lw_g (lw_at lw_m14 141 rfl) rfl
theorem q3425 : (Jvm.Cond.code ({ cls := "FollowingRefs$Than", name := "holds", desc := "(LFollowingRefs$Store;LFollowingRefs$Row;)Z" } : Jvm.MethodName) prog_28_method_2_code (4 : Nat) (Option.some Jvm.ClassFile.FieldType.boolean)) ∈ lw_all := lw_g (lw_at lw_m14 142 rfl) rfl
theorem q3427 : (Jvm.Cond.methodLink "FollowingRefs$Than" (24 : Nat) ({ cls := "java/lang/String", name := "equals", desc := "(Ljava/lang/Object;)Z" } : Jvm.MethodName)) ∈ lw_all := lw_g (lw_at lw_m14 144 rfl) rfl
theorem q3428 : (Jvm.Cond.methodLinkNest "FollowingRefs$Than" (33 : Nat) ({ cls := "FollowingRefs", name := "isSo", desc := "(III)Z" } : Jvm.MethodName) "FollowingRefs") ∈ lw_tbl := lw_at lw_m14 145 rfl
theorem q3429 : (Jvm.Cond.methodLink "FollowingRefs$Than" (52 : Nat) ({ cls := "java/util/ArrayList", name := "get", desc := "(I)Ljava/lang/Object;" } : Jvm.MethodName)) ∈ lw_all := lw_g (lw_at lw_m14 146 rfl) rfl
theorem q3430 : (Jvm.Cond.classLink "FollowingRefs$Than" (58 : Nat) "FollowingRefs$Table") ∈ lw_all := lw_g (lw_at lw_m14 147 rfl) rfl
theorem q3431 : (Jvm.Cond.methodLink "FollowingRefs$Than" (60 : Nat) ({ cls := "FollowingRefs$Table", name := "find", desc := "(Ljava/lang/String;)I" } : Jvm.MethodName)) ∈ lw_all := lw_g (lw_at lw_m14 148 rfl) rfl
theorem q3432 : (Jvm.Cond.instanceMethod ({ cls := "FollowingRefs$Two", name := "holds", desc := "(LFollowingRefs$Store;LFollowingRefs$Row;)Z" } : Jvm.MethodName)) ∈ lw_all := lw_g (lw_at lw_m14 149 rfl) rfl
theorem q3433 : (Jvm.Cond.code ({ cls := "FollowingRefs$Two", name := "holds", desc := "(LFollowingRefs$Store;LFollowingRefs$Row;)Z" } : Jvm.MethodName) prog_30_method_2_code (3 : Nat) (Option.some Jvm.ClassFile.FieldType.boolean)) ∈ lw_all := lw_g (lw_at lw_m14 150 rfl) rfl
theorem q3434 : (Jvm.Cond.methodLink "FollowingRefs$Two" (20 : Nat) ({ cls := "FollowingRefs$Cond", name := "holds", desc := "(LFollowingRefs$Store;LFollowingRefs$Row;)Z" } : Jvm.MethodName)) ∈ lw_all := lw_g (lw_at lw_m14 151 rfl) rfl
theorem q3435 : (Jvm.Cond.selects "FollowingRefs$Than" ({ cls := "FollowingRefs$Cond", name := "holds", desc := "(LFollowingRefs$Store;LFollowingRefs$Row;)Z" } : Jvm.MethodName) ({ cls := "FollowingRefs$Than", name := "holds", desc := "(LFollowingRefs$Store;LFollowingRefs$Row;)Z" } : Jvm.MethodName)) ∈ lw_all := lw_g (lw_at lw_m14 152 rfl) rfl
theorem q3436 : (Jvm.Cond.selects "FollowingRefs$Two" ({ cls := "FollowingRefs$Cond", name := "holds", desc := "(LFollowingRefs$Store;LFollowingRefs$Row;)Z" } : Jvm.MethodName) ({ cls := "FollowingRefs$Two", name := "holds", desc := "(LFollowingRefs$Store;LFollowingRefs$Row;)Z" } : Jvm.MethodName)) ∈ lw_all := lw_g (lw_at lw_m14 153 rfl) rfl
theorem q3437 : (Jvm.Cond.methodLink "FollowingRefsLaw" (170 : Nat) ({ cls := "FollowingRefs", name := "image", desc := "(I)Z" } : Jvm.MethodName)) ∈ lw_all := lw_g (lw_at lw_m14 154 rfl) rfl
theorem q3438 : (Jvm.Cond.instanceMethod ({ cls := "FollowingRefs", name := "image", desc := "(I)Z" } : Jvm.MethodName)) ∈ lw_all := lw_g (lw_at lw_m14 155 rfl) rfl
theorem q3439 : (Jvm.Cond.selects "FollowingRefs" ({ cls := "FollowingRefs", name := "image", desc := "(I)Z" } : Jvm.MethodName) ({ cls := "FollowingRefs", name := "image", desc := "(I)Z" } : Jvm.MethodName)) ∈ lw_all := lw_g (lw_at lw_m14 156 rfl) rfl
theorem q3440 : (Jvm.Cond.code ({ cls := "FollowingRefs", name := "image", desc := "(I)Z" } : Jvm.MethodName) prog_1_method_55_code (2 : Nat) (Option.some Jvm.ClassFile.FieldType.boolean)) ∈ lw_all := lw_g (lw_at lw_m14 157 rfl) rfl
theorem q3441 : (Jvm.Cond.methodLink "FollowingRefsLaw" (174 : Nat) ({ cls := "FollowingRefs", name := "restore", desc := "(I)Z" } : Jvm.MethodName)) ∈ lw_all := lw_g (lw_at lw_m14 158 rfl) rfl
theorem q3442 : (Jvm.Cond.instanceMethod ({ cls := "FollowingRefs", name := "restore", desc := "(I)Z" } : Jvm.MethodName)) ∈ lw_all := lw_g (lw_at lw_m14 159 rfl) rfl
theorem q3443 : (Jvm.Cond.selects "FollowingRefs" ({ cls := "FollowingRefs", name := "restore", desc := "(I)Z" } : Jvm.MethodName) ({ cls := "FollowingRefs", name := "restore", desc := "(I)Z" } : Jvm.MethodName)) ∈ lw_all := lw_g (lw_at lw_m14 160 rfl) rfl
theorem q3444 : (Jvm.Cond.code ({ cls := "FollowingRefs", name := "restore", desc := "(I)Z" } : Jvm.MethodName) prog_1_method_56_code (2 : Nat) (Option.some Jvm.ClassFile.FieldType.boolean)) ∈ lw_all := lw_g (lw_at lw_m14 161 rfl) rfl
theorem q3445 : (Jvm.Cond.methodLink "FollowingRefsLaw" (178 : Nat) ({ cls := "FollowingRefs", name := "count", desc := "(I)I" } : Jvm.MethodName)) ∈ lw_all := lw_g (lw_at lw_m14 162 rfl) rfl
theorem q3446 : (Jvm.Cond.instanceMethod ({ cls := "FollowingRefs", name := "count", desc := "(I)I" } : Jvm.MethodName)) ∈ lw_all := lw_g (lw_at lw_m14 163 rfl) rfl
theorem q3447 : (Jvm.Cond.selects "FollowingRefs" ({ cls := "FollowingRefs", name := "count", desc := "(I)I" } : Jvm.MethodName) ({ cls := "FollowingRefs", name := "count", desc := "(I)I" } : Jvm.MethodName)) ∈ lw_all := lw_g (lw_at lw_m14 164 rfl) rfl
theorem q3448 : (Jvm.Cond.code ({ cls := "FollowingRefs", name := "count", desc := "(I)I" } : Jvm.MethodName) prog_1_method_57_code (2 : Nat) (Option.some Jvm.ClassFile.FieldType.int)) ∈ lw_all := lw_g (lw_at lw_m14 165 rfl) rfl
theorem q3449 : (Jvm.Cond.methodLink "FollowingRefsLaw" (102 : Nat) ({ cls := "FollowingRefsLaw", name := "cell", desc := "(LFollowingRefs;II[J)I" } : Jvm.MethodName)) ∈ lw_all := lw_g (lw_at lw_m14 166 rfl) rfl
theorem q3450 : (Jvm.Cond.static ({ cls := "FollowingRefsLaw", name := "cell", desc := "(LFollowingRefs;II[J)I" } : Jvm.MethodName)) ∈ lw_all := lw_g (lw_at lw_m14 167 rfl) rfl
theorem q3451 : (Jvm.Cond.codeWith ({ cls := "FollowingRefsLaw", name := "cell", desc := "(LFollowingRefs;II[J)I" } : Jvm.MethodName) method_3_code (5 : Nat) (Option.some Jvm.ClassFile.FieldType.int) [((0 : Nat), (10 : Nat), (13 : Nat), (13 : Nat))]) ∈ lw_all := lw_g (lw_at lw_m14 168 rfl) rfl
theorem q3452 : (Jvm.Cond.classLink "FollowingRefsLaw" (13 : Nat) "java/util/NoSuchElementException") ∈ lw_all := lw_g (lw_at lw_m14 169 rfl) rfl
theorem q3453 : (Jvm.Cond.methodLink "FollowingRefsLaw" (7 : Nat) ({ cls := "FollowingRefs", name := "cell", desc := "(II)I" } : Jvm.MethodName)) ∈ lw_all := lw_g (lw_at lw_m14 170 rfl) rfl
theorem q3454 : (Jvm.Cond.instanceMethod ({ cls := "FollowingRefs", name := "cell", desc := "(II)I" } : Jvm.MethodName)) ∈ lw_all := lw_g (lw_at lw_m14 171 rfl) rfl
theorem q3455 : (Jvm.Cond.selects "FollowingRefs" ({ cls := "FollowingRefs", name := "cell", desc := "(II)I" } : Jvm.MethodName) ({ cls := "FollowingRefs", name := "cell", desc := "(II)I" } : Jvm.MethodName)) ∈ lw_all := lw_g (lw_at lw_m14 172 rfl) rfl
theorem q3456 : (Jvm.Cond.code ({ cls := "FollowingRefs", name := "cell", desc := "(II)I" } : Jvm.MethodName) prog_1_method_32_code (4 : Nat) (Option.some Jvm.ClassFile.FieldType.int)) ∈ lw_all := lw_g (lw_at lw_m14 173 rfl) rfl
theorem q3457 : (Jvm.Cond.methodLink "FollowingRefs" (263 : Nat) ({ cls := "FollowingRefs$Schema", name := "isCol", desc := "(II)Z" } : Jvm.MethodName)) ∈ lw_all := lw_g (lw_at lw_m14 174 rfl) rfl
theorem q3458 : (Jvm.Cond.instanceMethod ({ cls := "FollowingRefs$Schema", name := "isCol", desc := "(II)Z" } : Jvm.MethodName)) ∈ lw_all := lw_g (lw_at lw_m14 175 rfl) rfl
theorem q3459 : (Jvm.Cond.selects "FollowingRefs$Schema" ({ cls := "FollowingRefs$Schema", name := "isCol", desc := "(II)Z" } : Jvm.MethodName) ({ cls := "FollowingRefs$Schema", name := "isCol", desc := "(II)Z" } : Jvm.MethodName)) ∈ lw_all := lw_g (lw_at lw_m14 176 rfl) rfl
theorem q3460 : (Jvm.Cond.code ({ cls := "FollowingRefs$Schema", name := "isCol", desc := "(II)Z" } : Jvm.MethodName) prog_19_method_3_code (3 : Nat) (Option.some Jvm.ClassFile.FieldType.boolean)) ∈ lw_all := lw_g (lw_at lw_m14 177 rfl) rfl
theorem q3461 : (Jvm.Cond.methodLink "FollowingRefs$Schema" (35 : Nat) ({ cls := "FollowingRefs$Schema", name := "isTable", desc := "(I)Z" } : Jvm.MethodName)) ∈ lw_all := lw_g (lw_at lw_m14 178 rfl) rfl
theorem q3462 : (Jvm.Cond.methodLink "FollowingRefs" (267 : Nat) ({ cls := "FollowingRefs", name := "need", desc := "(Z)V" } : Jvm.MethodName)) ∈ lw_all := lw_g (lw_at lw_m14 179 rfl) rfl
theorem q3463 : (Jvm.Cond.static ({ cls := "FollowingRefs", name := "need", desc := "(Z)V" } : Jvm.MethodName)) ∈ lw_all := lw_g (lw_at lw_m14 180 rfl) rfl
theorem q3464 : (Jvm.Cond.code ({ cls := "FollowingRefs", name := "need", desc := "(Z)V" } : Jvm.MethodName) prog_1_method_2_code (1 : Nat) (Option.none : Option Jvm.ClassFile.FieldType)) ∈ lw_all := lw_g (lw_at lw_m14 181 rfl) rfl
theorem q3465 : (Jvm.Cond.classLink "FollowingRefs" (1 : Nat) "java/util/NoSuchElementException") ∈ lw_all := lw_g (lw_at lw_m14 182 rfl) rfl
theorem q3466 : (Jvm.Cond.methodLink "FollowingRefs" (3 : Nat) ({ cls := "java/util/NoSuchElementException", name := "<init>", desc := "()V" } : Jvm.MethodName)) ∈ lw_all := lw_g (lw_at lw_m14 183 rfl) rfl
theorem q3467 : (Jvm.Cond.methodLink "FollowingRefsLaw" (123 : Nat) ({ cls := "FollowingRefsLaw", name := "col", desc := "(LFollowingRefs;III[J)I" } : Jvm.MethodName)) ∈ lw_all := lw_g (lw_at lw_m14 184 rfl) rfl
theorem q3468 : (Jvm.Cond.static ({ cls := "FollowingRefsLaw", name := "col", desc := "(LFollowingRefs;III[J)I" } : Jvm.MethodName)) ∈ lw_all := lw_g (lw_at lw_m14 185 rfl) rfl
theorem q3469 : (Jvm.Cond.codeWith ({ cls := "FollowingRefsLaw", name := "col", desc := "(LFollowingRefs;III[J)I" } : Jvm.MethodName) method_4_code (6 : Nat) (Option.some Jvm.ClassFile.FieldType.int) [((0 : Nat), (12 : Nat), (15 : Nat), (13 : Nat))]) ∈ lw_all := lw_g (lw_at lw_m14 186 rfl) rfl
theorem q3470 : (Jvm.Cond.methodLink "FollowingRefsLaw" (15 : Nat) ({ cls := "FollowingRefs", name := "col", desc := "(III)I" } : Jvm.MethodName)) ∈ lw_all := lw_g (lw_at lw_m14 187 rfl) rfl
theorem q3471 : (Jvm.Cond.instanceMethod ({ cls := "FollowingRefs", name := "col", desc := "(III)I" } : Jvm.MethodName)) ∈ lw_all := lw_g (lw_at lw_m14 188 rfl) rfl
theorem q3472 : (Jvm.Cond.selects "FollowingRefs" ({ cls := "FollowingRefs", name := "col", desc := "(III)I" } : Jvm.MethodName) ({ cls := "FollowingRefs", name := "col", desc := "(III)I" } : Jvm.MethodName)) ∈ lw_all := lw_g (lw_at lw_m14 189 rfl) rfl
theorem q3473 : (Jvm.Cond.code ({ cls := "FollowingRefs", name := "col", desc := "(III)I" } : Jvm.MethodName) prog_1_method_37_code (6 : Nat) (Option.some Jvm.ClassFile.FieldType.int)) ∈ lw_all := lw_g (lw_at lw_m14 190 rfl) rfl
theorem q3474 : (Jvm.Cond.methodLink "FollowingRefs" (313 : Nat) ({ cls := "FollowingRefs$Of", name := "has", desc := "(I)Z" } : Jvm.MethodName)) ∈ lw_all := lw_g (lw_at lw_m14 191 rfl) rfl
theorem q3475 : (Jvm.Cond.methodLink "FollowingRefs" (316 : Nat) ({ cls := "FollowingRefs$Ref", name := "has", desc := "(I)Z" } : Jvm.MethodName)) ∈ lw_all := lw_g (lw_at lw_m14 192 rfl) rfl
theorem q3476 : (Jvm.Cond.sameMethod "FollowingRefs$Ref" "FollowingRefs$Of" "has" "(I)Z") ∈ lw_all := lw_g (lw_at lw_m14 193 rfl) rfl
theorem q3478 : (Jvm.Cond.selects "FollowingRefs$Ref" ({ cls := "FollowingRefs$Ref", name := "has", desc := "(I)Z" } : Jvm.MethodName) ({ cls := "FollowingRefs$Of", name := "has", desc := "(I)Z" } : Jvm.MethodName)) ∈ lw_all := lw_g (lw_at lw_m14 195 rfl) rfl
theorem q3479 : (Jvm.Cond.methodLink "FollowingRefs" (320 : Nat) ({ cls := "FollowingRefs$Schema", name := "isNeeded", desc := "(II)Z" } : Jvm.MethodName)) ∈ lw_all := lw_g (lw_at lw_m14 196 rfl) rfl
theorem q3480 : (Jvm.Cond.methodLink "FollowingRefsLaw" (139 : Nat) ({ cls := "FollowingRefsLaw", name := "mean", desc := "(LFollowingRefs;III[J)I" } : Jvm.MethodName)) ∈ lw_all := lw_g (lw_at lw_m14 197 rfl) rfl
theorem q3481 : (Jvm.Cond.static ({ cls := "FollowingRefsLaw", name := "mean", desc := "(LFollowingRefs;III[J)I" } : Jvm.MethodName)) ∈ lw_all := lw_g (lw_at lw_m14 198 rfl) rfl
theorem q3482 : (Jvm.Cond.codeWith ({ cls := "FollowingRefsLaw", name := "mean", desc := "(LFollowingRefs;III[J)I" } : Jvm.MethodName) method_5_code (6 : Nat) (Option.some Jvm.ClassFile.FieldType.int) [((0 : Nat), (12 : Nat), (15 : Nat), (13 : Nat))]) ∈ lw_all := lw_g (lw_at lw_m14 199 rfl) rfl
theorem q3483 : (Jvm.Cond.methodLink "FollowingRefsLaw" (19 : Nat) ({ cls := "FollowingRefs", name := "mean", desc := "(III)I" } : Jvm.MethodName)) ∈ lw_all := lw_g (lw_at lw_m14 200 rfl) rfl
theorem q3484 : (Jvm.Cond.instanceMethod ({ cls := "FollowingRefs", name := "mean", desc := "(III)I" } : Jvm.MethodName)) ∈ lw_all := lw_g (lw_at lw_m14 201 rfl) rfl
theorem q3485 : (Jvm.Cond.selects "FollowingRefs" ({ cls := "FollowingRefs", name := "mean", desc := "(III)I" } : Jvm.MethodName) ({ cls := "FollowingRefs", name := "mean", desc := "(III)I" } : Jvm.MethodName)) ∈ lw_all := lw_g (lw_at lw_m14 202 rfl) rfl
theorem q3486 : (Jvm.Cond.code ({ cls := "FollowingRefs", name := "mean", desc := "(III)I" } : Jvm.MethodName) prog_1_method_42_code (8 : Nat) (Option.some Jvm.ClassFile.FieldType.int)) ∈ lw_all := lw_g (lw_at lw_m14 203 rfl) rfl
theorem q3487 : (Jvm.Cond.methodLink "FollowingRefs" (7 : Nat) ({ cls := "FollowingRefs", name := "common", desc := "(II)I" } : Jvm.MethodName)) ∈ lw_all := lw_g (lw_at lw_m14 204 rfl) rfl
theorem q3488 : (Jvm.Cond.static ({ cls := "FollowingRefs", name := "common", desc := "(II)I" } : Jvm.MethodName)) ∈ lw_all := lw_g (lw_at lw_m14 205 rfl) rfl
theorem q3489 : (Jvm.Cond.code ({ cls := "FollowingRefs", name := "common", desc := "(II)I" } : Jvm.MethodName) prog_1_method_3_code (2 : Nat) (Option.some Jvm.ClassFile.FieldType.int)) ∈ lw_all := lw_g (lw_at lw_m14 206 rfl) rfl
theorem q3490 : (Jvm.Cond.methodLink "FollowingRefsLaw" (108 : Nat) ({ cls := "FollowingRefsModel", name := "thrown", desc := "()I" } : Jvm.MethodName)) ∈ lw_all := lw_g (lw_at lw_m14 207 rfl) rfl
theorem q3491 : (Jvm.Cond.instanceMethod ({ cls := "FollowingRefsModel", name := "thrown", desc := "()I" } : Jvm.MethodName)) ∈ lw_all := lw_g (lw_at lw_m14 208 rfl) rfl
theorem q3492 : (Jvm.Cond.selects "FollowingRefsModel" ({ cls := "FollowingRefsModel", name := "thrown", desc := "()I" } : Jvm.MethodName) ({ cls := "FollowingRefsModel", name := "thrown", desc := "()I" } : Jvm.MethodName)) ∈ lw_all := lw_g (lw_at lw_m14 209 rfl) rfl
theorem q3493 : (Jvm.Cond.code ({ cls := "FollowingRefsModel", name := "thrown", desc := "()I" } : Jvm.MethodName) prog_35_method_1_code (1 : Nat) (Option.some Jvm.ClassFile.FieldType.int)) ∈ lw_all := lw_g (lw_at lw_m14 210 rfl) rfl
theorem q3494 : (Jvm.Cond.methodLink "FollowingRefsLaw" (30 : Nat) ({ cls := "FollowingRefsModel", name := "feed", desc := "(IIIII)I" } : Jvm.MethodName)) ∈ lw_all := lw_g (lw_at lw_m14 211 rfl) rfl
theorem q3495 : (Jvm.Cond.instanceMethod ({ cls := "FollowingRefsModel", name := "feed", desc := "(IIIII)I" } : Jvm.MethodName)) ∈ lw_all := lw_g (lw_at lw_m14 212 rfl) rfl
theorem q3496 : (Jvm.Cond.selects "FollowingRefsModel" ({ cls := "FollowingRefsModel", name := "feed", desc := "(IIIII)I" } : Jvm.MethodName) ({ cls := "FollowingRefsModel", name := "feed", desc := "(IIIII)I" } : Jvm.MethodName)) ∈ lw_all := lw_g (lw_at lw_m14 213 rfl) rfl
theorem q3497 : (Jvm.Cond.code ({ cls := "FollowingRefsModel", name := "feed", desc := "(IIIII)I" } : Jvm.MethodName) prog_35_method_3_code (6 : Nat) (Option.some Jvm.ClassFile.FieldType.int)) ∈ lw_all := lw_g (lw_at lw_m14 214 rfl) rfl
theorem q3498 : (Jvm.Cond.methodLink "FollowingRefsModel" (10 : Nat) ({ cls := "FollowingRefsModel", name := "four", desc := "(I)V" } : Jvm.MethodName)) ∈ lw_all := lw_g (lw_at lw_m14 215 rfl) rfl
theorem q3500 : (Jvm.Cond.instanceMethod ({ cls := "FollowingRefsModel", name := "four", desc := "(I)V" } : Jvm.MethodName)) ∈ lw_all := lw_g (lw_at lw_m14 217 rfl) rfl
theorem q3501 : (Jvm.Cond.instantiable "FollowingRefsModel" (66 : Nat)) ∈ lw_all := lw_g (lw_at lw_m14 218 rfl) rfl
theorem q3502 : (Jvm.Cond.code ({ cls := "FollowingRefsModel", name := "four", desc := "(I)V" } : Jvm.MethodName) prog_35_method_4_code (3 : Nat) (Option.none : Option Jvm.ClassFile.FieldType)) ∈ lw_all := lw_g (lw_at lw_m14 219 rfl) rfl
theorem q3503 : (Jvm.Cond.methodLink "FollowingRefsLaw" (35 : Nat) ({ cls := "FollowingRefsModel", name := "end", desc := "(I)Z" } : Jvm.MethodName)) ∈ lw_all := lw_g (lw_at lw_m14 220 rfl) rfl
theorem q3504 : (Jvm.Cond.instanceMethod ({ cls := "FollowingRefsModel", name := "end", desc := "(I)Z" } : Jvm.MethodName)) ∈ lw_all := lw_g (lw_at lw_m14 221 rfl) rfl
theorem q3505 : (Jvm.Cond.selects "FollowingRefsModel" ({ cls := "FollowingRefsModel", name := "end", desc := "(I)Z" } : Jvm.MethodName) ({ cls := "FollowingRefsModel", name := "end", desc := "(I)Z" } : Jvm.MethodName)) ∈ lw_all := lw_g (lw_at lw_m14 222 rfl) rfl
theorem q3506 : (Jvm.Cond.code ({ cls := "FollowingRefsModel", name := "end", desc := "(I)Z" } : Jvm.MethodName) prog_35_method_5_code (2 : Nat) (Option.some Jvm.ClassFile.FieldType.boolean)) ∈ lw_all := lw_g (lw_at lw_m14 223 rfl) rfl
theorem q3507 : (Jvm.Cond.classLink "FollowingRefsLaw" (23 : Nat) "FollowingRefsModel") ∈ lw_all := lw_g (lw_at lw_m14 224 rfl) rfl
theorem q3508 : (Jvm.Cond.methodLink "FollowingRefsLaw" (25 : Nat) ({ cls := "FollowingRefsModel", name := "<init>", desc := "()V" } : Jvm.MethodName)) ∈ lw_all := lw_g (lw_at lw_m14 225 rfl) rfl
theorem q3509 : (Jvm.Cond.instanceMethod ({ cls := "FollowingRefsModel", name := "<init>", desc := "()V" } : Jvm.MethodName)) ∈ lw_all := lw_g (lw_at lw_m14 226 rfl) rfl
theorem q3510 : (Jvm.Cond.code ({ cls := "FollowingRefsModel", name := "<init>", desc := "()V" } : Jvm.MethodName) prog_35_method_9_code (1 : Nat) (Option.none : Option Jvm.ClassFile.FieldType)) ∈ lw_all := lw_g (lw_at lw_m14 227 rfl) rfl
theorem q3511 : (Jvm.Cond.methodLink "FollowingRefsModel" (27 : Nat) ({ cls := "java/lang/Object", name := "<init>", desc := "()V" } : Jvm.MethodName)) ∈ lw_all := lw_g (lw_at lw_m14 228 rfl) rfl
theorem q3512 : (Jvm.Cond.constantLong "FollowingRefsModel" (129 : Nat) (499850046565 : Int64)) ∈ lw_all := lw_g (lw_at lw_m14 229 rfl) rfl
theorem q3513 : (Jvm.Cond.constantLong "FollowingRefsModel" (131 : Nat) (7038329 : Int64)) ∈ lw_all := lw_g (lw_at lw_m14 230 rfl) rfl
theorem q3514 : (Jvm.Cond.constantLong "FollowingRefsModel" (133 : Nat) (7497062 : Int64)) ∈ lw_all := lw_g (lw_at lw_m14 231 rfl) rfl
theorem q3515 : (Jvm.Cond.constantLong "FollowingRefsModel" (135 : Nat) (29807 : Int64)) ∈ lw_all := lw_g (lw_at lw_m14 232 rfl) rfl
theorem q3516 : (Jvm.Cond.constantLong "FollowingRefsModel" (137 : Nat) (125779836236645 : Int64)) ∈ lw_all := lw_g (lw_at lw_m14 233 rfl) rfl
theorem q3517 : (Jvm.Cond.constantLong "FollowingRefsModel" (139 : Nat) (112628746448759 : Int64)) ∈ lw_all := lw_g (lw_at lw_m14 234 rfl) rfl
theorem q3518 : (Jvm.Cond.constantLong "FollowingRefsModel" (141 : Nat) (427020345714 : Int64)) ∈ lw_all := lw_g (lw_at lw_m14 235 rfl) rfl
theorem q3519 : (Jvm.Cond.constantLong "FollowingRefsModel" (143 : Nat) (491328333172 : Int64)) ∈ lw_all := lw_g (lw_at lw_m14 236 rfl) rfl
theorem q3520 : (Jvm.Cond.constantLong "FollowingRefsModel" (145 : Nat) (1718971500 : Int64)) ∈ lw_all := lw_g (lw_at lw_m14 237 rfl) rfl
theorem q3521 : (Jvm.Cond.constantLong "FollowingRefsModel" (147 : Nat) (1818326117 : Int64)) ∈ lw_all := lw_g (lw_at lw_m14 238 rfl) rfl
theorem q3522 : (Jvm.Cond.constantLong "FollowingRefsModel" (149 : Nat) (28258988067220596 : Int64)) ∈ lw_all := lw_g (lw_at lw_m14 239 rfl) rfl
theorem q3523 : (Jvm.Cond.constantLong "FollowingRefsModel" (151 : Nat) (1852138852 : Int64)) ∈ lw_all := lw_g (lw_at lw_m15 0 rfl) rfl
theorem q3524 : (Jvm.Cond.constantLong "FollowingRefsModel" (153 : Nat) (426953237355 : Int64)) ∈ lw_all := lw_g (lw_at lw_m15 1 rfl) rfl
theorem q3525 : (Jvm.Cond.constantLong "FollowingRefsModel" (155 : Nat) (115923103347316 : Int64)) ∈ lw_all := lw_g (lw_at lw_m15 2 rfl) rfl
theorem q3526 : (Jvm.Cond.constantLong "FollowingRefsModel" (157 : Nat) (110386773062757 : Int64)) ∈ lw_all := lw_g (lw_at lw_m15 3 rfl) rfl
theorem q3527 : (Jvm.Cond.constantLong "FollowingRefsModel" (159 : Nat) (26982 : Int64)) ∈ lw_all := lw_g (lw_at lw_m15 4 rfl) rfl
theorem q3528 : (Jvm.Cond.constantLong "FollowingRefsModel" (161 : Nat) (6385252 : Int64)) ∈ lw_all := lw_g (lw_at lw_m15 5 rfl) rfl
theorem q3529 : (Jvm.Cond.constantLong "FollowingRefsModel" (163 : Nat) (7562612 : Int64)) ∈ lw_all := lw_g (lw_at lw_m15 6 rfl) rfl
theorem q3530 : (Jvm.Cond.constantLong "FollowingRefsModel" (165 : Nat) (422608071022 : Int64)) ∈ lw_all := lw_g (lw_at lw_m15 7 rfl) rfl
theorem q3531 : (Jvm.Cond.constantLong "FollowingRefsModel" (167 : Nat) (109330228406644 : Int64)) ∈ lw_all := lw_g (lw_at lw_m15 8 rfl) rfl
theorem q3532 : (Jvm.Cond.constantLong "FollowingRefsModel" (169 : Nat) (1650549611 : Int64)) ∈ lw_all := lw_g (lw_at lw_m15 9 rfl) rfl
theorem q3533 : (Jvm.Cond.constantLong "FollowingRefsModel" (171 : Nat) (1852796517 : Int64)) ∈ lw_all := lw_g (lw_at lw_m15 10 rfl) rfl
theorem q3534 : (Jvm.Cond.constantLong "FollowingRefsModel" (173 : Nat) (28530 : Int64)) ∈ lw_all := lw_g (lw_at lw_m15 11 rfl) rfl
theorem q3535 : (Jvm.Cond.constantLong "FollowingRefsModel" (175 : Nat) (7237492 : Int64)) ∈ lw_all := lw_g (lw_at lw_m15 12 rfl) rfl
theorem q3536 : (Jvm.Cond.constantLong "FollowingRefsModel" (177 : Nat) (1650553445 : Int64)) ∈ lw_all := lw_g (lw_at lw_m15 13 rfl) rfl
theorem q3537 : (Jvm.Cond.constantLong "FollowingRefsModel" (179 : Nat) (461414299502 : Int64)) ∈ lw_all := lw_g (lw_at lw_m15 14 rfl) rfl
theorem q3538 : (Jvm.Cond.constantLong "FollowingRefsModel" (181 : Nat) (108243635103086 : Int64)) ∈ lw_all := lw_g (lw_at lw_m15 15 rfl) rfl
theorem q3539 : (Jvm.Cond.constantLong "FollowingRefsModel" (183 : Nat) (26990 : Int64)) ∈ lw_all := lw_g (lw_at lw_m15 16 rfl) rfl
theorem q3540 : (Jvm.Cond.constantLong "FollowingRefsModel" (185 : Nat) (7499639 : Int64)) ∈ lw_all := lw_g (lw_at lw_m15 17 rfl) rfl
theorem q3541 : (Jvm.Cond.fieldLink "FollowingRefsModel" (1 : Nat) "FollowingRefsModel" "thrown" "I") ∈ lw_all := lw_g (lw_at lw_m15 18 rfl) rfl
theorem q3542 : (Jvm.Cond.fieldLink "FollowingRefsModel" (14 : Nat) "FollowingRefsModel" "tape" "[B") ∈ lw_all := lw_g (lw_at lw_m15 19 rfl) rfl
theorem q3543 : (Jvm.Cond.fieldLink "FollowingRefsModel" (7 : Nat) "FollowingRefsModel" "length" "I") ∈ lw_all := lw_g (lw_at lw_m15 20 rfl) rfl
theorem q3544 : (Jvm.Cond.fieldLink "FollowingRefsModel" (18 : Nat) "FollowingRefsModel" "size" "I") ∈ lw_all := lw_g (lw_at lw_m15 21 rfl) rfl
theorem q3545 : (Jvm.Cond.fieldLink "FollowingRefsModel" (21 : Nat) "FollowingRefsModel" "p" "I") ∈ lw_all := lw_g (lw_at lw_m15 22 rfl) rfl
theorem q3546 : (Jvm.Cond.fieldLink "FollowingRefsModel" (24 : Nat) "FollowingRefsModel" "limit" "I") ∈ lw_all := lw_g (lw_at lw_m15 23 rfl) rfl
theorem q3547 : (Jvm.Cond.fieldLink "FollowingRefsModel" (33 : Nat) "FollowingRefsModel" "s" "[I") ∈ lw_all := lw_g (lw_at lw_m15 24 rfl) rfl
theorem q3548 : (Jvm.Cond.fieldLink "FollowingRefsModel" (37 : Nat) "FollowingRefsModel" "h" "[I") ∈ lw_all := lw_g (lw_at lw_m15 25 rfl) rfl
theorem q3549 : (Jvm.Cond.fieldLink "FollowingRefsModel" (40 : Nat) "FollowingRefsModel" "read" "[I") ∈ lw_all := lw_g (lw_at lw_m15 26 rfl) rfl
theorem q3550 : (Jvm.Cond.fieldLink "FollowingRefsModel" (43 : Nat) "FollowingRefsModel" "line" "[I") ∈ lw_all := lw_g (lw_at lw_m15 27 rfl) rfl
theorem q3551 : (Jvm.Cond.fieldLink "FollowingRefsModel" (46 : Nat) "FollowingRefsModel" "names" "[J") ∈ lw_all := lw_g (lw_at lw_m15 28 rfl) rfl
theorem q3552 : (Jvm.Cond.fieldLink "FollowingRefsModel" (50 : Nat) "FollowingRefsModel" "reserved" "[J") ∈ lw_all := lw_g (lw_at lw_m15 29 rfl) rfl
theorem q3553 : (Jvm.Cond.fieldLink "FollowingRefsModel" (197 : Nat) "FollowingRefsModel" "token" "I") ∈ lw_all := lw_g (lw_at lw_m15 30 rfl) rfl
theorem q3554 : (Jvm.Cond.fieldLink "FollowingRefsModel" (191 : Nat) "FollowingRefsModel" "at" "I") ∈ lw_all := lw_g (lw_at lw_m15 31 rfl) rfl
theorem q3555 : (Jvm.Cond.fieldLink "FollowingRefsModel" (194 : Nat) "FollowingRefsModel" "span" "I") ∈ lw_all := lw_g (lw_at lw_m15 32 rfl) rfl
theorem q3556 : (Jvm.Cond.fieldLink "FollowingRefsModel" (207 : Nat) "FollowingRefsModel" "number" "I") ∈ lw_all := lw_g (lw_at lw_m15 33 rfl) rfl
theorem q3557 : (Jvm.Cond.fieldLink "FollowingRefsModel" (214 : Nat) "FollowingRefsModel" "fault" "I") ∈ lw_all := lw_g (lw_at lw_m15 34 rfl) rfl
theorem q3558 : (Jvm.Cond.fieldLink "FollowingRefsModel" (217 : Nat) "FollowingRefsModel" "faultAt" "I") ∈ lw_all := lw_g (lw_at lw_m15 35 rfl) rfl
theorem q3559 : (Jvm.Cond.fieldLink "FollowingRefsModel" (210 : Nat) "FollowingRefsModel" "word" "J") ∈ lw_all := lw_g (lw_at lw_m15 36 rfl) rfl
theorem q3560 : (Jvm.Cond.fieldLink "FollowingRefsModel" (233 : Nat) "FollowingRefsModel" "got" "I") ∈ lw_all := lw_g (lw_at lw_m15 37 rfl) rfl
theorem q3561 : (Jvm.Cond.fieldLink "FollowingRefsModel" (305 : Nat) "FollowingRefsModel" "lines" "I") ∈ lw_all := lw_g (lw_at lw_m15 38 rfl) rfl
theorem q3562 : (Jvm.Cond.fieldLink "FollowingRefsModel" (276 : Nat) "FollowingRefsModel" "colOne" "I") ∈ lw_all := lw_g (lw_at lw_m15 39 rfl) rfl
theorem q3563 : (Jvm.Cond.fieldLink "FollowingRefsModel" (279 : Nat) "FollowingRefsModel" "colTwo" "I") ∈ lw_all := lw_g (lw_at lw_m15 40 rfl) rfl
theorem q3564 : (Jvm.Cond.fieldLink "FollowingRefsModel" (53 : Nat) "FollowingRefsModel" "sorts" "[I") ∈ lw_all := lw_g (lw_at lw_m15 41 rfl) rfl
theorem q3565 : (Jvm.Cond.fieldLink "FollowingRefsModel" (56 : Nat) "FollowingRefsModel" "which" "[I") ∈ lw_all := lw_g (lw_at lw_m15 42 rfl) rfl
theorem q3566 : (Jvm.Cond.fieldLink "FollowingRefsModel" (59 : Nat) "FollowingRefsModel" "whose" "[I") ∈ lw_all := lw_g (lw_at lw_m15 43 rfl) rfl
theorem q3567 : (Jvm.Cond.fieldLink "FollowingRefsModel" (327 : Nat) "FollowingRefsModel" "violations" "I") ∈ lw_all := lw_g (lw_at lw_m15 44 rfl) rfl
theorem q3568 : (Jvm.Cond.fieldLink "FollowingRefsModel" (62 : Nat) "FollowingRefsModel" "want" "[I") ∈ lw_all := lw_g (lw_at lw_m15 45 rfl) rfl
theorem q3569 : (Jvm.Cond.fieldLink "FollowingRefsModel" (65 : Nat) "FollowingRefsModel" "ahead" "[I") ∈ lw_all := lw_g (lw_at lw_m15 46 rfl) rfl
theorem q3570 : (Jvm.Cond.fieldLink "FollowingRefsModel" (68 : Nat) "FollowingRefsModel" "goRow" "[I") ∈ lw_all := lw_g (lw_at lw_m15 47 rfl) rfl
theorem q3571 : (Jvm.Cond.fieldLink "FollowingRefsModel" (71 : Nat) "FollowingRefsModel" "was" "[I") ∈ lw_all := lw_g (lw_at lw_m15 48 rfl) rfl
theorem q3572 : (Jvm.Cond.fieldLink "FollowingRefsModel" (405 : Nat) "FollowingRefsModel" "foundMany" "I") ∈ lw_all := lw_g (lw_at lw_m15 49 rfl) rfl
theorem q3573 : (Jvm.Cond.fieldLink "FollowingRefsModel" (408 : Nat) "FollowingRefsModel" "goMany" "I") ∈ lw_all := lw_g (lw_at lw_m15 50 rfl) rfl
theorem q3574 : (Jvm.Cond.fieldLink "FollowingRefsModel" (411 : Nat) "FollowingRefsModel" "changed" "I") ∈ lw_all := lw_g (lw_at lw_m15 51 rfl) rfl
theorem q3575 : (Jvm.Cond.fieldLink "FollowingRefsModel" (380 : Nat) "FollowingRefsModel" "clashes" "Z") ∈ lw_all := lw_g (lw_at lw_m15 52 rfl) rfl
theorem q3576 : (Jvm.Cond.fieldLink "FollowingRefsModel" (376 : Nat) "FollowingRefsModel" "wantsMore" "Z") ∈ lw_all := lw_g (lw_at lw_m15 53 rfl) rfl
theorem q3577 : (Jvm.Cond.fieldLink "FollowingRefsModel" (74 : Nat) "FollowingRefsModel" "toldOne" "[I") ∈ lw_all := lw_g (lw_at lw_m15 54 rfl) rfl
theorem q3578 : (Jvm.Cond.fieldLink "FollowingRefsModel" (77 : Nat) "FollowingRefsModel" "toldGo" "[I") ∈ lw_all := lw_g (lw_at lw_m15 55 rfl) rfl
theorem q3579 : (Jvm.Cond.fieldLink "FollowingRefsModel" (80 : Nat) "FollowingRefsModel" "toldSort" "[I") ∈ lw_all := lw_g (lw_at lw_m15 56 rfl) rfl
theorem q3580 : (Jvm.Cond.fieldLink "FollowingRefsModel" (83 : Nat) "FollowingRefsModel" "toldWhich" "[I") ∈ lw_all := lw_g (lw_at lw_m15 57 rfl) rfl
theorem q3581 : (Jvm.Cond.fieldLink "FollowingRefsModel" (86 : Nat) "FollowingRefsModel" "toldWhose" "[I") ∈ lw_all := lw_g (lw_at lw_m15 58 rfl) rfl
theorem q3582 : (Jvm.Cond.fieldLink "FollowingRefsModel" (459 : Nat) "FollowingRefsModel" "toldMany0" "I") ∈ lw_all := lw_g (lw_at lw_m15 59 rfl) rfl
theorem q3583 : (Jvm.Cond.fieldLink "FollowingRefsModel" (456 : Nat) "FollowingRefsModel" "hasTold0" "Z") ∈ lw_all := lw_g (lw_at lw_m15 60 rfl) rfl
theorem q3584 : (Jvm.Cond.fieldLink "FollowingRefsModel" (89 : Nat) "FollowingRefsModel" "undone" "[I") ∈ lw_all := lw_g (lw_at lw_m15 61 rfl) rfl
theorem q3585 : (Jvm.Cond.fieldLink "FollowingRefsModel" (314 : Nat) "FollowingRefsModel" "undoMany" "I") ∈ lw_all := lw_g (lw_at lw_m15 62 rfl) rfl
theorem q3586 : (Jvm.Cond.fieldLink "FollowingRefsModel" (92 : Nat) "FollowingRefsModel" "before" "[I") ∈ lw_all := lw_g (lw_at lw_m15 63 rfl) rfl
theorem q3587 : (Jvm.Cond.fieldLink "FollowingRefsModel" (95 : Nat) "FollowingRefsModel" "orderRow" "[I") ∈ lw_all := lw_g (lw_at lw_m15 64 rfl) rfl
theorem q3588 : (Jvm.Cond.fieldLink "FollowingRefsModel" (98 : Nat) "FollowingRefsModel" "orderTry" "[I") ∈ lw_all := lw_g (lw_at lw_m15 65 rfl) rfl
theorem q3589 : (Jvm.Cond.fieldLink "FollowingRefsModel" (101 : Nat) "FollowingRefsModel" "orderMany" "I") ∈ lw_all := lw_g (lw_at lw_m15 66 rfl) rfl
theorem q3590 : (Jvm.Cond.fieldLink "FollowingRefsModel" (104 : Nat) "FollowingRefsModel" "text" "[B") ∈ lw_all := lw_g (lw_at lw_m15 67 rfl) rfl
theorem q3591 : (Jvm.Cond.fieldLink "FollowingRefsModel" (511 : Nat) "FollowingRefsModel" "textMany" "I") ∈ lw_all := lw_g (lw_at lw_m15 68 rfl) rfl
theorem q3592 : (Jvm.Cond.fieldLink "FollowingRefsModel" (526 : Nat) "FollowingRefsModel" "seed" "I") ∈ lw_all := lw_g (lw_at lw_m15 69 rfl) rfl
theorem q3593 : (Jvm.Cond.fieldLink "FollowingRefsModel" (540 : Nat) "FollowingRefsModel" "bookMany" "I") ∈ lw_all := lw_g (lw_at lw_m15 70 rfl) rfl
theorem q3594 : (Jvm.Cond.fieldLink "FollowingRefsModel" (107 : Nat) "FollowingRefsModel" "toldAt" "[I") ∈ lw_all := lw_g (lw_at lw_m15 71 rfl) rfl
theorem q3595 : (Jvm.Cond.fieldLink "FollowingRefsModel" (110 : Nat) "FollowingRefsModel" "first" "[I") ∈ lw_all := lw_g (lw_at lw_m15 72 rfl) rfl
theorem q3596 : (Jvm.Cond.fieldLink "FollowingRefsModel" (549 : Nat) "FollowingRefsModel" "hasTold" "Z") ∈ lw_all := lw_g (lw_at lw_m15 73 rfl) rfl
theorem q3597 : (Jvm.Cond.fieldLink "FollowingRefsModel" (113 : Nat) "FollowingRefsModel" "stack" "[I") ∈ lw_all := lw_g (lw_at lw_m15 74 rfl) rfl
theorem q3598 : (Jvm.Cond.fieldLink "FollowingRefsModel" (552 : Nat) "FollowingRefsModel" "codes" "I") ∈ lw_all := lw_g (lw_at lw_m15 75 rfl) rfl
theorem q3599 : (Jvm.Cond.fieldLink "FollowingRefsModel" (570 : Nat) "FollowingRefsModel" "ones" "I") ∈ lw_all := lw_g (lw_at lw_m15 76 rfl) rfl
theorem q3600 : (Jvm.Cond.fieldLink "FollowingRefsModel" (555 : Nat) "FollowingRefsModel" "top" "I") ∈ lw_all := lw_g (lw_at lw_m15 77 rfl) rfl
theorem q3601 : (Jvm.Cond.fieldLink "FollowingRefsModel" (561 : Nat) "FollowingRefsModel" "deep" "I") ∈ lw_all := lw_g (lw_at lw_m15 78 rfl) rfl
theorem q3602 : (Jvm.Cond.fieldLink "FollowingRefsModel" (573 : Nat) "FollowingRefsModel" "isWhole" "Z") ∈ lw_all := lw_g (lw_at lw_m15 79 rfl) rfl
theorem q3603 : (Jvm.Cond.fieldLink "FollowingRefsModel" (116 : Nat) "FollowingRefsModel" "truths" "[Z") ∈ lw_all := lw_g (lw_at lw_m15 80 rfl) rfl
theorem q3604 : (Jvm.Cond.fieldLink "FollowingRefsModel" (120 : Nat) "FollowingRefsModel" "imaged" "[I") ∈ lw_all := lw_g (lw_at lw_m15 81 rfl) rfl
theorem q3605 : (Jvm.Cond.fieldLink "FollowingRefsModel" (123 : Nat) "FollowingRefsModel" "namesKept" "[J") ∈ lw_all := lw_g (lw_at lw_m15 82 rfl) rfl
theorem q3606 : (Jvm.Cond.fieldLink "FollowingRefsModel" (126 : Nat) "FollowingRefsModel" "areKept" "[Z") ∈ lw_all := lw_g (lw_at lw_m15 83 rfl) rfl
theorem q3607 : (Jvm.Cond.lays "FollowingRefsModel" "FollowingRefsModel" "thrown" "I") ∈ lw_all := lw_g (lw_at lw_m15 84 rfl) rfl
theorem q3609 : (Jvm.Cond.laysFinal "FollowingRefsModel" "FollowingRefsModel" "tape" "[B") ∈ lw_all := lw_g (lw_at lw_m15 86 rfl) rfl
theorem q3611 : (Jvm.Cond.lays "FollowingRefsModel" "FollowingRefsModel" "length" "I") ∈ lw_all := lw_g (lw_at lw_m15 88 rfl) rfl
theorem q3613 : (Jvm.Cond.lays "FollowingRefsModel" "FollowingRefsModel" "size" "I") ∈ lw_all := lw_g (lw_at lw_m15 90 rfl) rfl
theorem q3615 : (Jvm.Cond.lays "FollowingRefsModel" "FollowingRefsModel" "p" "I") ∈ lw_all := lw_g (lw_at lw_m15 92 rfl) rfl
theorem q3617 : (Jvm.Cond.lays "FollowingRefsModel" "FollowingRefsModel" "limit" "I") ∈ lw_all := lw_g (lw_at lw_m15 94 rfl) rfl
theorem q3619 : (Jvm.Cond.laysFinal "FollowingRefsModel" "FollowingRefsModel" "s" "[I") ∈ lw_all := lw_g (lw_at lw_m15 96 rfl) rfl
theorem q3621 : (Jvm.Cond.laysFinal "FollowingRefsModel" "FollowingRefsModel" "h" "[I") ∈ lw_all := lw_g (lw_at lw_m15 98 rfl) rfl
theorem q3623 : (Jvm.Cond.laysFinal "FollowingRefsModel" "FollowingRefsModel" "read" "[I") ∈ lw_all := lw_g (lw_at lw_m15 100 rfl) rfl
theorem q3625 : (Jvm.Cond.laysFinal "FollowingRefsModel" "FollowingRefsModel" "line" "[I") ∈ lw_all := lw_g (lw_at lw_m15 102 rfl) rfl
theorem q3627 : (Jvm.Cond.laysFinal "FollowingRefsModel" "FollowingRefsModel" "names" "[J") ∈ lw_all := lw_g (lw_at lw_m15 104 rfl) rfl
theorem q3629 : (Jvm.Cond.laysFinal "FollowingRefsModel" "FollowingRefsModel" "reserved" "[J") ∈ lw_all := lw_g (lw_at lw_m15 106 rfl) rfl
theorem q3631 : (Jvm.Cond.lays "FollowingRefsModel" "FollowingRefsModel" "token" "I") ∈ lw_all := lw_g (lw_at lw_m15 108 rfl) rfl
theorem q3633 : (Jvm.Cond.lays "FollowingRefsModel" "FollowingRefsModel" "at" "I") ∈ lw_all := lw_g (lw_at lw_m15 110 rfl) rfl
theorem q3635 : (Jvm.Cond.lays "FollowingRefsModel" "FollowingRefsModel" "span" "I") ∈ lw_all := lw_g (lw_at lw_m15 112 rfl) rfl
theorem q3637 : (Jvm.Cond.lays "FollowingRefsModel" "FollowingRefsModel" "number" "I") ∈ lw_all := lw_g (lw_at lw_m15 114 rfl) rfl
theorem q3639 : (Jvm.Cond.lays "FollowingRefsModel" "FollowingRefsModel" "fault" "I") ∈ lw_all := lw_g (lw_at lw_m15 116 rfl) rfl
theorem q3641 : (Jvm.Cond.lays "FollowingRefsModel" "FollowingRefsModel" "faultAt" "I") ∈ lw_all := lw_g (lw_at lw_m15 118 rfl) rfl
theorem q3643 : (Jvm.Cond.lays "FollowingRefsModel" "FollowingRefsModel" "word" "J") ∈ lw_all := lw_g (lw_at lw_m15 120 rfl) rfl
theorem q3645 : (Jvm.Cond.lays "FollowingRefsModel" "FollowingRefsModel" "got" "I") ∈ lw_all := lw_g (lw_at lw_m15 122 rfl) rfl
theorem q3647 : (Jvm.Cond.lays "FollowingRefsModel" "FollowingRefsModel" "lines" "I") ∈ lw_all := lw_g (lw_at lw_m15 124 rfl) rfl
theorem q3649 : (Jvm.Cond.lays "FollowingRefsModel" "FollowingRefsModel" "colOne" "I") ∈ lw_all := lw_g (lw_at lw_m15 126 rfl) rfl
theorem q3651 : (Jvm.Cond.lays "FollowingRefsModel" "FollowingRefsModel" "colTwo" "I") ∈ lw_all := lw_g (lw_at lw_m15 128 rfl) rfl
theorem q3653 : (Jvm.Cond.laysFinal "FollowingRefsModel" "FollowingRefsModel" "sorts" "[I") ∈ lw_all := lw_g (lw_at lw_m15 130 rfl) rfl
theorem q3655 : (Jvm.Cond.laysFinal "FollowingRefsModel" "FollowingRefsModel" "which" "[I") ∈ lw_all := lw_g (lw_at lw_m15 132 rfl) rfl
theorem q3657 : (Jvm.Cond.laysFinal "FollowingRefsModel" "FollowingRefsModel" "whose" "[I") ∈ lw_all := lw_g (lw_at lw_m15 134 rfl) rfl
theorem q3659 : (Jvm.Cond.lays "FollowingRefsModel" "FollowingRefsModel" "violations" "I") ∈ lw_all := lw_g (lw_at lw_m15 136 rfl) rfl
theorem q3661 : (Jvm.Cond.laysFinal "FollowingRefsModel" "FollowingRefsModel" "want" "[I") ∈ lw_all := lw_g (lw_at lw_m15 138 rfl) rfl
theorem q3663 : (Jvm.Cond.laysFinal "FollowingRefsModel" "FollowingRefsModel" "ahead" "[I") ∈ lw_all := lw_g (lw_at lw_m15 140 rfl) rfl
theorem q3665 : (Jvm.Cond.laysFinal "FollowingRefsModel" "FollowingRefsModel" "goRow" "[I") ∈ lw_all := lw_g (lw_at lw_m15 142 rfl) rfl
theorem q3667 : (Jvm.Cond.laysFinal "FollowingRefsModel" "FollowingRefsModel" "was" "[I") ∈ lw_all := lw_g (lw_at lw_m15 144 rfl) rfl
theorem q3669 : (Jvm.Cond.lays "FollowingRefsModel" "FollowingRefsModel" "foundMany" "I") ∈ lw_all := lw_g (lw_at lw_m15 146 rfl) rfl
theorem q3671 : (Jvm.Cond.lays "FollowingRefsModel" "FollowingRefsModel" "goMany" "I") ∈ lw_all := lw_g (lw_at lw_m15 148 rfl) rfl
theorem q3673 : (Jvm.Cond.lays "FollowingRefsModel" "FollowingRefsModel" "changed" "I") ∈ lw_all := lw_g (lw_at lw_m15 150 rfl) rfl
theorem q3675 : (Jvm.Cond.lays "FollowingRefsModel" "FollowingRefsModel" "clashes" "Z") ∈ lw_all := lw_g (lw_at lw_m15 152 rfl) rfl
theorem q3677 : (Jvm.Cond.lays "FollowingRefsModel" "FollowingRefsModel" "wantsMore" "Z") ∈ lw_all := lw_g (lw_at lw_m15 154 rfl) rfl
theorem q3679 : (Jvm.Cond.laysFinal "FollowingRefsModel" "FollowingRefsModel" "toldOne" "[I") ∈ lw_all := lw_g (lw_at lw_m15 156 rfl) rfl
theorem q3681 : (Jvm.Cond.laysFinal "FollowingRefsModel" "FollowingRefsModel" "toldGo" "[I") ∈ lw_all := lw_g (lw_at lw_m15 158 rfl) rfl
theorem q3683 : (Jvm.Cond.laysFinal "FollowingRefsModel" "FollowingRefsModel" "toldSort" "[I") ∈ lw_all := lw_g (lw_at lw_m15 160 rfl) rfl
theorem q3685 : (Jvm.Cond.laysFinal "FollowingRefsModel" "FollowingRefsModel" "toldWhich" "[I") ∈ lw_all := lw_g (lw_at lw_m15 162 rfl) rfl
theorem q3687 : (Jvm.Cond.laysFinal "FollowingRefsModel" "FollowingRefsModel" "toldWhose" "[I") ∈ lw_all := lw_g (lw_at lw_m15 164 rfl) rfl
theorem q3689 : (Jvm.Cond.lays "FollowingRefsModel" "FollowingRefsModel" "toldMany0" "I") ∈ lw_all := lw_g (lw_at lw_m15 166 rfl) rfl
theorem q3691 : (Jvm.Cond.lays "FollowingRefsModel" "FollowingRefsModel" "hasTold0" "Z") ∈ lw_all := lw_g (lw_at lw_m15 168 rfl) rfl
theorem q3693 : (Jvm.Cond.laysFinal "FollowingRefsModel" "FollowingRefsModel" "undone" "[I") ∈ lw_all := lw_g (lw_at lw_m15 170 rfl) rfl
theorem q3695 : (Jvm.Cond.lays "FollowingRefsModel" "FollowingRefsModel" "undoMany" "I") ∈ lw_all := lw_g (lw_at lw_m15 172 rfl) rfl
theorem q3697 : (Jvm.Cond.laysFinal "FollowingRefsModel" "FollowingRefsModel" "before" "[I") ∈ lw_all := lw_g (lw_at lw_m15 174 rfl) rfl
theorem q3699 : (Jvm.Cond.laysFinal "FollowingRefsModel" "FollowingRefsModel" "orderRow" "[I") ∈ lw_all := lw_g (lw_at lw_m15 176 rfl) rfl
theorem q3701 : (Jvm.Cond.laysFinal "FollowingRefsModel" "FollowingRefsModel" "orderTry" "[I") ∈ lw_all := lw_g (lw_at lw_m15 178 rfl) rfl
theorem q3703 : (Jvm.Cond.lays "FollowingRefsModel" "FollowingRefsModel" "orderMany" "I") ∈ lw_all := lw_g (lw_at lw_m15 180 rfl) rfl
theorem q3705 : (Jvm.Cond.laysFinal "FollowingRefsModel" "FollowingRefsModel" "text" "[B") ∈ lw_all := lw_g (lw_at lw_m15 182 rfl) rfl
theorem q3707 : (Jvm.Cond.lays "FollowingRefsModel" "FollowingRefsModel" "textMany" "I") ∈ lw_all := lw_g (lw_at lw_m15 184 rfl) rfl
theorem q3709 : (Jvm.Cond.lays "FollowingRefsModel" "FollowingRefsModel" "seed" "I") ∈ lw_all := lw_g (lw_at lw_m15 186 rfl) rfl
theorem q3711 : (Jvm.Cond.lays "FollowingRefsModel" "FollowingRefsModel" "bookMany" "I") ∈ lw_all := lw_g (lw_at lw_m15 188 rfl) rfl
theorem q3713 : (Jvm.Cond.laysFinal "FollowingRefsModel" "FollowingRefsModel" "toldAt" "[I") ∈ lw_all := lw_g (lw_at lw_m15 190 rfl) rfl
theorem q3715 : (Jvm.Cond.laysFinal "FollowingRefsModel" "FollowingRefsModel" "first" "[I") ∈ lw_all := lw_g (lw_at lw_m15 192 rfl) rfl
theorem q3717 : (Jvm.Cond.lays "FollowingRefsModel" "FollowingRefsModel" "hasTold" "Z") ∈ lw_all := lw_g (lw_at lw_m15 194 rfl) rfl
theorem q3719 : (Jvm.Cond.laysFinal "FollowingRefsModel" "FollowingRefsModel" "stack" "[I") ∈ lw_all := lw_g (lw_at lw_m15 196 rfl) rfl
theorem q3721 : (Jvm.Cond.lays "FollowingRefsModel" "FollowingRefsModel" "codes" "I") ∈ lw_all := lw_g (lw_at lw_m15 198 rfl) rfl
theorem q3723 : (Jvm.Cond.lays "FollowingRefsModel" "FollowingRefsModel" "ones" "I") ∈ lw_all := lw_g (lw_at lw_m15 200 rfl) rfl
theorem q3725 : (Jvm.Cond.lays "FollowingRefsModel" "FollowingRefsModel" "top" "I") ∈ lw_all := lw_g (lw_at lw_m15 202 rfl) rfl
theorem q3727 : (Jvm.Cond.lays "FollowingRefsModel" "FollowingRefsModel" "deep" "I") ∈ lw_all := lw_g (lw_at lw_m15 204 rfl) rfl
theorem q3729 : (Jvm.Cond.lays "FollowingRefsModel" "FollowingRefsModel" "isWhole" "Z") ∈ lw_all := lw_g (lw_at lw_m15 206 rfl) rfl
theorem q3731 : (Jvm.Cond.laysFinal "FollowingRefsModel" "FollowingRefsModel" "truths" "[Z") ∈ lw_all := lw_g (lw_at lw_m15 208 rfl) rfl
theorem q3733 : (Jvm.Cond.laysFinal "FollowingRefsModel" "FollowingRefsModel" "imaged" "[I") ∈ lw_all := lw_g (lw_at lw_m15 210 rfl) rfl
theorem q3735 : (Jvm.Cond.laysFinal "FollowingRefsModel" "FollowingRefsModel" "namesKept" "[J") ∈ lw_all := lw_g (lw_at lw_m15 212 rfl) rfl
theorem q3737 : (Jvm.Cond.laysFinal "FollowingRefsModel" "FollowingRefsModel" "areKept" "[Z") ∈ lw_all := lw_g (lw_at lw_m15 214 rfl) rfl
theorem q3740 : (Jvm.Cond.arrayClass Jvm.ClassFile.FieldType.boolean) ∈ lw_all := lw_g (lw_at lw_m15 217 rfl) rfl
theorem q3741 : (Jvm.Cond.methodLink "FollowingRefsLaw" (40 : Nat) ({ cls := "FollowingRefsModel", name := "schema", desc := "()I" } : Jvm.MethodName)) ∈ lw_all := lw_g (lw_at lw_m15 218 rfl) rfl
theorem q3742 : (Jvm.Cond.instanceMethod ({ cls := "FollowingRefsModel", name := "schema", desc := "()I" } : Jvm.MethodName)) ∈ lw_all := lw_g (lw_at lw_m15 219 rfl) rfl
theorem q3743 : (Jvm.Cond.selects "FollowingRefsModel" ({ cls := "FollowingRefsModel", name := "schema", desc := "()I" } : Jvm.MethodName) ({ cls := "FollowingRefsModel", name := "schema", desc := "()I" } : Jvm.MethodName)) ∈ lw_all := lw_g (lw_at lw_m15 220 rfl) rfl
theorem q3744 : (Jvm.Cond.code ({ cls := "FollowingRefsModel", name := "schema", desc := "()I" } : Jvm.MethodName) prog_35_method_36_code (2 : Nat) (Option.some Jvm.ClassFile.FieldType.int)) ∈ lw_all := lw_g (lw_at lw_m15 221 rfl) rfl
theorem q3745 : (Jvm.Cond.methodLink "FollowingRefsModel" (302 : Nat) ({ cls := "FollowingRefsModel", name := "taken", desc := "(I)V" } : Jvm.MethodName)) ∈ lw_all := lw_g (lw_at lw_m15 222 rfl) rfl
theorem q3747 : (Jvm.Cond.instanceMethod ({ cls := "FollowingRefsModel", name := "taken", desc := "(I)V" } : Jvm.MethodName)) ∈ lw_all := lw_g (lw_at lw_m15 224 rfl) rfl
theorem q3748 : (Jvm.Cond.code ({ cls := "FollowingRefsModel", name := "taken", desc := "(I)V" } : Jvm.MethodName) prog_35_method_6_code (2 : Nat) (Option.none : Option Jvm.ClassFile.FieldType)) ∈ lw_all := lw_g (lw_at lw_m15 225 rfl) rfl
theorem q3749 : (Jvm.Cond.methodLink "FollowingRefsModel" (226 : Nat) ({ cls := "FollowingRefsModel", name := "next", desc := "()V" } : Jvm.MethodName)) ∈ lw_all := lw_g (lw_at lw_m15 226 rfl) rfl
theorem q3751 : (Jvm.Cond.instanceMethod ({ cls := "FollowingRefsModel", name := "next", desc := "()V" } : Jvm.MethodName)) ∈ lw_all := lw_g (lw_at lw_m15 228 rfl) rfl
theorem q3752 : (Jvm.Cond.code ({ cls := "FollowingRefsModel", name := "next", desc := "()V" } : Jvm.MethodName) prog_35_method_13_code (4 : Nat) (Option.none : Option Jvm.ClassFile.FieldType)) ∈ lw_all := lw_g (lw_at lw_m15 229 rfl) rfl
theorem q3753 : (Jvm.Cond.methodLink "FollowingRefsModel" (187 : Nat) ({ cls := "FollowingRefsModel", name := "peek", desc := "()I" } : Jvm.MethodName)) ∈ lw_all := lw_g (lw_at lw_m15 230 rfl) rfl
theorem q3755 : (Jvm.Cond.instanceMethod ({ cls := "FollowingRefsModel", name := "peek", desc := "()I" } : Jvm.MethodName)) ∈ lw_all := lw_g (lw_at lw_m15 232 rfl) rfl
theorem q3756 : (Jvm.Cond.code ({ cls := "FollowingRefsModel", name := "peek", desc := "()I" } : Jvm.MethodName) prog_35_method_10_code (1 : Nat) (Option.some Jvm.ClassFile.FieldType.int)) ∈ lw_all := lw_g (lw_at lw_m15 233 rfl) rfl
theorem q3757 : (Jvm.Cond.methodLink "FollowingRefsModel" (200 : Nat) ({ cls := "FollowingRefsModel", name := "isSmall", desc := "(I)Z" } : Jvm.MethodName)) ∈ lw_all := lw_g (lw_at lw_m15 234 rfl) rfl
theorem q3758 : (Jvm.Cond.static ({ cls := "FollowingRefsModel", name := "isSmall", desc := "(I)Z" } : Jvm.MethodName)) ∈ lw_all := lw_g (lw_at lw_m15 235 rfl) rfl
theorem q3759 : (Jvm.Cond.code ({ cls := "FollowingRefsModel", name := "isSmall", desc := "(I)Z" } : Jvm.MethodName) prog_35_method_11_code (1 : Nat) (Option.some Jvm.ClassFile.FieldType.boolean)) ∈ lw_all := lw_g (lw_at lw_m15 236 rfl) rfl
theorem q3760 : (Jvm.Cond.methodLink "FollowingRefsModel" (204 : Nat) ({ cls := "FollowingRefsModel", name := "isDigit", desc := "(I)Z" } : Jvm.MethodName)) ∈ lw_all := lw_g (lw_at lw_m15 237 rfl) rfl
theorem q3761 : (Jvm.Cond.static ({ cls := "FollowingRefsModel", name := "isDigit", desc := "(I)Z" } : Jvm.MethodName)) ∈ lw_all := lw_g (lw_at lw_m15 238 rfl) rfl
theorem q3762 : (Jvm.Cond.code ({ cls := "FollowingRefsModel", name := "isDigit", desc := "(I)Z" } : Jvm.MethodName) prog_35_method_12_code (1 : Nat) (Option.some Jvm.ClassFile.FieldType.boolean)) ∈ lw_all := lw_g (lw_at lw_m15 239 rfl) rfl
theorem q3763 : (Jvm.Cond.methodLink "FollowingRefsModel" (308 : Nat) ({ cls := "FollowingRefsModel", name := "readLine", desc := "()Z" } : Jvm.MethodName)) ∈ lw_all := lw_g (lw_at lw_m16 0 rfl) rfl
theorem q3765 : (Jvm.Cond.instanceMethod ({ cls := "FollowingRefsModel", name := "readLine", desc := "()Z" } : Jvm.MethodName)) ∈ lw_all := lw_g (lw_at lw_m16 2 rfl) rfl
theorem q3766 : (Jvm.Cond.code ({ cls := "FollowingRefsModel", name := "readLine", desc := "()Z" } : Jvm.MethodName) prog_35_method_23_code (1 : Nat) (Option.some Jvm.ClassFile.FieldType.boolean)) ∈ lw_all := lw_g (lw_at lw_m16 3 rfl) rfl
theorem q3767 : (Jvm.Cond.methodLink "FollowingRefsModel" (248 : Nat) ({ cls := "FollowingRefsModel", name := "isWord", desc := "(J)Z" } : Jvm.MethodName)) ∈ lw_all := lw_g (lw_at lw_m16 4 rfl) rfl
theorem q3769 : (Jvm.Cond.instanceMethod ({ cls := "FollowingRefsModel", name := "isWord", desc := "(J)Z" } : Jvm.MethodName)) ∈ lw_all := lw_g (lw_at lw_m16 6 rfl) rfl
theorem q3770 : (Jvm.Cond.code ({ cls := "FollowingRefsModel", name := "isWord", desc := "(J)Z" } : Jvm.MethodName) prog_35_method_15_code (3 : Nat) (Option.some Jvm.ClassFile.FieldType.boolean)) ∈ lw_all := lw_g (lw_at lw_m16 7 rfl) rfl
theorem q3771 : (Jvm.Cond.methodLink "FollowingRefsModel" (252 : Nat) ({ cls := "FollowingRefsModel", name := "readTable", desc := "()Z" } : Jvm.MethodName)) ∈ lw_all := lw_g (lw_at lw_m16 8 rfl) rfl
theorem q3773 : (Jvm.Cond.instanceMethod ({ cls := "FollowingRefsModel", name := "readTable", desc := "()Z" } : Jvm.MethodName)) ∈ lw_all := lw_g (lw_at lw_m16 10 rfl) rfl
theorem q3774 : (Jvm.Cond.code ({ cls := "FollowingRefsModel", name := "readTable", desc := "()Z" } : Jvm.MethodName) prog_35_method_24_code (3 : Nat) (Option.some Jvm.ClassFile.FieldType.boolean)) ∈ lw_all := lw_g (lw_at lw_m16 11 rfl) rfl
theorem q3775 : (Jvm.Cond.methodLink "FollowingRefsModel" (223 : Nat) ({ cls := "FollowingRefsModel", name := "bad", desc := "(I)Z" } : Jvm.MethodName)) ∈ lw_all := lw_g (lw_at lw_m16 12 rfl) rfl
theorem q3777 : (Jvm.Cond.instanceMethod ({ cls := "FollowingRefsModel", name := "bad", desc := "(I)Z" } : Jvm.MethodName)) ∈ lw_all := lw_g (lw_at lw_m16 14 rfl) rfl
theorem q3778 : (Jvm.Cond.code ({ cls := "FollowingRefsModel", name := "bad", desc := "(I)Z" } : Jvm.MethodName) prog_35_method_14_code (2 : Nat) (Option.some Jvm.ClassFile.FieldType.boolean)) ∈ lw_all := lw_g (lw_at lw_m16 15 rfl) rfl
theorem q3779 : (Jvm.Cond.methodLink "FollowingRefsModel" (236 : Nat) ({ cls := "FollowingRefsModel", name := "isName", desc := "()Z" } : Jvm.MethodName)) ∈ lw_all := lw_g (lw_at lw_m16 16 rfl) rfl
theorem q3781 : (Jvm.Cond.instanceMethod ({ cls := "FollowingRefsModel", name := "isName", desc := "()Z" } : Jvm.MethodName)) ∈ lw_all := lw_g (lw_at lw_m16 18 rfl) rfl
theorem q3782 : (Jvm.Cond.code ({ cls := "FollowingRefsModel", name := "isName", desc := "()Z" } : Jvm.MethodName) prog_35_method_18_code (3 : Nat) (Option.some Jvm.ClassFile.FieldType.boolean)) ∈ lw_all := lw_g (lw_at lw_m16 19 rfl) rfl
theorem q3783 : (Jvm.Cond.methodLink "FollowingRefsModel" (240 : Nat) ({ cls := "FollowingRefsModel", name := "seek", desc := "(II)I" } : Jvm.MethodName)) ∈ lw_all := lw_g (lw_at lw_m16 20 rfl) rfl
theorem q3785 : (Jvm.Cond.instanceMethod ({ cls := "FollowingRefsModel", name := "seek", desc := "(II)I" } : Jvm.MethodName)) ∈ lw_all := lw_g (lw_at lw_m16 22 rfl) rfl
theorem q3786 : (Jvm.Cond.code ({ cls := "FollowingRefsModel", name := "seek", desc := "(II)I" } : Jvm.MethodName) prog_35_method_20_code (4 : Nat) (Option.some Jvm.ClassFile.FieldType.int)) ∈ lw_all := lw_g (lw_at lw_m16 23 rfl) rfl
theorem q3787 : (Jvm.Cond.methodLink "FollowingRefsModel" (220 : Nat) ({ cls := "FollowingRefsModel", name := "isSign", desc := "(I)Z" } : Jvm.MethodName)) ∈ lw_all := lw_g (lw_at lw_m16 24 rfl) rfl
theorem q3789 : (Jvm.Cond.instanceMethod ({ cls := "FollowingRefsModel", name := "isSign", desc := "(I)Z" } : Jvm.MethodName)) ∈ lw_all := lw_g (lw_at lw_m16 26 rfl) rfl
theorem q3790 : (Jvm.Cond.code ({ cls := "FollowingRefsModel", name := "isSign", desc := "(I)Z" } : Jvm.MethodName) prog_35_method_16_code (2 : Nat) (Option.some Jvm.ClassFile.FieldType.boolean)) ∈ lw_all := lw_g (lw_at lw_m16 27 rfl) rfl
theorem q3791 : (Jvm.Cond.methodLink "FollowingRefsModel" (255 : Nat) ({ cls := "FollowingRefsModel", name := "readKey", desc := "()Z" } : Jvm.MethodName)) ∈ lw_all := lw_g (lw_at lw_m16 28 rfl) rfl
theorem q3793 : (Jvm.Cond.instanceMethod ({ cls := "FollowingRefsModel", name := "readKey", desc := "()Z" } : Jvm.MethodName)) ∈ lw_all := lw_g (lw_at lw_m16 30 rfl) rfl
theorem q3794 : (Jvm.Cond.code ({ cls := "FollowingRefsModel", name := "readKey", desc := "()Z" } : Jvm.MethodName) prog_35_method_28_code (3 : Nat) (Option.some Jvm.ClassFile.FieldType.boolean)) ∈ lw_all := lw_g (lw_at lw_m16 31 rfl) rfl
theorem q3795 : (Jvm.Cond.methodLink "FollowingRefsModel" (282 : Nat) ({ cls := "FollowingRefsModel", name := "takesTable", desc := "()Z" } : Jvm.MethodName)) ∈ lw_all := lw_g (lw_at lw_m16 32 rfl) rfl
theorem q3797 : (Jvm.Cond.instanceMethod ({ cls := "FollowingRefsModel", name := "takesTable", desc := "()Z" } : Jvm.MethodName)) ∈ lw_all := lw_g (lw_at lw_m16 34 rfl) rfl
theorem q3798 : (Jvm.Cond.code ({ cls := "FollowingRefsModel", name := "takesTable", desc := "()Z" } : Jvm.MethodName) prog_35_method_25_code (1 : Nat) (Option.some Jvm.ClassFile.FieldType.boolean)) ∈ lw_all := lw_g (lw_at lw_m16 35 rfl) rfl
theorem q3799 : (Jvm.Cond.methodLink "FollowingRefsModel" (270 : Nat) ({ cls := "FollowingRefsModel", name := "takesName", desc := "(II)Z" } : Jvm.MethodName)) ∈ lw_all := lw_g (lw_at lw_m16 36 rfl) rfl
theorem q3801 : (Jvm.Cond.instanceMethod ({ cls := "FollowingRefsModel", name := "takesName", desc := "(II)Z" } : Jvm.MethodName)) ∈ lw_all := lw_g (lw_at lw_m16 38 rfl) rfl
theorem q3802 : (Jvm.Cond.code ({ cls := "FollowingRefsModel", name := "takesName", desc := "(II)Z" } : Jvm.MethodName) prog_35_method_22_code (3 : Nat) (Option.some Jvm.ClassFile.FieldType.boolean)) ∈ lw_all := lw_g (lw_at lw_m16 39 rfl) rfl
theorem q3803 : (Jvm.Cond.methodLink "FollowingRefsModel" (244 : Nat) ({ cls := "FollowingRefsModel", name := "looksAt", desc := "(II)Z" } : Jvm.MethodName)) ∈ lw_all := lw_g (lw_at lw_m16 40 rfl) rfl
theorem q3805 : (Jvm.Cond.instanceMethod ({ cls := "FollowingRefsModel", name := "looksAt", desc := "(II)Z" } : Jvm.MethodName)) ∈ lw_all := lw_g (lw_at lw_m16 42 rfl) rfl
theorem q3806 : (Jvm.Cond.code ({ cls := "FollowingRefsModel", name := "looksAt", desc := "(II)Z" } : Jvm.MethodName) prog_35_method_21_code (3 : Nat) (Option.some Jvm.ClassFile.FieldType.boolean)) ∈ lw_all := lw_g (lw_at lw_m16 43 rfl) rfl
theorem q3807 : (Jvm.Cond.methodLink "FollowingRefsModel" (285 : Nat) ({ cls := "FollowingRefsModel", name := "takesCols", desc := "(IZZ)Z" } : Jvm.MethodName)) ∈ lw_all := lw_g (lw_at lw_m16 44 rfl) rfl
theorem q3809 : (Jvm.Cond.instanceMethod ({ cls := "FollowingRefsModel", name := "takesCols", desc := "(IZZ)Z" } : Jvm.MethodName)) ∈ lw_all := lw_g (lw_at lw_m16 46 rfl) rfl
theorem q3810 : (Jvm.Cond.code ({ cls := "FollowingRefsModel", name := "takesCols", desc := "(IZZ)Z" } : Jvm.MethodName) prog_35_method_27_code (4 : Nat) (Option.some Jvm.ClassFile.FieldType.boolean)) ∈ lw_all := lw_g (lw_at lw_m16 47 rfl) rfl
theorem q3811 : (Jvm.Cond.methodLink "FollowingRefsModel" (273 : Nat) ({ cls := "FollowingRefsModel", name := "takesCol", desc := "(I)Z" } : Jvm.MethodName)) ∈ lw_all := lw_g (lw_at lw_m16 48 rfl) rfl
theorem q3813 : (Jvm.Cond.instanceMethod ({ cls := "FollowingRefsModel", name := "takesCol", desc := "(I)Z" } : Jvm.MethodName)) ∈ lw_all := lw_g (lw_at lw_m16 50 rfl) rfl
theorem q3814 : (Jvm.Cond.code ({ cls := "FollowingRefsModel", name := "takesCol", desc := "(I)Z" } : Jvm.MethodName) prog_35_method_26_code (2 : Nat) (Option.some Jvm.ClassFile.FieldType.boolean)) ∈ lw_all := lw_g (lw_at lw_m16 51 rfl) rfl
theorem q3815 : (Jvm.Cond.methodLink "FollowingRefsModel" (258 : Nat) ({ cls := "FollowingRefsModel", name := "readRef", desc := "()Z" } : Jvm.MethodName)) ∈ lw_all := lw_g (lw_at lw_m16 52 rfl) rfl
theorem q3817 : (Jvm.Cond.instanceMethod ({ cls := "FollowingRefsModel", name := "readRef", desc := "()Z" } : Jvm.MethodName)) ∈ lw_all := lw_g (lw_at lw_m16 54 rfl) rfl
theorem q3818 : (Jvm.Cond.code ({ cls := "FollowingRefsModel", name := "readRef", desc := "()Z" } : Jvm.MethodName) prog_35_method_32_code (8 : Nat) (Option.some Jvm.ClassFile.FieldType.boolean)) ∈ lw_all := lw_g (lw_at lw_m16 55 rfl) rfl
theorem q3819 : (Jvm.Cond.methodLink "FollowingRefsModel" (292 : Nat) ({ cls := "FollowingRefsModel", name := "keyOf", desc := "(III)I" } : Jvm.MethodName)) ∈ lw_all := lw_g (lw_at lw_m16 56 rfl) rfl
theorem q3821 : (Jvm.Cond.instanceMethod ({ cls := "FollowingRefsModel", name := "keyOf", desc := "(III)I" } : Jvm.MethodName)) ∈ lw_all := lw_g (lw_at lw_m16 58 rfl) rfl
theorem q3822 : (Jvm.Cond.code ({ cls := "FollowingRefsModel", name := "keyOf", desc := "(III)I" } : Jvm.MethodName) prog_35_method_29_code (5 : Nat) (Option.some Jvm.ClassFile.FieldType.int)) ∈ lw_all := lw_g (lw_at lw_m16 59 rfl) rfl
theorem q3823 : (Jvm.Cond.methodLink "FollowingRefsModel" (296 : Nat) ({ cls := "FollowingRefsModel", name := "takesOn", desc := "(I)Z" } : Jvm.MethodName)) ∈ lw_all := lw_g (lw_at lw_m16 60 rfl) rfl
theorem q3825 : (Jvm.Cond.instanceMethod ({ cls := "FollowingRefsModel", name := "takesOn", desc := "(I)Z" } : Jvm.MethodName)) ∈ lw_all := lw_g (lw_at lw_m16 62 rfl) rfl
theorem q3826 : (Jvm.Cond.code ({ cls := "FollowingRefsModel", name := "takesOn", desc := "(I)Z" } : Jvm.MethodName) prog_35_method_31_code (3 : Nat) (Option.some Jvm.ClassFile.FieldType.boolean)) ∈ lw_all := lw_g (lw_at lw_m16 63 rfl) rfl
theorem q3827 : (Jvm.Cond.methodLink "FollowingRefsModel" (289 : Nat) ({ cls := "FollowingRefsModel", name := "onWord", desc := "()I" } : Jvm.MethodName)) ∈ lw_all := lw_g (lw_at lw_m16 64 rfl) rfl
theorem q3829 : (Jvm.Cond.instanceMethod ({ cls := "FollowingRefsModel", name := "onWord", desc := "()I" } : Jvm.MethodName)) ∈ lw_all := lw_g (lw_at lw_m16 66 rfl) rfl
theorem q3830 : (Jvm.Cond.code ({ cls := "FollowingRefsModel", name := "onWord", desc := "()I" } : Jvm.MethodName) prog_35_method_30_code (1 : Nat) (Option.some Jvm.ClassFile.FieldType.int)) ∈ lw_all := lw_g (lw_at lw_m16 67 rfl) rfl
theorem q3831 : (Jvm.Cond.methodLink "FollowingRefsModel" (261 : Nat) ({ cls := "FollowingRefsModel", name := "readDefault", desc := "()Z" } : Jvm.MethodName)) ∈ lw_all := lw_g (lw_at lw_m16 68 rfl) rfl
theorem q3833 : (Jvm.Cond.instanceMethod ({ cls := "FollowingRefsModel", name := "readDefault", desc := "()Z" } : Jvm.MethodName)) ∈ lw_all := lw_g (lw_at lw_m16 70 rfl) rfl
theorem q3834 : (Jvm.Cond.code ({ cls := "FollowingRefsModel", name := "readDefault", desc := "()Z" } : Jvm.MethodName) prog_35_method_33_code (3 : Nat) (Option.some Jvm.ClassFile.FieldType.boolean)) ∈ lw_all := lw_g (lw_at lw_m16 71 rfl) rfl
theorem q3835 : (Jvm.Cond.methodLink "FollowingRefsModel" (299 : Nat) ({ cls := "FollowingRefsModel", name := "takes", desc := "(II)Z" } : Jvm.MethodName)) ∈ lw_all := lw_g (lw_at lw_m16 72 rfl) rfl
theorem q3837 : (Jvm.Cond.instanceMethod ({ cls := "FollowingRefsModel", name := "takes", desc := "(II)Z" } : Jvm.MethodName)) ∈ lw_all := lw_g (lw_at lw_m16 74 rfl) rfl
theorem q3838 : (Jvm.Cond.code ({ cls := "FollowingRefsModel", name := "takes", desc := "(II)Z" } : Jvm.MethodName) prog_35_method_19_code (3 : Nat) (Option.some Jvm.ClassFile.FieldType.boolean)) ∈ lw_all := lw_g (lw_at lw_m16 75 rfl) rfl
theorem q3839 : (Jvm.Cond.methodLink "FollowingRefsModel" (229 : Nat) ({ cls := "FollowingRefsModel", name := "isIn", desc := "(III)Z" } : Jvm.MethodName)) ∈ lw_all := lw_g (lw_at lw_m16 76 rfl) rfl
theorem q3840 : (Jvm.Cond.static ({ cls := "FollowingRefsModel", name := "isIn", desc := "(III)Z" } : Jvm.MethodName)) ∈ lw_all := lw_g (lw_at lw_m16 77 rfl) rfl
theorem q3841 : (Jvm.Cond.code ({ cls := "FollowingRefsModel", name := "isIn", desc := "(III)Z" } : Jvm.MethodName) prog_35_method_7_code (3 : Nat) (Option.some Jvm.ClassFile.FieldType.boolean)) ∈ lw_all := lw_g (lw_at lw_m16 78 rfl) rfl
theorem q3842 : (Jvm.Cond.methodLink "FollowingRefsModel" (264 : Nat) ({ cls := "FollowingRefsModel", name := "readNeed", desc := "()Z" } : Jvm.MethodName)) ∈ lw_all := lw_g (lw_at lw_m16 79 rfl) rfl
theorem q3844 : (Jvm.Cond.instanceMethod ({ cls := "FollowingRefsModel", name := "readNeed", desc := "()Z" } : Jvm.MethodName)) ∈ lw_all := lw_g (lw_at lw_m16 81 rfl) rfl
theorem q3845 : (Jvm.Cond.code ({ cls := "FollowingRefsModel", name := "readNeed", desc := "()Z" } : Jvm.MethodName) prog_35_method_34_code (2 : Nat) (Option.some Jvm.ClassFile.FieldType.boolean)) ∈ lw_all := lw_g (lw_at lw_m16 82 rfl) rfl
theorem q3846 : (Jvm.Cond.methodLink "FollowingRefsModel" (267 : Nat) ({ cls := "FollowingRefsModel", name := "readCheck", desc := "()Z" } : Jvm.MethodName)) ∈ lw_all := lw_g (lw_at lw_m16 83 rfl) rfl
theorem q3848 : (Jvm.Cond.instanceMethod ({ cls := "FollowingRefsModel", name := "readCheck", desc := "()Z" } : Jvm.MethodName)) ∈ lw_all := lw_g (lw_at lw_m16 85 rfl) rfl
theorem q3849 : (Jvm.Cond.code ({ cls := "FollowingRefsModel", name := "readCheck", desc := "()Z" } : Jvm.MethodName) prog_35_method_35_code (4 : Nat) (Option.some Jvm.ClassFile.FieldType.boolean)) ∈ lw_all := lw_g (lw_at lw_m16 86 rfl) rfl
theorem q3850 : (Jvm.Cond.methodLink "FollowingRefsModel" (311 : Nat) ({ cls := "FollowingRefsModel", name := "sign", desc := "(I)Z" } : Jvm.MethodName)) ∈ lw_all := lw_g (lw_at lw_m16 87 rfl) rfl
theorem q3852 : (Jvm.Cond.instanceMethod ({ cls := "FollowingRefsModel", name := "sign", desc := "(I)Z" } : Jvm.MethodName)) ∈ lw_all := lw_g (lw_at lw_m16 89 rfl) rfl
theorem q3853 : (Jvm.Cond.code ({ cls := "FollowingRefsModel", name := "sign", desc := "(I)Z" } : Jvm.MethodName) prog_35_method_17_code (2 : Nat) (Option.some Jvm.ClassFile.FieldType.boolean)) ∈ lw_all := lw_g (lw_at lw_m16 90 rfl) rfl
theorem q3854 : (Jvm.Cond.methodLink "FollowingRefsLaw" (44 : Nat) ({ cls := "FollowingRefsModel", name := "fault", desc := "()I" } : Jvm.MethodName)) ∈ lw_all := lw_g (lw_at lw_m16 91 rfl) rfl
theorem q3855 : (Jvm.Cond.instanceMethod ({ cls := "FollowingRefsModel", name := "fault", desc := "()I" } : Jvm.MethodName)) ∈ lw_all := lw_g (lw_at lw_m16 92 rfl) rfl
theorem q3856 : (Jvm.Cond.selects "FollowingRefsModel" ({ cls := "FollowingRefsModel", name := "fault", desc := "()I" } : Jvm.MethodName) ({ cls := "FollowingRefsModel", name := "fault", desc := "()I" } : Jvm.MethodName)) ∈ lw_all := lw_g (lw_at lw_m16 93 rfl) rfl
theorem q3857 : (Jvm.Cond.code ({ cls := "FollowingRefsModel", name := "fault", desc := "()I" } : Jvm.MethodName) prog_35_method_37_code (1 : Nat) (Option.some Jvm.ClassFile.FieldType.int)) ∈ lw_all := lw_g (lw_at lw_m16 94 rfl) rfl
theorem q3858 : (Jvm.Cond.methodLink "FollowingRefsLaw" (48 : Nat) ({ cls := "FollowingRefsModel", name := "statement", desc := "()I" } : Jvm.MethodName)) ∈ lw_all := lw_g (lw_at lw_m16 95 rfl) rfl
theorem q3859 : (Jvm.Cond.instanceMethod ({ cls := "FollowingRefsModel", name := "statement", desc := "()I" } : Jvm.MethodName)) ∈ lw_all := lw_g (lw_at lw_m16 96 rfl) rfl
theorem q3860 : (Jvm.Cond.selects "FollowingRefsModel" ({ cls := "FollowingRefsModel", name := "statement", desc := "()I" } : Jvm.MethodName) ({ cls := "FollowingRefsModel", name := "statement", desc := "()I" } : Jvm.MethodName)) ∈ lw_all := lw_g (lw_at lw_m16 97 rfl) rfl
theorem q3861 : (Jvm.Cond.code ({ cls := "FollowingRefsModel", name := "statement", desc := "()I" } : Jvm.MethodName) prog_35_method_76_code (2 : Nat) (Option.some Jvm.ClassFile.FieldType.int)) ∈ lw_all := lw_g (lw_at lw_m16 98 rfl) rfl
theorem q3862 : (Jvm.Cond.methodLink "FollowingRefsModel" (439 : Nat) ({ cls := "FollowingRefsModel", name := "readsOne", desc := "()Z" } : Jvm.MethodName)) ∈ lw_all := lw_g (lw_at lw_m16 99 rfl) rfl
theorem q3864 : (Jvm.Cond.instanceMethod ({ cls := "FollowingRefsModel", name := "readsOne", desc := "()Z" } : Jvm.MethodName)) ∈ lw_all := lw_g (lw_at lw_m16 101 rfl) rfl
theorem q3865 : (Jvm.Cond.code ({ cls := "FollowingRefsModel", name := "readsOne", desc := "()Z" } : Jvm.MethodName) prog_35_method_75_code (1 : Nat) (Option.some Jvm.ClassFile.FieldType.boolean)) ∈ lw_all := lw_g (lw_at lw_m16 102 rfl) rfl
theorem q3866 : (Jvm.Cond.methodLink "FollowingRefsModel" (436 : Nat) ({ cls := "FollowingRefsModel", name := "takesStatement", desc := "(I)Z" } : Jvm.MethodName)) ∈ lw_all := lw_g (lw_at lw_m16 103 rfl) rfl
theorem q3868 : (Jvm.Cond.instanceMethod ({ cls := "FollowingRefsModel", name := "takesStatement", desc := "(I)Z" } : Jvm.MethodName)) ∈ lw_all := lw_g (lw_at lw_m16 105 rfl) rfl
theorem q3869 : (Jvm.Cond.code ({ cls := "FollowingRefsModel", name := "takesStatement", desc := "(I)Z" } : Jvm.MethodName) prog_35_method_62_code (2 : Nat) (Option.some Jvm.ClassFile.FieldType.boolean)) ∈ lw_all := lw_g (lw_at lw_m16 106 rfl) rfl
theorem q3870 : (Jvm.Cond.methodLink "FollowingRefsModel" (367 : Nat) ({ cls := "FollowingRefsModel", name := "takesInsert", desc := "(I)Z" } : Jvm.MethodName)) ∈ lw_all := lw_g (lw_at lw_m16 107 rfl) rfl
theorem q3872 : (Jvm.Cond.instanceMethod ({ cls := "FollowingRefsModel", name := "takesInsert", desc := "(I)Z" } : Jvm.MethodName)) ∈ lw_all := lw_g (lw_at lw_m16 109 rfl) rfl
theorem q3873 : (Jvm.Cond.code ({ cls := "FollowingRefsModel", name := "takesInsert", desc := "(I)Z" } : Jvm.MethodName) prog_35_method_59_code (3 : Nat) (Option.some Jvm.ClassFile.FieldType.boolean)) ∈ lw_all := lw_g (lw_at lw_m16 110 rfl) rfl
theorem q3874 : (Jvm.Cond.methodLink "FollowingRefsModel" (361 : Nat) ({ cls := "FollowingRefsModel", name := "takesOwnTable", desc := "(I)Z" } : Jvm.MethodName)) ∈ lw_all := lw_g (lw_at lw_m16 111 rfl) rfl
theorem q3876 : (Jvm.Cond.instanceMethod ({ cls := "FollowingRefsModel", name := "takesOwnTable", desc := "(I)Z" } : Jvm.MethodName)) ∈ lw_all := lw_g (lw_at lw_m16 113 rfl) rfl
theorem q3877 : (Jvm.Cond.code ({ cls := "FollowingRefsModel", name := "takesOwnTable", desc := "(I)Z" } : Jvm.MethodName) prog_35_method_56_code (2 : Nat) (Option.some Jvm.ClassFile.FieldType.boolean)) ∈ lw_all := lw_g (lw_at lw_m16 114 rfl) rfl
theorem q3878 : (Jvm.Cond.methodLink "FollowingRefsModel" (358 : Nat) ({ cls := "FollowingRefsModel", name := "takesValue", desc := "(I)Z" } : Jvm.MethodName)) ∈ lw_all := lw_g (lw_at lw_m16 115 rfl) rfl
theorem q3880 : (Jvm.Cond.instanceMethod ({ cls := "FollowingRefsModel", name := "takesValue", desc := "(I)Z" } : Jvm.MethodName)) ∈ lw_all := lw_g (lw_at lw_m16 117 rfl) rfl
theorem q3881 : (Jvm.Cond.code ({ cls := "FollowingRefsModel", name := "takesValue", desc := "(I)Z" } : Jvm.MethodName) prog_35_method_55_code (2 : Nat) (Option.some Jvm.ClassFile.FieldType.boolean)) ∈ lw_all := lw_g (lw_at lw_m16 118 rfl) rfl
theorem q3882 : (Jvm.Cond.methodLink "FollowingRefsModel" (370 : Nat) ({ cls := "FollowingRefsModel", name := "takesDelete", desc := "(I)Z" } : Jvm.MethodName)) ∈ lw_all := lw_g (lw_at lw_m16 119 rfl) rfl
theorem q3884 : (Jvm.Cond.instanceMethod ({ cls := "FollowingRefsModel", name := "takesDelete", desc := "(I)Z" } : Jvm.MethodName)) ∈ lw_all := lw_g (lw_at lw_m16 121 rfl) rfl
theorem q3885 : (Jvm.Cond.code ({ cls := "FollowingRefsModel", name := "takesDelete", desc := "(I)Z" } : Jvm.MethodName) prog_35_method_60_code (2 : Nat) (Option.some Jvm.ClassFile.FieldType.boolean)) ∈ lw_all := lw_g (lw_at lw_m16 122 rfl) rfl
theorem q3886 : (Jvm.Cond.methodLink "FollowingRefsModel" (364 : Nat) ({ cls := "FollowingRefsModel", name := "takesConds", desc := "(I)Z" } : Jvm.MethodName)) ∈ lw_all := lw_g (lw_at lw_m16 123 rfl) rfl
theorem q3888 : (Jvm.Cond.instanceMethod ({ cls := "FollowingRefsModel", name := "takesConds", desc := "(I)Z" } : Jvm.MethodName)) ∈ lw_all := lw_g (lw_at lw_m16 125 rfl) rfl
theorem q3889 : (Jvm.Cond.code ({ cls := "FollowingRefsModel", name := "takesConds", desc := "(I)Z" } : Jvm.MethodName) prog_35_method_58_code (5 : Nat) (Option.some Jvm.ClassFile.FieldType.boolean)) ∈ lw_all := lw_g (lw_at lw_m16 126 rfl) rfl
theorem q3890 : (Jvm.Cond.methodLink "FollowingRefsModel" (355 : Nat) ({ cls := "FollowingRefsModel", name := "looksAtCol", desc := "(I)Z" } : Jvm.MethodName)) ∈ lw_all := lw_g (lw_at lw_m16 127 rfl) rfl
theorem q3892 : (Jvm.Cond.instanceMethod ({ cls := "FollowingRefsModel", name := "looksAtCol", desc := "(I)Z" } : Jvm.MethodName)) ∈ lw_all := lw_g (lw_at lw_m16 129 rfl) rfl
theorem q3893 : (Jvm.Cond.code ({ cls := "FollowingRefsModel", name := "looksAtCol", desc := "(I)Z" } : Jvm.MethodName) prog_35_method_57_code (2 : Nat) (Option.some Jvm.ClassFile.FieldType.boolean)) ∈ lw_all := lw_g (lw_at lw_m16 130 rfl) rfl
theorem q3894 : (Jvm.Cond.methodLink "FollowingRefsModel" (373 : Nat) ({ cls := "FollowingRefsModel", name := "takesSet", desc := "(I)Z" } : Jvm.MethodName)) ∈ lw_all := lw_g (lw_at lw_m16 131 rfl) rfl
theorem q3896 : (Jvm.Cond.instanceMethod ({ cls := "FollowingRefsModel", name := "takesSet", desc := "(I)Z" } : Jvm.MethodName)) ∈ lw_all := lw_g (lw_at lw_m16 133 rfl) rfl
theorem q3897 : (Jvm.Cond.code ({ cls := "FollowingRefsModel", name := "takesSet", desc := "(I)Z" } : Jvm.MethodName) prog_35_method_61_code (3 : Nat) (Option.some Jvm.ClassFile.FieldType.boolean)) ∈ lw_all := lw_g (lw_at lw_m16 134 rfl) rfl
theorem q3898 : (Jvm.Cond.methodLink "FollowingRefsModel" (442 : Nat) ({ cls := "FollowingRefsModel", name := "judges", desc := "(I)I" } : Jvm.MethodName)) ∈ lw_all := lw_g (lw_at lw_m16 135 rfl) rfl
theorem q3900 : (Jvm.Cond.instanceMethod ({ cls := "FollowingRefsModel", name := "judges", desc := "(I)I" } : Jvm.MethodName)) ∈ lw_all := lw_g (lw_at lw_m16 137 rfl) rfl
theorem q3901 : (Jvm.Cond.code ({ cls := "FollowingRefsModel", name := "judges", desc := "(I)I" } : Jvm.MethodName) prog_35_method_73_code (4 : Nat) (Option.some Jvm.ClassFile.FieldType.int)) ∈ lw_all := lw_g (lw_at lw_m16 138 rfl) rfl
theorem q3902 : (Jvm.Cond.methodLink "FollowingRefsModel" (402 : Nat) ({ cls := "FollowingRefsModel", name := "laysAhead", desc := "()V" } : Jvm.MethodName)) ∈ lw_all := lw_g (lw_at lw_m16 139 rfl) rfl
theorem q3904 : (Jvm.Cond.instanceMethod ({ cls := "FollowingRefsModel", name := "laysAhead", desc := "()V" } : Jvm.MethodName)) ∈ lw_all := lw_g (lw_at lw_m16 141 rfl) rfl
theorem q3905 : (Jvm.Cond.code ({ cls := "FollowingRefsModel", name := "laysAhead", desc := "()V" } : Jvm.MethodName) prog_35_method_70_code (3 : Nat) (Option.none : Option Jvm.ClassFile.FieldType)) ∈ lw_all := lw_g (lw_at lw_m16 142 rfl) rfl
theorem q3906 : (Jvm.Cond.methodLink "FollowingRefsModel" (333 : Nat) ({ cls := "FollowingRefsModel", name := "target", desc := "(II)I" } : Jvm.MethodName)) ∈ lw_all := lw_g (lw_at lw_m16 143 rfl) rfl
theorem q3908 : (Jvm.Cond.instanceMethod ({ cls := "FollowingRefsModel", name := "target", desc := "(II)I" } : Jvm.MethodName)) ∈ lw_all := lw_g (lw_at lw_m16 145 rfl) rfl
theorem q3909 : (Jvm.Cond.code ({ cls := "FollowingRefsModel", name := "target", desc := "(II)I" } : Jvm.MethodName) prog_35_method_46_code (6 : Nat) (Option.some Jvm.ClassFile.FieldType.int)) ∈ lw_all := lw_g (lw_at lw_m16 146 rfl) rfl
theorem q3910 : (Jvm.Cond.methodLink "FollowingRefsModel" (320 : Nat) ({ cls := "FollowingRefsModel", name := "cellOf", desc := "(II)I" } : Jvm.MethodName)) ∈ lw_all := lw_g (lw_at lw_m16 147 rfl) rfl
theorem q3912 : (Jvm.Cond.instanceMethod ({ cls := "FollowingRefsModel", name := "cellOf", desc := "(II)I" } : Jvm.MethodName)) ∈ lw_all := lw_g (lw_at lw_m16 149 rfl) rfl
theorem q3913 : (Jvm.Cond.code ({ cls := "FollowingRefsModel", name := "cellOf", desc := "(II)I" } : Jvm.MethodName) prog_35_method_41_code (3 : Nat) (Option.some Jvm.ClassFile.FieldType.int)) ∈ lw_all := lw_g (lw_at lw_m16 150 rfl) rfl
theorem q3914 : (Jvm.Cond.methodLink "FollowingRefsModel" (323 : Nat) ({ cls := "FollowingRefsModel", name := "hasKey", desc := "(IIII)Z" } : Jvm.MethodName)) ∈ lw_all := lw_g (lw_at lw_m16 151 rfl) rfl
theorem q3916 : (Jvm.Cond.instanceMethod ({ cls := "FollowingRefsModel", name := "hasKey", desc := "(IIII)Z" } : Jvm.MethodName)) ∈ lw_all := lw_g (lw_at lw_m16 153 rfl) rfl
theorem q3917 : (Jvm.Cond.code ({ cls := "FollowingRefsModel", name := "hasKey", desc := "(IIII)Z" } : Jvm.MethodName) prog_35_method_45_code (5 : Nat) (Option.some Jvm.ClassFile.FieldType.boolean)) ∈ lw_all := lw_g (lw_at lw_m16 154 rfl) rfl
theorem q3918 : (Jvm.Cond.methodLink "FollowingRefsModel" (414 : Nat) ({ cls := "FollowingRefsModel", name := "rowsNow", desc := "()I" } : Jvm.MethodName)) ∈ lw_all := lw_g (lw_at lw_m16 155 rfl) rfl
theorem q3920 : (Jvm.Cond.instanceMethod ({ cls := "FollowingRefsModel", name := "rowsNow", desc := "()I" } : Jvm.MethodName)) ∈ lw_all := lw_g (lw_at lw_m16 157 rfl) rfl
theorem q3921 : (Jvm.Cond.code ({ cls := "FollowingRefsModel", name := "rowsNow", desc := "()I" } : Jvm.MethodName) prog_35_method_42_code (3 : Nat) (Option.some Jvm.ClassFile.FieldType.int)) ∈ lw_all := lw_g (lw_at lw_m16 158 rfl) rfl
theorem q3922 : (Jvm.Cond.methodLink "FollowingRefsModel" (417 : Nat) ({ cls := "FollowingRefsModel", name := "isFound", desc := "(II)Z" } : Jvm.MethodName)) ∈ lw_all := lw_g (lw_at lw_m16 159 rfl) rfl
theorem q3924 : (Jvm.Cond.instanceMethod ({ cls := "FollowingRefsModel", name := "isFound", desc := "(II)Z" } : Jvm.MethodName)) ∈ lw_all := lw_g (lw_at lw_m16 161 rfl) rfl
theorem q3925 : (Jvm.Cond.code ({ cls := "FollowingRefsModel", name := "isFound", desc := "(II)Z" } : Jvm.MethodName) prog_35_method_63_code (7 : Nat) (Option.some Jvm.ClassFile.FieldType.boolean)) ∈ lw_all := lw_g (lw_at lw_m16 162 rfl) rfl
theorem q3926 : (Jvm.Cond.methodLink "FollowingRefsModel" (330 : Nat) ({ cls := "FollowingRefsModel", name := "isRowOf", desc := "(II)Z" } : Jvm.MethodName)) ∈ lw_all := lw_g (lw_at lw_m16 163 rfl) rfl
theorem q3928 : (Jvm.Cond.instanceMethod ({ cls := "FollowingRefsModel", name := "isRowOf", desc := "(II)Z" } : Jvm.MethodName)) ∈ lw_all := lw_g (lw_at lw_m16 165 rfl) rfl
theorem q3929 : (Jvm.Cond.code ({ cls := "FollowingRefsModel", name := "isRowOf", desc := "(II)Z" } : Jvm.MethodName) prog_35_method_49_code (3 : Nat) (Option.some Jvm.ClassFile.FieldType.boolean)) ∈ lw_all := lw_g (lw_at lw_m16 166 rfl) rfl
theorem q3930 : (Jvm.Cond.methodLink "FollowingRefsModel" (336 : Nat) ({ cls := "FollowingRefsModel", name := "isSo", desc := "(III)Z" } : Jvm.MethodName)) ∈ lw_all := lw_g (lw_at lw_m16 167 rfl) rfl
theorem q3931 : (Jvm.Cond.static ({ cls := "FollowingRefsModel", name := "isSo", desc := "(III)Z" } : Jvm.MethodName)) ∈ lw_all := lw_g (lw_at lw_m16 168 rfl) rfl
theorem q3932 : (Jvm.Cond.code ({ cls := "FollowingRefsModel", name := "isSo", desc := "(III)Z" } : Jvm.MethodName) prog_35_method_53_code (3 : Nat) (Option.some Jvm.ClassFile.FieldType.boolean)) ∈ lw_all := lw_g (lw_at lw_m16 169 rfl) rfl
theorem q3933 : (Jvm.Cond.methodLink "FollowingRefsModel" (386 : Nat) ({ cls := "FollowingRefsModel", name := "wants", desc := "(III)V" } : Jvm.MethodName)) ∈ lw_all := lw_g (lw_at lw_m16 170 rfl) rfl
theorem q3935 : (Jvm.Cond.instanceMethod ({ cls := "FollowingRefsModel", name := "wants", desc := "(III)V" } : Jvm.MethodName)) ∈ lw_all := lw_g (lw_at lw_m16 172 rfl) rfl
theorem q3936 : (Jvm.Cond.code ({ cls := "FollowingRefsModel", name := "wants", desc := "(III)V" } : Jvm.MethodName) prog_35_method_64_code (5 : Nat) (Option.none : Option Jvm.ClassFile.FieldType)) ∈ lw_all := lw_g (lw_at lw_m16 173 rfl) rfl
theorem q3937 : (Jvm.Cond.methodLink "FollowingRefsModel" (420 : Nat) ({ cls := "FollowingRefsModel", name := "closes", desc := "()V" } : Jvm.MethodName)) ∈ lw_all := lw_g (lw_at lw_m16 174 rfl) rfl
theorem q3939 : (Jvm.Cond.instanceMethod ({ cls := "FollowingRefsModel", name := "closes", desc := "()V" } : Jvm.MethodName)) ∈ lw_all := lw_g (lw_at lw_m16 176 rfl) rfl
theorem q3940 : (Jvm.Cond.code ({ cls := "FollowingRefsModel", name := "closes", desc := "()V" } : Jvm.MethodName) prog_35_method_69_code (7 : Nat) (Option.none : Option Jvm.ClassFile.FieldType)) ∈ lw_all := lw_g (lw_at lw_m16 177 rfl) rfl
theorem q3941 : (Jvm.Cond.methodLink "FollowingRefsModel" (423 : Nat) ({ cls := "FollowingRefsModel", name := "follows", desc := "(I)V" } : Jvm.MethodName)) ∈ lw_all := lw_g (lw_at lw_m16 178 rfl) rfl
theorem q3943 : (Jvm.Cond.instanceMethod ({ cls := "FollowingRefsModel", name := "follows", desc := "(I)V" } : Jvm.MethodName)) ∈ lw_all := lw_g (lw_at lw_m16 180 rfl) rfl
theorem q3944 : (Jvm.Cond.code ({ cls := "FollowingRefsModel", name := "follows", desc := "(I)V" } : Jvm.MethodName) prog_35_method_68_code (4 : Nat) (Option.none : Option Jvm.ClassFile.FieldType)) ∈ lw_all := lw_g (lw_at lw_m16 181 rfl) rfl
theorem q3945 : (Jvm.Cond.methodLink "FollowingRefsModel" (399 : Nat) ({ cls := "FollowingRefsModel", name := "followsKey", desc := "(III)V" } : Jvm.MethodName)) ∈ lw_all := lw_g (lw_at lw_m16 182 rfl) rfl
theorem q3947 : (Jvm.Cond.instanceMethod ({ cls := "FollowingRefsModel", name := "followsKey", desc := "(III)V" } : Jvm.MethodName)) ∈ lw_all := lw_g (lw_at lw_m16 184 rfl) rfl
theorem q3948 : (Jvm.Cond.code ({ cls := "FollowingRefsModel", name := "followsKey", desc := "(III)V" } : Jvm.MethodName) prog_35_method_67_code (7 : Nat) (Option.none : Option Jvm.ClassFile.FieldType)) ∈ lw_all := lw_g (lw_at lw_m16 185 rfl) rfl
theorem q3949 : (Jvm.Cond.methodLink "FollowingRefsModel" (389 : Nat) ({ cls := "FollowingRefsModel", name := "keyCol", desc := "(II)I" } : Jvm.MethodName)) ∈ lw_all := lw_g (lw_at lw_m16 186 rfl) rfl
theorem q3951 : (Jvm.Cond.instanceMethod ({ cls := "FollowingRefsModel", name := "keyCol", desc := "(II)I" } : Jvm.MethodName)) ∈ lw_all := lw_g (lw_at lw_m16 188 rfl) rfl
theorem q3952 : (Jvm.Cond.code ({ cls := "FollowingRefsModel", name := "keyCol", desc := "(II)I" } : Jvm.MethodName) prog_35_method_44_code (3 : Nat) (Option.some Jvm.ClassFile.FieldType.int)) ∈ lw_all := lw_g (lw_at lw_m16 189 rfl) rfl
theorem q3953 : (Jvm.Cond.methodLink "FollowingRefsModel" (392 : Nat) ({ cls := "FollowingRefsModel", name := "isOther", desc := "(II)Z" } : Jvm.MethodName)) ∈ lw_all := lw_g (lw_at lw_m16 190 rfl) rfl
theorem q3955 : (Jvm.Cond.instanceMethod ({ cls := "FollowingRefsModel", name := "isOther", desc := "(II)Z" } : Jvm.MethodName)) ∈ lw_all := lw_g (lw_at lw_m16 192 rfl) rfl
theorem q3956 : (Jvm.Cond.code ({ cls := "FollowingRefsModel", name := "isOther", desc := "(II)Z" } : Jvm.MethodName) prog_35_method_65_code (3 : Nat) (Option.some Jvm.ClassFile.FieldType.boolean)) ∈ lw_all := lw_g (lw_at lw_m16 193 rfl) rfl
theorem q3957 : (Jvm.Cond.methodLink "FollowingRefsModel" (395 : Nat) ({ cls := "FollowingRefsModel", name := "wantsAll", desc := "(IIZ)V" } : Jvm.MethodName)) ∈ lw_all := lw_g (lw_at lw_m16 194 rfl) rfl
theorem q3959 : (Jvm.Cond.instanceMethod ({ cls := "FollowingRefsModel", name := "wantsAll", desc := "(IIZ)V" } : Jvm.MethodName)) ∈ lw_all := lw_g (lw_at lw_m16 196 rfl) rfl
theorem q3960 : (Jvm.Cond.code ({ cls := "FollowingRefsModel", name := "wantsAll", desc := "(IIZ)V" } : Jvm.MethodName) prog_35_method_66_code (6 : Nat) (Option.none : Option Jvm.ClassFile.FieldType)) ∈ lw_all := lw_g (lw_at lw_m16 197 rfl) rfl
theorem q3961 : (Jvm.Cond.methodLink "FollowingRefsModel" (383 : Nat) ({ cls := "FollowingRefsModel", name := "refCol", desc := "(II)I" } : Jvm.MethodName)) ∈ lw_all := lw_g (lw_at lw_m16 198 rfl) rfl
theorem q3963 : (Jvm.Cond.instanceMethod ({ cls := "FollowingRefsModel", name := "refCol", desc := "(II)I" } : Jvm.MethodName)) ∈ lw_all := lw_g (lw_at lw_m16 200 rfl) rfl
theorem q3964 : (Jvm.Cond.code ({ cls := "FollowingRefsModel", name := "refCol", desc := "(II)I" } : Jvm.MethodName) prog_35_method_43_code (3 : Nat) (Option.some Jvm.ClassFile.FieldType.int)) ∈ lw_all := lw_g (lw_at lw_m16 201 rfl) rfl
theorem q3965 : (Jvm.Cond.methodLink "FollowingRefsModel" (426 : Nat) ({ cls := "FollowingRefsModel", name := "doesAll", desc := "()I" } : Jvm.MethodName)) ∈ lw_all := lw_g (lw_at lw_m16 202 rfl) rfl
theorem q3967 : (Jvm.Cond.instanceMethod ({ cls := "FollowingRefsModel", name := "doesAll", desc := "()I" } : Jvm.MethodName)) ∈ lw_all := lw_g (lw_at lw_m16 204 rfl) rfl
theorem q3968 : (Jvm.Cond.code ({ cls := "FollowingRefsModel", name := "doesAll", desc := "()I" } : Jvm.MethodName) prog_35_method_72_code (5 : Nat) (Option.some Jvm.ClassFile.FieldType.int)) ∈ lw_all := lw_g (lw_at lw_m16 205 rfl) rfl
theorem q3969 : (Jvm.Cond.methodLink "FollowingRefsModel" (429 : Nat) ({ cls := "FollowingRefsModel", name := "inserts", desc := "(I)V" } : Jvm.MethodName)) ∈ lw_all := lw_g (lw_at lw_m16 206 rfl) rfl
theorem q3971 : (Jvm.Cond.instanceMethod ({ cls := "FollowingRefsModel", name := "inserts", desc := "(I)V" } : Jvm.MethodName)) ∈ lw_all := lw_g (lw_at lw_m16 208 rfl) rfl
theorem q3972 : (Jvm.Cond.code ({ cls := "FollowingRefsModel", name := "inserts", desc := "(I)V" } : Jvm.MethodName) prog_35_method_71_code (4 : Nat) (Option.none : Option Jvm.ClassFile.FieldType)) ∈ lw_all := lw_g (lw_at lw_m16 209 rfl) rfl
theorem q3973 : (Jvm.Cond.methodLink "FollowingRefsModel" (432 : Nat) ({ cls := "FollowingRefsModel", name := "judgesAll", desc := "(Z)V" } : Jvm.MethodName)) ∈ lw_all := lw_g (lw_at lw_m16 210 rfl) rfl
theorem q3975 : (Jvm.Cond.instanceMethod ({ cls := "FollowingRefsModel", name := "judgesAll", desc := "(Z)V" } : Jvm.MethodName)) ∈ lw_all := lw_g (lw_at lw_m16 212 rfl) rfl
theorem q3976 : (Jvm.Cond.code ({ cls := "FollowingRefsModel", name := "judgesAll", desc := "(Z)V" } : Jvm.MethodName) prog_35_method_54_code (5 : Nat) (Option.none : Option Jvm.ClassFile.FieldType)) ∈ lw_all := lw_g (lw_at lw_m16 213 rfl) rfl
theorem q3977 : (Jvm.Cond.methodLink "FollowingRefsModel" (339 : Nat) ({ cls := "FollowingRefsModel", name := "isNeeded", desc := "(II)Z" } : Jvm.MethodName)) ∈ lw_all := lw_g (lw_at lw_m16 214 rfl) rfl
theorem q3979 : (Jvm.Cond.instanceMethod ({ cls := "FollowingRefsModel", name := "isNeeded", desc := "(II)Z" } : Jvm.MethodName)) ∈ lw_all := lw_g (lw_at lw_m16 216 rfl) rfl
theorem q3980 : (Jvm.Cond.code ({ cls := "FollowingRefsModel", name := "isNeeded", desc := "(II)Z" } : Jvm.MethodName) prog_35_method_48_code (5 : Nat) (Option.some Jvm.ClassFile.FieldType.boolean)) ∈ lw_all := lw_g (lw_at lw_m16 217 rfl) rfl
theorem q3981 : (Jvm.Cond.methodLink "FollowingRefsModel" (342 : Nat) ({ cls := "FollowingRefsModel", name := "violates", desc := "(III)V" } : Jvm.MethodName)) ∈ lw_all := lw_g (lw_at lw_m16 218 rfl) rfl
theorem q3983 : (Jvm.Cond.instanceMethod ({ cls := "FollowingRefsModel", name := "violates", desc := "(III)V" } : Jvm.MethodName)) ∈ lw_all := lw_g (lw_at lw_m16 220 rfl) rfl
theorem q3984 : (Jvm.Cond.code ({ cls := "FollowingRefsModel", name := "violates", desc := "(III)V" } : Jvm.MethodName) prog_35_method_47_code (4 : Nat) (Option.none : Option Jvm.ClassFile.FieldType)) ∈ lw_all := lw_g (lw_at lw_m16 221 rfl) rfl
theorem q3985 : (Jvm.Cond.methodLink "FollowingRefsModel" (346 : Nat) ({ cls := "FollowingRefsModel", name := "isLikeEarlier", desc := "(II)Z" } : Jvm.MethodName)) ∈ lw_all := lw_g (lw_at lw_m16 222 rfl) rfl
theorem q3987 : (Jvm.Cond.instanceMethod ({ cls := "FollowingRefsModel", name := "isLikeEarlier", desc := "(II)Z" } : Jvm.MethodName)) ∈ lw_all := lw_g (lw_at lw_m16 224 rfl) rfl
theorem q3988 : (Jvm.Cond.code ({ cls := "FollowingRefsModel", name := "isLikeEarlier", desc := "(II)Z" } : Jvm.MethodName) prog_35_method_50_code (7 : Nat) (Option.some Jvm.ClassFile.FieldType.boolean)) ∈ lw_all := lw_g (lw_at lw_m16 225 rfl) rfl
theorem q3989 : (Jvm.Cond.methodLink "FollowingRefsModel" (349 : Nat) ({ cls := "FollowingRefsModel", name := "isBadRef", desc := "(II)Z" } : Jvm.MethodName)) ∈ lw_all := lw_g (lw_at lw_m16 226 rfl) rfl
theorem q3991 : (Jvm.Cond.instanceMethod ({ cls := "FollowingRefsModel", name := "isBadRef", desc := "(II)Z" } : Jvm.MethodName)) ∈ lw_all := lw_g (lw_at lw_m16 228 rfl) rfl
theorem q3992 : (Jvm.Cond.code ({ cls := "FollowingRefsModel", name := "isBadRef", desc := "(II)Z" } : Jvm.MethodName) prog_35_method_51_code (5 : Nat) (Option.some Jvm.ClassFile.FieldType.boolean)) ∈ lw_all := lw_g (lw_at lw_m16 229 rfl) rfl
theorem q3993 : (Jvm.Cond.methodLink "FollowingRefsModel" (352 : Nat) ({ cls := "FollowingRefsModel", name := "isBadCheck", desc := "(II)Z" } : Jvm.MethodName)) ∈ lw_all := lw_g (lw_at lw_m16 230 rfl) rfl
theorem q3995 : (Jvm.Cond.instanceMethod ({ cls := "FollowingRefsModel", name := "isBadCheck", desc := "(II)Z" } : Jvm.MethodName)) ∈ lw_all := lw_g (lw_at lw_m16 232 rfl) rfl
theorem q3996 : (Jvm.Cond.code ({ cls := "FollowingRefsModel", name := "isBadCheck", desc := "(II)Z" } : Jvm.MethodName) prog_35_method_52_code (5 : Nat) (Option.some Jvm.ClassFile.FieldType.boolean)) ∈ lw_all := lw_g (lw_at lw_m16 233 rfl) rfl
theorem q3997 : (Jvm.Cond.methodLink "FollowingRefsModel" (446 : Nat) ({ cls := "FollowingRefsModel", name := "tells", desc := "(I)V" } : Jvm.MethodName)) ∈ lw_all := lw_g (lw_at lw_m16 234 rfl) rfl
theorem q3999 : (Jvm.Cond.instanceMethod ({ cls := "FollowingRefsModel", name := "tells", desc := "(I)V" } : Jvm.MethodName)) ∈ lw_all := lw_g (lw_at lw_m16 236 rfl) rfl
theorem q4000 : (Jvm.Cond.code ({ cls := "FollowingRefsModel", name := "tells", desc := "(I)V" } : Jvm.MethodName) prog_35_method_91_code (3 : Nat) (Option.none : Option Jvm.ClassFile.FieldType)) ∈ lw_all := lw_g (lw_at lw_m16 237 rfl) rfl
theorem q4001 : (Jvm.Cond.methodLink "FollowingRefsModel" (474 : Nat) ({ cls := "FollowingRefsModel", name := "tellsViolations", desc := "()V" } : Jvm.MethodName)) ∈ lw_all := lw_g (lw_at lw_m16 238 rfl) rfl
theorem q4003 : (Jvm.Cond.instanceMethod ({ cls := "FollowingRefsModel", name := "tellsViolations", desc := "()V" } : Jvm.MethodName)) ∈ lw_all := lw_g (lw_at lw_m17 0 rfl) rfl
theorem q4004 : (Jvm.Cond.code ({ cls := "FollowingRefsModel", name := "tellsViolations", desc := "()V" } : Jvm.MethodName) prog_35_method_90_code (2 : Nat) (Option.none : Option Jvm.ClassFile.FieldType)) ∈ lw_all := lw_g (lw_at lw_m17 1 rfl) rfl
theorem q4005 : (Jvm.Cond.methodLink "FollowingRefsModel" (449 : Nat) ({ cls := "FollowingRefsModel", name := "stores", desc := "([I)V" } : Jvm.MethodName)) ∈ lw_all := lw_g (lw_at lw_m17 2 rfl) rfl
theorem q4007 : (Jvm.Cond.instanceMethod ({ cls := "FollowingRefsModel", name := "stores", desc := "([I)V" } : Jvm.MethodName)) ∈ lw_all := lw_g (lw_at lw_m17 4 rfl) rfl
theorem q4008 : (Jvm.Cond.code ({ cls := "FollowingRefsModel", name := "stores", desc := "([I)V" } : Jvm.MethodName) prog_35_method_92_code (3 : Nat) (Option.none : Option Jvm.ClassFile.FieldType)) ∈ lw_all := lw_g (lw_at lw_m17 5 rfl) rfl
theorem q4009 : (Jvm.Cond.methodLink "FollowingRefsModel" (453 : Nat) ({ cls := "FollowingRefsModel", name := "touched", desc := "(I)I" } : Jvm.MethodName)) ∈ lw_all := lw_g (lw_at lw_m17 6 rfl) rfl
theorem q4011 : (Jvm.Cond.instanceMethod ({ cls := "FollowingRefsModel", name := "touched", desc := "(I)I" } : Jvm.MethodName)) ∈ lw_all := lw_g (lw_at lw_m17 8 rfl) rfl
theorem q4012 : (Jvm.Cond.code ({ cls := "FollowingRefsModel", name := "touched", desc := "(I)I" } : Jvm.MethodName) prog_35_method_74_code (2 : Nat) (Option.some Jvm.ClassFile.FieldType.int)) ∈ lw_all := lw_g (lw_at lw_m17 9 rfl) rfl
theorem q4013 : (Jvm.Cond.methodLink "FollowingRefsLaw" (52 : Nat) ({ cls := "FollowingRefsModel", name := "would", desc := "()I" } : Jvm.MethodName)) ∈ lw_all := lw_g (lw_at lw_m17 10 rfl) rfl
theorem q4014 : (Jvm.Cond.instanceMethod ({ cls := "FollowingRefsModel", name := "would", desc := "()I" } : Jvm.MethodName)) ∈ lw_all := lw_g (lw_at lw_m17 11 rfl) rfl
theorem q4015 : (Jvm.Cond.selects "FollowingRefsModel" ({ cls := "FollowingRefsModel", name := "would", desc := "()I" } : Jvm.MethodName) ({ cls := "FollowingRefsModel", name := "would", desc := "()I" } : Jvm.MethodName)) ∈ lw_all := lw_g (lw_at lw_m17 12 rfl) rfl
theorem q4016 : (Jvm.Cond.code ({ cls := "FollowingRefsModel", name := "would", desc := "()I" } : Jvm.MethodName) prog_35_method_77_code (3 : Nat) (Option.some Jvm.ClassFile.FieldType.int)) ∈ lw_all := lw_g (lw_at lw_m17 13 rfl) rfl
theorem q4017 : (Jvm.Cond.methodLink "FollowingRefsLaw" (57 : Nat) ({ cls := "FollowingRefsModel", name := "judged", desc := "(I)I" } : Jvm.MethodName)) ∈ lw_all := lw_g (lw_at lw_m17 14 rfl) rfl
theorem q4018 : (Jvm.Cond.instanceMethod ({ cls := "FollowingRefsModel", name := "judged", desc := "(I)I" } : Jvm.MethodName)) ∈ lw_all := lw_g (lw_at lw_m17 15 rfl) rfl
theorem q4019 : (Jvm.Cond.selects "FollowingRefsModel" ({ cls := "FollowingRefsModel", name := "judged", desc := "(I)I" } : Jvm.MethodName) ({ cls := "FollowingRefsModel", name := "judged", desc := "(I)I" } : Jvm.MethodName)) ∈ lw_all := lw_g (lw_at lw_m17 16 rfl) rfl
theorem q4020 : (Jvm.Cond.code ({ cls := "FollowingRefsModel", name := "judged", desc := "(I)I" } : Jvm.MethodName) prog_35_method_78_code (2 : Nat) (Option.some Jvm.ClassFile.FieldType.int)) ∈ lw_all := lw_g (lw_at lw_m17 17 rfl) rfl
theorem q4021 : (Jvm.Cond.methodLink "FollowingRefsLaw" (61 : Nat) ({ cls := "FollowingRefsModel", name := "goes", desc := "(I)I" } : Jvm.MethodName)) ∈ lw_all := lw_g (lw_at lw_m17 18 rfl) rfl
theorem q4022 : (Jvm.Cond.instanceMethod ({ cls := "FollowingRefsModel", name := "goes", desc := "(I)I" } : Jvm.MethodName)) ∈ lw_all := lw_g (lw_at lw_m17 19 rfl) rfl
theorem q4023 : (Jvm.Cond.selects "FollowingRefsModel" ({ cls := "FollowingRefsModel", name := "goes", desc := "(I)I" } : Jvm.MethodName) ({ cls := "FollowingRefsModel", name := "goes", desc := "(I)I" } : Jvm.MethodName)) ∈ lw_all := lw_g (lw_at lw_m17 20 rfl) rfl
theorem q4024 : (Jvm.Cond.code ({ cls := "FollowingRefsModel", name := "goes", desc := "(I)I" } : Jvm.MethodName) prog_35_method_79_code (4 : Nat) (Option.some Jvm.ClassFile.FieldType.int)) ∈ lw_all := lw_g (lw_at lw_m17 21 rfl) rfl
theorem q4025 : (Jvm.Cond.methodLink "FollowingRefsLaw" (65 : Nat) ({ cls := "FollowingRefsModel", name := "steps", desc := "(I)I" } : Jvm.MethodName)) ∈ lw_all := lw_g (lw_at lw_m17 22 rfl) rfl
theorem q4026 : (Jvm.Cond.instanceMethod ({ cls := "FollowingRefsModel", name := "steps", desc := "(I)I" } : Jvm.MethodName)) ∈ lw_all := lw_g (lw_at lw_m17 23 rfl) rfl
theorem q4027 : (Jvm.Cond.selects "FollowingRefsModel" ({ cls := "FollowingRefsModel", name := "steps", desc := "(I)I" } : Jvm.MethodName) ({ cls := "FollowingRefsModel", name := "steps", desc := "(I)I" } : Jvm.MethodName)) ∈ lw_all := lw_g (lw_at lw_m17 24 rfl) rfl
theorem q4028 : (Jvm.Cond.code ({ cls := "FollowingRefsModel", name := "steps", desc := "(I)I" } : Jvm.MethodName) prog_35_method_80_code (2 : Nat) (Option.some Jvm.ClassFile.FieldType.int)) ∈ lw_all := lw_g (lw_at lw_m17 25 rfl) rfl
theorem q4029 : (Jvm.Cond.methodLink "FollowingRefsLaw" (69 : Nat) ({ cls := "FollowingRefsModel", name := "violated", desc := "(II)I" } : Jvm.MethodName)) ∈ lw_all := lw_g (lw_at lw_m17 26 rfl) rfl
theorem q4030 : (Jvm.Cond.instanceMethod ({ cls := "FollowingRefsModel", name := "violated", desc := "(II)I" } : Jvm.MethodName)) ∈ lw_all := lw_g (lw_at lw_m17 27 rfl) rfl
theorem q4031 : (Jvm.Cond.selects "FollowingRefsModel" ({ cls := "FollowingRefsModel", name := "violated", desc := "(II)I" } : Jvm.MethodName) ({ cls := "FollowingRefsModel", name := "violated", desc := "(II)I" } : Jvm.MethodName)) ∈ lw_all := lw_g (lw_at lw_m17 28 rfl) rfl
theorem q4032 : (Jvm.Cond.code ({ cls := "FollowingRefsModel", name := "violated", desc := "(II)I" } : Jvm.MethodName) prog_35_method_81_code (3 : Nat) (Option.some Jvm.ClassFile.FieldType.int)) ∈ lw_all := lw_g (lw_at lw_m17 29 rfl) rfl
theorem q4033 : (Jvm.Cond.methodLink "FollowingRefsLaw" (73 : Nat) ({ cls := "FollowingRefsModel", name := "begin", desc := "()I" } : Jvm.MethodName)) ∈ lw_all := lw_g (lw_at lw_m17 30 rfl) rfl
theorem q4034 : (Jvm.Cond.instanceMethod ({ cls := "FollowingRefsModel", name := "begin", desc := "()I" } : Jvm.MethodName)) ∈ lw_all := lw_g (lw_at lw_m17 31 rfl) rfl
theorem q4035 : (Jvm.Cond.selects "FollowingRefsModel" ({ cls := "FollowingRefsModel", name := "begin", desc := "()I" } : Jvm.MethodName) ({ cls := "FollowingRefsModel", name := "begin", desc := "()I" } : Jvm.MethodName)) ∈ lw_all := lw_g (lw_at lw_m17 32 rfl) rfl
theorem q4036 : (Jvm.Cond.code ({ cls := "FollowingRefsModel", name := "begin", desc := "()I" } : Jvm.MethodName) prog_35_method_82_code (1 : Nat) (Option.some Jvm.ClassFile.FieldType.int)) ∈ lw_all := lw_g (lw_at lw_m17 33 rfl) rfl
theorem q4037 : (Jvm.Cond.methodLink "FollowingRefsModel" (462 : Nat) ({ cls := "FollowingRefsModel", name := "keeps", desc := "()V" } : Jvm.MethodName)) ∈ lw_all := lw_g (lw_at lw_m17 34 rfl) rfl
theorem q4039 : (Jvm.Cond.instanceMethod ({ cls := "FollowingRefsModel", name := "keeps", desc := "()V" } : Jvm.MethodName)) ∈ lw_all := lw_g (lw_at lw_m17 36 rfl) rfl
theorem q4040 : (Jvm.Cond.code ({ cls := "FollowingRefsModel", name := "keeps", desc := "()V" } : Jvm.MethodName) prog_35_method_95_code (1 : Nat) (Option.none : Option Jvm.ClassFile.FieldType)) ∈ lw_all := lw_g (lw_at lw_m17 37 rfl) rfl
theorem q4041 : (Jvm.Cond.methodLink "FollowingRefsModel" (483 : Nat) ({ cls := "FollowingRefsModel", name := "tries", desc := "()V" } : Jvm.MethodName)) ∈ lw_all := lw_g (lw_at lw_m17 38 rfl) rfl
theorem q4043 : (Jvm.Cond.instanceMethod ({ cls := "FollowingRefsModel", name := "tries", desc := "()V" } : Jvm.MethodName)) ∈ lw_all := lw_g (lw_at lw_m17 40 rfl) rfl
theorem q4044 : (Jvm.Cond.code ({ cls := "FollowingRefsModel", name := "tries", desc := "()V" } : Jvm.MethodName) prog_35_method_93_code (2 : Nat) (Option.none : Option Jvm.ClassFile.FieldType)) ∈ lw_all := lw_g (lw_at lw_m17 41 rfl) rfl
theorem q4045 : (Jvm.Cond.methodLink "FollowingRefsModel" (465 : Nat) ({ cls := "FollowingRefsModel", name := "begins", desc := "()V" } : Jvm.MethodName)) ∈ lw_all := lw_g (lw_at lw_m17 42 rfl) rfl
theorem q4047 : (Jvm.Cond.instanceMethod ({ cls := "FollowingRefsModel", name := "begins", desc := "()V" } : Jvm.MethodName)) ∈ lw_all := lw_g (lw_at lw_m17 44 rfl) rfl
theorem q4048 : (Jvm.Cond.code ({ cls := "FollowingRefsModel", name := "begins", desc := "()V" } : Jvm.MethodName) prog_35_method_83_code (2 : Nat) (Option.none : Option Jvm.ClassFile.FieldType)) ∈ lw_all := lw_g (lw_at lw_m17 45 rfl) rfl
theorem q4049 : (Jvm.Cond.methodLink "FollowingRefsLaw" (77 : Nat) ({ cls := "FollowingRefsModel", name := "commit", desc := "()I" } : Jvm.MethodName)) ∈ lw_all := lw_g (lw_at lw_m17 46 rfl) rfl
theorem q4050 : (Jvm.Cond.instanceMethod ({ cls := "FollowingRefsModel", name := "commit", desc := "()I" } : Jvm.MethodName)) ∈ lw_all := lw_g (lw_at lw_m17 47 rfl) rfl
theorem q4051 : (Jvm.Cond.selects "FollowingRefsModel" ({ cls := "FollowingRefsModel", name := "commit", desc := "()I" } : Jvm.MethodName) ({ cls := "FollowingRefsModel", name := "commit", desc := "()I" } : Jvm.MethodName)) ∈ lw_all := lw_g (lw_at lw_m17 48 rfl) rfl
theorem q4052 : (Jvm.Cond.code ({ cls := "FollowingRefsModel", name := "commit", desc := "()I" } : Jvm.MethodName) prog_35_method_88_code (2 : Nat) (Option.some Jvm.ClassFile.FieldType.int)) ∈ lw_all := lw_g (lw_at lw_m17 49 rfl) rfl
theorem q4053 : (Jvm.Cond.methodLink "FollowingRefsModel" (471 : Nat) ({ cls := "FollowingRefsModel", name := "whyCommit", desc := "()I" } : Jvm.MethodName)) ∈ lw_all := lw_g (lw_at lw_m17 50 rfl) rfl
theorem q4055 : (Jvm.Cond.instanceMethod ({ cls := "FollowingRefsModel", name := "whyCommit", desc := "()I" } : Jvm.MethodName)) ∈ lw_all := lw_g (lw_at lw_m17 52 rfl) rfl
theorem q4056 : (Jvm.Cond.code ({ cls := "FollowingRefsModel", name := "whyCommit", desc := "()I" } : Jvm.MethodName) prog_35_method_84_code (1 : Nat) (Option.some Jvm.ClassFile.FieldType.int)) ∈ lw_all := lw_g (lw_at lw_m17 53 rfl) rfl
theorem q4057 : (Jvm.Cond.methodLink "FollowingRefsModel" (477 : Nat) ({ cls := "FollowingRefsModel", name := "commits", desc := "()V" } : Jvm.MethodName)) ∈ lw_all := lw_g (lw_at lw_m17 54 rfl) rfl
theorem q4059 : (Jvm.Cond.instanceMethod ({ cls := "FollowingRefsModel", name := "commits", desc := "()V" } : Jvm.MethodName)) ∈ lw_all := lw_g (lw_at lw_m17 56 rfl) rfl
theorem q4060 : (Jvm.Cond.code ({ cls := "FollowingRefsModel", name := "commits", desc := "()V" } : Jvm.MethodName) prog_35_method_87_code (1 : Nat) (Option.none : Option Jvm.ClassFile.FieldType)) ∈ lw_all := lw_g (lw_at lw_m17 57 rfl) rfl
theorem q4061 : (Jvm.Cond.methodLink "FollowingRefsModel" (468 : Nat) ({ cls := "FollowingRefsModel", name := "clears2", desc := "()V" } : Jvm.MethodName)) ∈ lw_all := lw_g (lw_at lw_m17 58 rfl) rfl
theorem q4063 : (Jvm.Cond.instanceMethod ({ cls := "FollowingRefsModel", name := "clears2", desc := "()V" } : Jvm.MethodName)) ∈ lw_all := lw_g (lw_at lw_m17 60 rfl) rfl
theorem q4064 : (Jvm.Cond.code ({ cls := "FollowingRefsModel", name := "clears2", desc := "()V" } : Jvm.MethodName) prog_35_method_86_code (2 : Nat) (Option.none : Option Jvm.ClassFile.FieldType)) ∈ lw_all := lw_g (lw_at lw_m17 61 rfl) rfl
theorem q4065 : (Jvm.Cond.methodLink "FollowingRefsLaw" (81 : Nat) ({ cls := "FollowingRefsModel", name := "back", desc := "()I" } : Jvm.MethodName)) ∈ lw_all := lw_g (lw_at lw_m17 62 rfl) rfl
theorem q4066 : (Jvm.Cond.instanceMethod ({ cls := "FollowingRefsModel", name := "back", desc := "()I" } : Jvm.MethodName)) ∈ lw_all := lw_g (lw_at lw_m17 63 rfl) rfl
theorem q4067 : (Jvm.Cond.selects "FollowingRefsModel" ({ cls := "FollowingRefsModel", name := "back", desc := "()I" } : Jvm.MethodName) ({ cls := "FollowingRefsModel", name := "back", desc := "()I" } : Jvm.MethodName)) ∈ lw_all := lw_g (lw_at lw_m17 64 rfl) rfl
theorem q4068 : (Jvm.Cond.code ({ cls := "FollowingRefsModel", name := "back", desc := "()I" } : Jvm.MethodName) prog_35_method_89_code (1 : Nat) (Option.some Jvm.ClassFile.FieldType.int)) ∈ lw_all := lw_g (lw_at lw_m17 65 rfl) rfl
theorem q4069 : (Jvm.Cond.methodLink "FollowingRefsModel" (480 : Nat) ({ cls := "FollowingRefsModel", name := "backs", desc := "()V" } : Jvm.MethodName)) ∈ lw_all := lw_g (lw_at lw_m17 66 rfl) rfl
theorem q4071 : (Jvm.Cond.instanceMethod ({ cls := "FollowingRefsModel", name := "backs", desc := "()V" } : Jvm.MethodName)) ∈ lw_all := lw_g (lw_at lw_m17 68 rfl) rfl
theorem q4072 : (Jvm.Cond.code ({ cls := "FollowingRefsModel", name := "backs", desc := "()V" } : Jvm.MethodName) prog_35_method_85_code (2 : Nat) (Option.none : Option Jvm.ClassFile.FieldType)) ∈ lw_all := lw_g (lw_at lw_m17 69 rfl) rfl
theorem q4073 : (Jvm.Cond.methodLink "FollowingRefsLaw" (85 : Nat) ({ cls := "FollowingRefsModel", name := "undo", desc := "()I" } : Jvm.MethodName)) ∈ lw_all := lw_g (lw_at lw_m17 70 rfl) rfl
theorem q4074 : (Jvm.Cond.instanceMethod ({ cls := "FollowingRefsModel", name := "undo", desc := "()I" } : Jvm.MethodName)) ∈ lw_all := lw_g (lw_at lw_m17 71 rfl) rfl
theorem q4075 : (Jvm.Cond.selects "FollowingRefsModel" ({ cls := "FollowingRefsModel", name := "undo", desc := "()I" } : Jvm.MethodName) ({ cls := "FollowingRefsModel", name := "undo", desc := "()I" } : Jvm.MethodName)) ∈ lw_all := lw_g (lw_at lw_m17 72 rfl) rfl
theorem q4076 : (Jvm.Cond.code ({ cls := "FollowingRefsModel", name := "undo", desc := "()I" } : Jvm.MethodName) prog_35_method_96_code (2 : Nat) (Option.some Jvm.ClassFile.FieldType.int)) ∈ lw_all := lw_g (lw_at lw_m17 73 rfl) rfl
theorem q4077 : (Jvm.Cond.methodLink "FollowingRefsLaw" (89 : Nat) ({ cls := "FollowingRefsModel", name := "now", desc := "(I)I" } : Jvm.MethodName)) ∈ lw_all := lw_g (lw_at lw_m17 74 rfl) rfl
theorem q4078 : (Jvm.Cond.instanceMethod ({ cls := "FollowingRefsModel", name := "now", desc := "(I)I" } : Jvm.MethodName)) ∈ lw_all := lw_g (lw_at lw_m17 75 rfl) rfl
theorem q4079 : (Jvm.Cond.selects "FollowingRefsModel" ({ cls := "FollowingRefsModel", name := "now", desc := "(I)I" } : Jvm.MethodName) ({ cls := "FollowingRefsModel", name := "now", desc := "(I)I" } : Jvm.MethodName)) ∈ lw_all := lw_g (lw_at lw_m17 76 rfl) rfl
theorem q4080 : (Jvm.Cond.code ({ cls := "FollowingRefsModel", name := "now", desc := "(I)I" } : Jvm.MethodName) prog_35_method_98_code (2 : Nat) (Option.some Jvm.ClassFile.FieldType.int)) ∈ lw_all := lw_g (lw_at lw_m17 77 rfl) rfl
theorem q4081 : (Jvm.Cond.methodLink "FollowingRefsModel" (486 : Nat) ({ cls := "FollowingRefsModel", name := "violationsNow", desc := "()I" } : Jvm.MethodName)) ∈ lw_all := lw_g (lw_at lw_m17 78 rfl) rfl
theorem q4083 : (Jvm.Cond.instanceMethod ({ cls := "FollowingRefsModel", name := "violationsNow", desc := "()I" } : Jvm.MethodName)) ∈ lw_all := lw_g (lw_at lw_m17 80 rfl) rfl
theorem q4084 : (Jvm.Cond.code ({ cls := "FollowingRefsModel", name := "violationsNow", desc := "()I" } : Jvm.MethodName) prog_35_method_97_code (1 : Nat) (Option.some Jvm.ClassFile.FieldType.int)) ∈ lw_all := lw_g (lw_at lw_m17 81 rfl) rfl
theorem q4085 : (Jvm.Cond.methodLink "FollowingRefsLaw" (93 : Nat) ({ cls := "FollowingRefsModel", name := "rows", desc := "(I)I" } : Jvm.MethodName)) ∈ lw_all := lw_g (lw_at lw_m17 82 rfl) rfl
theorem q4086 : (Jvm.Cond.instanceMethod ({ cls := "FollowingRefsModel", name := "rows", desc := "(I)I" } : Jvm.MethodName)) ∈ lw_all := lw_g (lw_at lw_m17 83 rfl) rfl
theorem q4087 : (Jvm.Cond.selects "FollowingRefsModel" ({ cls := "FollowingRefsModel", name := "rows", desc := "(I)I" } : Jvm.MethodName) ({ cls := "FollowingRefsModel", name := "rows", desc := "(I)I" } : Jvm.MethodName)) ∈ lw_all := lw_g (lw_at lw_m17 84 rfl) rfl
theorem q4088 : (Jvm.Cond.code ({ cls := "FollowingRefsModel", name := "rows", desc := "(I)I" } : Jvm.MethodName) prog_35_method_99_code (4 : Nat) (Option.some Jvm.ClassFile.FieldType.int)) ∈ lw_all := lw_g (lw_at lw_m17 85 rfl) rfl
theorem q4089 : (Jvm.Cond.methodLink "FollowingRefsModel" (317 : Nat) ({ cls := "FollowingRefsModel", name := "isTable", desc := "(I)Z" } : Jvm.MethodName)) ∈ lw_all := lw_g (lw_at lw_m17 86 rfl) rfl
theorem q4091 : (Jvm.Cond.instanceMethod ({ cls := "FollowingRefsModel", name := "isTable", desc := "(I)Z" } : Jvm.MethodName)) ∈ lw_all := lw_g (lw_at lw_m17 88 rfl) rfl
theorem q4092 : (Jvm.Cond.code ({ cls := "FollowingRefsModel", name := "isTable", desc := "(I)Z" } : Jvm.MethodName) prog_35_method_38_code (2 : Nat) (Option.some Jvm.ClassFile.FieldType.boolean)) ∈ lw_all := lw_g (lw_at lw_m17 89 rfl) rfl
theorem q4093 : (Jvm.Cond.methodLink "FollowingRefsLaw" (97 : Nat) ({ cls := "FollowingRefsModel", name := "row", desc := "(II)I" } : Jvm.MethodName)) ∈ lw_all := lw_g (lw_at lw_m17 90 rfl) rfl
theorem q4094 : (Jvm.Cond.instanceMethod ({ cls := "FollowingRefsModel", name := "row", desc := "(II)I" } : Jvm.MethodName)) ∈ lw_all := lw_g (lw_at lw_m17 91 rfl) rfl
theorem q4095 : (Jvm.Cond.selects "FollowingRefsModel" ({ cls := "FollowingRefsModel", name := "row", desc := "(II)I" } : Jvm.MethodName) ({ cls := "FollowingRefsModel", name := "row", desc := "(II)I" } : Jvm.MethodName)) ∈ lw_all := lw_g (lw_at lw_m17 92 rfl) rfl
theorem q4096 : (Jvm.Cond.code ({ cls := "FollowingRefsModel", name := "row", desc := "(II)I" } : Jvm.MethodName) prog_35_method_100_code (5 : Nat) (Option.some Jvm.ClassFile.FieldType.int)) ∈ lw_all := lw_g (lw_at lw_m17 93 rfl) rfl
theorem q4097 : (Jvm.Cond.methodLink "FollowingRefsLaw" (101 : Nat) ({ cls := "FollowingRefsModel", name := "tableOf", desc := "(I)I" } : Jvm.MethodName)) ∈ lw_all := lw_g (lw_at lw_m17 94 rfl) rfl
theorem q4098 : (Jvm.Cond.instanceMethod ({ cls := "FollowingRefsModel", name := "tableOf", desc := "(I)I" } : Jvm.MethodName)) ∈ lw_all := lw_g (lw_at lw_m17 95 rfl) rfl
theorem q4099 : (Jvm.Cond.selects "FollowingRefsModel" ({ cls := "FollowingRefsModel", name := "tableOf", desc := "(I)I" } : Jvm.MethodName) ({ cls := "FollowingRefsModel", name := "tableOf", desc := "(I)I" } : Jvm.MethodName)) ∈ lw_all := lw_g (lw_at lw_m17 96 rfl) rfl
theorem q4100 : (Jvm.Cond.code ({ cls := "FollowingRefsModel", name := "tableOf", desc := "(I)I" } : Jvm.MethodName) prog_35_method_101_code (2 : Nat) (Option.some Jvm.ClassFile.FieldType.int)) ∈ lw_all := lw_g (lw_at lw_m17 97 rfl) rfl
theorem q4101 : (Jvm.Cond.methodLink "FollowingRefsModel" (489 : Nat) ({ cls := "FollowingRefsModel", name := "isRow", desc := "(I)Z" } : Jvm.MethodName)) ∈ lw_all := lw_g (lw_at lw_m17 98 rfl) rfl
theorem q4103 : (Jvm.Cond.instanceMethod ({ cls := "FollowingRefsModel", name := "isRow", desc := "(I)Z" } : Jvm.MethodName)) ∈ lw_all := lw_g (lw_at lw_m17 100 rfl) rfl
theorem q4104 : (Jvm.Cond.code ({ cls := "FollowingRefsModel", name := "isRow", desc := "(I)Z" } : Jvm.MethodName) prog_35_method_40_code (2 : Nat) (Option.some Jvm.ClassFile.FieldType.boolean)) ∈ lw_all := lw_g (lw_at lw_m17 101 rfl) rfl
theorem q4105 : (Jvm.Cond.methodLink "FollowingRefsLaw" (107 : Nat) ({ cls := "FollowingRefsModel", name := "cell", desc := "(II)I" } : Jvm.MethodName)) ∈ lw_all := lw_g (lw_at lw_m17 102 rfl) rfl
theorem q4106 : (Jvm.Cond.instanceMethod ({ cls := "FollowingRefsModel", name := "cell", desc := "(II)I" } : Jvm.MethodName)) ∈ lw_all := lw_g (lw_at lw_m17 103 rfl) rfl
theorem q4107 : (Jvm.Cond.selects "FollowingRefsModel" ({ cls := "FollowingRefsModel", name := "cell", desc := "(II)I" } : Jvm.MethodName) ({ cls := "FollowingRefsModel", name := "cell", desc := "(II)I" } : Jvm.MethodName)) ∈ lw_all := lw_g (lw_at lw_m17 104 rfl) rfl
theorem q4108 : (Jvm.Cond.code ({ cls := "FollowingRefsModel", name := "cell", desc := "(II)I" } : Jvm.MethodName) prog_35_method_102_code (3 : Nat) (Option.some Jvm.ClassFile.FieldType.int)) ∈ lw_all := lw_g (lw_at lw_m17 105 rfl) rfl
theorem q4109 : (Jvm.Cond.methodLink "FollowingRefsModel" (492 : Nat) ({ cls := "FollowingRefsModel", name := "isCol", desc := "(II)Z" } : Jvm.MethodName)) ∈ lw_all := lw_g (lw_at lw_m17 106 rfl) rfl
theorem q4111 : (Jvm.Cond.instanceMethod ({ cls := "FollowingRefsModel", name := "isCol", desc := "(II)Z" } : Jvm.MethodName)) ∈ lw_all := lw_g (lw_at lw_m17 108 rfl) rfl
theorem q4112 : (Jvm.Cond.code ({ cls := "FollowingRefsModel", name := "isCol", desc := "(II)Z" } : Jvm.MethodName) prog_35_method_39_code (3 : Nat) (Option.some Jvm.ClassFile.FieldType.boolean)) ∈ lw_all := lw_g (lw_at lw_m17 109 rfl) rfl
theorem q4113 : (Jvm.Cond.methodLink "FollowingRefsModel" (495 : Nat) ({ cls := "FollowingRefsModel", name := "throwsIf", desc := "(Z)Z" } : Jvm.MethodName)) ∈ lw_all := lw_g (lw_at lw_m17 110 rfl) rfl
theorem q4115 : (Jvm.Cond.instanceMethod ({ cls := "FollowingRefsModel", name := "throwsIf", desc := "(Z)Z" } : Jvm.MethodName)) ∈ lw_all := lw_g (lw_at lw_m17 112 rfl) rfl
theorem q4116 : (Jvm.Cond.code ({ cls := "FollowingRefsModel", name := "throwsIf", desc := "(Z)Z" } : Jvm.MethodName) prog_35_method_2_code (2 : Nat) (Option.some Jvm.ClassFile.FieldType.boolean)) ∈ lw_all := lw_g (lw_at lw_m17 113 rfl) rfl
theorem q4117 : (Jvm.Cond.methodLink "FollowingRefsLaw" (114 : Nat) ({ cls := "FollowingRefsModel", name := "refers", desc := "(II)I" } : Jvm.MethodName)) ∈ lw_all := lw_g (lw_at lw_m17 114 rfl) rfl
theorem q4118 : (Jvm.Cond.instanceMethod ({ cls := "FollowingRefsModel", name := "refers", desc := "(II)I" } : Jvm.MethodName)) ∈ lw_all := lw_g (lw_at lw_m17 115 rfl) rfl
theorem q4119 : (Jvm.Cond.selects "FollowingRefsModel" ({ cls := "FollowingRefsModel", name := "refers", desc := "(II)I" } : Jvm.MethodName) ({ cls := "FollowingRefsModel", name := "refers", desc := "(II)I" } : Jvm.MethodName)) ∈ lw_all := lw_g (lw_at lw_m17 116 rfl) rfl
theorem q4120 : (Jvm.Cond.code ({ cls := "FollowingRefsModel", name := "refers", desc := "(II)I" } : Jvm.MethodName) prog_35_method_103_code (3 : Nat) (Option.some Jvm.ClassFile.FieldType.int)) ∈ lw_all := lw_g (lw_at lw_m17 117 rfl) rfl
theorem q4121 : (Jvm.Cond.methodLink "FollowingRefsLaw" (118 : Nat) ({ cls := "FollowingRefsModel", name := "referred", desc := "(I)I" } : Jvm.MethodName)) ∈ lw_all := lw_g (lw_at lw_m17 118 rfl) rfl
theorem q4122 : (Jvm.Cond.instanceMethod ({ cls := "FollowingRefsModel", name := "referred", desc := "(I)I" } : Jvm.MethodName)) ∈ lw_all := lw_g (lw_at lw_m17 119 rfl) rfl
theorem q4123 : (Jvm.Cond.selects "FollowingRefsModel" ({ cls := "FollowingRefsModel", name := "referred", desc := "(I)I" } : Jvm.MethodName) ({ cls := "FollowingRefsModel", name := "referred", desc := "(I)I" } : Jvm.MethodName)) ∈ lw_all := lw_g (lw_at lw_m17 120 rfl) rfl
theorem q4124 : (Jvm.Cond.code ({ cls := "FollowingRefsModel", name := "referred", desc := "(I)I" } : Jvm.MethodName) prog_35_method_105_code (2 : Nat) (Option.some Jvm.ClassFile.FieldType.int)) ∈ lw_all := lw_g (lw_at lw_m17 121 rfl) rfl
theorem q4125 : (Jvm.Cond.methodLink "FollowingRefsModel" (499 : Nat) ({ cls := "FollowingRefsModel", name := "referredTo", desc := "(I)I" } : Jvm.MethodName)) ∈ lw_all := lw_g (lw_at lw_m17 122 rfl) rfl
theorem q4127 : (Jvm.Cond.instanceMethod ({ cls := "FollowingRefsModel", name := "referredTo", desc := "(I)I" } : Jvm.MethodName)) ∈ lw_all := lw_g (lw_at lw_m17 124 rfl) rfl
theorem q4128 : (Jvm.Cond.code ({ cls := "FollowingRefsModel", name := "referredTo", desc := "(I)I" } : Jvm.MethodName) prog_35_method_104_code (5 : Nat) (Option.some Jvm.ClassFile.FieldType.int)) ∈ lw_all := lw_g (lw_at lw_m17 125 rfl) rfl
theorem q4129 : (Jvm.Cond.methodLink "FollowingRefsLaw" (122 : Nat) ({ cls := "FollowingRefsModel", name := "table", desc := "(II)I" } : Jvm.MethodName)) ∈ lw_all := lw_g (lw_at lw_m17 126 rfl) rfl
theorem q4130 : (Jvm.Cond.instanceMethod ({ cls := "FollowingRefsModel", name := "table", desc := "(II)I" } : Jvm.MethodName)) ∈ lw_all := lw_g (lw_at lw_m17 127 rfl) rfl
theorem q4131 : (Jvm.Cond.selects "FollowingRefsModel" ({ cls := "FollowingRefsModel", name := "table", desc := "(II)I" } : Jvm.MethodName) ({ cls := "FollowingRefsModel", name := "table", desc := "(II)I" } : Jvm.MethodName)) ∈ lw_all := lw_g (lw_at lw_m17 128 rfl) rfl
theorem q4132 : (Jvm.Cond.code ({ cls := "FollowingRefsModel", name := "table", desc := "(II)I" } : Jvm.MethodName) prog_35_method_107_code (7 : Nat) (Option.some Jvm.ClassFile.FieldType.int)) ∈ lw_all := lw_g (lw_at lw_m17 129 rfl) rfl
theorem q4133 : (Jvm.Cond.methodLink "FollowingRefsModel" (505 : Nat) ({ cls := "FollowingRefsModel", name := "perils", desc := "(I)I" } : Jvm.MethodName)) ∈ lw_all := lw_g (lw_at lw_m17 130 rfl) rfl
theorem q4135 : (Jvm.Cond.instanceMethod ({ cls := "FollowingRefsModel", name := "perils", desc := "(I)I" } : Jvm.MethodName)) ∈ lw_all := lw_g (lw_at lw_m17 132 rfl) rfl
theorem q4136 : (Jvm.Cond.code ({ cls := "FollowingRefsModel", name := "perils", desc := "(I)I" } : Jvm.MethodName) prog_35_method_106_code (5 : Nat) (Option.some Jvm.ClassFile.FieldType.int)) ∈ lw_all := lw_g (lw_at lw_m17 133 rfl) rfl
theorem q4137 : (Jvm.Cond.methodLink "FollowingRefsModel" (502 : Nat) ({ cls := "FollowingRefsModel", name := "bitOf", desc := "(II)Z" } : Jvm.MethodName)) ∈ lw_all := lw_g (lw_at lw_m17 134 rfl) rfl
theorem q4138 : (Jvm.Cond.static ({ cls := "FollowingRefsModel", name := "bitOf", desc := "(II)Z" } : Jvm.MethodName)) ∈ lw_all := lw_g (lw_at lw_m17 135 rfl) rfl
theorem q4139 : (Jvm.Cond.code ({ cls := "FollowingRefsModel", name := "bitOf", desc := "(II)Z" } : Jvm.MethodName) prog_35_method_8_code (2 : Nat) (Option.some Jvm.ClassFile.FieldType.boolean)) ∈ lw_all := lw_g (lw_at lw_m17 136 rfl) rfl
theorem q4140 : (Jvm.Cond.methodLink "FollowingRefsLaw" (126 : Nat) ({ cls := "FollowingRefsModel", name := "col", desc := "(III)I" } : Jvm.MethodName)) ∈ lw_all := lw_g (lw_at lw_m17 137 rfl) rfl
theorem q4141 : (Jvm.Cond.instanceMethod ({ cls := "FollowingRefsModel", name := "col", desc := "(III)I" } : Jvm.MethodName)) ∈ lw_all := lw_g (lw_at lw_m17 138 rfl) rfl
theorem q4142 : (Jvm.Cond.selects "FollowingRefsModel" ({ cls := "FollowingRefsModel", name := "col", desc := "(III)I" } : Jvm.MethodName) ({ cls := "FollowingRefsModel", name := "col", desc := "(III)I" } : Jvm.MethodName)) ∈ lw_all := lw_g (lw_at lw_m17 139 rfl) rfl
theorem q4143 : (Jvm.Cond.code ({ cls := "FollowingRefsModel", name := "col", desc := "(III)I" } : Jvm.MethodName) prog_35_method_108_code (7 : Nat) (Option.some Jvm.ClassFile.FieldType.int)) ∈ lw_all := lw_g (lw_at lw_m17 140 rfl) rfl
theorem q4144 : (Jvm.Cond.methodLink "FollowingRefsLaw" (130 : Nat) ({ cls := "FollowingRefsModel", name := "ref", desc := "(II)I" } : Jvm.MethodName)) ∈ lw_all := lw_g (lw_at lw_m17 141 rfl) rfl
theorem q4145 : (Jvm.Cond.instanceMethod ({ cls := "FollowingRefsModel", name := "ref", desc := "(II)I" } : Jvm.MethodName)) ∈ lw_all := lw_g (lw_at lw_m17 142 rfl) rfl
theorem q4146 : (Jvm.Cond.selects "FollowingRefsModel" ({ cls := "FollowingRefsModel", name := "ref", desc := "(II)I" } : Jvm.MethodName) ({ cls := "FollowingRefsModel", name := "ref", desc := "(II)I" } : Jvm.MethodName)) ∈ lw_all := lw_g (lw_at lw_m17 143 rfl) rfl
theorem q4147 : (Jvm.Cond.code ({ cls := "FollowingRefsModel", name := "ref", desc := "(II)I" } : Jvm.MethodName) prog_35_method_109_code (3 : Nat) (Option.some Jvm.ClassFile.FieldType.int)) ∈ lw_all := lw_g (lw_at lw_m17 144 rfl) rfl
theorem q4148 : (Jvm.Cond.methodLink "FollowingRefsLaw" (134 : Nat) ({ cls := "FollowingRefsModel", name := "order", desc := "()I" } : Jvm.MethodName)) ∈ lw_all := lw_g (lw_at lw_m17 145 rfl) rfl
theorem q4149 : (Jvm.Cond.instanceMethod ({ cls := "FollowingRefsModel", name := "order", desc := "()I" } : Jvm.MethodName)) ∈ lw_all := lw_g (lw_at lw_m17 146 rfl) rfl
theorem q4150 : (Jvm.Cond.selects "FollowingRefsModel" ({ cls := "FollowingRefsModel", name := "order", desc := "()I" } : Jvm.MethodName) ({ cls := "FollowingRefsModel", name := "order", desc := "()I" } : Jvm.MethodName)) ∈ lw_all := lw_g (lw_at lw_m17 147 rfl) rfl
theorem q4151 : (Jvm.Cond.code ({ cls := "FollowingRefsModel", name := "order", desc := "()I" } : Jvm.MethodName) prog_35_method_111_code (4 : Nat) (Option.some Jvm.ClassFile.FieldType.int)) ∈ lw_all := lw_g (lw_at lw_m17 148 rfl) rfl
theorem q4152 : (Jvm.Cond.methodLink "FollowingRefsModel" (508 : Nat) ({ cls := "FollowingRefsModel", name := "isFree", desc := "(II)Z" } : Jvm.MethodName)) ∈ lw_all := lw_g (lw_at lw_m17 149 rfl) rfl
theorem q4154 : (Jvm.Cond.instanceMethod ({ cls := "FollowingRefsModel", name := "isFree", desc := "(II)Z" } : Jvm.MethodName)) ∈ lw_all := lw_g (lw_at lw_m17 151 rfl) rfl
theorem q4155 : (Jvm.Cond.code ({ cls := "FollowingRefsModel", name := "isFree", desc := "(II)Z" } : Jvm.MethodName) prog_35_method_110_code (5 : Nat) (Option.some Jvm.ClassFile.FieldType.boolean)) ∈ lw_all := lw_g (lw_at lw_m17 152 rfl) rfl
theorem q4156 : (Jvm.Cond.methodLink "FollowingRefsLaw" (138 : Nat) ({ cls := "FollowingRefsModel", name := "orderAt", desc := "(I)I" } : Jvm.MethodName)) ∈ lw_all := lw_g (lw_at lw_m17 153 rfl) rfl
theorem q4157 : (Jvm.Cond.instanceMethod ({ cls := "FollowingRefsModel", name := "orderAt", desc := "(I)I" } : Jvm.MethodName)) ∈ lw_all := lw_g (lw_at lw_m17 154 rfl) rfl
theorem q4158 : (Jvm.Cond.selects "FollowingRefsModel" ({ cls := "FollowingRefsModel", name := "orderAt", desc := "(I)I" } : Jvm.MethodName) ({ cls := "FollowingRefsModel", name := "orderAt", desc := "(I)I" } : Jvm.MethodName)) ∈ lw_all := lw_g (lw_at lw_m17 155 rfl) rfl
theorem q4159 : (Jvm.Cond.code ({ cls := "FollowingRefsModel", name := "orderAt", desc := "(I)I" } : Jvm.MethodName) prog_35_method_112_code (2 : Nat) (Option.some Jvm.ClassFile.FieldType.int)) ∈ lw_all := lw_g (lw_at lw_m17 156 rfl) rfl
theorem q4160 : (Jvm.Cond.methodLink "FollowingRefsLaw" (141 : Nat) ({ cls := "FollowingRefsModel", name := "mean", desc := "(III)I" } : Jvm.MethodName)) ∈ lw_all := lw_g (lw_at lw_m17 157 rfl) rfl
theorem q4161 : (Jvm.Cond.instanceMethod ({ cls := "FollowingRefsModel", name := "mean", desc := "(III)I" } : Jvm.MethodName)) ∈ lw_all := lw_g (lw_at lw_m17 158 rfl) rfl
theorem q4162 : (Jvm.Cond.selects "FollowingRefsModel" ({ cls := "FollowingRefsModel", name := "mean", desc := "(III)I" } : Jvm.MethodName) ({ cls := "FollowingRefsModel", name := "mean", desc := "(III)I" } : Jvm.MethodName)) ∈ lw_all := lw_g (lw_at lw_m17 159 rfl) rfl
theorem q4163 : (Jvm.Cond.code ({ cls := "FollowingRefsModel", name := "mean", desc := "(III)I" } : Jvm.MethodName) prog_35_method_113_code (9 : Nat) (Option.some Jvm.ClassFile.FieldType.int)) ∈ lw_all := lw_g (lw_at lw_m17 160 rfl) rfl
theorem q4164 : (Jvm.Cond.methodLink "FollowingRefsLaw" (145 : Nat) ({ cls := "FollowingRefsModel", name := "tag", desc := "(I)I" } : Jvm.MethodName)) ∈ lw_all := lw_g (lw_at lw_m17 161 rfl) rfl
theorem q4165 : (Jvm.Cond.instanceMethod ({ cls := "FollowingRefsModel", name := "tag", desc := "(I)I" } : Jvm.MethodName)) ∈ lw_all := lw_g (lw_at lw_m17 162 rfl) rfl
theorem q4166 : (Jvm.Cond.selects "FollowingRefsModel" ({ cls := "FollowingRefsModel", name := "tag", desc := "(I)I" } : Jvm.MethodName) ({ cls := "FollowingRefsModel", name := "tag", desc := "(I)I" } : Jvm.MethodName)) ∈ lw_all := lw_g (lw_at lw_m17 163 rfl) rfl
theorem q4167 : (Jvm.Cond.code ({ cls := "FollowingRefsModel", name := "tag", desc := "(I)I" } : Jvm.MethodName) prog_35_method_117_code (3 : Nat) (Option.some Jvm.ClassFile.FieldType.int)) ∈ lw_all := lw_g (lw_at lw_m17 164 rfl) rfl
theorem q4168 : (Jvm.Cond.methodLink "FollowingRefsModel" (519 : Nat) ({ cls := "FollowingRefsModel", name := "spells", desc := "(J)V" } : Jvm.MethodName)) ∈ lw_all := lw_g (lw_at lw_m17 165 rfl) rfl
theorem q4170 : (Jvm.Cond.instanceMethod ({ cls := "FollowingRefsModel", name := "spells", desc := "(J)V" } : Jvm.MethodName)) ∈ lw_all := lw_g (lw_at lw_m17 167 rfl) rfl
theorem q4171 : (Jvm.Cond.code ({ cls := "FollowingRefsModel", name := "spells", desc := "(J)V" } : Jvm.MethodName) prog_35_method_115_code (4 : Nat) (Option.none : Option Jvm.ClassFile.FieldType)) ∈ lw_all := lw_g (lw_at lw_m17 168 rfl) rfl
theorem q4172 : (Jvm.Cond.constantLong "FollowingRefsModel" (514 : Nat) (255 : Int64)) ∈ lw_all := lw_g (lw_at lw_m17 169 rfl) rfl
theorem q4173 : (Jvm.Cond.methodLink "FollowingRefsModel" (516 : Nat) ({ cls := "FollowingRefsModel", name := "lays", desc := "(I)V" } : Jvm.MethodName)) ∈ lw_all := lw_g (lw_at lw_m17 170 rfl) rfl
theorem q4175 : (Jvm.Cond.instanceMethod ({ cls := "FollowingRefsModel", name := "lays", desc := "(I)V" } : Jvm.MethodName)) ∈ lw_all := lw_g (lw_at lw_m17 172 rfl) rfl
theorem q4176 : (Jvm.Cond.code ({ cls := "FollowingRefsModel", name := "lays", desc := "(I)V" } : Jvm.MethodName) prog_35_method_114_code (2 : Nat) (Option.none : Option Jvm.ClassFile.FieldType)) ∈ lw_all := lw_g (lw_at lw_m17 173 rfl) rfl
theorem q4177 : (Jvm.Cond.methodLink "FollowingRefsModel" (523 : Nat) ({ cls := "FollowingRefsModel", name := "laysNumber", desc := "(I)V" } : Jvm.MethodName)) ∈ lw_all := lw_g (lw_at lw_m17 174 rfl) rfl
theorem q4179 : (Jvm.Cond.instanceMethod ({ cls := "FollowingRefsModel", name := "laysNumber", desc := "(I)V" } : Jvm.MethodName)) ∈ lw_all := lw_g (lw_at lw_m17 176 rfl) rfl
theorem q4180 : (Jvm.Cond.code ({ cls := "FollowingRefsModel", name := "laysNumber", desc := "(I)V" } : Jvm.MethodName) prog_35_method_116_code (2 : Nat) (Option.none : Option Jvm.ClassFile.FieldType)) ∈ lw_all := lw_g (lw_at lw_m17 177 rfl) rfl
theorem q4181 : (Jvm.Cond.methodLink "FollowingRefsLaw" (149 : Nat) ({ cls := "FollowingRefsModel", name := "byteAt", desc := "(I)I" } : Jvm.MethodName)) ∈ lw_all := lw_g (lw_at lw_m17 178 rfl) rfl
theorem q4182 : (Jvm.Cond.instanceMethod ({ cls := "FollowingRefsModel", name := "byteAt", desc := "(I)I" } : Jvm.MethodName)) ∈ lw_all := lw_g (lw_at lw_m17 179 rfl) rfl
theorem q4183 : (Jvm.Cond.selects "FollowingRefsModel" ({ cls := "FollowingRefsModel", name := "byteAt", desc := "(I)I" } : Jvm.MethodName) ({ cls := "FollowingRefsModel", name := "byteAt", desc := "(I)I" } : Jvm.MethodName)) ∈ lw_all := lw_g (lw_at lw_m17 180 rfl) rfl
theorem q4184 : (Jvm.Cond.code ({ cls := "FollowingRefsModel", name := "byteAt", desc := "(I)I" } : Jvm.MethodName) prog_35_method_118_code (2 : Nat) (Option.some Jvm.ClassFile.FieldType.int)) ∈ lw_all := lw_g (lw_at lw_m17 181 rfl) rfl
theorem q4185 : (Jvm.Cond.methodLink "FollowingRefsLaw" (153 : Nat) ({ cls := "FollowingRefsModel", name := "drawn", desc := "(II)I" } : Jvm.MethodName)) ∈ lw_all := lw_g (lw_at lw_m17 182 rfl) rfl
theorem q4186 : (Jvm.Cond.instanceMethod ({ cls := "FollowingRefsModel", name := "drawn", desc := "(II)I" } : Jvm.MethodName)) ∈ lw_all := lw_g (lw_at lw_m17 183 rfl) rfl
theorem q4187 : (Jvm.Cond.selects "FollowingRefsModel" ({ cls := "FollowingRefsModel", name := "drawn", desc := "(II)I" } : Jvm.MethodName) ({ cls := "FollowingRefsModel", name := "drawn", desc := "(II)I" } : Jvm.MethodName)) ∈ lw_all := lw_g (lw_at lw_m17 184 rfl) rfl
theorem q4188 : (Jvm.Cond.code ({ cls := "FollowingRefsModel", name := "drawn", desc := "(II)I" } : Jvm.MethodName) prog_35_method_122_code (5 : Nat) (Option.some Jvm.ClassFile.FieldType.int)) ∈ lw_all := lw_g (lw_at lw_m17 185 rfl) rfl
theorem q4189 : (Jvm.Cond.methodLink "FollowingRefsModel" (537 : Nat) ({ cls := "FollowingRefsModel", name := "drawDeed", desc := "()Z" } : Jvm.MethodName)) ∈ lw_all := lw_g (lw_at lw_m17 186 rfl) rfl
theorem q4191 : (Jvm.Cond.instanceMethod ({ cls := "FollowingRefsModel", name := "drawDeed", desc := "()Z" } : Jvm.MethodName)) ∈ lw_all := lw_g (lw_at lw_m17 188 rfl) rfl
theorem q4192 : (Jvm.Cond.code ({ cls := "FollowingRefsModel", name := "drawDeed", desc := "()Z" } : Jvm.MethodName) prog_35_method_121_code (3 : Nat) (Option.some Jvm.ClassFile.FieldType.boolean)) ∈ lw_all := lw_g (lw_at lw_m17 189 rfl) rfl
theorem q4193 : (Jvm.Cond.methodLink "FollowingRefsModel" (530 : Nat) ({ cls := "FollowingRefsModel", name := "draw", desc := "(I)I" } : Jvm.MethodName)) ∈ lw_all := lw_g (lw_at lw_m17 190 rfl) rfl
theorem q4195 : (Jvm.Cond.instanceMethod ({ cls := "FollowingRefsModel", name := "draw", desc := "(I)I" } : Jvm.MethodName)) ∈ lw_all := lw_g (lw_at lw_m17 192 rfl) rfl
theorem q4196 : (Jvm.Cond.code ({ cls := "FollowingRefsModel", name := "draw", desc := "(I)I" } : Jvm.MethodName) prog_35_method_119_code (2 : Nat) (Option.some Jvm.ClassFile.FieldType.int)) ∈ lw_all := lw_g (lw_at lw_m17 193 rfl) rfl
theorem q4197 : (Jvm.Cond.constant "FollowingRefsModel" (529 : Nat) (1103515245 : Int32)) ∈ lw_all := lw_g (lw_at lw_m17 194 rfl) rfl
theorem q4198 : (Jvm.Cond.methodLink "FollowingRefsModel" (533 : Nat) ({ cls := "FollowingRefsModel", name := "drawsLine", desc := "(II)V" } : Jvm.MethodName)) ∈ lw_all := lw_g (lw_at lw_m17 195 rfl) rfl
theorem q4200 : (Jvm.Cond.instanceMethod ({ cls := "FollowingRefsModel", name := "drawsLine", desc := "(II)V" } : Jvm.MethodName)) ∈ lw_all := lw_g (lw_at lw_m17 197 rfl) rfl
theorem q4201 : (Jvm.Cond.code ({ cls := "FollowingRefsModel", name := "drawsLine", desc := "(II)V" } : Jvm.MethodName) prog_35_method_120_code (5 : Nat) (Option.none : Option Jvm.ClassFile.FieldType)) ∈ lw_all := lw_g (lw_at lw_m17 198 rfl) rfl
theorem q4202 : (Jvm.Cond.methodLink "FollowingRefsLaw" (157 : Nat) ({ cls := "FollowingRefsModel", name := "book", desc := "(I)I" } : Jvm.MethodName)) ∈ lw_all := lw_g (lw_at lw_m17 199 rfl) rfl
theorem q4203 : (Jvm.Cond.instanceMethod ({ cls := "FollowingRefsModel", name := "book", desc := "(I)I" } : Jvm.MethodName)) ∈ lw_all := lw_g (lw_at lw_m17 200 rfl) rfl
theorem q4204 : (Jvm.Cond.selects "FollowingRefsModel" ({ cls := "FollowingRefsModel", name := "book", desc := "(I)I" } : Jvm.MethodName) ({ cls := "FollowingRefsModel", name := "book", desc := "(I)I" } : Jvm.MethodName)) ∈ lw_all := lw_g (lw_at lw_m17 201 rfl) rfl
theorem q4205 : (Jvm.Cond.code ({ cls := "FollowingRefsModel", name := "book", desc := "(I)I" } : Jvm.MethodName) prog_35_method_125_code (4 : Nat) (Option.some Jvm.ClassFile.FieldType.int)) ∈ lw_all := lw_g (lw_at lw_m17 202 rfl) rfl
theorem q4206 : (Jvm.Cond.methodLink "FollowingRefsModel" (543 : Nat) ({ cls := "FollowingRefsModel", name := "bookLine", desc := "()Z" } : Jvm.MethodName)) ∈ lw_all := lw_g (lw_at lw_m17 203 rfl) rfl
theorem q4208 : (Jvm.Cond.instanceMethod ({ cls := "FollowingRefsModel", name := "bookLine", desc := "()Z" } : Jvm.MethodName)) ∈ lw_all := lw_g (lw_at lw_m17 205 rfl) rfl
theorem q4209 : (Jvm.Cond.code ({ cls := "FollowingRefsModel", name := "bookLine", desc := "()Z" } : Jvm.MethodName) prog_35_method_123_code (3 : Nat) (Option.some Jvm.ClassFile.FieldType.boolean)) ∈ lw_all := lw_g (lw_at lw_m17 206 rfl) rfl
theorem q4210 : (Jvm.Cond.methodLink "FollowingRefsModel" (546 : Nat) ({ cls := "FollowingRefsModel", name := "does", desc := "(I)I" } : Jvm.MethodName)) ∈ lw_all := lw_g (lw_at lw_m17 207 rfl) rfl
theorem q4212 : (Jvm.Cond.instanceMethod ({ cls := "FollowingRefsModel", name := "does", desc := "(I)I" } : Jvm.MethodName)) ∈ lw_all := lw_g (lw_at lw_m17 209 rfl) rfl
theorem q4213 : (Jvm.Cond.code ({ cls := "FollowingRefsModel", name := "does", desc := "(I)I" } : Jvm.MethodName) prog_35_method_124_code (4 : Nat) (Option.some Jvm.ClassFile.FieldType.int)) ∈ lw_all := lw_g (lw_at lw_m17 210 rfl) rfl
theorem q4214 : (Jvm.Cond.methodLink "FollowingRefsLaw" (161 : Nat) ({ cls := "FollowingRefsModel", name := "told", desc := "(I)I" } : Jvm.MethodName)) ∈ lw_all := lw_g (lw_at lw_m17 211 rfl) rfl
theorem q4215 : (Jvm.Cond.instanceMethod ({ cls := "FollowingRefsModel", name := "told", desc := "(I)I" } : Jvm.MethodName)) ∈ lw_all := lw_g (lw_at lw_m17 212 rfl) rfl
theorem q4216 : (Jvm.Cond.selects "FollowingRefsModel" ({ cls := "FollowingRefsModel", name := "told", desc := "(I)I" } : Jvm.MethodName) ({ cls := "FollowingRefsModel", name := "told", desc := "(I)I" } : Jvm.MethodName)) ∈ lw_all := lw_g (lw_at lw_m17 213 rfl) rfl
theorem q4217 : (Jvm.Cond.code ({ cls := "FollowingRefsModel", name := "told", desc := "(I)I" } : Jvm.MethodName) prog_35_method_126_code (2 : Nat) (Option.some Jvm.ClassFile.FieldType.int)) ∈ lw_all := lw_g (lw_at lw_m17 214 rfl) rfl
theorem q4218 : (Jvm.Cond.methodLink "FollowingRefsLaw" (165 : Nat) ({ cls := "FollowingRefsModel", name := "sentence", desc := "()I" } : Jvm.MethodName)) ∈ lw_all := lw_g (lw_at lw_m17 215 rfl) rfl
theorem q4219 : (Jvm.Cond.instanceMethod ({ cls := "FollowingRefsModel", name := "sentence", desc := "()I" } : Jvm.MethodName)) ∈ lw_all := lw_g (lw_at lw_m17 216 rfl) rfl
theorem q4220 : (Jvm.Cond.selects "FollowingRefsModel" ({ cls := "FollowingRefsModel", name := "sentence", desc := "()I" } : Jvm.MethodName) ({ cls := "FollowingRefsModel", name := "sentence", desc := "()I" } : Jvm.MethodName)) ∈ lw_all := lw_g (lw_at lw_m17 217 rfl) rfl
theorem q4221 : (Jvm.Cond.code ({ cls := "FollowingRefsModel", name := "sentence", desc := "()I" } : Jvm.MethodName) prog_35_method_134_code (3 : Nat) (Option.some Jvm.ClassFile.FieldType.int)) ∈ lw_all := lw_g (lw_at lw_m17 218 rfl) rfl
theorem q4222 : (Jvm.Cond.methodLink "FollowingRefsModel" (576 : Nat) ({ cls := "FollowingRefsModel", name := "nots", desc := "()V" } : Jvm.MethodName)) ∈ lw_all := lw_g (lw_at lw_m17 219 rfl) rfl
theorem q4224 : (Jvm.Cond.instanceMethod ({ cls := "FollowingRefsModel", name := "nots", desc := "()V" } : Jvm.MethodName)) ∈ lw_all := lw_g (lw_at lw_m17 221 rfl) rfl
theorem q4225 : (Jvm.Cond.code ({ cls := "FollowingRefsModel", name := "nots", desc := "()V" } : Jvm.MethodName) prog_35_method_130_code (1 : Nat) (Option.none : Option Jvm.ClassFile.FieldType)) ∈ lw_all := lw_g (lw_at lw_m17 222 rfl) rfl
theorem q4226 : (Jvm.Cond.methodLink "FollowingRefsModel" (558 : Nat) ({ cls := "FollowingRefsModel", name := "code", desc := "(III)V" } : Jvm.MethodName)) ∈ lw_all := lw_g (lw_at lw_m17 223 rfl) rfl
theorem q4228 : (Jvm.Cond.instanceMethod ({ cls := "FollowingRefsModel", name := "code", desc := "(III)V" } : Jvm.MethodName)) ∈ lw_all := lw_g (lw_at lw_m17 225 rfl) rfl
theorem q4229 : (Jvm.Cond.code ({ cls := "FollowingRefsModel", name := "code", desc := "(III)V" } : Jvm.MethodName) prog_35_method_128_code (4 : Nat) (Option.none : Option Jvm.ClassFile.FieldType)) ∈ lw_all := lw_g (lw_at lw_m17 226 rfl) rfl
theorem q4230 : (Jvm.Cond.methodLink "FollowingRefsModel" (579 : Nat) ({ cls := "FollowingRefsModel", name := "joins", desc := "(I)V" } : Jvm.MethodName)) ∈ lw_all := lw_g (lw_at lw_m17 227 rfl) rfl
theorem q4232 : (Jvm.Cond.instanceMethod ({ cls := "FollowingRefsModel", name := "joins", desc := "(I)V" } : Jvm.MethodName)) ∈ lw_all := lw_g (lw_at lw_m17 229 rfl) rfl
theorem q4233 : (Jvm.Cond.code ({ cls := "FollowingRefsModel", name := "joins", desc := "(I)V" } : Jvm.MethodName) prog_35_method_129_code (2 : Nat) (Option.none : Option Jvm.ClassFile.FieldType)) ∈ lw_all := lw_g (lw_at lw_m17 230 rfl) rfl
theorem q4234 : (Jvm.Cond.methodLink "FollowingRefsModel" (582 : Nat) ({ cls := "FollowingRefsModel", name := "behind", desc := "()Z" } : Jvm.MethodName)) ∈ lw_all := lw_g (lw_at lw_m17 231 rfl) rfl
theorem q4236 : (Jvm.Cond.instanceMethod ({ cls := "FollowingRefsModel", name := "behind", desc := "()Z" } : Jvm.MethodName)) ∈ lw_all := lw_g (lw_at lw_m17 233 rfl) rfl
theorem q4237 : (Jvm.Cond.code ({ cls := "FollowingRefsModel", name := "behind", desc := "()Z" } : Jvm.MethodName) prog_35_method_133_code (1 : Nat) (Option.some Jvm.ClassFile.FieldType.boolean)) ∈ lw_all := lw_g (lw_at lw_m17 234 rfl) rfl
theorem q4238 : (Jvm.Cond.methodLink "FollowingRefsModel" (585 : Nat) ({ cls := "FollowingRefsModel", name := "operand", desc := "()Z" } : Jvm.MethodName)) ∈ lw_all := lw_g (lw_at lw_m17 235 rfl) rfl
theorem q4240 : (Jvm.Cond.instanceMethod ({ cls := "FollowingRefsModel", name := "operand", desc := "()Z" } : Jvm.MethodName)) ∈ lw_all := lw_g (lw_at lw_m17 237 rfl) rfl
theorem q4241 : (Jvm.Cond.code ({ cls := "FollowingRefsModel", name := "operand", desc := "()Z" } : Jvm.MethodName) prog_35_method_132_code (5 : Nat) (Option.some Jvm.ClassFile.FieldType.boolean)) ∈ lw_all := lw_g (lw_at lw_m17 238 rfl) rfl
theorem q4242 : (Jvm.Cond.methodLink "FollowingRefsModel" (567 : Nat) ({ cls := "FollowingRefsModel", name := "leafOf", desc := "()I" } : Jvm.MethodName)) ∈ lw_all := lw_g (lw_at lw_m17 239 rfl) rfl
theorem q4244 : (Jvm.Cond.instanceMethod ({ cls := "FollowingRefsModel", name := "leafOf", desc := "()I" } : Jvm.MethodName)) ∈ lw_all := lw_g (lw_at lw_m18 1 rfl) rfl
theorem q4245 : (Jvm.Cond.code ({ cls := "FollowingRefsModel", name := "leafOf", desc := "()I" } : Jvm.MethodName) prog_35_method_131_code (1 : Nat) (Option.some Jvm.ClassFile.FieldType.int)) ∈ lw_all := lw_g (lw_at lw_m18 2 rfl) rfl
theorem q4246 : (Jvm.Cond.methodLink "FollowingRefsModel" (564 : Nat) ({ cls := "FollowingRefsModel", name := "packOf", desc := "()I" } : Jvm.MethodName)) ∈ lw_all := lw_g (lw_at lw_m18 3 rfl) rfl
theorem q4248 : (Jvm.Cond.instanceMethod ({ cls := "FollowingRefsModel", name := "packOf", desc := "()I" } : Jvm.MethodName)) ∈ lw_all := lw_g (lw_at lw_m18 5 rfl) rfl
theorem q4249 : (Jvm.Cond.code ({ cls := "FollowingRefsModel", name := "packOf", desc := "()I" } : Jvm.MethodName) prog_35_method_127_code (3 : Nat) (Option.some Jvm.ClassFile.FieldType.int)) ∈ lw_all := lw_g (lw_at lw_m18 6 rfl) rfl
theorem q4250 : (Jvm.Cond.methodLink "FollowingRefsLaw" (169 : Nat) ({ cls := "FollowingRefsModel", name := "said", desc := "(I)I" } : Jvm.MethodName)) ∈ lw_all := lw_g (lw_at lw_m18 7 rfl) rfl
theorem q4251 : (Jvm.Cond.instanceMethod ({ cls := "FollowingRefsModel", name := "said", desc := "(I)I" } : Jvm.MethodName)) ∈ lw_all := lw_g (lw_at lw_m18 8 rfl) rfl
theorem q4252 : (Jvm.Cond.selects "FollowingRefsModel" ({ cls := "FollowingRefsModel", name := "said", desc := "(I)I" } : Jvm.MethodName) ({ cls := "FollowingRefsModel", name := "said", desc := "(I)I" } : Jvm.MethodName)) ∈ lw_all := lw_g (lw_at lw_m18 9 rfl) rfl
theorem q4253 : (Jvm.Cond.code ({ cls := "FollowingRefsModel", name := "said", desc := "(I)I" } : Jvm.MethodName) prog_35_method_139_code (4 : Nat) (Option.some Jvm.ClassFile.FieldType.int)) ∈ lw_all := lw_g (lw_at lw_m18 10 rfl) rfl
theorem q4254 : (Jvm.Cond.methodLink "FollowingRefsModel" (597 : Nat) ({ cls := "FollowingRefsModel", name := "isSaid", desc := "(I)Z" } : Jvm.MethodName)) ∈ lw_all := lw_g (lw_at lw_m18 11 rfl) rfl
theorem q4256 : (Jvm.Cond.instanceMethod ({ cls := "FollowingRefsModel", name := "isSaid", desc := "(I)Z" } : Jvm.MethodName)) ∈ lw_all := lw_g (lw_at lw_m18 13 rfl) rfl
theorem q4257 : (Jvm.Cond.code ({ cls := "FollowingRefsModel", name := "isSaid", desc := "(I)Z" } : Jvm.MethodName) prog_35_method_138_code (5 : Nat) (Option.some Jvm.ClassFile.FieldType.boolean)) ∈ lw_all := lw_g (lw_at lw_m18 14 rfl) rfl
theorem q4258 : (Jvm.Cond.methodLink "FollowingRefsModel" (594 : Nat) ({ cls := "FollowingRefsModel", name := "isLeaf", desc := "(IIII)Z" } : Jvm.MethodName)) ∈ lw_all := lw_g (lw_at lw_m18 15 rfl) rfl
theorem q4260 : (Jvm.Cond.instanceMethod ({ cls := "FollowingRefsModel", name := "isLeaf", desc := "(IIII)Z" } : Jvm.MethodName)) ∈ lw_all := lw_g (lw_at lw_m18 17 rfl) rfl
theorem q4261 : (Jvm.Cond.code ({ cls := "FollowingRefsModel", name := "isLeaf", desc := "(IIII)Z" } : Jvm.MethodName) prog_35_method_137_code (7 : Nat) (Option.some Jvm.ClassFile.FieldType.boolean)) ∈ lw_all := lw_g (lw_at lw_m18 18 rfl) rfl
theorem q4262 : (Jvm.Cond.methodLink "FollowingRefsModel" (588 : Nat) ({ cls := "FollowingRefsModel", name := "isBare", desc := "(I)Z" } : Jvm.MethodName)) ∈ lw_all := lw_g (lw_at lw_m18 19 rfl) rfl
theorem q4264 : (Jvm.Cond.instanceMethod ({ cls := "FollowingRefsModel", name := "isBare", desc := "(I)Z" } : Jvm.MethodName)) ∈ lw_all := lw_g (lw_at lw_m18 21 rfl) rfl
theorem q4265 : (Jvm.Cond.code ({ cls := "FollowingRefsModel", name := "isBare", desc := "(I)Z" } : Jvm.MethodName) prog_35_method_136_code (4 : Nat) (Option.some Jvm.ClassFile.FieldType.boolean)) ∈ lw_all := lw_g (lw_at lw_m18 22 rfl) rfl
theorem q4266 : (Jvm.Cond.methodLink "FollowingRefsModel" (591 : Nat) ({ cls := "FollowingRefsModel", name := "isBroken", desc := "(I)Z" } : Jvm.MethodName)) ∈ lw_all := lw_g (lw_at lw_m18 23 rfl) rfl
theorem q4268 : (Jvm.Cond.instanceMethod ({ cls := "FollowingRefsModel", name := "isBroken", desc := "(I)Z" } : Jvm.MethodName)) ∈ lw_all := lw_g (lw_at lw_m18 25 rfl) rfl
theorem q4269 : (Jvm.Cond.code ({ cls := "FollowingRefsModel", name := "isBroken", desc := "(I)Z" } : Jvm.MethodName) prog_35_method_135_code (4 : Nat) (Option.some Jvm.ClassFile.FieldType.boolean)) ∈ lw_all := lw_g (lw_at lw_m18 26 rfl) rfl
theorem q4270 : (Jvm.Cond.methodLink "FollowingRefsLaw" (173 : Nat) ({ cls := "FollowingRefsModel", name := "image", desc := "(I)Z" } : Jvm.MethodName)) ∈ lw_all := lw_g (lw_at lw_m18 27 rfl) rfl
theorem q4271 : (Jvm.Cond.instanceMethod ({ cls := "FollowingRefsModel", name := "image", desc := "(I)Z" } : Jvm.MethodName)) ∈ lw_all := lw_g (lw_at lw_m18 28 rfl) rfl
theorem q4272 : (Jvm.Cond.selects "FollowingRefsModel" ({ cls := "FollowingRefsModel", name := "image", desc := "(I)Z" } : Jvm.MethodName) ({ cls := "FollowingRefsModel", name := "image", desc := "(I)Z" } : Jvm.MethodName)) ∈ lw_all := lw_g (lw_at lw_m18 29 rfl) rfl
theorem q4273 : (Jvm.Cond.code ({ cls := "FollowingRefsModel", name := "image", desc := "(I)Z" } : Jvm.MethodName) prog_35_method_140_code (3 : Nat) (Option.some Jvm.ClassFile.FieldType.boolean)) ∈ lw_all := lw_g (lw_at lw_m18 30 rfl) rfl
theorem q4274 : (Jvm.Cond.methodLink "FollowingRefsLaw" (177 : Nat) ({ cls := "FollowingRefsModel", name := "restore", desc := "(I)Z" } : Jvm.MethodName)) ∈ lw_all := lw_g (lw_at lw_m18 31 rfl) rfl
theorem q4275 : (Jvm.Cond.instanceMethod ({ cls := "FollowingRefsModel", name := "restore", desc := "(I)Z" } : Jvm.MethodName)) ∈ lw_all := lw_g (lw_at lw_m18 32 rfl) rfl
theorem q4276 : (Jvm.Cond.selects "FollowingRefsModel" ({ cls := "FollowingRefsModel", name := "restore", desc := "(I)Z" } : Jvm.MethodName) ({ cls := "FollowingRefsModel", name := "restore", desc := "(I)Z" } : Jvm.MethodName)) ∈ lw_all := lw_g (lw_at lw_m18 33 rfl) rfl
theorem q4277 : (Jvm.Cond.code ({ cls := "FollowingRefsModel", name := "restore", desc := "(I)Z" } : Jvm.MethodName) prog_35_method_141_code (3 : Nat) (Option.some Jvm.ClassFile.FieldType.boolean)) ∈ lw_all := lw_g (lw_at lw_m18 34 rfl) rfl
theorem q4278 : (Jvm.Cond.methodLink "FollowingRefsLaw" (181 : Nat) ({ cls := "FollowingRefsModel", name := "count", desc := "(I)I" } : Jvm.MethodName)) ∈ lw_all := lw_g (lw_at lw_m18 35 rfl) rfl
theorem q4279 : (Jvm.Cond.instanceMethod ({ cls := "FollowingRefsModel", name := "count", desc := "(I)I" } : Jvm.MethodName)) ∈ lw_all := lw_g (lw_at lw_m18 36 rfl) rfl
theorem q4280 : (Jvm.Cond.selects "FollowingRefsModel" ({ cls := "FollowingRefsModel", name := "count", desc := "(I)I" } : Jvm.MethodName) ({ cls := "FollowingRefsModel", name := "count", desc := "(I)I" } : Jvm.MethodName)) ∈ lw_all := lw_g (lw_at lw_m18 37 rfl) rfl
theorem q4281 : (Jvm.Cond.code ({ cls := "FollowingRefsModel", name := "count", desc := "(I)I" } : Jvm.MethodName) prog_35_method_142_code (2 : Nat) (Option.some Jvm.ClassFile.FieldType.int)) ∈ lw_all := lw_g (lw_at lw_m18 38 rfl) rfl
theorem q4282 : (Jvm.Cond.sameMethod "FollowingRefs$Reader" "FollowingRefs$Reader" "byteAt" "(I)I") ∈ lw_all := lw_g (lw_at lw_m18 39 rfl) rfl
theorem q4283 : (Jvm.Cond.sameMethod "java/lang/AbstractStringBuilder" "java/lang/AbstractStringBuilder" "append" "(C)Ljava/lang/AbstractStringBuilder;") ∈ lw_all := lw_g (lw_at lw_m18 40 rfl) rfl
theorem q4284 : (Jvm.Cond.sameMethod "java/lang/AbstractStringBuilder" "java/lang/AbstractStringBuilder" "ensureCapacityInternal" "(I)V") ∈ lw_all := lw_g (lw_at lw_m18 41 rfl) rfl
theorem q4285 : (Jvm.Cond.sameMethod "java/lang/AbstractStringBuilder" "java/lang/AbstractStringBuilder" "newCapacity" "(I)I") ∈ lw_all := lw_g (lw_at lw_m18 42 rfl) rfl
theorem q4286 : (Jvm.Cond.sameMethod "java/lang/AbstractStringBuilder" "java/lang/AbstractStringBuilder" "inflate" "()V") ∈ lw_all := lw_g (lw_at lw_m18 43 rfl) rfl
theorem q4288 : (Jvm.Cond.sameMethod "java/lang/AbstractStringBuilder" "java/lang/AbstractStringBuilder" "append" "(Ljava/lang/String;)Ljava/lang/AbstractStringBuilder;") ∈ lw_all := lw_g (lw_at lw_m18 45 rfl) rfl
theorem q4289 : (Jvm.Cond.sameMethod "java/lang/AbstractStringBuilder" "java/lang/AbstractStringBuilder" "appendNull" "()Ljava/lang/AbstractStringBuilder;") ∈ lw_all := lw_g (lw_at lw_m18 46 rfl) rfl
theorem q4290 : (Jvm.Cond.sameMethod "java/lang/AbstractStringBuilder" "java/lang/AbstractStringBuilder" "putStringAt" "(ILjava/lang/String;)V") ∈ lw_all := lw_g (lw_at lw_m18 47 rfl) rfl
theorem q4291 : (Jvm.Cond.sameMethod "java/lang/AbstractStringBuilder" "java/lang/AbstractStringBuilder" "inflateIfNeededFor" "(Ljava/lang/String;)V") ∈ lw_all := lw_g (lw_at lw_m18 48 rfl) rfl
theorem q4292 : (Jvm.Cond.sameMethod "FollowingRefs$Reader" "FollowingRefs$Reader" "isName" "()Z") ∈ lw_all := lw_g (lw_at lw_m18 49 rfl) rfl
theorem q4293 : (Jvm.Cond.selects "FollowingRefs$BookReader" ({ cls := "FollowingRefs$Reader", name := "isName", desc := "()Z" } : Jvm.MethodName) ({ cls := "FollowingRefs$Reader", name := "isName", desc := "()Z" } : Jvm.MethodName)) ∈ lw_all := lw_g (lw_at lw_m18 50 rfl) rfl
theorem q4294 : (Jvm.Cond.selects "FollowingRefs$SchemaReader" ({ cls := "FollowingRefs$Reader", name := "isName", desc := "()Z" } : Jvm.MethodName) ({ cls := "FollowingRefs$Reader", name := "isName", desc := "()Z" } : Jvm.MethodName)) ∈ lw_all := lw_g (lw_at lw_m18 51 rfl) rfl
theorem q4295 : (Jvm.Cond.selects "FollowingRefs$SentenceReader" ({ cls := "FollowingRefs$Reader", name := "isName", desc := "()Z" } : Jvm.MethodName) ({ cls := "FollowingRefs$Reader", name := "isName", desc := "()Z" } : Jvm.MethodName)) ∈ lw_all := lw_g (lw_at lw_m18 52 rfl) rfl
theorem q4296 : (Jvm.Cond.selects "FollowingRefs$StatementReader" ({ cls := "FollowingRefs$Reader", name := "isName", desc := "()Z" } : Jvm.MethodName) ({ cls := "FollowingRefs$Reader", name := "isName", desc := "()Z" } : Jvm.MethodName)) ∈ lw_all := lw_g (lw_at lw_m18 53 rfl) rfl
theorem q4297 : (Jvm.Cond.sameMethod "FollowingRefs$Reader" "FollowingRefs$Reader" "need" "(ZI)V") ∈ lw_all := lw_g (lw_at lw_m18 54 rfl) rfl
theorem q4298 : (Jvm.Cond.selects "FollowingRefs$BookReader" ({ cls := "FollowingRefs$Reader", name := "need", desc := "(ZI)V" } : Jvm.MethodName) ({ cls := "FollowingRefs$Reader", name := "need", desc := "(ZI)V" } : Jvm.MethodName)) ∈ lw_all := lw_g (lw_at lw_m18 55 rfl) rfl
theorem q4299 : (Jvm.Cond.selects "FollowingRefs$SchemaReader" ({ cls := "FollowingRefs$Reader", name := "need", desc := "(ZI)V" } : Jvm.MethodName) ({ cls := "FollowingRefs$Reader", name := "need", desc := "(ZI)V" } : Jvm.MethodName)) ∈ lw_all := lw_g (lw_at lw_m18 56 rfl) rfl
theorem q4300 : (Jvm.Cond.selects "FollowingRefs$SentenceReader" ({ cls := "FollowingRefs$Reader", name := "need", desc := "(ZI)V" } : Jvm.MethodName) ({ cls := "FollowingRefs$Reader", name := "need", desc := "(ZI)V" } : Jvm.MethodName)) ∈ lw_all := lw_g (lw_at lw_m18 57 rfl) rfl
theorem q4301 : (Jvm.Cond.selects "FollowingRefs$StatementReader" ({ cls := "FollowingRefs$Reader", name := "need", desc := "(ZI)V" } : Jvm.MethodName) ({ cls := "FollowingRefs$Reader", name := "need", desc := "(ZI)V" } : Jvm.MethodName)) ∈ lw_all := lw_g (lw_at lw_m18 58 rfl) rfl
theorem q4302 : (Jvm.Cond.sameMethod "FollowingRefs$Reader" "FollowingRefs$Reader" "go" "()V") ∈ lw_all := lw_g (lw_at lw_m18 59 rfl) rfl
theorem q4303 : (Jvm.Cond.selects "FollowingRefs$BookReader" ({ cls := "FollowingRefs$Reader", name := "go", desc := "()V" } : Jvm.MethodName) ({ cls := "FollowingRefs$Reader", name := "go", desc := "()V" } : Jvm.MethodName)) ∈ lw_all := lw_g (lw_at lw_m18 60 rfl) rfl
theorem q4304 : (Jvm.Cond.selects "FollowingRefs$SchemaReader" ({ cls := "FollowingRefs$Reader", name := "go", desc := "()V" } : Jvm.MethodName) ({ cls := "FollowingRefs$Reader", name := "go", desc := "()V" } : Jvm.MethodName)) ∈ lw_all := lw_g (lw_at lw_m18 61 rfl) rfl
theorem q4305 : (Jvm.Cond.selects "FollowingRefs$SentenceReader" ({ cls := "FollowingRefs$Reader", name := "go", desc := "()V" } : Jvm.MethodName) ({ cls := "FollowingRefs$Reader", name := "go", desc := "()V" } : Jvm.MethodName)) ∈ lw_all := lw_g (lw_at lw_m18 62 rfl) rfl
theorem q4306 : (Jvm.Cond.selects "FollowingRefs$StatementReader" ({ cls := "FollowingRefs$Reader", name := "go", desc := "()V" } : Jvm.MethodName) ({ cls := "FollowingRefs$Reader", name := "go", desc := "()V" } : Jvm.MethodName)) ∈ lw_all := lw_g (lw_at lw_m18 63 rfl) rfl
theorem q4307 : (Jvm.Cond.sameMethod "FollowingRefs$Reader" "FollowingRefs$Reader" "is" "(Ljava/lang/String;)Z") ∈ lw_all := lw_g (lw_at lw_m18 64 rfl) rfl
theorem q4308 : (Jvm.Cond.selects "FollowingRefs$BookReader" ({ cls := "FollowingRefs$Reader", name := "is", desc := "(Ljava/lang/String;)Z" } : Jvm.MethodName) ({ cls := "FollowingRefs$Reader", name := "is", desc := "(Ljava/lang/String;)Z" } : Jvm.MethodName)) ∈ lw_all := lw_g (lw_at lw_m18 65 rfl) rfl
theorem q4309 : (Jvm.Cond.selects "FollowingRefs$SchemaReader" ({ cls := "FollowingRefs$Reader", name := "is", desc := "(Ljava/lang/String;)Z" } : Jvm.MethodName) ({ cls := "FollowingRefs$Reader", name := "is", desc := "(Ljava/lang/String;)Z" } : Jvm.MethodName)) ∈ lw_all := lw_g (lw_at lw_m18 66 rfl) rfl
theorem q4310 : (Jvm.Cond.selects "FollowingRefs$SentenceReader" ({ cls := "FollowingRefs$Reader", name := "is", desc := "(Ljava/lang/String;)Z" } : Jvm.MethodName) ({ cls := "FollowingRefs$Reader", name := "is", desc := "(Ljava/lang/String;)Z" } : Jvm.MethodName)) ∈ lw_all := lw_g (lw_at lw_m18 67 rfl) rfl
theorem q4311 : (Jvm.Cond.selects "FollowingRefs$StatementReader" ({ cls := "FollowingRefs$Reader", name := "is", desc := "(Ljava/lang/String;)Z" } : Jvm.MethodName) ({ cls := "FollowingRefs$Reader", name := "is", desc := "(Ljava/lang/String;)Z" } : Jvm.MethodName)) ∈ lw_all := lw_g (lw_at lw_m18 68 rfl) rfl
theorem q4312 : (Jvm.Cond.sameMethod "FollowingRefs$Reader" "FollowingRefs$Reader" "table" "()I") ∈ lw_all := lw_g (lw_at lw_m18 69 rfl) rfl
theorem q4313 : (Jvm.Cond.selects "FollowingRefs$BookReader" ({ cls := "FollowingRefs$Reader", name := "table", desc := "()I" } : Jvm.MethodName) ({ cls := "FollowingRefs$Reader", name := "table", desc := "()I" } : Jvm.MethodName)) ∈ lw_all := lw_g (lw_at lw_m18 70 rfl) rfl
theorem q4314 : (Jvm.Cond.selects "FollowingRefs$SchemaReader" ({ cls := "FollowingRefs$Reader", name := "table", desc := "()I" } : Jvm.MethodName) ({ cls := "FollowingRefs$Reader", name := "table", desc := "()I" } : Jvm.MethodName)) ∈ lw_all := lw_g (lw_at lw_m18 71 rfl) rfl
theorem q4315 : (Jvm.Cond.selects "FollowingRefs$SentenceReader" ({ cls := "FollowingRefs$Reader", name := "table", desc := "()I" } : Jvm.MethodName) ({ cls := "FollowingRefs$Reader", name := "table", desc := "()I" } : Jvm.MethodName)) ∈ lw_all := lw_g (lw_at lw_m18 72 rfl) rfl
theorem q4316 : (Jvm.Cond.selects "FollowingRefs$StatementReader" ({ cls := "FollowingRefs$Reader", name := "table", desc := "()I" } : Jvm.MethodName) ({ cls := "FollowingRefs$Reader", name := "table", desc := "()I" } : Jvm.MethodName)) ∈ lw_all := lw_g (lw_at lw_m18 73 rfl) rfl
theorem q4317 : (Jvm.Cond.sameMethod "FollowingRefs$Reader" "FollowingRefs$Reader" "cells" "(I)[I") ∈ lw_all := lw_g (lw_at lw_m18 74 rfl) rfl
theorem q4318 : (Jvm.Cond.sameMethod "FollowingRefs$Reader" "FollowingRefs$Reader" "number" "(II)I") ∈ lw_all := lw_g (lw_at lw_m18 75 rfl) rfl
theorem q4319 : (Jvm.Cond.selects "FollowingRefs$BookReader" ({ cls := "FollowingRefs$Reader", name := "number", desc := "(II)I" } : Jvm.MethodName) ({ cls := "FollowingRefs$Reader", name := "number", desc := "(II)I" } : Jvm.MethodName)) ∈ lw_all := lw_g (lw_at lw_m18 76 rfl) rfl
theorem q4320 : (Jvm.Cond.selects "FollowingRefs$SchemaReader" ({ cls := "FollowingRefs$Reader", name := "number", desc := "(II)I" } : Jvm.MethodName) ({ cls := "FollowingRefs$Reader", name := "number", desc := "(II)I" } : Jvm.MethodName)) ∈ lw_all := lw_g (lw_at lw_m18 77 rfl) rfl
theorem q4321 : (Jvm.Cond.selects "FollowingRefs$SentenceReader" ({ cls := "FollowingRefs$Reader", name := "number", desc := "(II)I" } : Jvm.MethodName) ({ cls := "FollowingRefs$Reader", name := "number", desc := "(II)I" } : Jvm.MethodName)) ∈ lw_all := lw_g (lw_at lw_m18 78 rfl) rfl
theorem q4322 : (Jvm.Cond.selects "FollowingRefs$StatementReader" ({ cls := "FollowingRefs$Reader", name := "number", desc := "(II)I" } : Jvm.MethodName) ({ cls := "FollowingRefs$Reader", name := "number", desc := "(II)I" } : Jvm.MethodName)) ∈ lw_all := lw_g (lw_at lw_m18 79 rfl) rfl
theorem q4323 : (Jvm.Cond.sameMethod "FollowingRefs$Reader" "FollowingRefs$Reader" "whens" "(I)Ljava/util/ArrayList;") ∈ lw_all := lw_g (lw_at lw_m18 80 rfl) rfl
theorem q4324 : (Jvm.Cond.sameMethod "FollowingRefs$Reader" "FollowingRefs$Reader" "col" "(II)I") ∈ lw_all := lw_g (lw_at lw_m18 81 rfl) rfl
theorem q4325 : (Jvm.Cond.selects "FollowingRefs$BookReader" ({ cls := "FollowingRefs$Reader", name := "col", desc := "(II)I" } : Jvm.MethodName) ({ cls := "FollowingRefs$Reader", name := "col", desc := "(II)I" } : Jvm.MethodName)) ∈ lw_all := lw_g (lw_at lw_m18 82 rfl) rfl
theorem q4326 : (Jvm.Cond.selects "FollowingRefs$SchemaReader" ({ cls := "FollowingRefs$Reader", name := "col", desc := "(II)I" } : Jvm.MethodName) ({ cls := "FollowingRefs$Reader", name := "col", desc := "(II)I" } : Jvm.MethodName)) ∈ lw_all := lw_g (lw_at lw_m18 83 rfl) rfl
theorem q4327 : (Jvm.Cond.selects "FollowingRefs$SentenceReader" ({ cls := "FollowingRefs$Reader", name := "col", desc := "(II)I" } : Jvm.MethodName) ({ cls := "FollowingRefs$Reader", name := "col", desc := "(II)I" } : Jvm.MethodName)) ∈ lw_all := lw_g (lw_at lw_m18 84 rfl) rfl
theorem q4328 : (Jvm.Cond.selects "FollowingRefs$StatementReader" ({ cls := "FollowingRefs$Reader", name := "col", desc := "(II)I" } : Jvm.MethodName) ({ cls := "FollowingRefs$Reader", name := "col", desc := "(II)I" } : Jvm.MethodName)) ∈ lw_all := lw_g (lw_at lw_m18 85 rfl) rfl
theorem q4329 : (Jvm.Cond.sameMethod "FollowingRefs$Reader" "FollowingRefs$Reader" "than" "()I") ∈ lw_all := lw_g (lw_at lw_m18 86 rfl) rfl
theorem q4330 : (Jvm.Cond.selects "FollowingRefs$BookReader" ({ cls := "FollowingRefs$Reader", name := "than", desc := "()I" } : Jvm.MethodName) ({ cls := "FollowingRefs$Reader", name := "than", desc := "()I" } : Jvm.MethodName)) ∈ lw_all := lw_g (lw_at lw_m18 87 rfl) rfl
theorem q4331 : (Jvm.Cond.selects "FollowingRefs$SchemaReader" ({ cls := "FollowingRefs$Reader", name := "than", desc := "()I" } : Jvm.MethodName) ({ cls := "FollowingRefs$Reader", name := "than", desc := "()I" } : Jvm.MethodName)) ∈ lw_all := lw_g (lw_at lw_m18 88 rfl) rfl
theorem q4332 : (Jvm.Cond.selects "FollowingRefs$SentenceReader" ({ cls := "FollowingRefs$Reader", name := "than", desc := "()I" } : Jvm.MethodName) ({ cls := "FollowingRefs$Reader", name := "than", desc := "()I" } : Jvm.MethodName)) ∈ lw_all := lw_g (lw_at lw_m18 89 rfl) rfl
theorem q4333 : (Jvm.Cond.selects "FollowingRefs$StatementReader" ({ cls := "FollowingRefs$Reader", name := "than", desc := "()I" } : Jvm.MethodName) ({ cls := "FollowingRefs$Reader", name := "than", desc := "()I" } : Jvm.MethodName)) ∈ lw_all := lw_g (lw_at lw_m18 90 rfl) rfl
theorem q4334 : (Jvm.Cond.sameMethod "FollowingRefs$Reader" "FollowingRefs$Reader" "sets" "(I)LFollowingRefs$Statement;") ∈ lw_all := lw_g (lw_at lw_m18 91 rfl) rfl
theorem q4335 : (Jvm.Cond.sameMethod "FollowingRefs$Finds" "FollowingRefs$Finds" "isMeant" "(LFollowingRefs$Row;)Z") ∈ lw_all := lw_g (lw_at lw_m18 92 rfl) rfl
theorem q4336 : (Jvm.Cond.selects "java/util/LinkedList$ListItr" ({ cls := "java/util/LinkedList$ListItr", name := "hasNext", desc := "()Z" } : Jvm.MethodName) ({ cls := "java/util/LinkedList$ListItr", name := "hasNext", desc := "()Z" } : Jvm.MethodName)) ∈ lw_all := lw_g (lw_at lw_m18 93 rfl) rfl
theorem q4337 : (Jvm.Cond.selects "java/util/ArrayList" ({ cls := "java/util/ArrayList", name := "remove", desc := "(I)Ljava/lang/Object;" } : Jvm.MethodName) ({ cls := "java/util/ArrayList", name := "remove", desc := "(I)Ljava/lang/Object;" } : Jvm.MethodName)) ∈ lw_all := lw_g (lw_at lw_m18 94 rfl) rfl
theorem q4338 : (Jvm.Cond.sameMethod "java/lang/AbstractStringBuilder" "java/lang/AbstractStringBuilder" "compareTo" "(Ljava/lang/AbstractStringBuilder;)I") ∈ lw_all := lw_g (lw_at lw_m18 95 rfl) rfl
theorem q4339 : (Jvm.Cond.sameMethod "java/util/AbstractCollection" "java/util/AbstractCollection" "size" "()I") ∈ lw_all := lw_g (lw_at lw_m18 96 rfl) rfl
theorem q4340 : (Jvm.Cond.selects "java/util/ArrayDeque" ({ cls := "java/util/AbstractCollection", name := "size", desc := "()I" } : Jvm.MethodName) ({ cls := "java/util/ArrayDeque", name := "size", desc := "()I" } : Jvm.MethodName)) ∈ lw_all := lw_g (lw_at lw_m18 97 rfl) rfl
theorem q4341 : (Jvm.Cond.selects "java/util/ArrayList" ({ cls := "java/util/AbstractCollection", name := "size", desc := "()I" } : Jvm.MethodName) ({ cls := "java/util/ArrayList", name := "size", desc := "()I" } : Jvm.MethodName)) ∈ lw_all := lw_g (lw_at lw_m18 98 rfl) rfl
theorem q4342 : (Jvm.Cond.selects "java/util/LinkedList" ({ cls := "java/util/AbstractCollection", name := "size", desc := "()I" } : Jvm.MethodName) ({ cls := "java/util/LinkedList", name := "size", desc := "()I" } : Jvm.MethodName)) ∈ lw_all := lw_g (lw_at lw_m18 99 rfl) rfl
theorem q4343 : (Jvm.Cond.selects "java/util/LinkedList" ({ cls := "java/util/LinkedList", name := "size", desc := "()I" } : Jvm.MethodName) ({ cls := "java/util/LinkedList", name := "size", desc := "()I" } : Jvm.MethodName)) ∈ lw_all := lw_g (lw_at lw_m18 100 rfl) rfl
theorem q4344 : (Jvm.Cond.selects "java/util/LinkedList" ({ cls := "java/util/LinkedList", name := "get", desc := "(I)Ljava/lang/Object;" } : Jvm.MethodName) ({ cls := "java/util/LinkedList", name := "get", desc := "(I)Ljava/lang/Object;" } : Jvm.MethodName)) ∈ lw_all := lw_g (lw_at lw_m18 101 rfl) rfl
theorem q4345 : (Jvm.Cond.selects "java/lang/StringBuilder" ({ cls := "java/lang/AbstractStringBuilder", name := "append", desc := "(Ljava/lang/String;)Ljava/lang/AbstractStringBuilder;" } : Jvm.MethodName) ({ cls := "java/lang/StringBuilder", name := "append", desc := "(Ljava/lang/String;)Ljava/lang/AbstractStringBuilder;" } : Jvm.MethodName)) ∈ lw_all := lw_g (lw_at lw_m18 102 rfl) rfl
theorem q4346 : (Jvm.Cond.sameMethod "java/lang/AbstractStringBuilder" "java/lang/AbstractStringBuilder" "append" "(I)Ljava/lang/AbstractStringBuilder;") ∈ lw_all := lw_g (lw_at lw_m18 103 rfl) rfl
theorem q4348 : (Jvm.Cond.castable "FollowingRefs$Ref" "FollowingRefs$Of") ∈ lw_tbl := lw_at lw_m18 105 rfl
theorem q4349 : (Jvm.Cond.castable "FollowingRefs$States" "FollowingRefs$Act") ∈ lw_tbl := lw_at lw_m18 106 rfl
theorem q4350 : (Jvm.Cond.castable "FollowingRefs$Turns" "FollowingRefs$Act") ∈ lw_tbl := lw_at lw_m18 107 rfl
theorem q4351 : (Jvm.Cond.castable "FollowingRefs$Store" "java/lang/Object") ∈ lw_tbl := lw_at lw_m18 108 rfl
theorem q4352 : (Jvm.Cond.castable "FollowingRefs$Kept" "java/lang/Object") ∈ lw_tbl := lw_at lw_m18 109 rfl
theorem q4353 : (Jvm.Cond.castable "FollowingRefs" "java/lang/Object") ∈ lw_tbl := lw_at lw_m18 110 rfl
theorem q4354 : (Jvm.Cond.castable "FollowingRefs$Schema" "java/lang/Object") ∈ lw_tbl := lw_at lw_m18 111 rfl
theorem q4355 : (Jvm.Cond.castable "java/util/ArrayList" "java/lang/Object") ∈ lw_tbl := lw_at lw_m18 112 rfl
theorem q4356 : (Jvm.Cond.castable "java/util/BitSet" "java/lang/Object") ∈ lw_tbl := lw_at lw_m18 113 rfl
theorem q4357 : (Jvm.Cond.castable "FollowingRefs$Plan" "java/lang/Object") ∈ lw_tbl := lw_at lw_m18 114 rfl
theorem q4358 : (Jvm.Cond.castable "java/util/LinkedList" "java/lang/Object") ∈ lw_tbl := lw_at lw_m18 115 rfl
theorem q4359 : (Jvm.Cond.castable "FollowingRefsModel" "java/lang/Object") ∈ lw_tbl := lw_at lw_m18 116 rfl
theorem q4360 : (Jvm.Cond.castable "FollowingRefs$SchemaReader" "java/lang/Object") ∈ lw_tbl := lw_at lw_m18 117 rfl
theorem q4361 : (Jvm.Cond.castable "java/lang/StringBuilder" "java/lang/Object") ∈ lw_tbl := lw_at lw_m18 118 rfl
theorem q4362 : (Jvm.Cond.castable "java/lang/String" "java/lang/Object") ∈ lw_tbl := lw_at lw_m18 119 rfl
theorem q4363 : (Jvm.Cond.castable "FollowingRefs$Fault" "java/lang/Object") ∈ lw_tbl := lw_at lw_m18 120 rfl
theorem q4364 : (Jvm.Cond.castable "FollowingRefs$Table" "java/lang/Object") ∈ lw_tbl := lw_at lw_m18 121 rfl
theorem q4365 : (Jvm.Cond.castable "FollowingRefs$Of" "java/lang/Object") ∈ lw_tbl := lw_at lw_m18 122 rfl
theorem q4366 : (Jvm.Cond.castable "jdk/internal/misc/Unsafe" "java/lang/Object") ∈ lw_tbl := lw_at lw_m18 123 rfl
theorem q4367 : (Jvm.Cond.castable "FollowingRefs$Ref" "java/lang/Object") ∈ lw_tbl := lw_at lw_m18 124 rfl
theorem q4368 : (Jvm.Cond.castable "FollowingRefs$Check" "java/lang/Object") ∈ lw_tbl := lw_at lw_m18 125 rfl
theorem q4369 : (Jvm.Cond.castable "FollowingRefs$StatementReader" "java/lang/Object") ∈ lw_tbl := lw_at lw_m18 126 rfl
theorem q4370 : (Jvm.Cond.castable "FollowingRefs$Inserts" "java/lang/Object") ∈ lw_tbl := lw_at lw_m18 127 rfl
theorem q4371 : (Jvm.Cond.castable "FollowingRefs$Deletes" "java/lang/Object") ∈ lw_tbl := lw_at lw_m18 128 rfl
theorem q4372 : (Jvm.Cond.castable "FollowingRefs$When" "java/lang/Object") ∈ lw_tbl := lw_at lw_m18 129 rfl
theorem q4373 : (Jvm.Cond.castable "FollowingRefs$Sets" "java/lang/Object") ∈ lw_tbl := lw_at lw_m18 130 rfl
theorem q4374 : (Jvm.Cond.castable "FollowingRefs$Verdict" "java/lang/Object") ∈ lw_tbl := lw_at lw_m18 131 rfl
theorem q4375 : (Jvm.Cond.castable "java/util/ArrayDeque" "java/lang/Object") ∈ lw_tbl := lw_at lw_m18 132 rfl
theorem q4376 : (Jvm.Cond.castable "java/util/ArrayDeque$DeqIterator" "java/lang/Object") ∈ lw_tbl := lw_at lw_m18 133 rfl
theorem q4377 : (Jvm.Cond.castable "java/util/NoSuchElementException" "java/lang/Object") ∈ lw_tbl := lw_at lw_m18 134 rfl
theorem q4378 : (Jvm.Cond.castable "java/util/ArrayList$Itr" "java/lang/Object") ∈ lw_tbl := lw_at lw_m18 135 rfl
theorem q4379 : (Jvm.Cond.castable "java/lang/IllegalStateException" "java/lang/Object") ∈ lw_tbl := lw_at lw_m18 136 rfl
theorem q4380 : (Jvm.Cond.castable "java/util/ConcurrentModificationException" "java/lang/Object") ∈ lw_tbl := lw_at lw_m18 137 rfl
theorem q4381 : (Jvm.Cond.castable "FollowingRefs$Row" "java/lang/Object") ∈ lw_tbl := lw_at lw_m18 138 rfl
theorem q4382 : (Jvm.Cond.castable "FollowingRefs$Violation" "java/lang/Object") ∈ lw_tbl := lw_at lw_m18 139 rfl
theorem q4383 : (Jvm.Cond.castable "java/util/LinkedList$Node" "java/lang/Object") ∈ lw_tbl := lw_at lw_m18 140 rfl
theorem q4384 : (Jvm.Cond.castable "java/util/ComparableTimSort" "java/lang/Object") ∈ lw_tbl := lw_at lw_m18 141 rfl
theorem q4385 : (Jvm.Cond.castable "java/util/ArrayList$ListItr" "java/lang/Object") ∈ lw_tbl := lw_at lw_m18 142 rfl
theorem q4386 : (Jvm.Cond.castable "java/util/AbstractList$ListItr" "java/lang/Object") ∈ lw_tbl := lw_at lw_m18 143 rfl
theorem q4387 : (Jvm.Cond.castable "java/util/LinkedList$ListItr" "java/lang/Object") ∈ lw_tbl := lw_at lw_m18 144 rfl
theorem q4388 : (Jvm.Cond.castable "FollowingRefs$Turns" "java/lang/Object") ∈ lw_tbl := lw_at lw_m18 145 rfl
theorem q4389 : (Jvm.Cond.castable "java/lang/Integer" "java/lang/Object") ∈ lw_tbl := lw_at lw_m18 146 rfl
theorem q4390 : (Jvm.Cond.castable "FollowingRefs$BookReader" "java/lang/Object") ∈ lw_tbl := lw_at lw_m18 147 rfl
theorem q4391 : (Jvm.Cond.castable "FollowingRefs$States" "java/lang/Object") ∈ lw_tbl := lw_at lw_m18 148 rfl
theorem q4392 : (Jvm.Cond.castable "FollowingRefs$SentenceReader" "java/lang/Object") ∈ lw_tbl := lw_at lw_m18 149 rfl
theorem q4393 : (Jvm.Cond.castable "FollowingRefs$Not" "java/lang/Object") ∈ lw_tbl := lw_at lw_m18 150 rfl
theorem q4394 : (Jvm.Cond.castable "FollowingRefs$IsWhat" "java/lang/Object") ∈ lw_tbl := lw_at lw_m18 151 rfl
theorem q4395 : (Jvm.Cond.castable "FollowingRefs$InTable" "java/lang/Object") ∈ lw_tbl := lw_at lw_m18 152 rfl
theorem q4396 : (Jvm.Cond.castable "FollowingRefs$Than" "java/lang/Object") ∈ lw_tbl := lw_at lw_m18 153 rfl
theorem q4397 : (Jvm.Cond.castable "FollowingRefs$Two" "java/lang/Object") ∈ lw_tbl := lw_at lw_m18 154 rfl
theorem q4398 : (Jvm.Cond.castable "java/lang/Throwable" "java/lang/Object") ∈ lw_tbl := lw_at lw_m18 155 rfl
theorem q4400 : (Jvm.Cond.selects "[Ljava/lang/Object;" ({ cls := "java/lang/Object", name := "getClass", desc := "()Ljava/lang/Class;" } : Jvm.MethodName) ({ cls := "java/lang/Object", name := "getClass", desc := "()Ljava/lang/Class;" } : Jvm.MethodName)) ∈ lw_all := lw_g (lw_at lw_m18 157 rfl) rfl
theorem q4401 : (Jvm.Cond.declares ({ cls := "java/lang/Object", name := "getClass", desc := "()Ljava/lang/Class;" } : Jvm.MethodName)) ∈ lw_tbl := lw_at lw_m18 158 rfl
