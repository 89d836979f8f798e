/-! THE WORDS OF THE MACHINE'S THROWS -/
section
variable {D : va_G} {G : Nat → ClassId} {Hb : Heap} {h0 : xH} {b0 : Nat → Nat} {args : Array Value} {s : State}
theorem w_nas_0 (hts : ∀ w ∈ lw_all, w.before args s = true) (hK : xKs D G Hb h0 b0 s) : ∀ w ∈ Bundle.messageArmAtoms "java/lang/NegativeArraySizeException" ["java/lang/RuntimeException", "java/lang/Exception"], vx_no w = true → w.before args s = true := by
  show ∀ w ∈ ([Cond.initialized "java/lang/Throwable", Cond.superclass "java/lang/Throwable" "java/lang/Object", Cond.instanceMethod ({ cls := "java/lang/Throwable", name := "fillInStackTrace", desc := "()Ljava/lang/Throwable;" } : Jvm.MethodName), Cond.codeSync ({ cls := "java/lang/Throwable", name := "fillInStackTrace", desc := "()Ljava/lang/Throwable;" } : Jvm.MethodName) prog_37_method_18_code (1 : Nat) (Option.some (Jvm.ClassFile.FieldType.object "java/lang/Throwable")), Cond.instanceMethod ({ cls := "java/lang/Throwable", name := "fillInStackTrace", desc := "(I)Ljava/lang/Throwable;" } : Jvm.MethodName), Cond.native ({ cls := "java/lang/Throwable", name := "fillInStackTrace", desc := "(I)Ljava/lang/Throwable;" } : Jvm.MethodName), Cond.instanceMethod ({ cls := "java/lang/Throwable", name := "<init>", desc := "()V" } : Jvm.MethodName), Cond.code ({ cls := "java/lang/Throwable", name := "<init>", desc := "()V" } : Jvm.MethodName) prog_37_method_1_code (1 : Nat) (Option.none : Option Jvm.ClassFile.FieldType), Cond.instanceMethod ({ cls := "java/lang/Object", name := "<init>", desc := "()V" } : Jvm.MethodName), Cond.code ({ cls := "java/lang/Object", name := "<init>", desc := "()V" } : Jvm.MethodName) object_method_1_code (1 : Nat) (Option.none : Option Jvm.ClassFile.FieldType), Cond.methodLink "java/lang/Throwable" (1 : Nat) ({ cls := "java/lang/Object", name := "<init>", desc := "()V" } : Jvm.MethodName), Cond.methodLink "java/lang/Throwable" (27 : Nat) ({ cls := "java/lang/Throwable", name := "fillInStackTrace", desc := "()Ljava/lang/Throwable;" } : Jvm.MethodName), Cond.methodLink "java/lang/Throwable" (202 : Nat) ({ cls := "java/lang/Throwable", name := "fillInStackTrace", desc := "(I)Ljava/lang/Throwable;" } : Jvm.MethodName), Cond.fieldLink "java/lang/Throwable" (7 : Nat) "java/lang/Throwable" "cause" "Ljava/lang/Throwable;", Cond.lays "java/lang/Throwable" "java/lang/Throwable" "cause" "Ljava/lang/Throwable;", Cond.fieldLink "java/lang/Throwable" (17 : Nat) "java/lang/Throwable" "stackTrace" "[Ljava/lang/StackTraceElement;", Cond.lays "java/lang/Throwable" "java/lang/Throwable" "stackTrace" "[Ljava/lang/StackTraceElement;", Cond.fieldLink "java/lang/Throwable" (24 : Nat) "java/lang/Throwable" "suppressedExceptions" "Ljava/util/List;", Cond.lays "java/lang/Throwable" "java/lang/Throwable" "suppressedExceptions" "Ljava/util/List;", Cond.fieldLink "java/lang/Throwable" (13 : Nat) "java/lang/Throwable" "UNASSIGNED_STACK" "[Ljava/lang/StackTraceElement;", Cond.laysStatic "java/lang/Throwable" "UNASSIGNED_STACK" "[Ljava/lang/StackTraceElement;", Cond.fieldLink "java/lang/Throwable" (20 : Nat) "java/lang/Throwable" "SUPPRESSED_SENTINEL" "Ljava/util/List;", Cond.laysStatic "java/lang/Throwable" "SUPPRESSED_SENTINEL" "Ljava/util/List;", Cond.lays "java/lang/Throwable" "java/lang/Throwable" "detailMessage" "Ljava/lang/String;", Cond.instanceMethod ({ cls := "java/lang/Throwable", name := "<init>", desc := "(Ljava/lang/String;)V" } : Jvm.MethodName), Cond.code ({ cls := "java/lang/Throwable", name := "<init>", desc := "(Ljava/lang/String;)V" } : Jvm.MethodName) prog_37_method_2_code (2 : Nat) (Option.none : Option Jvm.ClassFile.FieldType), Cond.fieldLink "java/lang/Throwable" (31 : Nat) "java/lang/Throwable" "detailMessage" "Ljava/lang/String;", Cond.lays "java/lang/Throwable" "java/lang/Throwable" "detailMessage" "Ljava/lang/String;", Cond.instanceMethod ({ cls := "java/lang/NegativeArraySizeException", name := "<init>", desc := "(Ljava/lang/String;)V" } : Jvm.MethodName), Cond.code ({ cls := "java/lang/NegativeArraySizeException", name := "<init>", desc := "(Ljava/lang/String;)V" } : Jvm.MethodName) prog_30_method_2_code (2 : Nat) (Option.none : Option Jvm.ClassFile.FieldType), Cond.methodLink "java/lang/NegativeArraySizeException" (7 : Nat) ({ cls := "java/lang/RuntimeException", name := "<init>", desc := "(Ljava/lang/String;)V" } : Jvm.MethodName), Cond.instanceMethod ({ cls := "java/lang/RuntimeException", name := "<init>", desc := "(Ljava/lang/String;)V" } : Jvm.MethodName), Cond.declares ⟨"java/lang/RuntimeException", "<init>", "(Ljava/lang/String;)V"⟩, Cond.instanceMethod ({ cls := "java/lang/RuntimeException", name := "<init>", desc := "(Ljava/lang/String;)V" } : Jvm.MethodName), Cond.code ({ cls := "java/lang/RuntimeException", name := "<init>", desc := "(Ljava/lang/String;)V" } : Jvm.MethodName) prog_32_method_2_code (2 : Nat) (Option.none : Option Jvm.ClassFile.FieldType), Cond.methodLink "java/lang/RuntimeException" (7 : Nat) ({ cls := "java/lang/Exception", name := "<init>", desc := "(Ljava/lang/String;)V" } : Jvm.MethodName), Cond.instanceMethod ({ cls := "java/lang/Exception", name := "<init>", desc := "(Ljava/lang/String;)V" } : Jvm.MethodName), Cond.declares ⟨"java/lang/Exception", "<init>", "(Ljava/lang/String;)V"⟩, Cond.instanceMethod ({ cls := "java/lang/Exception", name := "<init>", desc := "(Ljava/lang/String;)V" } : Jvm.MethodName), Cond.code ({ cls := "java/lang/Exception", name := "<init>", desc := "(Ljava/lang/String;)V" } : Jvm.MethodName) prog_25_method_2_code (2 : Nat) (Option.none : Option Jvm.ClassFile.FieldType), Cond.methodLink "java/lang/Exception" (7 : Nat) ({ cls := "java/lang/Throwable", name := "<init>", desc := "(Ljava/lang/String;)V" } : Jvm.MethodName), Cond.instanceMethod ({ cls := "java/lang/Throwable", name := "<init>", desc := "(Ljava/lang/String;)V" } : Jvm.MethodName), Cond.declares ⟨"java/lang/Throwable", "<init>", "(Ljava/lang/String;)V"⟩, Cond.initialized "java/lang/String", Cond.instantiable "java/lang/String" (4 : Nat), Cond.arrayClass Jvm.ClassFile.FieldType.byte, Cond.laysFinal "java/lang/String" "java/lang/String" "value" "[B", Cond.laysFinal "java/lang/String" "java/lang/String" "coder" "B", Cond.soleField "java/lang/String" "value", Cond.soleField "java/lang/String" "coder", Cond.initialized "java/lang/NegativeArraySizeException", Cond.instantiable "java/lang/NegativeArraySizeException" (6 : Nat), Cond.castable "java/lang/NegativeArraySizeException" "java/lang/NegativeArraySizeException", Cond.selects "java/lang/NegativeArraySizeException" ({ cls := "java/lang/Throwable", name := "fillInStackTrace", desc := "(I)Ljava/lang/Throwable;" } : Jvm.MethodName) ({ cls := "java/lang/Throwable", name := "fillInStackTrace", desc := "(I)Ljava/lang/Throwable;" } : Jvm.MethodName), Cond.selects "java/lang/NegativeArraySizeException" ({ cls := "java/lang/Throwable", name := "fillInStackTrace", desc := "()Ljava/lang/Throwable;" } : Jvm.MethodName) ({ cls := "java/lang/Throwable", name := "fillInStackTrace", desc := "()Ljava/lang/Throwable;" } : Jvm.MethodName), Cond.lays "java/lang/NegativeArraySizeException" "java/lang/Throwable" "cause" "Ljava/lang/Throwable;", Cond.lays "java/lang/NegativeArraySizeException" "java/lang/Throwable" "stackTrace" "[Ljava/lang/StackTraceElement;", Cond.lays "java/lang/NegativeArraySizeException" "java/lang/Throwable" "suppressedExceptions" "Ljava/util/List;", Cond.lays "java/lang/NegativeArraySizeException" "java/lang/Throwable" "detailMessage" "Ljava/lang/String;", Cond.isRef (.static "java/lang/Throwable" "UNASSIGNED_STACK" "[Ljava/lang/StackTraceElement;"), Cond.isRef (.static "java/lang/Throwable" "SUPPRESSED_SENTINEL" "Ljava/util/List;"), Cond.fieldLink "java/lang/Throwable" (198 : Nat) "java/lang/Throwable" "backtrace" "Ljava/lang/Object;", Cond.lays "java/lang/Throwable" "java/lang/Throwable" "backtrace" "Ljava/lang/Object;", Cond.lays "java/lang/NegativeArraySizeException" "java/lang/Throwable" "backtrace" "Ljava/lang/Object;"] : List Cond), vx_no w = true → w.before args s = true
  refine List.forall_mem_cons.mpr ⟨fun _ => hts _ q157, ?_⟩
  refine List.forall_mem_cons.mpr ⟨fun _ => hts _ q1518, ?_⟩
  refine List.forall_mem_cons.mpr ⟨fun _ => hts _ q1462, ?_⟩
  refine List.forall_mem_cons.mpr ⟨fun _ => hts _ q1480, ?_⟩
  refine List.forall_mem_cons.mpr ⟨fun _ => hts _ q1483, ?_⟩
  refine List.forall_mem_cons.mpr ⟨fun _ => hts _ q1485, ?_⟩
  refine List.forall_mem_cons.mpr ⟨fun _ => hts _ q1519, ?_⟩
  refine List.forall_mem_cons.mpr ⟨fun _ => hts _ q1520, ?_⟩
  refine List.forall_mem_cons.mpr ⟨fun _ => hts _ q170, ?_⟩
  refine List.forall_mem_cons.mpr ⟨fun _ => hts _ q171, ?_⟩
  refine List.forall_mem_cons.mpr ⟨fun _ => hts _ q1456, ?_⟩
  refine List.forall_mem_cons.mpr ⟨fun _ => hts _ q1461, ?_⟩
  refine List.forall_mem_cons.mpr ⟨fun _ => hts _ q1481, ?_⟩
  refine List.forall_mem_cons.mpr ⟨fun _ => hts _ q1488, ?_⟩
  refine List.forall_mem_cons.mpr ⟨fun _ => hts _ q1512, ?_⟩
  refine List.forall_mem_cons.mpr ⟨fun _ => hts _ q1489, ?_⟩
  refine List.forall_mem_cons.mpr ⟨fun _ => hts _ q1513, ?_⟩
  refine List.forall_mem_cons.mpr ⟨fun _ => hts _ q1490, ?_⟩
  refine List.forall_mem_cons.mpr ⟨fun _ => hts _ q1514, ?_⟩
  refine List.forall_mem_cons.mpr ⟨fun _ => hts _ q1457, ?_⟩
  refine List.forall_mem_cons.mpr ⟨fun h => absurd h (by decide), ?_⟩
  refine List.forall_mem_cons.mpr ⟨fun _ => hts _ q1459, ?_⟩
  refine List.forall_mem_cons.mpr ⟨fun h => absurd h (by decide), ?_⟩
  refine List.forall_mem_cons.mpr ⟨fun _ => hts _ q1515, ?_⟩
  refine List.forall_mem_cons.mpr ⟨fun _ => hts _ q1454, ?_⟩
  refine List.forall_mem_cons.mpr ⟨fun _ => hts _ q1455, ?_⟩
  refine List.forall_mem_cons.mpr ⟨fun _ => hts _ q1487, ?_⟩
  refine List.forall_mem_cons.mpr ⟨fun _ => hts _ q1515, ?_⟩
  refine List.forall_mem_cons.mpr ⟨fun _ => hts _ q1445, ?_⟩
  refine List.forall_mem_cons.mpr ⟨fun _ => hts _ q1446, ?_⟩
  refine List.forall_mem_cons.mpr ⟨fun _ => hts _ q1447, ?_⟩
  refine List.forall_mem_cons.mpr ⟨fun _ => hts _ q1448, ?_⟩
  refine List.forall_mem_cons.mpr ⟨fun _ => xnest_u hK (List.mem_of_getElem? (i := 122) rfl), ?_⟩
  refine List.forall_mem_cons.mpr ⟨fun _ => hts _ q1448, ?_⟩
  refine List.forall_mem_cons.mpr ⟨fun _ => hts _ q1449, ?_⟩
  refine List.forall_mem_cons.mpr ⟨fun _ => hts _ q1450, ?_⟩
  refine List.forall_mem_cons.mpr ⟨fun _ => hts _ q1451, ?_⟩
  refine List.forall_mem_cons.mpr ⟨fun _ => xnest_u hK (List.mem_of_getElem? (i := 124) rfl), ?_⟩
  refine List.forall_mem_cons.mpr ⟨fun _ => hts _ q1451, ?_⟩
  refine List.forall_mem_cons.mpr ⟨fun _ => hts _ q1452, ?_⟩
  refine List.forall_mem_cons.mpr ⟨fun _ => hts _ q1453, ?_⟩
  refine List.forall_mem_cons.mpr ⟨fun _ => hts _ q1454, ?_⟩
  refine List.forall_mem_cons.mpr ⟨fun _ => xnest_u hK (List.mem_of_getElem? (i := 126) rfl), ?_⟩
  refine List.forall_mem_cons.mpr ⟨fun _ => hts _ q134, ?_⟩
  refine List.forall_mem_cons.mpr ⟨fun _ => hts _ q1521, ?_⟩
  refine List.forall_mem_cons.mpr ⟨fun _ => hts _ q355, ?_⟩
  refine List.forall_mem_cons.mpr ⟨fun _ => hts _ q1522, ?_⟩
  refine List.forall_mem_cons.mpr ⟨fun _ => hts _ q1524, ?_⟩
  refine List.forall_mem_cons.mpr ⟨fun _ => hts _ q1523, ?_⟩
  refine List.forall_mem_cons.mpr ⟨fun _ => hts _ q1525, ?_⟩
  refine List.forall_mem_cons.mpr ⟨fun _ => hts _ q160, ?_⟩
  refine List.forall_mem_cons.mpr ⟨fun _ => hts _ q1444, ?_⟩
  refine List.forall_mem_cons.mpr ⟨fun _ => xnest_u hK (List.mem_of_getElem? (i := 120) rfl), ?_⟩
  refine List.forall_mem_cons.mpr ⟨fun _ => hts _ q1511, ?_⟩
  refine List.forall_mem_cons.mpr ⟨fun _ => hts _ q1465, ?_⟩
  refine List.forall_mem_cons.mpr ⟨fun _ => hts _ q1495, ?_⟩
  refine List.forall_mem_cons.mpr ⟨fun _ => hts _ q1497, ?_⟩
  refine List.forall_mem_cons.mpr ⟨fun _ => hts _ q1501, ?_⟩
  refine List.forall_mem_cons.mpr ⟨fun _ => hts _ q1493, ?_⟩
  refine List.forall_mem_cons.mpr ⟨fun h => absurd h (by decide), ?_⟩
  refine List.forall_mem_cons.mpr ⟨fun h => absurd h (by decide), ?_⟩
  refine List.forall_mem_cons.mpr ⟨fun _ => hts _ q1486, ?_⟩
  refine List.forall_mem_cons.mpr ⟨fun _ => hts _ q1516, ?_⟩
  refine List.forall_mem_cons.mpr ⟨fun _ => hts _ q1491, ?_⟩
  exact fun _ h => absurd h List.not_mem_nil
theorem w_nas (hts : ∀ w ∈ lw_all, w.before args s = true) (hK : xKs D G Hb h0 b0 s) : ∀ w ∈ vx_atM "java/lang/NegativeArraySizeException" ["java/lang/RuntimeException", "java/lang/Exception"], w.before args s = true := fun w hw => w_nas_0 hts hK w (List.mem_filter.mp hw).1 (List.mem_filter.mp hw).2
theorem w_nas_g : ∀ w ∈ vx_atM "java/lang/NegativeArraySizeException" ["java/lang/RuntimeException", "java/lang/Exception"], vx_ot w = true := fun w hw => List.all_eq_true.mp (by decide +kernel : (vx_atM "java/lang/NegativeArraySizeException" ["java/lang/RuntimeException", "java/lang/Exception"]).all vx_ot = true) w hw
theorem w_aio_0 (hts : ∀ w ∈ lw_all, w.before args s = true) (hK : xKs D G Hb h0 b0 s) : ∀ w ∈ Bundle.messageArmAtoms "java/lang/ArrayIndexOutOfBoundsException" ["java/lang/IndexOutOfBoundsException", "java/lang/RuntimeException", "java/lang/Exception"], vx_no w = true → w.before args s = true := by
  show ∀ w ∈ ([Cond.initialized "java/lang/Throwable", Cond.superclass "java/lang/Throwable" "java/lang/Object", Cond.instanceMethod ({ cls := "java/lang/Throwable", name := "fillInStackTrace", desc := "()Ljava/lang/Throwable;" } : Jvm.MethodName), Cond.codeSync ({ cls := "java/lang/Throwable", name := "fillInStackTrace", desc := "()Ljava/lang/Throwable;" } : Jvm.MethodName) prog_37_method_18_code (1 : Nat) (Option.some (Jvm.ClassFile.FieldType.object "java/lang/Throwable")), Cond.instanceMethod ({ cls := "java/lang/Throwable", name := "fillInStackTrace", desc := "(I)Ljava/lang/Throwable;" } : Jvm.MethodName), Cond.native ({ cls := "java/lang/Throwable", name := "fillInStackTrace", desc := "(I)Ljava/lang/Throwable;" } : Jvm.MethodName), Cond.instanceMethod ({ cls := "java/lang/Throwable", name := "<init>", desc := "()V" } : Jvm.MethodName), Cond.code ({ cls := "java/lang/Throwable", name := "<init>", desc := "()V" } : Jvm.MethodName) prog_37_method_1_code (1 : Nat) (Option.none : Option Jvm.ClassFile.FieldType), Cond.instanceMethod ({ cls := "java/lang/Object", name := "<init>", desc := "()V" } : Jvm.MethodName), Cond.code ({ cls := "java/lang/Object", name := "<init>", desc := "()V" } : Jvm.MethodName) object_method_1_code (1 : Nat) (Option.none : Option Jvm.ClassFile.FieldType), Cond.methodLink "java/lang/Throwable" (1 : Nat) ({ cls := "java/lang/Object", name := "<init>", desc := "()V" } : Jvm.MethodName), Cond.methodLink "java/lang/Throwable" (27 : Nat) ({ cls := "java/lang/Throwable", name := "fillInStackTrace", desc := "()Ljava/lang/Throwable;" } : Jvm.MethodName), Cond.methodLink "java/lang/Throwable" (202 : Nat) ({ cls := "java/lang/Throwable", name := "fillInStackTrace", desc := "(I)Ljava/lang/Throwable;" } : Jvm.MethodName), Cond.fieldLink "java/lang/Throwable" (7 : Nat) "java/lang/Throwable" "cause" "Ljava/lang/Throwable;", Cond.lays "java/lang/Throwable" "java/lang/Throwable" "cause" "Ljava/lang/Throwable;", Cond.fieldLink "java/lang/Throwable" (17 : Nat) "java/lang/Throwable" "stackTrace" "[Ljava/lang/StackTraceElement;", Cond.lays "java/lang/Throwable" "java/lang/Throwable" "stackTrace" "[Ljava/lang/StackTraceElement;", Cond.fieldLink "java/lang/Throwable" (24 : Nat) "java/lang/Throwable" "suppressedExceptions" "Ljava/util/List;", Cond.lays "java/lang/Throwable" "java/lang/Throwable" "suppressedExceptions" "Ljava/util/List;", Cond.fieldLink "java/lang/Throwable" (13 : Nat) "java/lang/Throwable" "UNASSIGNED_STACK" "[Ljava/lang/StackTraceElement;", Cond.laysStatic "java/lang/Throwable" "UNASSIGNED_STACK" "[Ljava/lang/StackTraceElement;", Cond.fieldLink "java/lang/Throwable" (20 : Nat) "java/lang/Throwable" "SUPPRESSED_SENTINEL" "Ljava/util/List;", Cond.laysStatic "java/lang/Throwable" "SUPPRESSED_SENTINEL" "Ljava/util/List;", Cond.lays "java/lang/Throwable" "java/lang/Throwable" "detailMessage" "Ljava/lang/String;", Cond.instanceMethod ({ cls := "java/lang/Throwable", name := "<init>", desc := "(Ljava/lang/String;)V" } : Jvm.MethodName), Cond.code ({ cls := "java/lang/Throwable", name := "<init>", desc := "(Ljava/lang/String;)V" } : Jvm.MethodName) prog_37_method_2_code (2 : Nat) (Option.none : Option Jvm.ClassFile.FieldType), Cond.fieldLink "java/lang/Throwable" (31 : Nat) "java/lang/Throwable" "detailMessage" "Ljava/lang/String;", Cond.lays "java/lang/Throwable" "java/lang/Throwable" "detailMessage" "Ljava/lang/String;", Cond.instanceMethod ({ cls := "java/lang/ArrayIndexOutOfBoundsException", name := "<init>", desc := "(Ljava/lang/String;)V" } : Jvm.MethodName), Cond.code ({ cls := "java/lang/ArrayIndexOutOfBoundsException", name := "<init>", desc := "(Ljava/lang/String;)V" } : Jvm.MethodName) prog_23_method_2_code (2 : Nat) (Option.none : Option Jvm.ClassFile.FieldType), Cond.methodLink "java/lang/ArrayIndexOutOfBoundsException" (7 : Nat) ({ cls := "java/lang/IndexOutOfBoundsException", name := "<init>", desc := "(Ljava/lang/String;)V" } : Jvm.MethodName), Cond.instanceMethod ({ cls := "java/lang/IndexOutOfBoundsException", name := "<init>", desc := "(Ljava/lang/String;)V" } : Jvm.MethodName), Cond.declares ⟨"java/lang/IndexOutOfBoundsException", "<init>", "(Ljava/lang/String;)V"⟩, Cond.instanceMethod ({ cls := "java/lang/IndexOutOfBoundsException", name := "<init>", desc := "(Ljava/lang/String;)V" } : Jvm.MethodName), Cond.code ({ cls := "java/lang/IndexOutOfBoundsException", name := "<init>", desc := "(Ljava/lang/String;)V" } : Jvm.MethodName) prog_26_method_2_code (2 : Nat) (Option.none : Option Jvm.ClassFile.FieldType), Cond.methodLink "java/lang/IndexOutOfBoundsException" (7 : Nat) ({ cls := "java/lang/RuntimeException", name := "<init>", desc := "(Ljava/lang/String;)V" } : Jvm.MethodName), Cond.instanceMethod ({ cls := "java/lang/RuntimeException", name := "<init>", desc := "(Ljava/lang/String;)V" } : Jvm.MethodName), Cond.declares ⟨"java/lang/RuntimeException", "<init>", "(Ljava/lang/String;)V"⟩, Cond.instanceMethod ({ cls := "java/lang/RuntimeException", name := "<init>", desc := "(Ljava/lang/String;)V" } : Jvm.MethodName), Cond.code ({ cls := "java/lang/RuntimeException", name := "<init>", desc := "(Ljava/lang/String;)V" } : Jvm.MethodName) prog_32_method_2_code (2 : Nat) (Option.none : Option Jvm.ClassFile.FieldType), Cond.methodLink "java/lang/RuntimeException" (7 : Nat) ({ cls := "java/lang/Exception", name := "<init>", desc := "(Ljava/lang/String;)V" } : Jvm.MethodName), Cond.instanceMethod ({ cls := "java/lang/Exception", name := "<init>", desc := "(Ljava/lang/String;)V" } : Jvm.MethodName), Cond.declares ⟨"java/lang/Exception", "<init>", "(Ljava/lang/String;)V"⟩, Cond.instanceMethod ({ cls := "java/lang/Exception", name := "<init>", desc := "(Ljava/lang/String;)V" } : Jvm.MethodName), Cond.code ({ cls := "java/lang/Exception", name := "<init>", desc := "(Ljava/lang/String;)V" } : Jvm.MethodName) prog_25_method_2_code (2 : Nat) (Option.none : Option Jvm.ClassFile.FieldType), Cond.methodLink "java/lang/Exception" (7 : Nat) ({ cls := "java/lang/Throwable", name := "<init>", desc := "(Ljava/lang/String;)V" } : Jvm.MethodName), Cond.instanceMethod ({ cls := "java/lang/Throwable", name := "<init>", desc := "(Ljava/lang/String;)V" } : Jvm.MethodName), Cond.declares ⟨"java/lang/Throwable", "<init>", "(Ljava/lang/String;)V"⟩, Cond.initialized "java/lang/String", Cond.instantiable "java/lang/String" (4 : Nat), Cond.arrayClass Jvm.ClassFile.FieldType.byte, Cond.laysFinal "java/lang/String" "java/lang/String" "value" "[B", Cond.laysFinal "java/lang/String" "java/lang/String" "coder" "B", Cond.soleField "java/lang/String" "value", Cond.soleField "java/lang/String" "coder", Cond.initialized "java/lang/ArrayIndexOutOfBoundsException", Cond.instantiable "java/lang/ArrayIndexOutOfBoundsException" (6 : Nat), Cond.castable "java/lang/ArrayIndexOutOfBoundsException" "java/lang/ArrayIndexOutOfBoundsException", Cond.selects "java/lang/ArrayIndexOutOfBoundsException" ({ cls := "java/lang/Throwable", name := "fillInStackTrace", desc := "(I)Ljava/lang/Throwable;" } : Jvm.MethodName) ({ cls := "java/lang/Throwable", name := "fillInStackTrace", desc := "(I)Ljava/lang/Throwable;" } : Jvm.MethodName), Cond.selects "java/lang/ArrayIndexOutOfBoundsException" ({ cls := "java/lang/Throwable", name := "fillInStackTrace", desc := "()Ljava/lang/Throwable;" } : Jvm.MethodName) ({ cls := "java/lang/Throwable", name := "fillInStackTrace", desc := "()Ljava/lang/Throwable;" } : Jvm.MethodName), Cond.lays "java/lang/ArrayIndexOutOfBoundsException" "java/lang/Throwable" "cause" "Ljava/lang/Throwable;", Cond.lays "java/lang/ArrayIndexOutOfBoundsException" "java/lang/Throwable" "stackTrace" "[Ljava/lang/StackTraceElement;", Cond.lays "java/lang/ArrayIndexOutOfBoundsException" "java/lang/Throwable" "suppressedExceptions" "Ljava/util/List;", Cond.lays "java/lang/ArrayIndexOutOfBoundsException" "java/lang/Throwable" "detailMessage" "Ljava/lang/String;", Cond.isRef (.static "java/lang/Throwable" "UNASSIGNED_STACK" "[Ljava/lang/StackTraceElement;"), Cond.isRef (.static "java/lang/Throwable" "SUPPRESSED_SENTINEL" "Ljava/util/List;"), Cond.fieldLink "java/lang/Throwable" (198 : Nat) "java/lang/Throwable" "backtrace" "Ljava/lang/Object;", Cond.lays "java/lang/Throwable" "java/lang/Throwable" "backtrace" "Ljava/lang/Object;", Cond.lays "java/lang/ArrayIndexOutOfBoundsException" "java/lang/Throwable" "backtrace" "Ljava/lang/Object;"] : List Cond), vx_no w = true → w.before args s = true
  refine List.forall_mem_cons.mpr ⟨fun _ => hts _ q157, ?_⟩
  refine List.forall_mem_cons.mpr ⟨fun _ => hts _ q1518, ?_⟩
  refine List.forall_mem_cons.mpr ⟨fun _ => hts _ q1462, ?_⟩
  refine List.forall_mem_cons.mpr ⟨fun _ => hts _ q1480, ?_⟩
  refine List.forall_mem_cons.mpr ⟨fun _ => hts _ q1483, ?_⟩
  refine List.forall_mem_cons.mpr ⟨fun _ => hts _ q1485, ?_⟩
  refine List.forall_mem_cons.mpr ⟨fun _ => hts _ q1519, ?_⟩
  refine List.forall_mem_cons.mpr ⟨fun _ => hts _ q1520, ?_⟩
  refine List.forall_mem_cons.mpr ⟨fun _ => hts _ q170, ?_⟩
  refine List.forall_mem_cons.mpr ⟨fun _ => hts _ q171, ?_⟩
  refine List.forall_mem_cons.mpr ⟨fun _ => hts _ q1456, ?_⟩
  refine List.forall_mem_cons.mpr ⟨fun _ => hts _ q1461, ?_⟩
  refine List.forall_mem_cons.mpr ⟨fun _ => hts _ q1481, ?_⟩
  refine List.forall_mem_cons.mpr ⟨fun _ => hts _ q1488, ?_⟩
  refine List.forall_mem_cons.mpr ⟨fun _ => hts _ q1512, ?_⟩
  refine List.forall_mem_cons.mpr ⟨fun _ => hts _ q1489, ?_⟩
  refine List.forall_mem_cons.mpr ⟨fun _ => hts _ q1513, ?_⟩
  refine List.forall_mem_cons.mpr ⟨fun _ => hts _ q1490, ?_⟩
  refine List.forall_mem_cons.mpr ⟨fun _ => hts _ q1514, ?_⟩
  refine List.forall_mem_cons.mpr ⟨fun _ => hts _ q1457, ?_⟩
  refine List.forall_mem_cons.mpr ⟨fun h => absurd h (by decide), ?_⟩
  refine List.forall_mem_cons.mpr ⟨fun _ => hts _ q1459, ?_⟩
  refine List.forall_mem_cons.mpr ⟨fun h => absurd h (by decide), ?_⟩
  refine List.forall_mem_cons.mpr ⟨fun _ => hts _ q1515, ?_⟩
  refine List.forall_mem_cons.mpr ⟨fun _ => hts _ q1454, ?_⟩
  refine List.forall_mem_cons.mpr ⟨fun _ => hts _ q1455, ?_⟩
  refine List.forall_mem_cons.mpr ⟨fun _ => hts _ q1487, ?_⟩
  refine List.forall_mem_cons.mpr ⟨fun _ => hts _ q1515, ?_⟩
  refine List.forall_mem_cons.mpr ⟨fun _ => hts _ q1558, ?_⟩
  refine List.forall_mem_cons.mpr ⟨fun _ => hts _ q1559, ?_⟩
  refine List.forall_mem_cons.mpr ⟨fun _ => hts _ q1560, ?_⟩
  refine List.forall_mem_cons.mpr ⟨fun _ => hts _ q1561, ?_⟩
  refine List.forall_mem_cons.mpr ⟨fun _ => xnest_u hK (List.mem_of_getElem? (i := 131) rfl), ?_⟩
  refine List.forall_mem_cons.mpr ⟨fun _ => hts _ q1561, ?_⟩
  refine List.forall_mem_cons.mpr ⟨fun _ => hts _ q1562, ?_⟩
  refine List.forall_mem_cons.mpr ⟨fun _ => hts _ q1563, ?_⟩
  refine List.forall_mem_cons.mpr ⟨fun _ => hts _ q1448, ?_⟩
  refine List.forall_mem_cons.mpr ⟨fun _ => xnest_u hK (List.mem_of_getElem? (i := 122) rfl), ?_⟩
  refine List.forall_mem_cons.mpr ⟨fun _ => hts _ q1448, ?_⟩
  refine List.forall_mem_cons.mpr ⟨fun _ => hts _ q1449, ?_⟩
  refine List.forall_mem_cons.mpr ⟨fun _ => hts _ q1450, ?_⟩
  refine List.forall_mem_cons.mpr ⟨fun _ => hts _ q1451, ?_⟩
  refine List.forall_mem_cons.mpr ⟨fun _ => xnest_u hK (List.mem_of_getElem? (i := 124) rfl), ?_⟩
  refine List.forall_mem_cons.mpr ⟨fun _ => hts _ q1451, ?_⟩
  refine List.forall_mem_cons.mpr ⟨fun _ => hts _ q1452, ?_⟩
  refine List.forall_mem_cons.mpr ⟨fun _ => hts _ q1453, ?_⟩
  refine List.forall_mem_cons.mpr ⟨fun _ => hts _ q1454, ?_⟩
  refine List.forall_mem_cons.mpr ⟨fun _ => xnest_u hK (List.mem_of_getElem? (i := 126) rfl), ?_⟩
  refine List.forall_mem_cons.mpr ⟨fun _ => hts _ q134, ?_⟩
  refine List.forall_mem_cons.mpr ⟨fun _ => hts _ q1521, ?_⟩
  refine List.forall_mem_cons.mpr ⟨fun _ => hts _ q355, ?_⟩
  refine List.forall_mem_cons.mpr ⟨fun _ => hts _ q1522, ?_⟩
  refine List.forall_mem_cons.mpr ⟨fun _ => hts _ q1524, ?_⟩
  refine List.forall_mem_cons.mpr ⟨fun _ => hts _ q1523, ?_⟩
  refine List.forall_mem_cons.mpr ⟨fun _ => hts _ q1525, ?_⟩
  refine List.forall_mem_cons.mpr ⟨fun _ => hts _ q163, ?_⟩
  refine List.forall_mem_cons.mpr ⟨fun _ => hts _ q1557, ?_⟩
  refine List.forall_mem_cons.mpr ⟨fun _ => xnest_u hK (List.mem_of_getElem? (i := 129) rfl), ?_⟩
  refine List.forall_mem_cons.mpr ⟨fun _ => hts _ q1574, ?_⟩
  refine List.forall_mem_cons.mpr ⟨fun _ => hts _ q1464, ?_⟩
  refine List.forall_mem_cons.mpr ⟨fun _ => hts _ q1566, ?_⟩
  refine List.forall_mem_cons.mpr ⟨fun _ => hts _ q1567, ?_⟩
  refine List.forall_mem_cons.mpr ⟨fun _ => hts _ q1569, ?_⟩
  refine List.forall_mem_cons.mpr ⟨fun _ => hts _ q1565, ?_⟩
  refine List.forall_mem_cons.mpr ⟨fun h => absurd h (by decide), ?_⟩
  refine List.forall_mem_cons.mpr ⟨fun h => absurd h (by decide), ?_⟩
  refine List.forall_mem_cons.mpr ⟨fun _ => hts _ q1486, ?_⟩
  refine List.forall_mem_cons.mpr ⟨fun _ => hts _ q1516, ?_⟩
  refine List.forall_mem_cons.mpr ⟨fun _ => hts _ q1564, ?_⟩
  exact fun _ h => absurd h List.not_mem_nil
theorem w_aio (hts : ∀ w ∈ lw_all, w.before args s = true) (hK : xKs D G Hb h0 b0 s) : ∀ w ∈ vx_atM "java/lang/ArrayIndexOutOfBoundsException" ["java/lang/IndexOutOfBoundsException", "java/lang/RuntimeException", "java/lang/Exception"], w.before args s = true := fun w hw => w_aio_0 hts hK w (List.mem_filter.mp hw).1 (List.mem_filter.mp hw).2
theorem w_aio_g : ∀ w ∈ vx_atM "java/lang/ArrayIndexOutOfBoundsException" ["java/lang/IndexOutOfBoundsException", "java/lang/RuntimeException", "java/lang/Exception"], vx_ot w = true := fun w hw => List.all_eq_true.mp (by decide +kernel : (vx_atM "java/lang/ArrayIndexOutOfBoundsException" ["java/lang/IndexOutOfBoundsException", "java/lang/RuntimeException", "java/lang/Exception"]).all vx_ot = true) w hw
theorem w_npe_0 (hts : ∀ w ∈ lw_all, w.before args s = true) (hK : xKs D G Hb h0 b0 s) : ∀ w ∈ Bundle.npeArmAtoms 8, vx_no w = true → w.before args s = true := by
  show ∀ w ∈ ([Cond.initialized "java/lang/Throwable", Cond.superclass "java/lang/Throwable" "java/lang/Object", Cond.instanceMethod ({ cls := "java/lang/Throwable", name := "fillInStackTrace", desc := "()Ljava/lang/Throwable;" } : Jvm.MethodName), Cond.codeSync ({ cls := "java/lang/Throwable", name := "fillInStackTrace", desc := "()Ljava/lang/Throwable;" } : Jvm.MethodName) prog_37_method_18_code (1 : Nat) (Option.some (Jvm.ClassFile.FieldType.object "java/lang/Throwable")), Cond.instanceMethod ({ cls := "java/lang/Throwable", name := "fillInStackTrace", desc := "(I)Ljava/lang/Throwable;" } : Jvm.MethodName), Cond.native ({ cls := "java/lang/Throwable", name := "fillInStackTrace", desc := "(I)Ljava/lang/Throwable;" } : Jvm.MethodName), Cond.instanceMethod ({ cls := "java/lang/Throwable", name := "<init>", desc := "()V" } : Jvm.MethodName), Cond.code ({ cls := "java/lang/Throwable", name := "<init>", desc := "()V" } : Jvm.MethodName) prog_37_method_1_code (1 : Nat) (Option.none : Option Jvm.ClassFile.FieldType), Cond.instanceMethod ({ cls := "java/lang/Object", name := "<init>", desc := "()V" } : Jvm.MethodName), Cond.code ({ cls := "java/lang/Object", name := "<init>", desc := "()V" } : Jvm.MethodName) object_method_1_code (1 : Nat) (Option.none : Option Jvm.ClassFile.FieldType), Cond.methodLink "java/lang/Throwable" (1 : Nat) ({ cls := "java/lang/Object", name := "<init>", desc := "()V" } : Jvm.MethodName), Cond.methodLink "java/lang/Throwable" (27 : Nat) ({ cls := "java/lang/Throwable", name := "fillInStackTrace", desc := "()Ljava/lang/Throwable;" } : Jvm.MethodName), Cond.methodLink "java/lang/Throwable" (202 : Nat) ({ cls := "java/lang/Throwable", name := "fillInStackTrace", desc := "(I)Ljava/lang/Throwable;" } : Jvm.MethodName), Cond.fieldLink "java/lang/Throwable" (7 : Nat) "java/lang/Throwable" "cause" "Ljava/lang/Throwable;", Cond.lays "java/lang/Throwable" "java/lang/Throwable" "cause" "Ljava/lang/Throwable;", Cond.fieldLink "java/lang/Throwable" (17 : Nat) "java/lang/Throwable" "stackTrace" "[Ljava/lang/StackTraceElement;", Cond.lays "java/lang/Throwable" "java/lang/Throwable" "stackTrace" "[Ljava/lang/StackTraceElement;", Cond.fieldLink "java/lang/Throwable" (24 : Nat) "java/lang/Throwable" "suppressedExceptions" "Ljava/util/List;", Cond.lays "java/lang/Throwable" "java/lang/Throwable" "suppressedExceptions" "Ljava/util/List;", Cond.fieldLink "java/lang/Throwable" (13 : Nat) "java/lang/Throwable" "UNASSIGNED_STACK" "[Ljava/lang/StackTraceElement;", Cond.laysStatic "java/lang/Throwable" "UNASSIGNED_STACK" "[Ljava/lang/StackTraceElement;", Cond.fieldLink "java/lang/Throwable" (20 : Nat) "java/lang/Throwable" "SUPPRESSED_SENTINEL" "Ljava/util/List;", Cond.laysStatic "java/lang/Throwable" "SUPPRESSED_SENTINEL" "Ljava/util/List;", Cond.lays "java/lang/Throwable" "java/lang/Throwable" "detailMessage" "Ljava/lang/String;", Cond.superclass "java/lang/NullPointerException" "java/lang/RuntimeException", Cond.instanceMethod ({ cls := "java/lang/NullPointerException", name := "fillInStackTrace", desc := "()Ljava/lang/Throwable;" } : Jvm.MethodName), Cond.codeSync ({ cls := "java/lang/NullPointerException", name := "fillInStackTrace", desc := "()Ljava/lang/Throwable;" } : Jvm.MethodName) prog_31_method_3_code (1 : Nat) (Option.some (Jvm.ClassFile.FieldType.object "java/lang/Throwable")), Cond.fieldLink "java/lang/NullPointerException" (10 : Nat) "java/lang/NullPointerException" "extendedMessageState" "I", Cond.lays "java/lang/NullPointerException" "java/lang/NullPointerException" "extendedMessageState" "I", Cond.methodLink "java/lang/NullPointerException" (24 : Nat) ({ cls := "java/lang/RuntimeException", name := "fillInStackTrace", desc := "()Ljava/lang/Throwable;" } : Jvm.MethodName), Cond.sameMethod "java/lang/RuntimeException" "java/lang/Throwable" "fillInStackTrace" "()Ljava/lang/Throwable;", Cond.castable "java/lang/RuntimeException" "java/lang/Throwable", Cond.instanceMethod ({ cls := "java/lang/NullPointerException", name := "<init>", desc := "()V" } : Jvm.MethodName), Cond.code ({ cls := "java/lang/NullPointerException", name := "<init>", desc := "()V" } : Jvm.MethodName) prog_31_method_1_code (1 : Nat) (Option.none : Option Jvm.ClassFile.FieldType), Cond.methodLink "java/lang/NullPointerException" (1 : Nat) ({ cls := "java/lang/RuntimeException", name := "<init>", desc := "()V" } : Jvm.MethodName), Cond.instanceMethod ({ cls := "java/lang/RuntimeException", name := "<init>", desc := "()V" } : Jvm.MethodName), Cond.declares ⟨"java/lang/RuntimeException", "<init>", "()V"⟩, Cond.instanceMethod ({ cls := "java/lang/RuntimeException", name := "<init>", desc := "()V" } : Jvm.MethodName), Cond.code ({ cls := "java/lang/RuntimeException", name := "<init>", desc := "()V" } : Jvm.MethodName) prog_32_method_1_code (1 : Nat) (Option.none : Option Jvm.ClassFile.FieldType), Cond.methodLink "java/lang/RuntimeException" (1 : Nat) ({ cls := "java/lang/Exception", name := "<init>", desc := "()V" } : Jvm.MethodName), Cond.instanceMethod ({ cls := "java/lang/Exception", name := "<init>", desc := "()V" } : Jvm.MethodName), Cond.declares ⟨"java/lang/Exception", "<init>", "()V"⟩, Cond.instanceMethod ({ cls := "java/lang/Exception", name := "<init>", desc := "()V" } : Jvm.MethodName), Cond.code ({ cls := "java/lang/Exception", name := "<init>", desc := "()V" } : Jvm.MethodName) prog_25_method_1_code (1 : Nat) (Option.none : Option Jvm.ClassFile.FieldType), Cond.methodLink "java/lang/Exception" (1 : Nat) ({ cls := "java/lang/Throwable", name := "<init>", desc := "()V" } : Jvm.MethodName), Cond.instanceMethod ({ cls := "java/lang/Throwable", name := "<init>", desc := "()V" } : Jvm.MethodName), Cond.declares ⟨"java/lang/Throwable", "<init>", "()V"⟩, Cond.initialized "java/lang/NullPointerException", Cond.instantiable "java/lang/NullPointerException" (8 : Nat), Cond.castable "java/lang/NullPointerException" "java/lang/NullPointerException", Cond.selects "java/lang/NullPointerException" ({ cls := "java/lang/Throwable", name := "fillInStackTrace", desc := "(I)Ljava/lang/Throwable;" } : Jvm.MethodName) ({ cls := "java/lang/Throwable", name := "fillInStackTrace", desc := "(I)Ljava/lang/Throwable;" } : Jvm.MethodName), Cond.selects "java/lang/NullPointerException" ({ cls := "java/lang/Throwable", name := "fillInStackTrace", desc := "()Ljava/lang/Throwable;" } : Jvm.MethodName) ({ cls := "java/lang/NullPointerException", name := "fillInStackTrace", desc := "()Ljava/lang/Throwable;" } : Jvm.MethodName), Cond.lays "java/lang/NullPointerException" "java/lang/Throwable" "cause" "Ljava/lang/Throwable;", Cond.lays "java/lang/NullPointerException" "java/lang/Throwable" "stackTrace" "[Ljava/lang/StackTraceElement;", Cond.lays "java/lang/NullPointerException" "java/lang/Throwable" "suppressedExceptions" "Ljava/util/List;", Cond.isRef (.static "java/lang/Throwable" "UNASSIGNED_STACK" "[Ljava/lang/StackTraceElement;"), Cond.isRef (.static "java/lang/Throwable" "SUPPRESSED_SENTINEL" "Ljava/util/List;"), Cond.fieldLink "java/lang/Throwable" (198 : Nat) "java/lang/Throwable" "backtrace" "Ljava/lang/Object;", Cond.lays "java/lang/Throwable" "java/lang/Throwable" "backtrace" "Ljava/lang/Object;", Cond.lays "java/lang/NullPointerException" "java/lang/Throwable" "backtrace" "Ljava/lang/Object;"] : List Cond), vx_no w = true → w.before args s = true
  refine List.forall_mem_cons.mpr ⟨fun _ => hts _ q157, ?_⟩
  refine List.forall_mem_cons.mpr ⟨fun _ => hts _ q1518, ?_⟩
  refine List.forall_mem_cons.mpr ⟨fun _ => hts _ q1462, ?_⟩
  refine List.forall_mem_cons.mpr ⟨fun _ => hts _ q1480, ?_⟩
  refine List.forall_mem_cons.mpr ⟨fun _ => hts _ q1483, ?_⟩
  refine List.forall_mem_cons.mpr ⟨fun _ => hts _ q1485, ?_⟩
  refine List.forall_mem_cons.mpr ⟨fun _ => hts _ q1519, ?_⟩
  refine List.forall_mem_cons.mpr ⟨fun _ => hts _ q1520, ?_⟩
  refine List.forall_mem_cons.mpr ⟨fun _ => hts _ q170, ?_⟩
  refine List.forall_mem_cons.mpr ⟨fun _ => hts _ q171, ?_⟩
  refine List.forall_mem_cons.mpr ⟨fun _ => hts _ q1456, ?_⟩
  refine List.forall_mem_cons.mpr ⟨fun _ => hts _ q1461, ?_⟩
  refine List.forall_mem_cons.mpr ⟨fun _ => hts _ q1481, ?_⟩
  refine List.forall_mem_cons.mpr ⟨fun _ => hts _ q1488, ?_⟩
  refine List.forall_mem_cons.mpr ⟨fun _ => hts _ q1512, ?_⟩
  refine List.forall_mem_cons.mpr ⟨fun _ => hts _ q1489, ?_⟩
  refine List.forall_mem_cons.mpr ⟨fun _ => hts _ q1513, ?_⟩
  refine List.forall_mem_cons.mpr ⟨fun _ => hts _ q1490, ?_⟩
  refine List.forall_mem_cons.mpr ⟨fun _ => hts _ q1514, ?_⟩
  refine List.forall_mem_cons.mpr ⟨fun _ => hts _ q1457, ?_⟩
  refine List.forall_mem_cons.mpr ⟨fun h => absurd h (by decide), ?_⟩
  refine List.forall_mem_cons.mpr ⟨fun _ => hts _ q1459, ?_⟩
  refine List.forall_mem_cons.mpr ⟨fun h => absurd h (by decide), ?_⟩
  refine List.forall_mem_cons.mpr ⟨fun _ => hts _ q1515, ?_⟩
  refine List.forall_mem_cons.mpr ⟨fun _ => hts _ q1477, ?_⟩
  refine List.forall_mem_cons.mpr ⟨fun _ => hts _ q1467, ?_⟩
  refine List.forall_mem_cons.mpr ⟨fun _ => hts _ q1468, ?_⟩
  refine List.forall_mem_cons.mpr ⟨fun _ => hts _ q1541, ?_⟩
  refine List.forall_mem_cons.mpr ⟨fun _ => hts _ q1543, ?_⟩
  refine List.forall_mem_cons.mpr ⟨fun _ => hts _ q1474, ?_⟩
  refine List.forall_mem_cons.mpr ⟨fun _ => hts _ q1475, ?_⟩
  refine List.forall_mem_cons.mpr ⟨fun _ => xnest_u hK (List.mem_of_getElem? (i := 128) rfl), ?_⟩
  refine List.forall_mem_cons.mpr ⟨fun _ => hts _ q1532, ?_⟩
  refine List.forall_mem_cons.mpr ⟨fun _ => hts _ q1533, ?_⟩
  refine List.forall_mem_cons.mpr ⟨fun _ => hts _ q1534, ?_⟩
  refine List.forall_mem_cons.mpr ⟨fun _ => hts _ q1535, ?_⟩
  refine List.forall_mem_cons.mpr ⟨fun _ => xnest_u hK (List.mem_of_getElem? (i := 121) rfl), ?_⟩
  refine List.forall_mem_cons.mpr ⟨fun _ => hts _ q1535, ?_⟩
  refine List.forall_mem_cons.mpr ⟨fun _ => hts _ q1536, ?_⟩
  refine List.forall_mem_cons.mpr ⟨fun _ => hts _ q1537, ?_⟩
  refine List.forall_mem_cons.mpr ⟨fun _ => hts _ q1538, ?_⟩
  refine List.forall_mem_cons.mpr ⟨fun _ => xnest_u hK (List.mem_of_getElem? (i := 123) rfl), ?_⟩
  refine List.forall_mem_cons.mpr ⟨fun _ => hts _ q1538, ?_⟩
  refine List.forall_mem_cons.mpr ⟨fun _ => hts _ q1539, ?_⟩
  refine List.forall_mem_cons.mpr ⟨fun _ => hts _ q1540, ?_⟩
  refine List.forall_mem_cons.mpr ⟨fun _ => hts _ q1519, ?_⟩
  refine List.forall_mem_cons.mpr ⟨fun _ => xnest_u hK (List.mem_of_getElem? (i := 125) rfl), ?_⟩
  refine List.forall_mem_cons.mpr ⟨fun _ => hts _ q161, ?_⟩
  refine List.forall_mem_cons.mpr ⟨fun _ => hts _ q1472, ?_⟩
  refine List.forall_mem_cons.mpr ⟨fun _ => xnest_u hK (List.mem_of_getElem? (i := 127) rfl), ?_⟩
  refine List.forall_mem_cons.mpr ⟨fun _ => hts _ q1554, ?_⟩
  refine List.forall_mem_cons.mpr ⟨fun _ => hts _ q1466, ?_⟩
  refine List.forall_mem_cons.mpr ⟨fun _ => hts _ q1549, ?_⟩
  refine List.forall_mem_cons.mpr ⟨fun _ => hts _ q1550, ?_⟩
  refine List.forall_mem_cons.mpr ⟨fun _ => hts _ q1552, ?_⟩
  refine List.forall_mem_cons.mpr ⟨fun h => absurd h (by decide), ?_⟩
  refine List.forall_mem_cons.mpr ⟨fun h => absurd h (by decide), ?_⟩
  refine List.forall_mem_cons.mpr ⟨fun _ => hts _ q1486, ?_⟩
  refine List.forall_mem_cons.mpr ⟨fun _ => hts _ q1516, ?_⟩
  refine List.forall_mem_cons.mpr ⟨fun _ => hts _ q1547, ?_⟩
  exact fun _ h => absurd h List.not_mem_nil
theorem w_npe (hts : ∀ w ∈ lw_all, w.before args s = true) (hK : xKs D G Hb h0 b0 s) : ∀ w ∈ vx_atN 8, w.before args s = true := fun w hw => w_npe_0 hts hK w (List.mem_filter.mp hw).1 (List.mem_filter.mp hw).2
theorem w_npe_g : ∀ w ∈ vx_atN 8, vx_ot w = true := fun w hw => List.all_eq_true.mp (by decide +kernel : (vx_atN 8).all vx_ot = true) w hw
end
