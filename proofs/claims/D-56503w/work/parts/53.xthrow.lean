/-! 'throw new E()' in Lendlathe, one row an exception (printed by gen/exc.py) -/
set_option maxRecDepth 100000
theorem xe_l1 : vx_at0 "Lendlathe" 76 (xExn 1) xRE = [(Jvm.Cond.initialized "java/lang/Throwable"), (Jvm.Cond.superclass "java/lang/Throwable" "java/lang/Object"), (Jvm.Cond.instanceMethod ({ cls := "java/lang/Throwable", name := "fillInStackTrace", desc := "()Ljava/lang/Throwable;" } : Jvm.MethodName)), (Jvm.Cond.codeSync ({ cls := "java/lang/Throwable", name := "fillInStackTrace", desc := "()Ljava/lang/Throwable;" } : Jvm.MethodName) prog_37_method_18_code (1 : Nat) (Option.some (Jvm.ClassFile.FieldType.object "java/lang/Throwable"))), (Jvm.Cond.instanceMethod ({ cls := "java/lang/Throwable", name := "fillInStackTrace", desc := "(I)Ljava/lang/Throwable;" } : Jvm.MethodName)), (Jvm.Cond.native ({ cls := "java/lang/Throwable", name := "fillInStackTrace", desc := "(I)Ljava/lang/Throwable;" } : Jvm.MethodName)), (Jvm.Cond.instanceMethod ({ cls := "java/lang/Throwable", name := "<init>", desc := "()V" } : Jvm.MethodName)), (Jvm.Cond.code ({ cls := "java/lang/Throwable", name := "<init>", desc := "()V" } : Jvm.MethodName) prog_37_method_1_code (1 : Nat) (Option.none : Option Jvm.ClassFile.FieldType)), (Jvm.Cond.instanceMethod ({ cls := "java/lang/Object", name := "<init>", desc := "()V" } : Jvm.MethodName)), (Jvm.Cond.code ({ cls := "java/lang/Object", name := "<init>", desc := "()V" } : Jvm.MethodName) object_method_1_code (1 : Nat) (Option.none : Option Jvm.ClassFile.FieldType)), (Jvm.Cond.methodLink "java/lang/Throwable" (1 : Nat) ({ cls := "java/lang/Object", name := "<init>", desc := "()V" } : Jvm.MethodName)), (Jvm.Cond.methodLink "java/lang/Throwable" (27 : Nat) ({ cls := "java/lang/Throwable", name := "fillInStackTrace", desc := "()Ljava/lang/Throwable;" } : Jvm.MethodName)), (Jvm.Cond.methodLink "java/lang/Throwable" (202 : Nat) ({ cls := "java/lang/Throwable", name := "fillInStackTrace", desc := "(I)Ljava/lang/Throwable;" } : Jvm.MethodName)), (Jvm.Cond.fieldLink "java/lang/Throwable" (7 : Nat) "java/lang/Throwable" "cause" "Ljava/lang/Throwable;"), (Jvm.Cond.lays "java/lang/Throwable" "java/lang/Throwable" "cause" "Ljava/lang/Throwable;"), (Jvm.Cond.fieldLink "java/lang/Throwable" (17 : Nat) "java/lang/Throwable" "stackTrace" "[Ljava/lang/StackTraceElement;"), (Jvm.Cond.lays "java/lang/Throwable" "java/lang/Throwable" "stackTrace" "[Ljava/lang/StackTraceElement;"), (Jvm.Cond.fieldLink "java/lang/Throwable" (24 : Nat) "java/lang/Throwable" "suppressedExceptions" "Ljava/util/List;"), (Jvm.Cond.lays "java/lang/Throwable" "java/lang/Throwable" "suppressedExceptions" "Ljava/util/List;"), (Jvm.Cond.fieldLink "java/lang/Throwable" (13 : Nat) "java/lang/Throwable" "UNASSIGNED_STACK" "[Ljava/lang/StackTraceElement;"), (Jvm.Cond.fieldLink "java/lang/Throwable" (20 : Nat) "java/lang/Throwable" "SUPPRESSED_SENTINEL" "Ljava/util/List;"), (Jvm.Cond.lays "java/lang/Throwable" "java/lang/Throwable" "detailMessage" "Ljava/lang/String;"), (Jvm.Cond.instanceMethod ({ cls := "java/lang/IllegalArgumentException", name := "<init>", desc := "()V" } : Jvm.MethodName)), (Jvm.Cond.code ({ cls := "java/lang/IllegalArgumentException", name := "<init>", desc := "()V" } : Jvm.MethodName) prog_24_method_1_code (1 : Nat) (Option.none : Option Jvm.ClassFile.FieldType)), (Jvm.Cond.methodLink "java/lang/IllegalArgumentException" (1 : Nat) ({ cls := "java/lang/RuntimeException", name := "<init>", desc := "()V" } : Jvm.MethodName)), (Jvm.Cond.instanceMethod ({ cls := "java/lang/RuntimeException", name := "<init>", desc := "()V" } : Jvm.MethodName)), (Jvm.Cond.declares ({ cls := "java/lang/RuntimeException", name := "<init>", desc := "()V" } : Jvm.MethodName)), (Jvm.Cond.instanceMethod ({ cls := "java/lang/RuntimeException", name := "<init>", desc := "()V" } : Jvm.MethodName)), (Jvm.Cond.code ({ cls := "java/lang/RuntimeException", name := "<init>", desc := "()V" } : Jvm.MethodName) prog_31_method_1_code (1 : Nat) (Option.none : Option Jvm.ClassFile.FieldType)), (Jvm.Cond.methodLink "java/lang/RuntimeException" (1 : Nat) ({ cls := "java/lang/Exception", name := "<init>", desc := "()V" } : Jvm.MethodName)), (Jvm.Cond.instanceMethod ({ cls := "java/lang/Exception", name := "<init>", desc := "()V" } : Jvm.MethodName)), (Jvm.Cond.declares ({ cls := "java/lang/Exception", name := "<init>", desc := "()V" } : Jvm.MethodName)), (Jvm.Cond.instanceMethod ({ cls := "java/lang/Exception", name := "<init>", desc := "()V" } : Jvm.MethodName)), (Jvm.Cond.code ({ cls := "java/lang/Exception", name := "<init>", desc := "()V" } : Jvm.MethodName) prog_23_method_1_code (1 : Nat) (Option.none : Option Jvm.ClassFile.FieldType)), (Jvm.Cond.methodLink "java/lang/Exception" (1 : Nat) ({ cls := "java/lang/Throwable", name := "<init>", desc := "()V" } : Jvm.MethodName)), (Jvm.Cond.instanceMethod ({ cls := "java/lang/Throwable", name := "<init>", desc := "()V" } : Jvm.MethodName)), (Jvm.Cond.declares ({ cls := "java/lang/Throwable", name := "<init>", desc := "()V" } : Jvm.MethodName)), (Jvm.Cond.methodLink "Lendlathe" (76 : Nat) ({ cls := "java/lang/IllegalArgumentException", name := "<init>", desc := "()V" } : Jvm.MethodName)), (Jvm.Cond.instantiable "java/lang/IllegalArgumentException" (6 : Nat)), (Jvm.Cond.castable "java/lang/IllegalArgumentException" "java/lang/IllegalArgumentException"), (Jvm.Cond.selects "java/lang/IllegalArgumentException" ({ cls := "java/lang/Throwable", name := "fillInStackTrace", desc := "(I)Ljava/lang/Throwable;" } : Jvm.MethodName) ({ cls := "java/lang/Throwable", name := "fillInStackTrace", desc := "(I)Ljava/lang/Throwable;" } : Jvm.MethodName)), (Jvm.Cond.selects "java/lang/IllegalArgumentException" ({ cls := "java/lang/Throwable", name := "fillInStackTrace", desc := "()Ljava/lang/Throwable;" } : Jvm.MethodName) ({ cls := "java/lang/Throwable", name := "fillInStackTrace", desc := "()Ljava/lang/Throwable;" } : Jvm.MethodName)), (Jvm.Cond.lays "java/lang/IllegalArgumentException" "java/lang/Throwable" "cause" "Ljava/lang/Throwable;"), (Jvm.Cond.lays "java/lang/IllegalArgumentException" "java/lang/Throwable" "stackTrace" "[Ljava/lang/StackTraceElement;"), (Jvm.Cond.lays "java/lang/IllegalArgumentException" "java/lang/Throwable" "suppressedExceptions" "Ljava/util/List;"), (Jvm.Cond.lays "java/lang/IllegalArgumentException" "java/lang/Throwable" "detailMessage" "Ljava/lang/String;"), (Jvm.Cond.fieldLink "java/lang/Throwable" (198 : Nat) "java/lang/Throwable" "backtrace" "Ljava/lang/Object;"), (Jvm.Cond.lays "java/lang/Throwable" "java/lang/Throwable" "backtrace" "Ljava/lang/Object;"), (Jvm.Cond.lays "java/lang/IllegalArgumentException" "java/lang/Throwable" "backtrace" "Ljava/lang/Object;")] := by decide +kernel
theorem xe_t1 : ∀ w ∈ vx_at0 "Lendlathe" 76 (xExn 1) xRE, w ∈ lw_tbl := by
  rw [xe_l1]
  intro w hw
  simp only [List.mem_cons, List.not_mem_nil, or_false] at hw
  rcases hw with rfl | rfl | rfl | rfl | rfl | rfl | rfl | rfl | rfl | rfl | rfl | rfl | rfl | rfl | rfl | rfl | rfl | rfl | rfl | rfl | rfl | rfl | rfl | rfl | rfl | rfl | rfl | rfl | rfl | rfl | rfl | rfl | rfl | rfl | rfl | rfl | rfl | rfl | rfl | rfl | rfl | rfl | rfl | rfl | rfl | rfl | rfl | rfl | rfl
  · exact (List.mem_filter.mp q61).1
  · exact (List.mem_filter.mp q151).1
  · exact (List.mem_filter.mp q160).1
  · exact (List.mem_filter.mp q168).1
  · exact (List.mem_filter.mp q171).1
  · exact (List.mem_filter.mp q173).1
  · exact (List.mem_filter.mp q152).1
  · exact (List.mem_filter.mp q153).1
  · exact (List.mem_filter.mp q98).1
  · exact (List.mem_filter.mp q99).1
  · exact (List.mem_filter.mp q154).1
  · exact (List.mem_filter.mp q159).1
  · exact (List.mem_filter.mp q169).1
  · exact (List.mem_filter.mp q409).1
  · exact (List.mem_filter.mp q141).1
  · exact (List.mem_filter.mp q410).1
  · exact (List.mem_filter.mp q143).1
  · exact (List.mem_filter.mp q411).1
  · exact (List.mem_filter.mp q145).1
  · exact (List.mem_filter.mp q155).1
  · exact (List.mem_filter.mp q157).1
  · exact (List.mem_filter.mp q147).1
  · exact (List.mem_filter.mp q766).1
  · exact (List.mem_filter.mp q767).1
  · exact (List.mem_filter.mp q768).1
  · exact (List.mem_filter.mp q583).1
  · exact q132
  · exact (List.mem_filter.mp q583).1
  · exact (List.mem_filter.mp q584).1
  · exact (List.mem_filter.mp q585).1
  · exact (List.mem_filter.mp q586).1
  · exact q134
  · exact (List.mem_filter.mp q586).1
  · exact (List.mem_filter.mp q587).1
  · exact (List.mem_filter.mp q588).1
  · exact (List.mem_filter.mp q152).1
  · exact q136
  · exact (List.mem_filter.mp q765).1
  · exact (List.mem_filter.mp q130).1
  · exact q131
  · exact (List.mem_filter.mp q138).1
  · exact (List.mem_filter.mp q139).1
  · exact (List.mem_filter.mp q140).1
  · exact (List.mem_filter.mp q142).1
  · exact (List.mem_filter.mp q144).1
  · exact (List.mem_filter.mp q146).1
  · exact (List.mem_filter.mp q407).1
  · exact (List.mem_filter.mp q149).1
  · exact (List.mem_filter.mp q148).1
theorem xe_b1 : ∀ w ∈ (vx_at0 "Lendlathe" 76 (xExn 1) xRE).filter (fun w => !goodWord w), w ∈ [(Jvm.Cond.declares ({ cls := "java/lang/RuntimeException", name := "<init>", desc := "()V" } : Jvm.MethodName)), (Jvm.Cond.declares ({ cls := "java/lang/Exception", name := "<init>", desc := "()V" } : Jvm.MethodName)), (Jvm.Cond.declares ({ cls := "java/lang/Throwable", name := "<init>", desc := "()V" } : Jvm.MethodName)), (Jvm.Cond.castable "java/lang/IllegalArgumentException" "java/lang/IllegalArgumentException")] := by rw [xe_l1]; decide +kernel
theorem xe_g1 : ∀ w ∈ Cond.classLink "Lendlathe" 74 (xExn 1) :: Cond.initialized (xExn 1) :: vx_at0 "Lendlathe" 76 (xExn 1) xRE, vx_ot w = true := by rw [xe_l1]; decide +kernel
theorem xe_l2 : vx_at0 "Lendlathe" 79 (xExn 2) xRE = [(Jvm.Cond.initialized "java/lang/Throwable"), (Jvm.Cond.superclass "java/lang/Throwable" "java/lang/Object"), (Jvm.Cond.instanceMethod ({ cls := "java/lang/Throwable", name := "fillInStackTrace", desc := "()Ljava/lang/Throwable;" } : Jvm.MethodName)), (Jvm.Cond.codeSync ({ cls := "java/lang/Throwable", name := "fillInStackTrace", desc := "()Ljava/lang/Throwable;" } : Jvm.MethodName) prog_37_method_18_code (1 : Nat) (Option.some (Jvm.ClassFile.FieldType.object "java/lang/Throwable"))), (Jvm.Cond.instanceMethod ({ cls := "java/lang/Throwable", name := "fillInStackTrace", desc := "(I)Ljava/lang/Throwable;" } : Jvm.MethodName)), (Jvm.Cond.native ({ cls := "java/lang/Throwable", name := "fillInStackTrace", desc := "(I)Ljava/lang/Throwable;" } : Jvm.MethodName)), (Jvm.Cond.instanceMethod ({ cls := "java/lang/Throwable", name := "<init>", desc := "()V" } : Jvm.MethodName)), (Jvm.Cond.code ({ cls := "java/lang/Throwable", name := "<init>", desc := "()V" } : Jvm.MethodName) prog_37_method_1_code (1 : Nat) (Option.none : Option Jvm.ClassFile.FieldType)), (Jvm.Cond.instanceMethod ({ cls := "java/lang/Object", name := "<init>", desc := "()V" } : Jvm.MethodName)), (Jvm.Cond.code ({ cls := "java/lang/Object", name := "<init>", desc := "()V" } : Jvm.MethodName) object_method_1_code (1 : Nat) (Option.none : Option Jvm.ClassFile.FieldType)), (Jvm.Cond.methodLink "java/lang/Throwable" (1 : Nat) ({ cls := "java/lang/Object", name := "<init>", desc := "()V" } : Jvm.MethodName)), (Jvm.Cond.methodLink "java/lang/Throwable" (27 : Nat) ({ cls := "java/lang/Throwable", name := "fillInStackTrace", desc := "()Ljava/lang/Throwable;" } : Jvm.MethodName)), (Jvm.Cond.methodLink "java/lang/Throwable" (202 : Nat) ({ cls := "java/lang/Throwable", name := "fillInStackTrace", desc := "(I)Ljava/lang/Throwable;" } : Jvm.MethodName)), (Jvm.Cond.fieldLink "java/lang/Throwable" (7 : Nat) "java/lang/Throwable" "cause" "Ljava/lang/Throwable;"), (Jvm.Cond.lays "java/lang/Throwable" "java/lang/Throwable" "cause" "Ljava/lang/Throwable;"), (Jvm.Cond.fieldLink "java/lang/Throwable" (17 : Nat) "java/lang/Throwable" "stackTrace" "[Ljava/lang/StackTraceElement;"), (Jvm.Cond.lays "java/lang/Throwable" "java/lang/Throwable" "stackTrace" "[Ljava/lang/StackTraceElement;"), (Jvm.Cond.fieldLink "java/lang/Throwable" (24 : Nat) "java/lang/Throwable" "suppressedExceptions" "Ljava/util/List;"), (Jvm.Cond.lays "java/lang/Throwable" "java/lang/Throwable" "suppressedExceptions" "Ljava/util/List;"), (Jvm.Cond.fieldLink "java/lang/Throwable" (13 : Nat) "java/lang/Throwable" "UNASSIGNED_STACK" "[Ljava/lang/StackTraceElement;"), (Jvm.Cond.fieldLink "java/lang/Throwable" (20 : Nat) "java/lang/Throwable" "SUPPRESSED_SENTINEL" "Ljava/util/List;"), (Jvm.Cond.lays "java/lang/Throwable" "java/lang/Throwable" "detailMessage" "Ljava/lang/String;"), (Jvm.Cond.instanceMethod ({ cls := "java/lang/IllegalStateException", name := "<init>", desc := "()V" } : Jvm.MethodName)), (Jvm.Cond.code ({ cls := "java/lang/IllegalStateException", name := "<init>", desc := "()V" } : Jvm.MethodName) prog_25_method_1_code (1 : Nat) (Option.none : Option Jvm.ClassFile.FieldType)), (Jvm.Cond.methodLink "java/lang/IllegalStateException" (1 : Nat) ({ cls := "java/lang/RuntimeException", name := "<init>", desc := "()V" } : Jvm.MethodName)), (Jvm.Cond.instanceMethod ({ cls := "java/lang/RuntimeException", name := "<init>", desc := "()V" } : Jvm.MethodName)), (Jvm.Cond.declares ({ cls := "java/lang/RuntimeException", name := "<init>", desc := "()V" } : Jvm.MethodName)), (Jvm.Cond.instanceMethod ({ cls := "java/lang/RuntimeException", name := "<init>", desc := "()V" } : Jvm.MethodName)), (Jvm.Cond.code ({ cls := "java/lang/RuntimeException", name := "<init>", desc := "()V" } : Jvm.MethodName) prog_31_method_1_code (1 : Nat) (Option.none : Option Jvm.ClassFile.FieldType)), (Jvm.Cond.methodLink "java/lang/RuntimeException" (1 : Nat) ({ cls := "java/lang/Exception", name := "<init>", desc := "()V" } : Jvm.MethodName)), (Jvm.Cond.instanceMethod ({ cls := "java/lang/Exception", name := "<init>", desc := "()V" } : Jvm.MethodName)), (Jvm.Cond.declares ({ cls := "java/lang/Exception", name := "<init>", desc := "()V" } : Jvm.MethodName)), (Jvm.Cond.instanceMethod ({ cls := "java/lang/Exception", name := "<init>", desc := "()V" } : Jvm.MethodName)), (Jvm.Cond.code ({ cls := "java/lang/Exception", name := "<init>", desc := "()V" } : Jvm.MethodName) prog_23_method_1_code (1 : Nat) (Option.none : Option Jvm.ClassFile.FieldType)), (Jvm.Cond.methodLink "java/lang/Exception" (1 : Nat) ({ cls := "java/lang/Throwable", name := "<init>", desc := "()V" } : Jvm.MethodName)), (Jvm.Cond.instanceMethod ({ cls := "java/lang/Throwable", name := "<init>", desc := "()V" } : Jvm.MethodName)), (Jvm.Cond.declares ({ cls := "java/lang/Throwable", name := "<init>", desc := "()V" } : Jvm.MethodName)), (Jvm.Cond.methodLink "Lendlathe" (79 : Nat) ({ cls := "java/lang/IllegalStateException", name := "<init>", desc := "()V" } : Jvm.MethodName)), (Jvm.Cond.instantiable "java/lang/IllegalStateException" (6 : Nat)), (Jvm.Cond.castable "java/lang/IllegalStateException" "java/lang/IllegalStateException"), (Jvm.Cond.selects "java/lang/IllegalStateException" ({ cls := "java/lang/Throwable", name := "fillInStackTrace", desc := "(I)Ljava/lang/Throwable;" } : Jvm.MethodName) ({ cls := "java/lang/Throwable", name := "fillInStackTrace", desc := "(I)Ljava/lang/Throwable;" } : Jvm.MethodName)), (Jvm.Cond.selects "java/lang/IllegalStateException" ({ cls := "java/lang/Throwable", name := "fillInStackTrace", desc := "()Ljava/lang/Throwable;" } : Jvm.MethodName) ({ cls := "java/lang/Throwable", name := "fillInStackTrace", desc := "()Ljava/lang/Throwable;" } : Jvm.MethodName)), (Jvm.Cond.lays "java/lang/IllegalStateException" "java/lang/Throwable" "cause" "Ljava/lang/Throwable;"), (Jvm.Cond.lays "java/lang/IllegalStateException" "java/lang/Throwable" "stackTrace" "[Ljava/lang/StackTraceElement;"), (Jvm.Cond.lays "java/lang/IllegalStateException" "java/lang/Throwable" "suppressedExceptions" "Ljava/util/List;"), (Jvm.Cond.lays "java/lang/IllegalStateException" "java/lang/Throwable" "detailMessage" "Ljava/lang/String;"), (Jvm.Cond.fieldLink "java/lang/Throwable" (198 : Nat) "java/lang/Throwable" "backtrace" "Ljava/lang/Object;"), (Jvm.Cond.lays "java/lang/Throwable" "java/lang/Throwable" "backtrace" "Ljava/lang/Object;"), (Jvm.Cond.lays "java/lang/IllegalStateException" "java/lang/Throwable" "backtrace" "Ljava/lang/Object;")] := by decide +kernel
theorem xe_t2 : ∀ w ∈ vx_at0 "Lendlathe" 79 (xExn 2) xRE, w ∈ lw_tbl := by
  rw [xe_l2]
  intro w hw
  simp only [List.mem_cons, List.not_mem_nil, or_false] at hw
  rcases hw with rfl | rfl | rfl | rfl | rfl | rfl | rfl | rfl | rfl | rfl | rfl | rfl | rfl | rfl | rfl | rfl | rfl | rfl | rfl | rfl | rfl | rfl | rfl | rfl | rfl | rfl | rfl | rfl | rfl | rfl | rfl | rfl | rfl | rfl | rfl | rfl | rfl | rfl | rfl | rfl | rfl | rfl | rfl | rfl | rfl | rfl | rfl | rfl | rfl
  · exact (List.mem_filter.mp q61).1
  · exact (List.mem_filter.mp q151).1
  · exact (List.mem_filter.mp q160).1
  · exact (List.mem_filter.mp q168).1
  · exact (List.mem_filter.mp q171).1
  · exact (List.mem_filter.mp q173).1
  · exact (List.mem_filter.mp q152).1
  · exact (List.mem_filter.mp q153).1
  · exact (List.mem_filter.mp q98).1
  · exact (List.mem_filter.mp q99).1
  · exact (List.mem_filter.mp q154).1
  · exact (List.mem_filter.mp q159).1
  · exact (List.mem_filter.mp q169).1
  · exact (List.mem_filter.mp q409).1
  · exact (List.mem_filter.mp q141).1
  · exact (List.mem_filter.mp q410).1
  · exact (List.mem_filter.mp q143).1
  · exact (List.mem_filter.mp q411).1
  · exact (List.mem_filter.mp q145).1
  · exact (List.mem_filter.mp q155).1
  · exact (List.mem_filter.mp q157).1
  · exact (List.mem_filter.mp q147).1
  · exact (List.mem_filter.mp q782).1
  · exact (List.mem_filter.mp q783).1
  · exact (List.mem_filter.mp q784).1
  · exact (List.mem_filter.mp q583).1
  · exact q132
  · exact (List.mem_filter.mp q583).1
  · exact (List.mem_filter.mp q584).1
  · exact (List.mem_filter.mp q585).1
  · exact (List.mem_filter.mp q586).1
  · exact q134
  · exact (List.mem_filter.mp q586).1
  · exact (List.mem_filter.mp q587).1
  · exact (List.mem_filter.mp q588).1
  · exact (List.mem_filter.mp q152).1
  · exact q136
  · exact (List.mem_filter.mp q781).1
  · exact (List.mem_filter.mp q773).1
  · exact q774
  · exact (List.mem_filter.mp q775).1
  · exact (List.mem_filter.mp q164).1
  · exact (List.mem_filter.mp q776).1
  · exact (List.mem_filter.mp q777).1
  · exact (List.mem_filter.mp q778).1
  · exact (List.mem_filter.mp q779).1
  · exact (List.mem_filter.mp q407).1
  · exact (List.mem_filter.mp q149).1
  · exact (List.mem_filter.mp q780).1
theorem xe_b2 : ∀ w ∈ (vx_at0 "Lendlathe" 79 (xExn 2) xRE).filter (fun w => !goodWord w), w ∈ [(Jvm.Cond.declares ({ cls := "java/lang/RuntimeException", name := "<init>", desc := "()V" } : Jvm.MethodName)), (Jvm.Cond.declares ({ cls := "java/lang/Exception", name := "<init>", desc := "()V" } : Jvm.MethodName)), (Jvm.Cond.declares ({ cls := "java/lang/Throwable", name := "<init>", desc := "()V" } : Jvm.MethodName)), (Jvm.Cond.castable "java/lang/IllegalStateException" "java/lang/IllegalStateException")] := by rw [xe_l2]; decide +kernel
theorem xe_g2 : ∀ w ∈ Cond.classLink "Lendlathe" 77 (xExn 2) :: Cond.initialized (xExn 2) :: vx_at0 "Lendlathe" 79 (xExn 2) xRE, vx_ot w = true := by rw [xe_l2]; decide +kernel
theorem xe_l3 : vx_at0 "Lendlathe" 82 (xExn 3) xRE = [(Jvm.Cond.initialized "java/lang/Throwable"), (Jvm.Cond.superclass "java/lang/Throwable" "java/lang/Object"), (Jvm.Cond.instanceMethod ({ cls := "java/lang/Throwable", name := "fillInStackTrace", desc := "()Ljava/lang/Throwable;" } : Jvm.MethodName)), (Jvm.Cond.codeSync ({ cls := "java/lang/Throwable", name := "fillInStackTrace", desc := "()Ljava/lang/Throwable;" } : Jvm.MethodName) prog_37_method_18_code (1 : Nat) (Option.some (Jvm.ClassFile.FieldType.object "java/lang/Throwable"))), (Jvm.Cond.instanceMethod ({ cls := "java/lang/Throwable", name := "fillInStackTrace", desc := "(I)Ljava/lang/Throwable;" } : Jvm.MethodName)), (Jvm.Cond.native ({ cls := "java/lang/Throwable", name := "fillInStackTrace", desc := "(I)Ljava/lang/Throwable;" } : Jvm.MethodName)), (Jvm.Cond.instanceMethod ({ cls := "java/lang/Throwable", name := "<init>", desc := "()V" } : Jvm.MethodName)), (Jvm.Cond.code ({ cls := "java/lang/Throwable", name := "<init>", desc := "()V" } : Jvm.MethodName) prog_37_method_1_code (1 : Nat) (Option.none : Option Jvm.ClassFile.FieldType)), (Jvm.Cond.instanceMethod ({ cls := "java/lang/Object", name := "<init>", desc := "()V" } : Jvm.MethodName)), (Jvm.Cond.code ({ cls := "java/lang/Object", name := "<init>", desc := "()V" } : Jvm.MethodName) object_method_1_code (1 : Nat) (Option.none : Option Jvm.ClassFile.FieldType)), (Jvm.Cond.methodLink "java/lang/Throwable" (1 : Nat) ({ cls := "java/lang/Object", name := "<init>", desc := "()V" } : Jvm.MethodName)), (Jvm.Cond.methodLink "java/lang/Throwable" (27 : Nat) ({ cls := "java/lang/Throwable", name := "fillInStackTrace", desc := "()Ljava/lang/Throwable;" } : Jvm.MethodName)), (Jvm.Cond.methodLink "java/lang/Throwable" (202 : Nat) ({ cls := "java/lang/Throwable", name := "fillInStackTrace", desc := "(I)Ljava/lang/Throwable;" } : Jvm.MethodName)), (Jvm.Cond.fieldLink "java/lang/Throwable" (7 : Nat) "java/lang/Throwable" "cause" "Ljava/lang/Throwable;"), (Jvm.Cond.lays "java/lang/Throwable" "java/lang/Throwable" "cause" "Ljava/lang/Throwable;"), (Jvm.Cond.fieldLink "java/lang/Throwable" (17 : Nat) "java/lang/Throwable" "stackTrace" "[Ljava/lang/StackTraceElement;"), (Jvm.Cond.lays "java/lang/Throwable" "java/lang/Throwable" "stackTrace" "[Ljava/lang/StackTraceElement;"), (Jvm.Cond.fieldLink "java/lang/Throwable" (24 : Nat) "java/lang/Throwable" "suppressedExceptions" "Ljava/util/List;"), (Jvm.Cond.lays "java/lang/Throwable" "java/lang/Throwable" "suppressedExceptions" "Ljava/util/List;"), (Jvm.Cond.fieldLink "java/lang/Throwable" (13 : Nat) "java/lang/Throwable" "UNASSIGNED_STACK" "[Ljava/lang/StackTraceElement;"), (Jvm.Cond.fieldLink "java/lang/Throwable" (20 : Nat) "java/lang/Throwable" "SUPPRESSED_SENTINEL" "Ljava/util/List;"), (Jvm.Cond.lays "java/lang/Throwable" "java/lang/Throwable" "detailMessage" "Ljava/lang/String;"), (Jvm.Cond.instanceMethod ({ cls := "java/util/NoSuchElementException", name := "<init>", desc := "()V" } : Jvm.MethodName)), (Jvm.Cond.code ({ cls := "java/util/NoSuchElementException", name := "<init>", desc := "()V" } : Jvm.MethodName) prog_48_method_1_code (1 : Nat) (Option.none : Option Jvm.ClassFile.FieldType)), (Jvm.Cond.methodLink "java/util/NoSuchElementException" (1 : Nat) ({ cls := "java/lang/RuntimeException", name := "<init>", desc := "()V" } : Jvm.MethodName)), (Jvm.Cond.instanceMethod ({ cls := "java/lang/RuntimeException", name := "<init>", desc := "()V" } : Jvm.MethodName)), (Jvm.Cond.declares ({ cls := "java/lang/RuntimeException", name := "<init>", desc := "()V" } : Jvm.MethodName)), (Jvm.Cond.instanceMethod ({ cls := "java/lang/RuntimeException", name := "<init>", desc := "()V" } : Jvm.MethodName)), (Jvm.Cond.code ({ cls := "java/lang/RuntimeException", name := "<init>", desc := "()V" } : Jvm.MethodName) prog_31_method_1_code (1 : Nat) (Option.none : Option Jvm.ClassFile.FieldType)), (Jvm.Cond.methodLink "java/lang/RuntimeException" (1 : Nat) ({ cls := "java/lang/Exception", name := "<init>", desc := "()V" } : Jvm.MethodName)), (Jvm.Cond.instanceMethod ({ cls := "java/lang/Exception", name := "<init>", desc := "()V" } : Jvm.MethodName)), (Jvm.Cond.declares ({ cls := "java/lang/Exception", name := "<init>", desc := "()V" } : Jvm.MethodName)), (Jvm.Cond.instanceMethod ({ cls := "java/lang/Exception", name := "<init>", desc := "()V" } : Jvm.MethodName)), (Jvm.Cond.code ({ cls := "java/lang/Exception", name := "<init>", desc := "()V" } : Jvm.MethodName) prog_23_method_1_code (1 : Nat) (Option.none : Option Jvm.ClassFile.FieldType)), (Jvm.Cond.methodLink "java/lang/Exception" (1 : Nat) ({ cls := "java/lang/Throwable", name := "<init>", desc := "()V" } : Jvm.MethodName)), (Jvm.Cond.instanceMethod ({ cls := "java/lang/Throwable", name := "<init>", desc := "()V" } : Jvm.MethodName)), (Jvm.Cond.declares ({ cls := "java/lang/Throwable", name := "<init>", desc := "()V" } : Jvm.MethodName)), (Jvm.Cond.methodLink "Lendlathe" (82 : Nat) ({ cls := "java/util/NoSuchElementException", name := "<init>", desc := "()V" } : Jvm.MethodName)), (Jvm.Cond.instantiable "java/util/NoSuchElementException" (6 : Nat)), (Jvm.Cond.castable "java/util/NoSuchElementException" "java/util/NoSuchElementException"), (Jvm.Cond.selects "java/util/NoSuchElementException" ({ cls := "java/lang/Throwable", name := "fillInStackTrace", desc := "(I)Ljava/lang/Throwable;" } : Jvm.MethodName) ({ cls := "java/lang/Throwable", name := "fillInStackTrace", desc := "(I)Ljava/lang/Throwable;" } : Jvm.MethodName)), (Jvm.Cond.selects "java/util/NoSuchElementException" ({ cls := "java/lang/Throwable", name := "fillInStackTrace", desc := "()Ljava/lang/Throwable;" } : Jvm.MethodName) ({ cls := "java/lang/Throwable", name := "fillInStackTrace", desc := "()Ljava/lang/Throwable;" } : Jvm.MethodName)), (Jvm.Cond.lays "java/util/NoSuchElementException" "java/lang/Throwable" "cause" "Ljava/lang/Throwable;"), (Jvm.Cond.lays "java/util/NoSuchElementException" "java/lang/Throwable" "stackTrace" "[Ljava/lang/StackTraceElement;"), (Jvm.Cond.lays "java/util/NoSuchElementException" "java/lang/Throwable" "suppressedExceptions" "Ljava/util/List;"), (Jvm.Cond.lays "java/util/NoSuchElementException" "java/lang/Throwable" "detailMessage" "Ljava/lang/String;"), (Jvm.Cond.fieldLink "java/lang/Throwable" (198 : Nat) "java/lang/Throwable" "backtrace" "Ljava/lang/Object;"), (Jvm.Cond.lays "java/lang/Throwable" "java/lang/Throwable" "backtrace" "Ljava/lang/Object;"), (Jvm.Cond.lays "java/util/NoSuchElementException" "java/lang/Throwable" "backtrace" "Ljava/lang/Object;")] := by decide +kernel
theorem xe_t3 : ∀ w ∈ vx_at0 "Lendlathe" 82 (xExn 3) xRE, w ∈ lw_tbl := by
  rw [xe_l3]
  intro w hw
  simp only [List.mem_cons, List.not_mem_nil, or_false] at hw
  rcases hw with rfl | rfl | rfl | rfl | rfl | rfl | rfl | rfl | rfl | rfl | rfl | rfl | rfl | rfl | rfl | rfl | rfl | rfl | rfl | rfl | rfl | rfl | rfl | rfl | rfl | rfl | rfl | rfl | rfl | rfl | rfl | rfl | rfl | rfl | rfl | rfl | rfl | rfl | rfl | rfl | rfl | rfl | rfl | rfl | rfl | rfl | rfl | rfl | rfl
  · exact (List.mem_filter.mp q61).1
  · exact (List.mem_filter.mp q151).1
  · exact (List.mem_filter.mp q160).1
  · exact (List.mem_filter.mp q168).1
  · exact (List.mem_filter.mp q171).1
  · exact (List.mem_filter.mp q173).1
  · exact (List.mem_filter.mp q152).1
  · exact (List.mem_filter.mp q153).1
  · exact (List.mem_filter.mp q98).1
  · exact (List.mem_filter.mp q99).1
  · exact (List.mem_filter.mp q154).1
  · exact (List.mem_filter.mp q159).1
  · exact (List.mem_filter.mp q169).1
  · exact (List.mem_filter.mp q409).1
  · exact (List.mem_filter.mp q141).1
  · exact (List.mem_filter.mp q410).1
  · exact (List.mem_filter.mp q143).1
  · exact (List.mem_filter.mp q411).1
  · exact (List.mem_filter.mp q145).1
  · exact (List.mem_filter.mp q155).1
  · exact (List.mem_filter.mp q157).1
  · exact (List.mem_filter.mp q147).1
  · exact (List.mem_filter.mp q580).1
  · exact (List.mem_filter.mp q581).1
  · exact (List.mem_filter.mp q582).1
  · exact (List.mem_filter.mp q583).1
  · exact q132
  · exact (List.mem_filter.mp q583).1
  · exact (List.mem_filter.mp q584).1
  · exact (List.mem_filter.mp q585).1
  · exact (List.mem_filter.mp q586).1
  · exact q134
  · exact (List.mem_filter.mp q586).1
  · exact (List.mem_filter.mp q587).1
  · exact (List.mem_filter.mp q588).1
  · exact (List.mem_filter.mp q152).1
  · exact q136
  · exact (List.mem_filter.mp q1021).1
  · exact (List.mem_filter.mp q571).1
  · exact q572
  · exact (List.mem_filter.mp q573).1
  · exact (List.mem_filter.mp q167).1
  · exact (List.mem_filter.mp q574).1
  · exact (List.mem_filter.mp q575).1
  · exact (List.mem_filter.mp q576).1
  · exact (List.mem_filter.mp q577).1
  · exact (List.mem_filter.mp q407).1
  · exact (List.mem_filter.mp q149).1
  · exact (List.mem_filter.mp q578).1
theorem xe_b3 : ∀ w ∈ (vx_at0 "Lendlathe" 82 (xExn 3) xRE).filter (fun w => !goodWord w), w ∈ [(Jvm.Cond.declares ({ cls := "java/lang/RuntimeException", name := "<init>", desc := "()V" } : Jvm.MethodName)), (Jvm.Cond.declares ({ cls := "java/lang/Exception", name := "<init>", desc := "()V" } : Jvm.MethodName)), (Jvm.Cond.declares ({ cls := "java/lang/Throwable", name := "<init>", desc := "()V" } : Jvm.MethodName)), (Jvm.Cond.castable "java/util/NoSuchElementException" "java/util/NoSuchElementException")] := by rw [xe_l3]; decide +kernel
theorem xe_g3 : ∀ w ∈ Cond.classLink "Lendlathe" 80 (xExn 3) :: Cond.initialized (xExn 3) :: vx_at0 "Lendlathe" 82 (xExn 3) xRE, vx_ot w = true := by rw [xe_l3]; decide +kernel
theorem xe_l4 : vx_at0 "Lendlathe" 85 (xExn 4) xRE = [(Jvm.Cond.initialized "java/lang/Throwable"), (Jvm.Cond.superclass "java/lang/Throwable" "java/lang/Object"), (Jvm.Cond.instanceMethod ({ cls := "java/lang/Throwable", name := "fillInStackTrace", desc := "()Ljava/lang/Throwable;" } : Jvm.MethodName)), (Jvm.Cond.codeSync ({ cls := "java/lang/Throwable", name := "fillInStackTrace", desc := "()Ljava/lang/Throwable;" } : Jvm.MethodName) prog_37_method_18_code (1 : Nat) (Option.some (Jvm.ClassFile.FieldType.object "java/lang/Throwable"))), (Jvm.Cond.instanceMethod ({ cls := "java/lang/Throwable", name := "fillInStackTrace", desc := "(I)Ljava/lang/Throwable;" } : Jvm.MethodName)), (Jvm.Cond.native ({ cls := "java/lang/Throwable", name := "fillInStackTrace", desc := "(I)Ljava/lang/Throwable;" } : Jvm.MethodName)), (Jvm.Cond.instanceMethod ({ cls := "java/lang/Throwable", name := "<init>", desc := "()V" } : Jvm.MethodName)), (Jvm.Cond.code ({ cls := "java/lang/Throwable", name := "<init>", desc := "()V" } : Jvm.MethodName) prog_37_method_1_code (1 : Nat) (Option.none : Option Jvm.ClassFile.FieldType)), (Jvm.Cond.instanceMethod ({ cls := "java/lang/Object", name := "<init>", desc := "()V" } : Jvm.MethodName)), (Jvm.Cond.code ({ cls := "java/lang/Object", name := "<init>", desc := "()V" } : Jvm.MethodName) object_method_1_code (1 : Nat) (Option.none : Option Jvm.ClassFile.FieldType)), (Jvm.Cond.methodLink "java/lang/Throwable" (1 : Nat) ({ cls := "java/lang/Object", name := "<init>", desc := "()V" } : Jvm.MethodName)), (Jvm.Cond.methodLink "java/lang/Throwable" (27 : Nat) ({ cls := "java/lang/Throwable", name := "fillInStackTrace", desc := "()Ljava/lang/Throwable;" } : Jvm.MethodName)), (Jvm.Cond.methodLink "java/lang/Throwable" (202 : Nat) ({ cls := "java/lang/Throwable", name := "fillInStackTrace", desc := "(I)Ljava/lang/Throwable;" } : Jvm.MethodName)), (Jvm.Cond.fieldLink "java/lang/Throwable" (7 : Nat) "java/lang/Throwable" "cause" "Ljava/lang/Throwable;"), (Jvm.Cond.lays "java/lang/Throwable" "java/lang/Throwable" "cause" "Ljava/lang/Throwable;"), (Jvm.Cond.fieldLink "java/lang/Throwable" (17 : Nat) "java/lang/Throwable" "stackTrace" "[Ljava/lang/StackTraceElement;"), (Jvm.Cond.lays "java/lang/Throwable" "java/lang/Throwable" "stackTrace" "[Ljava/lang/StackTraceElement;"), (Jvm.Cond.fieldLink "java/lang/Throwable" (24 : Nat) "java/lang/Throwable" "suppressedExceptions" "Ljava/util/List;"), (Jvm.Cond.lays "java/lang/Throwable" "java/lang/Throwable" "suppressedExceptions" "Ljava/util/List;"), (Jvm.Cond.fieldLink "java/lang/Throwable" (13 : Nat) "java/lang/Throwable" "UNASSIGNED_STACK" "[Ljava/lang/StackTraceElement;"), (Jvm.Cond.fieldLink "java/lang/Throwable" (20 : Nat) "java/lang/Throwable" "SUPPRESSED_SENTINEL" "Ljava/util/List;"), (Jvm.Cond.lays "java/lang/Throwable" "java/lang/Throwable" "detailMessage" "Ljava/lang/String;"), (Jvm.Cond.instanceMethod ({ cls := "java/lang/IndexOutOfBoundsException", name := "<init>", desc := "()V" } : Jvm.MethodName)), (Jvm.Cond.code ({ cls := "java/lang/IndexOutOfBoundsException", name := "<init>", desc := "()V" } : Jvm.MethodName) prog_26_method_1_code (1 : Nat) (Option.none : Option Jvm.ClassFile.FieldType)), (Jvm.Cond.methodLink "java/lang/IndexOutOfBoundsException" (1 : Nat) ({ cls := "java/lang/RuntimeException", name := "<init>", desc := "()V" } : Jvm.MethodName)), (Jvm.Cond.instanceMethod ({ cls := "java/lang/RuntimeException", name := "<init>", desc := "()V" } : Jvm.MethodName)), (Jvm.Cond.declares ({ cls := "java/lang/RuntimeException", name := "<init>", desc := "()V" } : Jvm.MethodName)), (Jvm.Cond.instanceMethod ({ cls := "java/lang/RuntimeException", name := "<init>", desc := "()V" } : Jvm.MethodName)), (Jvm.Cond.code ({ cls := "java/lang/RuntimeException", name := "<init>", desc := "()V" } : Jvm.MethodName) prog_31_method_1_code (1 : Nat) (Option.none : Option Jvm.ClassFile.FieldType)), (Jvm.Cond.methodLink "java/lang/RuntimeException" (1 : Nat) ({ cls := "java/lang/Exception", name := "<init>", desc := "()V" } : Jvm.MethodName)), (Jvm.Cond.instanceMethod ({ cls := "java/lang/Exception", name := "<init>", desc := "()V" } : Jvm.MethodName)), (Jvm.Cond.declares ({ cls := "java/lang/Exception", name := "<init>", desc := "()V" } : Jvm.MethodName)), (Jvm.Cond.instanceMethod ({ cls := "java/lang/Exception", name := "<init>", desc := "()V" } : Jvm.MethodName)), (Jvm.Cond.code ({ cls := "java/lang/Exception", name := "<init>", desc := "()V" } : Jvm.MethodName) prog_23_method_1_code (1 : Nat) (Option.none : Option Jvm.ClassFile.FieldType)), (Jvm.Cond.methodLink "java/lang/Exception" (1 : Nat) ({ cls := "java/lang/Throwable", name := "<init>", desc := "()V" } : Jvm.MethodName)), (Jvm.Cond.instanceMethod ({ cls := "java/lang/Throwable", name := "<init>", desc := "()V" } : Jvm.MethodName)), (Jvm.Cond.declares ({ cls := "java/lang/Throwable", name := "<init>", desc := "()V" } : Jvm.MethodName)), (Jvm.Cond.methodLink "Lendlathe" (85 : Nat) ({ cls := "java/lang/IndexOutOfBoundsException", name := "<init>", desc := "()V" } : Jvm.MethodName)), (Jvm.Cond.instantiable "java/lang/IndexOutOfBoundsException" (6 : Nat)), (Jvm.Cond.castable "java/lang/IndexOutOfBoundsException" "java/lang/IndexOutOfBoundsException"), (Jvm.Cond.selects "java/lang/IndexOutOfBoundsException" ({ cls := "java/lang/Throwable", name := "fillInStackTrace", desc := "(I)Ljava/lang/Throwable;" } : Jvm.MethodName) ({ cls := "java/lang/Throwable", name := "fillInStackTrace", desc := "(I)Ljava/lang/Throwable;" } : Jvm.MethodName)), (Jvm.Cond.selects "java/lang/IndexOutOfBoundsException" ({ cls := "java/lang/Throwable", name := "fillInStackTrace", desc := "()Ljava/lang/Throwable;" } : Jvm.MethodName) ({ cls := "java/lang/Throwable", name := "fillInStackTrace", desc := "()Ljava/lang/Throwable;" } : Jvm.MethodName)), (Jvm.Cond.lays "java/lang/IndexOutOfBoundsException" "java/lang/Throwable" "cause" "Ljava/lang/Throwable;"), (Jvm.Cond.lays "java/lang/IndexOutOfBoundsException" "java/lang/Throwable" "stackTrace" "[Ljava/lang/StackTraceElement;"), (Jvm.Cond.lays "java/lang/IndexOutOfBoundsException" "java/lang/Throwable" "suppressedExceptions" "Ljava/util/List;"), (Jvm.Cond.lays "java/lang/IndexOutOfBoundsException" "java/lang/Throwable" "detailMessage" "Ljava/lang/String;"), (Jvm.Cond.fieldLink "java/lang/Throwable" (198 : Nat) "java/lang/Throwable" "backtrace" "Ljava/lang/Object;"), (Jvm.Cond.lays "java/lang/Throwable" "java/lang/Throwable" "backtrace" "Ljava/lang/Object;"), (Jvm.Cond.lays "java/lang/IndexOutOfBoundsException" "java/lang/Throwable" "backtrace" "Ljava/lang/Object;")] := by decide +kernel
theorem xe_t4 : ∀ w ∈ vx_at0 "Lendlathe" 85 (xExn 4) xRE, w ∈ lw_tbl := by
  rw [xe_l4]
  intro w hw
  simp only [List.mem_cons, List.not_mem_nil, or_false] at hw
  rcases hw with rfl | rfl | rfl | rfl | rfl | rfl | rfl | rfl | rfl | rfl | rfl | rfl | rfl | rfl | rfl | rfl | rfl | rfl | rfl | rfl | rfl | rfl | rfl | rfl | rfl | rfl | rfl | rfl | rfl | rfl | rfl | rfl | rfl | rfl | rfl | rfl | rfl | rfl | rfl | rfl | rfl | rfl | rfl | rfl | rfl | rfl | rfl | rfl | rfl
  · exact (List.mem_filter.mp q61).1
  · exact (List.mem_filter.mp q151).1
  · exact (List.mem_filter.mp q160).1
  · exact (List.mem_filter.mp q168).1
  · exact (List.mem_filter.mp q171).1
  · exact (List.mem_filter.mp q173).1
  · exact (List.mem_filter.mp q152).1
  · exact (List.mem_filter.mp q153).1
  · exact (List.mem_filter.mp q98).1
  · exact (List.mem_filter.mp q99).1
  · exact (List.mem_filter.mp q154).1
  · exact (List.mem_filter.mp q159).1
  · exact (List.mem_filter.mp q169).1
  · exact (List.mem_filter.mp q409).1
  · exact (List.mem_filter.mp q141).1
  · exact (List.mem_filter.mp q410).1
  · exact (List.mem_filter.mp q143).1
  · exact (List.mem_filter.mp q411).1
  · exact (List.mem_filter.mp q145).1
  · exact (List.mem_filter.mp q155).1
  · exact (List.mem_filter.mp q157).1
  · exact (List.mem_filter.mp q147).1
  · exact (List.mem_filter.mp q950).1
  · exact (List.mem_filter.mp q951).1
  · exact (List.mem_filter.mp q952).1
  · exact (List.mem_filter.mp q583).1
  · exact q132
  · exact (List.mem_filter.mp q583).1
  · exact (List.mem_filter.mp q584).1
  · exact (List.mem_filter.mp q585).1
  · exact (List.mem_filter.mp q586).1
  · exact q134
  · exact (List.mem_filter.mp q586).1
  · exact (List.mem_filter.mp q587).1
  · exact (List.mem_filter.mp q588).1
  · exact (List.mem_filter.mp q152).1
  · exact q136
  · exact (List.mem_filter.mp q949).1
  · exact (List.mem_filter.mp q941).1
  · exact q942
  · exact (List.mem_filter.mp q943).1
  · exact (List.mem_filter.mp q165).1
  · exact (List.mem_filter.mp q944).1
  · exact (List.mem_filter.mp q945).1
  · exact (List.mem_filter.mp q946).1
  · exact (List.mem_filter.mp q947).1
  · exact (List.mem_filter.mp q407).1
  · exact (List.mem_filter.mp q149).1
  · exact (List.mem_filter.mp q948).1
theorem xe_b4 : ∀ w ∈ (vx_at0 "Lendlathe" 85 (xExn 4) xRE).filter (fun w => !goodWord w), w ∈ [(Jvm.Cond.declares ({ cls := "java/lang/RuntimeException", name := "<init>", desc := "()V" } : Jvm.MethodName)), (Jvm.Cond.declares ({ cls := "java/lang/Exception", name := "<init>", desc := "()V" } : Jvm.MethodName)), (Jvm.Cond.declares ({ cls := "java/lang/Throwable", name := "<init>", desc := "()V" } : Jvm.MethodName)), (Jvm.Cond.castable "java/lang/IndexOutOfBoundsException" "java/lang/IndexOutOfBoundsException")] := by rw [xe_l4]; decide +kernel
theorem xe_g4 : ∀ w ∈ Cond.classLink "Lendlathe" 83 (xExn 4) :: Cond.initialized (xExn 4) :: vx_at0 "Lendlathe" 85 (xExn 4) xRE, vx_ot w = true := by rw [xe_l4]; decide +kernel
theorem xe_l5 : vx_at0 "Lendlathe" 243 (xExn 5) xRE = [(Jvm.Cond.initialized "java/lang/Throwable"), (Jvm.Cond.superclass "java/lang/Throwable" "java/lang/Object"), (Jvm.Cond.instanceMethod ({ cls := "java/lang/Throwable", name := "fillInStackTrace", desc := "()Ljava/lang/Throwable;" } : Jvm.MethodName)), (Jvm.Cond.codeSync ({ cls := "java/lang/Throwable", name := "fillInStackTrace", desc := "()Ljava/lang/Throwable;" } : Jvm.MethodName) prog_37_method_18_code (1 : Nat) (Option.some (Jvm.ClassFile.FieldType.object "java/lang/Throwable"))), (Jvm.Cond.instanceMethod ({ cls := "java/lang/Throwable", name := "fillInStackTrace", desc := "(I)Ljava/lang/Throwable;" } : Jvm.MethodName)), (Jvm.Cond.native ({ cls := "java/lang/Throwable", name := "fillInStackTrace", desc := "(I)Ljava/lang/Throwable;" } : Jvm.MethodName)), (Jvm.Cond.instanceMethod ({ cls := "java/lang/Throwable", name := "<init>", desc := "()V" } : Jvm.MethodName)), (Jvm.Cond.code ({ cls := "java/lang/Throwable", name := "<init>", desc := "()V" } : Jvm.MethodName) prog_37_method_1_code (1 : Nat) (Option.none : Option Jvm.ClassFile.FieldType)), (Jvm.Cond.instanceMethod ({ cls := "java/lang/Object", name := "<init>", desc := "()V" } : Jvm.MethodName)), (Jvm.Cond.code ({ cls := "java/lang/Object", name := "<init>", desc := "()V" } : Jvm.MethodName) object_method_1_code (1 : Nat) (Option.none : Option Jvm.ClassFile.FieldType)), (Jvm.Cond.methodLink "java/lang/Throwable" (1 : Nat) ({ cls := "java/lang/Object", name := "<init>", desc := "()V" } : Jvm.MethodName)), (Jvm.Cond.methodLink "java/lang/Throwable" (27 : Nat) ({ cls := "java/lang/Throwable", name := "fillInStackTrace", desc := "()Ljava/lang/Throwable;" } : Jvm.MethodName)), (Jvm.Cond.methodLink "java/lang/Throwable" (202 : Nat) ({ cls := "java/lang/Throwable", name := "fillInStackTrace", desc := "(I)Ljava/lang/Throwable;" } : Jvm.MethodName)), (Jvm.Cond.fieldLink "java/lang/Throwable" (7 : Nat) "java/lang/Throwable" "cause" "Ljava/lang/Throwable;"), (Jvm.Cond.lays "java/lang/Throwable" "java/lang/Throwable" "cause" "Ljava/lang/Throwable;"), (Jvm.Cond.fieldLink "java/lang/Throwable" (17 : Nat) "java/lang/Throwable" "stackTrace" "[Ljava/lang/StackTraceElement;"), (Jvm.Cond.lays "java/lang/Throwable" "java/lang/Throwable" "stackTrace" "[Ljava/lang/StackTraceElement;"), (Jvm.Cond.fieldLink "java/lang/Throwable" (24 : Nat) "java/lang/Throwable" "suppressedExceptions" "Ljava/util/List;"), (Jvm.Cond.lays "java/lang/Throwable" "java/lang/Throwable" "suppressedExceptions" "Ljava/util/List;"), (Jvm.Cond.fieldLink "java/lang/Throwable" (13 : Nat) "java/lang/Throwable" "UNASSIGNED_STACK" "[Ljava/lang/StackTraceElement;"), (Jvm.Cond.fieldLink "java/lang/Throwable" (20 : Nat) "java/lang/Throwable" "SUPPRESSED_SENTINEL" "Ljava/util/List;"), (Jvm.Cond.lays "java/lang/Throwable" "java/lang/Throwable" "detailMessage" "Ljava/lang/String;"), (Jvm.Cond.instanceMethod ({ cls := "java/lang/UnsupportedOperationException", name := "<init>", desc := "()V" } : Jvm.MethodName)), (Jvm.Cond.code ({ cls := "java/lang/UnsupportedOperationException", name := "<init>", desc := "()V" } : Jvm.MethodName) prog_38_method_1_code (1 : Nat) (Option.none : Option Jvm.ClassFile.FieldType)), (Jvm.Cond.methodLink "java/lang/UnsupportedOperationException" (1 : Nat) ({ cls := "java/lang/RuntimeException", name := "<init>", desc := "()V" } : Jvm.MethodName)), (Jvm.Cond.instanceMethod ({ cls := "java/lang/RuntimeException", name := "<init>", desc := "()V" } : Jvm.MethodName)), (Jvm.Cond.declares ({ cls := "java/lang/RuntimeException", name := "<init>", desc := "()V" } : Jvm.MethodName)), (Jvm.Cond.instanceMethod ({ cls := "java/lang/RuntimeException", name := "<init>", desc := "()V" } : Jvm.MethodName)), (Jvm.Cond.code ({ cls := "java/lang/RuntimeException", name := "<init>", desc := "()V" } : Jvm.MethodName) prog_31_method_1_code (1 : Nat) (Option.none : Option Jvm.ClassFile.FieldType)), (Jvm.Cond.methodLink "java/lang/RuntimeException" (1 : Nat) ({ cls := "java/lang/Exception", name := "<init>", desc := "()V" } : Jvm.MethodName)), (Jvm.Cond.instanceMethod ({ cls := "java/lang/Exception", name := "<init>", desc := "()V" } : Jvm.MethodName)), (Jvm.Cond.declares ({ cls := "java/lang/Exception", name := "<init>", desc := "()V" } : Jvm.MethodName)), (Jvm.Cond.instanceMethod ({ cls := "java/lang/Exception", name := "<init>", desc := "()V" } : Jvm.MethodName)), (Jvm.Cond.code ({ cls := "java/lang/Exception", name := "<init>", desc := "()V" } : Jvm.MethodName) prog_23_method_1_code (1 : Nat) (Option.none : Option Jvm.ClassFile.FieldType)), (Jvm.Cond.methodLink "java/lang/Exception" (1 : Nat) ({ cls := "java/lang/Throwable", name := "<init>", desc := "()V" } : Jvm.MethodName)), (Jvm.Cond.instanceMethod ({ cls := "java/lang/Throwable", name := "<init>", desc := "()V" } : Jvm.MethodName)), (Jvm.Cond.declares ({ cls := "java/lang/Throwable", name := "<init>", desc := "()V" } : Jvm.MethodName)), (Jvm.Cond.methodLink "Lendlathe" (243 : Nat) ({ cls := "java/lang/UnsupportedOperationException", name := "<init>", desc := "()V" } : Jvm.MethodName)), (Jvm.Cond.instantiable "java/lang/UnsupportedOperationException" (6 : Nat)), (Jvm.Cond.castable "java/lang/UnsupportedOperationException" "java/lang/UnsupportedOperationException"), (Jvm.Cond.selects "java/lang/UnsupportedOperationException" ({ cls := "java/lang/Throwable", name := "fillInStackTrace", desc := "(I)Ljava/lang/Throwable;" } : Jvm.MethodName) ({ cls := "java/lang/Throwable", name := "fillInStackTrace", desc := "(I)Ljava/lang/Throwable;" } : Jvm.MethodName)), (Jvm.Cond.selects "java/lang/UnsupportedOperationException" ({ cls := "java/lang/Throwable", name := "fillInStackTrace", desc := "()Ljava/lang/Throwable;" } : Jvm.MethodName) ({ cls := "java/lang/Throwable", name := "fillInStackTrace", desc := "()Ljava/lang/Throwable;" } : Jvm.MethodName)), (Jvm.Cond.lays "java/lang/UnsupportedOperationException" "java/lang/Throwable" "cause" "Ljava/lang/Throwable;"), (Jvm.Cond.lays "java/lang/UnsupportedOperationException" "java/lang/Throwable" "stackTrace" "[Ljava/lang/StackTraceElement;"), (Jvm.Cond.lays "java/lang/UnsupportedOperationException" "java/lang/Throwable" "suppressedExceptions" "Ljava/util/List;"), (Jvm.Cond.lays "java/lang/UnsupportedOperationException" "java/lang/Throwable" "detailMessage" "Ljava/lang/String;"), (Jvm.Cond.fieldLink "java/lang/Throwable" (198 : Nat) "java/lang/Throwable" "backtrace" "Ljava/lang/Object;"), (Jvm.Cond.lays "java/lang/Throwable" "java/lang/Throwable" "backtrace" "Ljava/lang/Object;"), (Jvm.Cond.lays "java/lang/UnsupportedOperationException" "java/lang/Throwable" "backtrace" "Ljava/lang/Object;")] := by decide +kernel
theorem xe_t5 : ∀ w ∈ vx_at0 "Lendlathe" 243 (xExn 5) xRE, w ∈ lw_tbl := by
  rw [xe_l5]
  intro w hw
  simp only [List.mem_cons, List.not_mem_nil, or_false] at hw
  rcases hw with rfl | rfl | rfl | rfl | rfl | rfl | rfl | rfl | rfl | rfl | rfl | rfl | rfl | rfl | rfl | rfl | rfl | rfl | rfl | rfl | rfl | rfl | rfl | rfl | rfl | rfl | rfl | rfl | rfl | rfl | rfl | rfl | rfl | rfl | rfl | rfl | rfl | rfl | rfl | rfl | rfl | rfl | rfl | rfl | rfl | rfl | rfl | rfl | rfl
  · exact (List.mem_filter.mp q61).1
  · exact (List.mem_filter.mp q151).1
  · exact (List.mem_filter.mp q160).1
  · exact (List.mem_filter.mp q168).1
  · exact (List.mem_filter.mp q171).1
  · exact (List.mem_filter.mp q173).1
  · exact (List.mem_filter.mp q152).1
  · exact (List.mem_filter.mp q153).1
  · exact (List.mem_filter.mp q98).1
  · exact (List.mem_filter.mp q99).1
  · exact (List.mem_filter.mp q154).1
  · exact (List.mem_filter.mp q159).1
  · exact (List.mem_filter.mp q169).1
  · exact (List.mem_filter.mp q409).1
  · exact (List.mem_filter.mp q141).1
  · exact (List.mem_filter.mp q410).1
  · exact (List.mem_filter.mp q143).1
  · exact (List.mem_filter.mp q411).1
  · exact (List.mem_filter.mp q145).1
  · exact (List.mem_filter.mp q155).1
  · exact (List.mem_filter.mp q157).1
  · exact (List.mem_filter.mp q147).1
  · exact (List.mem_filter.mp q965).1
  · exact (List.mem_filter.mp q966).1
  · exact (List.mem_filter.mp q967).1
  · exact (List.mem_filter.mp q583).1
  · exact q132
  · exact (List.mem_filter.mp q583).1
  · exact (List.mem_filter.mp q584).1
  · exact (List.mem_filter.mp q585).1
  · exact (List.mem_filter.mp q586).1
  · exact q134
  · exact (List.mem_filter.mp q586).1
  · exact (List.mem_filter.mp q587).1
  · exact (List.mem_filter.mp q588).1
  · exact (List.mem_filter.mp q152).1
  · exact q136
  · exact (List.mem_filter.mp q964).1
  · exact (List.mem_filter.mp q956).1
  · exact q957
  · exact (List.mem_filter.mp q958).1
  · exact (List.mem_filter.mp q166).1
  · exact (List.mem_filter.mp q959).1
  · exact (List.mem_filter.mp q960).1
  · exact (List.mem_filter.mp q961).1
  · exact (List.mem_filter.mp q962).1
  · exact (List.mem_filter.mp q407).1
  · exact (List.mem_filter.mp q149).1
  · exact (List.mem_filter.mp q963).1
theorem xe_b5 : ∀ w ∈ (vx_at0 "Lendlathe" 243 (xExn 5) xRE).filter (fun w => !goodWord w), w ∈ [(Jvm.Cond.declares ({ cls := "java/lang/RuntimeException", name := "<init>", desc := "()V" } : Jvm.MethodName)), (Jvm.Cond.declares ({ cls := "java/lang/Exception", name := "<init>", desc := "()V" } : Jvm.MethodName)), (Jvm.Cond.declares ({ cls := "java/lang/Throwable", name := "<init>", desc := "()V" } : Jvm.MethodName)), (Jvm.Cond.castable "java/lang/UnsupportedOperationException" "java/lang/UnsupportedOperationException")] := by rw [xe_l5]; decide +kernel
theorem xe_g5 : ∀ w ∈ Cond.classLink "Lendlathe" 241 (xExn 5) :: Cond.initialized (xExn 5) :: vx_at0 "Lendlathe" 243 (xExn 5) xRE, vx_ot w = true := by rw [xe_l5]; decide +kernel
theorem xe_l6 : vx_at0 "Lendlathe" 270 (xExn 6) xRE = [(Jvm.Cond.initialized "java/lang/Throwable"), (Jvm.Cond.superclass "java/lang/Throwable" "java/lang/Object"), (Jvm.Cond.instanceMethod ({ cls := "java/lang/Throwable", name := "fillInStackTrace", desc := "()Ljava/lang/Throwable;" } : Jvm.MethodName)), (Jvm.Cond.codeSync ({ cls := "java/lang/Throwable", name := "fillInStackTrace", desc := "()Ljava/lang/Throwable;" } : Jvm.MethodName) prog_37_method_18_code (1 : Nat) (Option.some (Jvm.ClassFile.FieldType.object "java/lang/Throwable"))), (Jvm.Cond.instanceMethod ({ cls := "java/lang/Throwable", name := "fillInStackTrace", desc := "(I)Ljava/lang/Throwable;" } : Jvm.MethodName)), (Jvm.Cond.native ({ cls := "java/lang/Throwable", name := "fillInStackTrace", desc := "(I)Ljava/lang/Throwable;" } : Jvm.MethodName)), (Jvm.Cond.instanceMethod ({ cls := "java/lang/Throwable", name := "<init>", desc := "()V" } : Jvm.MethodName)), (Jvm.Cond.code ({ cls := "java/lang/Throwable", name := "<init>", desc := "()V" } : Jvm.MethodName) prog_37_method_1_code (1 : Nat) (Option.none : Option Jvm.ClassFile.FieldType)), (Jvm.Cond.instanceMethod ({ cls := "java/lang/Object", name := "<init>", desc := "()V" } : Jvm.MethodName)), (Jvm.Cond.code ({ cls := "java/lang/Object", name := "<init>", desc := "()V" } : Jvm.MethodName) object_method_1_code (1 : Nat) (Option.none : Option Jvm.ClassFile.FieldType)), (Jvm.Cond.methodLink "java/lang/Throwable" (1 : Nat) ({ cls := "java/lang/Object", name := "<init>", desc := "()V" } : Jvm.MethodName)), (Jvm.Cond.methodLink "java/lang/Throwable" (27 : Nat) ({ cls := "java/lang/Throwable", name := "fillInStackTrace", desc := "()Ljava/lang/Throwable;" } : Jvm.MethodName)), (Jvm.Cond.methodLink "java/lang/Throwable" (202 : Nat) ({ cls := "java/lang/Throwable", name := "fillInStackTrace", desc := "(I)Ljava/lang/Throwable;" } : Jvm.MethodName)), (Jvm.Cond.fieldLink "java/lang/Throwable" (7 : Nat) "java/lang/Throwable" "cause" "Ljava/lang/Throwable;"), (Jvm.Cond.lays "java/lang/Throwable" "java/lang/Throwable" "cause" "Ljava/lang/Throwable;"), (Jvm.Cond.fieldLink "java/lang/Throwable" (17 : Nat) "java/lang/Throwable" "stackTrace" "[Ljava/lang/StackTraceElement;"), (Jvm.Cond.lays "java/lang/Throwable" "java/lang/Throwable" "stackTrace" "[Ljava/lang/StackTraceElement;"), (Jvm.Cond.fieldLink "java/lang/Throwable" (24 : Nat) "java/lang/Throwable" "suppressedExceptions" "Ljava/util/List;"), (Jvm.Cond.lays "java/lang/Throwable" "java/lang/Throwable" "suppressedExceptions" "Ljava/util/List;"), (Jvm.Cond.fieldLink "java/lang/Throwable" (13 : Nat) "java/lang/Throwable" "UNASSIGNED_STACK" "[Ljava/lang/StackTraceElement;"), (Jvm.Cond.fieldLink "java/lang/Throwable" (20 : Nat) "java/lang/Throwable" "SUPPRESSED_SENTINEL" "Ljava/util/List;"), (Jvm.Cond.lays "java/lang/Throwable" "java/lang/Throwable" "detailMessage" "Ljava/lang/String;"), (Jvm.Cond.instanceMethod ({ cls := "java/lang/ArithmeticException", name := "<init>", desc := "()V" } : Jvm.MethodName)), (Jvm.Cond.code ({ cls := "java/lang/ArithmeticException", name := "<init>", desc := "()V" } : Jvm.MethodName) prog_18_method_1_code (1 : Nat) (Option.none : Option Jvm.ClassFile.FieldType)), (Jvm.Cond.methodLink "java/lang/ArithmeticException" (1 : Nat) ({ cls := "java/lang/RuntimeException", name := "<init>", desc := "()V" } : Jvm.MethodName)), (Jvm.Cond.instanceMethod ({ cls := "java/lang/RuntimeException", name := "<init>", desc := "()V" } : Jvm.MethodName)), (Jvm.Cond.declares ({ cls := "java/lang/RuntimeException", name := "<init>", desc := "()V" } : Jvm.MethodName)), (Jvm.Cond.instanceMethod ({ cls := "java/lang/RuntimeException", name := "<init>", desc := "()V" } : Jvm.MethodName)), (Jvm.Cond.code ({ cls := "java/lang/RuntimeException", name := "<init>", desc := "()V" } : Jvm.MethodName) prog_31_method_1_code (1 : Nat) (Option.none : Option Jvm.ClassFile.FieldType)), (Jvm.Cond.methodLink "java/lang/RuntimeException" (1 : Nat) ({ cls := "java/lang/Exception", name := "<init>", desc := "()V" } : Jvm.MethodName)), (Jvm.Cond.instanceMethod ({ cls := "java/lang/Exception", name := "<init>", desc := "()V" } : Jvm.MethodName)), (Jvm.Cond.declares ({ cls := "java/lang/Exception", name := "<init>", desc := "()V" } : Jvm.MethodName)), (Jvm.Cond.instanceMethod ({ cls := "java/lang/Exception", name := "<init>", desc := "()V" } : Jvm.MethodName)), (Jvm.Cond.code ({ cls := "java/lang/Exception", name := "<init>", desc := "()V" } : Jvm.MethodName) prog_23_method_1_code (1 : Nat) (Option.none : Option Jvm.ClassFile.FieldType)), (Jvm.Cond.methodLink "java/lang/Exception" (1 : Nat) ({ cls := "java/lang/Throwable", name := "<init>", desc := "()V" } : Jvm.MethodName)), (Jvm.Cond.instanceMethod ({ cls := "java/lang/Throwable", name := "<init>", desc := "()V" } : Jvm.MethodName)), (Jvm.Cond.declares ({ cls := "java/lang/Throwable", name := "<init>", desc := "()V" } : Jvm.MethodName)), (Jvm.Cond.methodLink "Lendlathe" (270 : Nat) ({ cls := "java/lang/ArithmeticException", name := "<init>", desc := "()V" } : Jvm.MethodName)), (Jvm.Cond.instantiable "java/lang/ArithmeticException" (6 : Nat)), (Jvm.Cond.castable "java/lang/ArithmeticException" "java/lang/ArithmeticException"), (Jvm.Cond.selects "java/lang/ArithmeticException" ({ cls := "java/lang/Throwable", name := "fillInStackTrace", desc := "(I)Ljava/lang/Throwable;" } : Jvm.MethodName) ({ cls := "java/lang/Throwable", name := "fillInStackTrace", desc := "(I)Ljava/lang/Throwable;" } : Jvm.MethodName)), (Jvm.Cond.selects "java/lang/ArithmeticException" ({ cls := "java/lang/Throwable", name := "fillInStackTrace", desc := "()Ljava/lang/Throwable;" } : Jvm.MethodName) ({ cls := "java/lang/Throwable", name := "fillInStackTrace", desc := "()Ljava/lang/Throwable;" } : Jvm.MethodName)), (Jvm.Cond.lays "java/lang/ArithmeticException" "java/lang/Throwable" "cause" "Ljava/lang/Throwable;"), (Jvm.Cond.lays "java/lang/ArithmeticException" "java/lang/Throwable" "stackTrace" "[Ljava/lang/StackTraceElement;"), (Jvm.Cond.lays "java/lang/ArithmeticException" "java/lang/Throwable" "suppressedExceptions" "Ljava/util/List;"), (Jvm.Cond.lays "java/lang/ArithmeticException" "java/lang/Throwable" "detailMessage" "Ljava/lang/String;"), (Jvm.Cond.fieldLink "java/lang/Throwable" (198 : Nat) "java/lang/Throwable" "backtrace" "Ljava/lang/Object;"), (Jvm.Cond.lays "java/lang/Throwable" "java/lang/Throwable" "backtrace" "Ljava/lang/Object;"), (Jvm.Cond.lays "java/lang/ArithmeticException" "java/lang/Throwable" "backtrace" "Ljava/lang/Object;")] := by decide +kernel
theorem xe_t6 : ∀ w ∈ vx_at0 "Lendlathe" 270 (xExn 6) xRE, w ∈ lw_tbl := by
  rw [xe_l6]
  intro w hw
  simp only [List.mem_cons, List.not_mem_nil, or_false] at hw
  rcases hw with rfl | rfl | rfl | rfl | rfl | rfl | rfl | rfl | rfl | rfl | rfl | rfl | rfl | rfl | rfl | rfl | rfl | rfl | rfl | rfl | rfl | rfl | rfl | rfl | rfl | rfl | rfl | rfl | rfl | rfl | rfl | rfl | rfl | rfl | rfl | rfl | rfl | rfl | rfl | rfl | rfl | rfl | rfl | rfl | rfl | rfl | rfl | rfl | rfl
  · exact (List.mem_filter.mp q61).1
  · exact (List.mem_filter.mp q151).1
  · exact (List.mem_filter.mp q160).1
  · exact (List.mem_filter.mp q168).1
  · exact (List.mem_filter.mp q171).1
  · exact (List.mem_filter.mp q173).1
  · exact (List.mem_filter.mp q152).1
  · exact (List.mem_filter.mp q153).1
  · exact (List.mem_filter.mp q98).1
  · exact (List.mem_filter.mp q99).1
  · exact (List.mem_filter.mp q154).1
  · exact (List.mem_filter.mp q159).1
  · exact (List.mem_filter.mp q169).1
  · exact (List.mem_filter.mp q409).1
  · exact (List.mem_filter.mp q141).1
  · exact (List.mem_filter.mp q410).1
  · exact (List.mem_filter.mp q143).1
  · exact (List.mem_filter.mp q411).1
  · exact (List.mem_filter.mp q145).1
  · exact (List.mem_filter.mp q155).1
  · exact (List.mem_filter.mp q157).1
  · exact (List.mem_filter.mp q147).1
  · exact (List.mem_filter.mp q1017).1
  · exact (List.mem_filter.mp q1018).1
  · exact (List.mem_filter.mp q1019).1
  · exact (List.mem_filter.mp q583).1
  · exact q132
  · exact (List.mem_filter.mp q583).1
  · exact (List.mem_filter.mp q584).1
  · exact (List.mem_filter.mp q585).1
  · exact (List.mem_filter.mp q586).1
  · exact q134
  · exact (List.mem_filter.mp q586).1
  · exact (List.mem_filter.mp q587).1
  · exact (List.mem_filter.mp q588).1
  · exact (List.mem_filter.mp q152).1
  · exact q136
  · exact (List.mem_filter.mp q1016).1
  · exact (List.mem_filter.mp q981).1
  · exact q992
  · exact (List.mem_filter.mp q993).1
  · exact (List.mem_filter.mp q162).1
  · exact (List.mem_filter.mp q987).1
  · exact (List.mem_filter.mp q988).1
  · exact (List.mem_filter.mp q990).1
  · exact (List.mem_filter.mp q986).1
  · exact (List.mem_filter.mp q407).1
  · exact (List.mem_filter.mp q149).1
  · exact (List.mem_filter.mp q985).1
theorem xe_b6 : ∀ w ∈ (vx_at0 "Lendlathe" 270 (xExn 6) xRE).filter (fun w => !goodWord w), w ∈ [(Jvm.Cond.declares ({ cls := "java/lang/RuntimeException", name := "<init>", desc := "()V" } : Jvm.MethodName)), (Jvm.Cond.declares ({ cls := "java/lang/Exception", name := "<init>", desc := "()V" } : Jvm.MethodName)), (Jvm.Cond.declares ({ cls := "java/lang/Throwable", name := "<init>", desc := "()V" } : Jvm.MethodName)), (Jvm.Cond.castable "java/lang/ArithmeticException" "java/lang/ArithmeticException")] := by rw [xe_l6]; decide +kernel
theorem xe_g6 : ∀ w ∈ Cond.classLink "Lendlathe" 268 (xExn 6) :: Cond.initialized (xExn 6) :: vx_at0 "Lendlathe" 270 (xExn 6) xRE, vx_ot w = true := by rw [xe_l6]; decide +kernel
section XTHROW
variable {p : Program} {l : Launch} {e : Env} {R : Room} {s : State} {m : MethodId} {args : Array Value} {below : List Frame} {meth : Method} {c : Code} {H : Heap} {locs : List Loc} {cells slots : Nat}
variable {cc : ByteArray} {nL pc : Nat} {ls : Array Slot} {rest : List Value} {G : xG} {A : Nat → Prop} {s0 : State} {b0 mc ms : Nat} {Qc : Array Value → State → Outcome → State → Prop} {XC : String → State → State → Prop}
theorem x_throw1 (g1 : xG1 l G s0 b0) (hWK : xWK s0 A s) (F : CallFix p m c cc nL s args lw_all "Lendlathe") (hS : va_S A s.heap H locs) (hsz : ls.size = nL) (d0 : decode cc pc = .ok (.new 74, 3)) (d3 : decode cc (pc + 3) = .ok (.dup, 1)) (d4 : decode cc (pc + 4) = .ok (.invokespecial 76, 3)) (d7 : decode cc (pc + 7) = .ok (.athrow, 1)) (hnt : ∀ x ∈ c.exceptionTable.toList, False) (hlocks : meth.locks = false) (hRf : 5 < R.frames) (hRl : (rest.map fun v => v.category).sum + 81 ≤ R.locals) (hRc : cells + 1 ≤ R.cells) (hRs : slots + 6 ≤ R.slots)
    (hx : ∀ t : State, s.vm.Alike t.vm → H.size ≤ t.heap.size → (∀ q : Nat, q < H.size → t.heap[q]? = H[q]?) → XC (xExn 1) s t) (hc : cells + 1 ≤ mc) (hs : slots + 6 ≤ ms) : W p l e R s m args below meth c H locs cells slots (vx_MQ below Qc XC args s mc ms A) (F0 m pc ls rest) := by
  obtain ⟨hx0, hb, hml, hown, hts⟩ := F
  exact vx_throw0 (names := xRE) hx0 hb g1.2.1 hown (by decide +kernel) (by decide +kernel) (hts _ q764) (hts _ q64) (vx_hat (x_hat hts xe_t1) xe_b1 (vx_c (va_Nw.use rfl (xnD hWK g1.1 q132)) (vx_c (va_Nw.use rfl (xnD hWK g1.1 q134)) (vx_c (va_Nw.use rfl (xnD hWK g1.1 q136)) (vx_c (va_Nw.use rfl (xnC hWK g1.1 q131)) vx_n))))) xe_g1 (xZqAt hWK g1.2.2.2.2.1) (xZqAt hWK g1.2.2.2.2.2.1) hS (hsz.trans hml.symm) d0 d3 d4 d7 (fun x hx => (hnt x hx).elim) hRf hRl hRc hRs hlocks hx hS.2.2 hc hs
theorem x_throw2 (g1 : xG1 l G s0 b0) (hWK : xWK s0 A s) (F : CallFix p m c cc nL s args lw_all "Lendlathe") (hS : va_S A s.heap H locs) (hsz : ls.size = nL) (d0 : decode cc pc = .ok (.new 77, 3)) (d3 : decode cc (pc + 3) = .ok (.dup, 1)) (d4 : decode cc (pc + 4) = .ok (.invokespecial 79, 3)) (d7 : decode cc (pc + 7) = .ok (.athrow, 1)) (hnt : ∀ x ∈ c.exceptionTable.toList, False) (hlocks : meth.locks = false) (hRf : 5 < R.frames) (hRl : (rest.map fun v => v.category).sum + 81 ≤ R.locals) (hRc : cells + 1 ≤ R.cells) (hRs : slots + 6 ≤ R.slots)
    (hx : ∀ t : State, s.vm.Alike t.vm → H.size ≤ t.heap.size → (∀ q : Nat, q < H.size → t.heap[q]? = H[q]?) → XC (xExn 2) s t) (hc : cells + 1 ≤ mc) (hs : slots + 6 ≤ ms) : W p l e R s m args below meth c H locs cells slots (vx_MQ below Qc XC args s mc ms A) (F0 m pc ls rest) := by
  obtain ⟨hx0, hb, hml, hown, hts⟩ := F
  exact vx_throw0 (names := xRE) hx0 hb g1.2.1 hown (by decide +kernel) (by decide +kernel) (hts _ q772) (hts _ q81) (vx_hat (x_hat hts xe_t2) xe_b2 (vx_c (va_Nw.use rfl (xnD hWK g1.1 q132)) (vx_c (va_Nw.use rfl (xnD hWK g1.1 q134)) (vx_c (va_Nw.use rfl (xnD hWK g1.1 q136)) (vx_c (va_Nw.use rfl (xnC hWK g1.1 q774)) vx_n))))) xe_g2 (xZqAt hWK g1.2.2.2.2.1) (xZqAt hWK g1.2.2.2.2.2.1) hS (hsz.trans hml.symm) d0 d3 d4 d7 (fun x hx => (hnt x hx).elim) hRf hRl hRc hRs hlocks hx hS.2.2 hc hs
theorem x_throw3 (g1 : xG1 l G s0 b0) (hWK : xWK s0 A s) (F : CallFix p m c cc nL s args lw_all "Lendlathe") (hS : va_S A s.heap H locs) (hsz : ls.size = nL) (d0 : decode cc pc = .ok (.new 80, 3)) (d3 : decode cc (pc + 3) = .ok (.dup, 1)) (d4 : decode cc (pc + 4) = .ok (.invokespecial 82, 3)) (d7 : decode cc (pc + 7) = .ok (.athrow, 1)) (hnt : ∀ x ∈ c.exceptionTable.toList, False) (hlocks : meth.locks = false) (hRf : 5 < R.frames) (hRl : (rest.map fun v => v.category).sum + 81 ≤ R.locals) (hRc : cells + 1 ≤ R.cells) (hRs : slots + 6 ≤ R.slots)
    (hx : ∀ t : State, s.vm.Alike t.vm → H.size ≤ t.heap.size → (∀ q : Nat, q < H.size → t.heap[q]? = H[q]?) → XC (xExn 3) s t) (hc : cells + 1 ≤ mc) (hs : slots + 6 ≤ ms) : W p l e R s m args below meth c H locs cells slots (vx_MQ below Qc XC args s mc ms A) (F0 m pc ls rest) := by
  obtain ⟨hx0, hb, hml, hown, hts⟩ := F
  exact vx_throw0 (names := xRE) hx0 hb g1.2.1 hown (by decide +kernel) (by decide +kernel) (hts _ q1020) (hts _ q79) (vx_hat (x_hat hts xe_t3) xe_b3 (vx_c (va_Nw.use rfl (xnD hWK g1.1 q132)) (vx_c (va_Nw.use rfl (xnD hWK g1.1 q134)) (vx_c (va_Nw.use rfl (xnD hWK g1.1 q136)) (vx_c (va_Nw.use rfl (xnC hWK g1.1 q572)) vx_n))))) xe_g3 (xZqAt hWK g1.2.2.2.2.1) (xZqAt hWK g1.2.2.2.2.2.1) hS (hsz.trans hml.symm) d0 d3 d4 d7 (fun x hx => (hnt x hx).elim) hRf hRl hRc hRs hlocks hx hS.2.2 hc hs
theorem x_throw4 (g1 : xG1 l G s0 b0) (hWK : xWK s0 A s) (F : CallFix p m c cc nL s args lw_all "Lendlathe") (hS : va_S A s.heap H locs) (hsz : ls.size = nL) (d0 : decode cc pc = .ok (.new 83, 3)) (d3 : decode cc (pc + 3) = .ok (.dup, 1)) (d4 : decode cc (pc + 4) = .ok (.invokespecial 85, 3)) (d7 : decode cc (pc + 7) = .ok (.athrow, 1)) (hnt : ∀ x ∈ c.exceptionTable.toList, False) (hlocks : meth.locks = false) (hRf : 5 < R.frames) (hRl : (rest.map fun v => v.category).sum + 81 ≤ R.locals) (hRc : cells + 1 ≤ R.cells) (hRs : slots + 6 ≤ R.slots)
    (hx : ∀ t : State, s.vm.Alike t.vm → H.size ≤ t.heap.size → (∀ q : Nat, q < H.size → t.heap[q]? = H[q]?) → XC (xExn 4) s t) (hc : cells + 1 ≤ mc) (hs : slots + 6 ≤ ms) : W p l e R s m args below meth c H locs cells slots (vx_MQ below Qc XC args s mc ms A) (F0 m pc ls rest) := by
  obtain ⟨hx0, hb, hml, hown, hts⟩ := F
  exact vx_throw0 (names := xRE) hx0 hb g1.2.1 hown (by decide +kernel) (by decide +kernel) (hts _ q940) (hts _ q84) (vx_hat (x_hat hts xe_t4) xe_b4 (vx_c (va_Nw.use rfl (xnD hWK g1.1 q132)) (vx_c (va_Nw.use rfl (xnD hWK g1.1 q134)) (vx_c (va_Nw.use rfl (xnD hWK g1.1 q136)) (vx_c (va_Nw.use rfl (xnC hWK g1.1 q942)) vx_n))))) xe_g4 (xZqAt hWK g1.2.2.2.2.1) (xZqAt hWK g1.2.2.2.2.2.1) hS (hsz.trans hml.symm) d0 d3 d4 d7 (fun x hx => (hnt x hx).elim) hRf hRl hRc hRs hlocks hx hS.2.2 hc hs
theorem x_throw5 (g1 : xG1 l G s0 b0) (hWK : xWK s0 A s) (F : CallFix p m c cc nL s args lw_all "Lendlathe") (hS : va_S A s.heap H locs) (hsz : ls.size = nL) (d0 : decode cc pc = .ok (.new 241, 3)) (d3 : decode cc (pc + 3) = .ok (.dup, 1)) (d4 : decode cc (pc + 4) = .ok (.invokespecial 243, 3)) (d7 : decode cc (pc + 7) = .ok (.athrow, 1)) (hnt : ∀ x ∈ c.exceptionTable.toList, False) (hlocks : meth.locks = false) (hRf : 5 < R.frames) (hRl : (rest.map fun v => v.category).sum + 81 ≤ R.locals) (hRc : cells + 1 ≤ R.cells) (hRs : slots + 6 ≤ R.slots)
    (hx : ∀ t : State, s.vm.Alike t.vm → H.size ≤ t.heap.size → (∀ q : Nat, q < H.size → t.heap[q]? = H[q]?) → XC (xExn 5) s t) (hc : cells + 1 ≤ mc) (hs : slots + 6 ≤ ms) : W p l e R s m args below meth c H locs cells slots (vx_MQ below Qc XC args s mc ms A) (F0 m pc ls rest) := by
  obtain ⟨hx0, hb, hml, hown, hts⟩ := F
  exact vx_throw0 (names := xRE) hx0 hb g1.2.1 hown (by decide +kernel) (by decide +kernel) (hts _ q955) (hts _ q86) (vx_hat (x_hat hts xe_t5) xe_b5 (vx_c (va_Nw.use rfl (xnD hWK g1.1 q132)) (vx_c (va_Nw.use rfl (xnD hWK g1.1 q134)) (vx_c (va_Nw.use rfl (xnD hWK g1.1 q136)) (vx_c (va_Nw.use rfl (xnC hWK g1.1 q957)) vx_n))))) xe_g5 (xZqAt hWK g1.2.2.2.2.1) (xZqAt hWK g1.2.2.2.2.2.1) hS (hsz.trans hml.symm) d0 d3 d4 d7 (fun x hx => (hnt x hx).elim) hRf hRl hRc hRs hlocks hx hS.2.2 hc hs
theorem x_throw6 (g1 : xG1 l G s0 b0) (hWK : xWK s0 A s) (F : CallFix p m c cc nL s args lw_all "Lendlathe") (hS : va_S A s.heap H locs) (hsz : ls.size = nL) (d0 : decode cc pc = .ok (.new 268, 3)) (d3 : decode cc (pc + 3) = .ok (.dup, 1)) (d4 : decode cc (pc + 4) = .ok (.invokespecial 270, 3)) (d7 : decode cc (pc + 7) = .ok (.athrow, 1)) (hnt : ∀ x ∈ c.exceptionTable.toList, False) (hlocks : meth.locks = false) (hRf : 5 < R.frames) (hRl : (rest.map fun v => v.category).sum + 81 ≤ R.locals) (hRc : cells + 1 ≤ R.cells) (hRs : slots + 6 ≤ R.slots)
    (hx : ∀ t : State, s.vm.Alike t.vm → H.size ≤ t.heap.size → (∀ q : Nat, q < H.size → t.heap[q]? = H[q]?) → XC (xExn 6) s t) (hc : cells + 1 ≤ mc) (hs : slots + 6 ≤ ms) : W p l e R s m args below meth c H locs cells slots (vx_MQ below Qc XC args s mc ms A) (F0 m pc ls rest) := by
  obtain ⟨hx0, hb, hml, hown, hts⟩ := F
  exact vx_throw0 (names := xRE) hx0 hb g1.2.1 hown (by decide +kernel) (by decide +kernel) (hts _ q1015) (hts _ q87) (vx_hat (x_hat hts xe_t6) xe_b6 (vx_c (va_Nw.use rfl (xnD hWK g1.1 q132)) (vx_c (va_Nw.use rfl (xnD hWK g1.1 q134)) (vx_c (va_Nw.use rfl (xnD hWK g1.1 q136)) (vx_c (va_Nw.use rfl (xnC hWK g1.1 q992)) vx_n))))) xe_g6 (xZqAt hWK g1.2.2.2.2.1) (xZqAt hWK g1.2.2.2.2.2.1) hS (hsz.trans hml.symm) d0 d3 d4 d7 (fun x hx => (hnt x hx).elim) hRf hRl hRc hRs hlocks hx hS.2.2 hc hs
end XTHROW
