/-! WORDS that E carries (printed by mkze.py) -/
set_option maxRecDepth 100000
def zW : List Cond := [(Jvm.Cond.declares ({ cls := "java/lang/Throwable", name := "fillInStackTrace", desc := "()Ljava/lang/Throwable;" } : Jvm.MethodName)),
  (Jvm.Cond.declares ({ cls := "java/lang/Throwable", name := "<init>", desc := "()V" } : Jvm.MethodName)),
  (Jvm.Cond.declares ({ cls := "java/lang/Throwable", name := "<init>", desc := "(Ljava/lang/String;)V" } : Jvm.MethodName)),
  (Jvm.Cond.declares ({ cls := "java/lang/Exception", name := "<init>", desc := "()V" } : Jvm.MethodName)),
  (Jvm.Cond.declares ({ cls := "java/lang/Exception", name := "<init>", desc := "(Ljava/lang/String;)V" } : Jvm.MethodName)),
  (Jvm.Cond.castable "java/lang/NegativeArraySizeException" "java/lang/NegativeArraySizeException"),
  (Jvm.Cond.declares ({ cls := "java/lang/RuntimeException", name := "<init>", desc := "()V" } : Jvm.MethodName)),
  (Jvm.Cond.declares ({ cls := "java/lang/RuntimeException", name := "<init>", desc := "(Ljava/lang/String;)V" } : Jvm.MethodName)),
  (Jvm.Cond.castable "java/lang/RuntimeException" "java/lang/Throwable"),
  (Jvm.Cond.castable "java/lang/ClassCastException" "java/lang/ClassCastException"),
  (Jvm.Cond.castable "java/lang/NullPointerException" "java/lang/NullPointerException"),
  (Jvm.Cond.declares ({ cls := "java/lang/IndexOutOfBoundsException", name := "<init>", desc := "()V" } : Jvm.MethodName)),
  (Jvm.Cond.declares ({ cls := "java/lang/IndexOutOfBoundsException", name := "<init>", desc := "(Ljava/lang/String;)V" } : Jvm.MethodName)),
  (Jvm.Cond.castable "java/lang/ArrayIndexOutOfBoundsException" "java/lang/ArrayIndexOutOfBoundsException"),
  (Jvm.Cond.castable "java/lang/ArrayIndexOutOfBoundsException" "java/lang/IndexOutOfBoundsException"),
  (Jvm.Cond.methodLinkNest "PromiseRoofs" (33 : Nat) ({ cls := "PromiseRoofs$Facts", name := "<init>", desc := "()V" } : Jvm.MethodName) "PromiseRoofs"),
  (Jvm.Cond.fieldLinkNest "PromiseRoofs" (222 : Nat) "PromiseRoofs$Facts" "named" "[I" "PromiseRoofs"),
  (Jvm.Cond.fieldLinkNest "PromiseRoofs" (113 : Nat) "PromiseRoofs$Owner" "money" "I" "PromiseRoofs"),
  (Jvm.Cond.fieldLinkNest "PromiseRoofs" (173 : Nat) "PromiseRoofs$Promise" "by" "I" "PromiseRoofs"),
  (Jvm.Cond.fieldLinkNest "PromiseRoofs" (176 : Nat) "PromiseRoofs$Promise" "to" "I" "PromiseRoofs"),
  (Jvm.Cond.fieldLinkNest "PromiseRoofs" (116 : Nat) "PromiseRoofs$Promise" "worth" "I" "PromiseRoofs"),
  (Jvm.Cond.fieldLinkNest "PromiseRoofs" (119 : Nat) "PromiseRoofs$Promise" "kind" "I" "PromiseRoofs"),
  (Jvm.Cond.fieldLinkNest "PromiseRoofs" (122 : Nat) "PromiseRoofs$Promise" "lasts" "I" "PromiseRoofs"),
  (Jvm.Cond.fieldLinkNest "PromiseRoofs" (125 : Nat) "PromiseRoofs$Promise" "made" "I" "PromiseRoofs"),
  (Jvm.Cond.fieldLinkNest "PromiseRoofs" (128 : Nat) "PromiseRoofs$Promise" "done" "I" "PromiseRoofs"),
  (Jvm.Cond.fieldLinkNest "PromiseRoofs" (144 : Nat) "PromiseRoofs$Change" "of" "I" "PromiseRoofs"),
  (Jvm.Cond.fieldLinkNest "PromiseRoofs" (147 : Nat) "PromiseRoofs$Change" "at" "I" "PromiseRoofs"),
  (Jvm.Cond.fieldLinkNest "PromiseRoofs" (149 : Nat) "PromiseRoofs$Change" "before" "I" "PromiseRoofs"),
  (Jvm.Cond.fieldLinkNest "PromiseRoofs" (152 : Nat) "PromiseRoofs$Change" "behind" "I" "PromiseRoofs"),
  (Jvm.Cond.methodLinkNest "PromiseRoofs" (184 : Nat) ({ cls := "PromiseRoofs$Reader", name := "<init>", desc := "(LPromiseRoofs;)V" } : Jvm.MethodName) "PromiseRoofs"),
  (Jvm.Cond.fieldLinkNest "PromiseRoofs" (191 : Nat) "PromiseRoofs$Reader" "fault" "I" "PromiseRoofs"),
  (Jvm.Cond.fieldLinkNest "PromiseRoofs" (198 : Nat) "PromiseRoofs$Line" "test" "LPromiseRoofs$Node;" "PromiseRoofs"),
  (Jvm.Cond.fieldLinkNest "PromiseRoofs" (210 : Nat) "PromiseRoofs$Line" "gives" "LPromiseRoofs$Node;" "PromiseRoofs"),
  (Jvm.Cond.fieldLinkNest "PromiseRoofs" (213 : Nat) "PromiseRoofs$Line" "next" "LPromiseRoofs$Line;" "PromiseRoofs"),
  (Jvm.Cond.methodLinkNest "PromiseRoofs$Denied" (1 : Nat) ({ cls := "PromiseRoofs$Node", name := "<init>", desc := "()V" } : Jvm.MethodName) "PromiseRoofs"),
  (Jvm.Cond.methodLinkNest "PromiseRoofs$Turned" (1 : Nat) ({ cls := "PromiseRoofs$Node", name := "<init>", desc := "()V" } : Jvm.MethodName) "PromiseRoofs"),
  (Jvm.Cond.methodLinkNest "PromiseRoofs$Leaf" (1 : Nat) ({ cls := "PromiseRoofs$Node", name := "<init>", desc := "()V" } : Jvm.MethodName) "PromiseRoofs"),
  (Jvm.Cond.methodLinkNest "PromiseRoofs$Pair" (1 : Nat) ({ cls := "PromiseRoofs$Node", name := "<init>", desc := "()V" } : Jvm.MethodName) "PromiseRoofs"),
  (Jvm.Cond.methodLinkNest "PromiseRoofs$Storey" (9 : Nat) ({ cls := "PromiseRoofs$Held", name := "<init>", desc := "()V" } : Jvm.MethodName) "PromiseRoofs"),
  (Jvm.Cond.methodLinkNest "PromiseRoofs$Storey" (23 : Nat) ({ cls := "PromiseRoofs", name := "ran", desc := "(I)V" } : Jvm.MethodName) "PromiseRoofs"),
  (Jvm.Cond.castable "PromiseRoofs$Storey" "PromiseRoofs$Swears"),
  (Jvm.Cond.declares ({ cls := "PromiseRoofs$Storey", name := "builds", desc := "(I)I" } : Jvm.MethodName)),
  (Jvm.Cond.declares ({ cls := "PromiseRoofs$Storey", name := "comesDown", desc := "(I)I" } : Jvm.MethodName)),
  (Jvm.Cond.declares ({ cls := "PromiseRoofs$Storey", name := "tells", desc := "(I)I" } : Jvm.MethodName)),
  (Jvm.Cond.castable "PromiseRoofs$Storey" "PromiseRoofs$Tells"),
  (Jvm.Cond.castable "PromiseRoofs$Storey" "PromiseRoofs$Held"),
  (Jvm.Cond.castable "PromiseRoofs$Attic" "PromiseRoofs$Swears"),
  (Jvm.Cond.methodLinkNest "PromiseRoofs$Attic" (17 : Nat) ({ cls := "PromiseRoofs", name := "ran", desc := "(I)V" } : Jvm.MethodName) "PromiseRoofs"),
  (Jvm.Cond.castable "PromiseRoofs$Attic" "PromiseRoofs$Tells"),
  (Jvm.Cond.declares ({ cls := "PromiseRoofs$Attic", name := "swears", desc := "(I)I" } : Jvm.MethodName)),
  (Jvm.Cond.castable "PromiseRoofs$Attic" "PromiseRoofs$Storey"),
  (Jvm.Cond.castable "PromiseRoofs$Attic" "PromiseRoofs$Held"),
  (Jvm.Cond.castable "PromiseRoofs$Cellar" "PromiseRoofs$Swears"),
  (Jvm.Cond.methodLinkNest "PromiseRoofs$Cellar" (17 : Nat) ({ cls := "PromiseRoofs", name := "ran", desc := "(I)V" } : Jvm.MethodName) "PromiseRoofs"),
  (Jvm.Cond.castable "PromiseRoofs$Cellar" "PromiseRoofs$Tells"),
  (Jvm.Cond.castable "PromiseRoofs$Cellar" "PromiseRoofs$Storey"),
  (Jvm.Cond.castable "PromiseRoofs$Cellar" "PromiseRoofs$Held"),
  (Jvm.Cond.castable "PromiseRoofs$Tower" "PromiseRoofs$Swears"),
  (Jvm.Cond.methodLinkNest "PromiseRoofs$Tower" (17 : Nat) ({ cls := "PromiseRoofs", name := "ran", desc := "(I)V" } : Jvm.MethodName) "PromiseRoofs"),
  (Jvm.Cond.castable "PromiseRoofs$Tower" "PromiseRoofs$Tells"),
  (Jvm.Cond.castable "PromiseRoofs$Tower" "PromiseRoofs$Storey"),
  (Jvm.Cond.castable "PromiseRoofs$Tower" "PromiseRoofs$Held"),
  (Jvm.Cond.castable "PromiseRoofs$Widow" "PromiseRoofs$Swears"),
  (Jvm.Cond.declares ({ cls := "PromiseRoofs$Widow", name := "comesDown", desc := "(I)I" } : Jvm.MethodName)),
  (Jvm.Cond.methodLinkNest "PromiseRoofs$Widow" (17 : Nat) ({ cls := "PromiseRoofs", name := "ran", desc := "(I)V" } : Jvm.MethodName) "PromiseRoofs"),
  (Jvm.Cond.castable "PromiseRoofs$Widow" "PromiseRoofs$Tells"),
  (Jvm.Cond.castable "PromiseRoofs$Widow" "PromiseRoofs$Storey"),
  (Jvm.Cond.castable "PromiseRoofs$Widow" "PromiseRoofs$Held"),
  (Jvm.Cond.castable "PromiseRoofs$Saint" "PromiseRoofs$Swears"),
  (Jvm.Cond.castable "PromiseRoofs$Saint" "PromiseRoofs$Tells"),
  (Jvm.Cond.methodLinkNest "PromiseRoofs$Saint" (13 : Nat) ({ cls := "PromiseRoofs", name := "ran", desc := "(I)V" } : Jvm.MethodName) "PromiseRoofs"),
  (Jvm.Cond.castable "PromiseRoofs$Saint" "PromiseRoofs$Storey"),
  (Jvm.Cond.castable "PromiseRoofs$Saint" "PromiseRoofs$Held"),
  (Jvm.Cond.castable "PromiseRoofs$Pole" "PromiseRoofs$Swears"),
  (Jvm.Cond.methodLinkNest "PromiseRoofs$Pole" (13 : Nat) ({ cls := "PromiseRoofs", name := "ran", desc := "(I)V" } : Jvm.MethodName) "PromiseRoofs"),
  (Jvm.Cond.castable "PromiseRoofs$Pole" "PromiseRoofs$Tells"),
  (Jvm.Cond.castable "PromiseRoofs$Pole" "PromiseRoofs$Storey"),
  (Jvm.Cond.castable "PromiseRoofs$Pole" "PromiseRoofs$Held"),
  (Jvm.Cond.castable "PromiseRoofs$Potter" "PromiseRoofs$Swears"),
  (Jvm.Cond.methodLinkNest "PromiseRoofs$Potter" (13 : Nat) ({ cls := "PromiseRoofs", name := "ran", desc := "(I)V" } : Jvm.MethodName) "PromiseRoofs"),
  (Jvm.Cond.castable "PromiseRoofs$Potter" "PromiseRoofs$Tells"),
  (Jvm.Cond.castable "PromiseRoofs$Potter" "PromiseRoofs$Storey"),
  (Jvm.Cond.castable "PromiseRoofs$Potter" "PromiseRoofs$Held"),
  (Jvm.Cond.methodLinkNest "PromiseRoofs$Row" (1 : Nat) ({ cls := "PromiseRoofs$Held", name := "<init>", desc := "()V" } : Jvm.MethodName) "PromiseRoofs"),
  (Jvm.Cond.declares ({ cls := "PromiseRoofs$Row", name := "put", desc := "(IJ)Z" } : Jvm.MethodName)),
  (Jvm.Cond.declares ({ cls := "PromiseRoofs$Row", name := "at", desc := "(I)J" } : Jvm.MethodName)),
  (Jvm.Cond.declares ({ cls := "PromiseRoofs$Row", name := "copy", desc := "(ILPromiseRoofs$Row;II)V" } : Jvm.MethodName)),
  (Jvm.Cond.methodLinkNest "PromiseRoofs$ByteRow" (1 : Nat) ({ cls := "PromiseRoofs$Row", name := "<init>", desc := "()V" } : Jvm.MethodName) "PromiseRoofs"),
  (Jvm.Cond.castable "PromiseRoofs$ByteRow" "PromiseRoofs$Row"),
  (Jvm.Cond.castable "PromiseRoofs$ByteRow" "PromiseRoofs$Held"),
  (Jvm.Cond.methodLinkNest "PromiseRoofs$ShortRow" (1 : Nat) ({ cls := "PromiseRoofs$Row", name := "<init>", desc := "()V" } : Jvm.MethodName) "PromiseRoofs"),
  (Jvm.Cond.castable "PromiseRoofs$ShortRow" "PromiseRoofs$Row"),
  (Jvm.Cond.castable "PromiseRoofs$ShortRow" "PromiseRoofs$Held"),
  (Jvm.Cond.methodLinkNest "PromiseRoofs$IntRow" (1 : Nat) ({ cls := "PromiseRoofs$Row", name := "<init>", desc := "()V" } : Jvm.MethodName) "PromiseRoofs"),
  (Jvm.Cond.castable "PromiseRoofs$IntRow" "PromiseRoofs$Row"),
  (Jvm.Cond.castable "PromiseRoofs$IntRow" "PromiseRoofs$Held"),
  (Jvm.Cond.methodLinkNest "PromiseRoofs$LongRow" (1 : Nat) ({ cls := "PromiseRoofs$Row", name := "<init>", desc := "()V" } : Jvm.MethodName) "PromiseRoofs"),
  (Jvm.Cond.castable "PromiseRoofs$LongRow" "PromiseRoofs$Row"),
  (Jvm.Cond.castable "PromiseRoofs$LongRow" "PromiseRoofs$Held"),
  (Jvm.Cond.methodLinkNest "PromiseRoofs$BooleanRow" (1 : Nat) ({ cls := "PromiseRoofs$Row", name := "<init>", desc := "()V" } : Jvm.MethodName) "PromiseRoofs"),
  (Jvm.Cond.castable "PromiseRoofs$BooleanRow" "PromiseRoofs$Row"),
  (Jvm.Cond.castable "PromiseRoofs$BooleanRow" "PromiseRoofs$Held"),
  (Jvm.Cond.fieldLinkNest "PromiseRoofs$Reader" (25 : Nat) "PromiseRoofs" "tape" "[B" "PromiseRoofs"),
  (Jvm.Cond.fieldLinkNest "PromiseRoofs$Reader" (22 : Nat) "PromiseRoofs" "taped" "I" "PromiseRoofs"),
  (Jvm.Cond.methodLinkNest "PromiseRoofs$Reader" (49 : Nat) ({ cls := "PromiseRoofs$Line", name := "<init>", desc := "()V" } : Jvm.MethodName) "PromiseRoofs"),
  (Jvm.Cond.fieldLinkNest "PromiseRoofs$Reader" (58 : Nat) "PromiseRoofs$Line" "test" "LPromiseRoofs$Node;" "PromiseRoofs"),
  (Jvm.Cond.fieldLinkNest "PromiseRoofs$Reader" (54 : Nat) "PromiseRoofs$Line" "gives" "LPromiseRoofs$Node;" "PromiseRoofs"),
  (Jvm.Cond.fieldLinkNest "PromiseRoofs$Reader" (43 : Nat) "PromiseRoofs$Line" "next" "LPromiseRoofs$Line;" "PromiseRoofs"),
  (Jvm.Cond.methodLinkNest "PromiseRoofs$Reader" (120 : Nat) ({ cls := "PromiseRoofs", name := "in", desc := "(III)Z" } : Jvm.MethodName) "PromiseRoofs"),
  (Jvm.Cond.declares ({ cls := "PromiseRoofs$Node", name := "value", desc := "(LPromiseRoofs$Facts;)I" } : Jvm.MethodName)),
  (Jvm.Cond.fieldLinkNest "PromiseRoofs$Name" (13 : Nat) "PromiseRoofs$Facts" "named" "[I" "PromiseRoofs"),
  (Jvm.Cond.methodLinkNest "PromiseRoofs$Name" (1 : Nat) ({ cls := "PromiseRoofs$Node", name := "<init>", desc := "()V" } : Jvm.MethodName) "PromiseRoofs"),
  (Jvm.Cond.declares ({ cls := "PromiseRoofs$Swears", name := "swears", desc := "(I)I" } : Jvm.MethodName)),
  (Jvm.Cond.declares ({ cls := "PromiseRoofs$Tells", name := "tells", desc := "(I)I" } : Jvm.MethodName))]
theorem zW_tbl : ∀ w ∈ zW, w ∈ lw_tbl := (List.forall_mem_cons.mpr ⟨q399, (List.forall_mem_cons.mpr ⟨q432, (List.forall_mem_cons.mpr ⟨q433, (List.forall_mem_cons.mpr ⟨q430, (List.forall_mem_cons.mpr ⟨q431, (List.forall_mem_cons.mpr ⟨q1343, (List.forall_mem_cons.mpr ⟨q428, (List.forall_mem_cons.mpr ⟨q429, (List.forall_mem_cons.mpr ⟨q473, (List.forall_mem_cons.mpr ⟨q427, (List.forall_mem_cons.mpr ⟨q471, (List.forall_mem_cons.mpr ⟨q490, (List.forall_mem_cons.mpr ⟨q491, (List.forall_mem_cons.mpr ⟨q489, (List.forall_mem_cons.mpr ⟨q2069, (List.forall_mem_cons.mpr ⟨q161, (List.forall_mem_cons.mpr ⟨q167, (List.forall_mem_cons.mpr ⟨q307, (List.forall_mem_cons.mpr ⟨q333, (List.forall_mem_cons.mpr ⟨q335, (List.forall_mem_cons.mpr ⟨q337, (List.forall_mem_cons.mpr ⟨q339, (List.forall_mem_cons.mpr ⟨q341, (List.forall_mem_cons.mpr ⟨q343, (List.forall_mem_cons.mpr ⟨q345, (List.forall_mem_cons.mpr ⟨q542, (List.forall_mem_cons.mpr ⟨q544, (List.forall_mem_cons.mpr ⟨q546, (List.forall_mem_cons.mpr ⟨q548, (List.forall_mem_cons.mpr ⟨q573, (List.forall_mem_cons.mpr ⟨q579, (List.forall_mem_cons.mpr ⟨q606, (List.forall_mem_cons.mpr ⟨q608, (List.forall_mem_cons.mpr ⟨q610, (List.forall_mem_cons.mpr ⟨q763, (List.forall_mem_cons.mpr ⟨q773, (List.forall_mem_cons.mpr ⟨q784, (List.forall_mem_cons.mpr ⟨q799, (List.forall_mem_cons.mpr ⟨q1075, (List.forall_mem_cons.mpr ⟨q1197, (List.forall_mem_cons.mpr ⟨q1216, (List.forall_mem_cons.mpr ⟨q1254, (List.forall_mem_cons.mpr ⟨q1264, (List.forall_mem_cons.mpr ⟨q1298, (List.forall_mem_cons.mpr ⟨q1308, (List.forall_mem_cons.mpr ⟨q2089, (List.forall_mem_cons.mpr ⟨q1184, (List.forall_mem_cons.mpr ⟨q1190, (List.forall_mem_cons.mpr ⟨q1229, (List.forall_mem_cons.mpr ⟨q1269, (List.forall_mem_cons.mpr ⟨q2075, (List.forall_mem_cons.mpr ⟨q2082, (List.forall_mem_cons.mpr ⟨q1198, (List.forall_mem_cons.mpr ⟨q1243, (List.forall_mem_cons.mpr ⟨q1284, (List.forall_mem_cons.mpr ⟨q2076, (List.forall_mem_cons.mpr ⟨q2083, (List.forall_mem_cons.mpr ⟨q1219, (List.forall_mem_cons.mpr ⟨q1275, (List.forall_mem_cons.mpr ⟨q1311, (List.forall_mem_cons.mpr ⟨q2080, (List.forall_mem_cons.mpr ⟨q2084, (List.forall_mem_cons.mpr ⟨q1222, (List.forall_mem_cons.mpr ⟨q1257, (List.forall_mem_cons.mpr ⟨q1261, (List.forall_mem_cons.mpr ⟨q1314, (List.forall_mem_cons.mpr ⟨q2081, (List.forall_mem_cons.mpr ⟨q2085, (List.forall_mem_cons.mpr ⟨q1213, (List.forall_mem_cons.mpr ⟨q1299, (List.forall_mem_cons.mpr ⟨q1305, (List.forall_mem_cons.mpr ⟨q2079, (List.forall_mem_cons.mpr ⟨q2086, (List.forall_mem_cons.mpr ⟨q1202, (List.forall_mem_cons.mpr ⟨q1208, (List.forall_mem_cons.mpr ⟨q1287, (List.forall_mem_cons.mpr ⟨q2077, (List.forall_mem_cons.mpr ⟨q2087, (List.forall_mem_cons.mpr ⟨q1210, (List.forall_mem_cons.mpr ⟨q1251, (List.forall_mem_cons.mpr ⟨q1290, (List.forall_mem_cons.mpr ⟨q2078, (List.forall_mem_cons.mpr ⟨q2088, (List.forall_mem_cons.mpr ⟨q1355, (List.forall_mem_cons.mpr ⟨q1409, (List.forall_mem_cons.mpr ⟨q1432, (List.forall_mem_cons.mpr ⟨q1452, (List.forall_mem_cons.mpr ⟨q1352, (List.forall_mem_cons.mpr ⟨q2071, (List.forall_mem_cons.mpr ⟨q2090, (List.forall_mem_cons.mpr ⟨q1365, (List.forall_mem_cons.mpr ⟨q2074, (List.forall_mem_cons.mpr ⟨q2091, (List.forall_mem_cons.mpr ⟨q1376, (List.forall_mem_cons.mpr ⟨q2072, (List.forall_mem_cons.mpr ⟨q2092, (List.forall_mem_cons.mpr ⟨q1386, (List.forall_mem_cons.mpr ⟨q2073, (List.forall_mem_cons.mpr ⟨q2093, (List.forall_mem_cons.mpr ⟨q1397, (List.forall_mem_cons.mpr ⟨q2070, (List.forall_mem_cons.mpr ⟨q2094, (List.forall_mem_cons.mpr ⟨q187, (List.forall_mem_cons.mpr ⟨q188, (List.forall_mem_cons.mpr ⟨q601, (List.forall_mem_cons.mpr ⟨q605, (List.forall_mem_cons.mpr ⟨q607, (List.forall_mem_cons.mpr ⟨q609, (List.forall_mem_cons.mpr ⟨q778, (List.forall_mem_cons.mpr ⟨q838, (List.forall_mem_cons.mpr ⟨q166, (List.forall_mem_cons.mpr ⟨q742, (List.forall_mem_cons.mpr ⟨q1183, (List.forall_mem_cons.mpr ⟨q1228, (fun _ h => by cases h)⟩)⟩)⟩)⟩)⟩)⟩)⟩)⟩)⟩)⟩)⟩)⟩)⟩)⟩)⟩)⟩)⟩)⟩)⟩)⟩)⟩)⟩)⟩)⟩)⟩)⟩)⟩)⟩)⟩)⟩)⟩)⟩)⟩)⟩)⟩)⟩)⟩)⟩)⟩)⟩)⟩)⟩)⟩)⟩)⟩)⟩)⟩)⟩)⟩)⟩)⟩)⟩)⟩)⟩)⟩)⟩)⟩)⟩)⟩)⟩)⟩)⟩)⟩)⟩)⟩)⟩)⟩)⟩)⟩)⟩)⟩)⟩)⟩)⟩)⟩)⟩)⟩)⟩)⟩)⟩)⟩)⟩)⟩)⟩)⟩)⟩)⟩)⟩)⟩)⟩)⟩)⟩)⟩)⟩)⟩)⟩)⟩)⟩)⟩)⟩)⟩)⟩)⟩)⟩)⟩)⟩)⟩)⟩)⟩)⟩)⟩)⟩)⟩)⟩)
def zFw : List (String × MethodName × MethodName) := [("PromiseRoofs$Storey", ⟨"PromiseRoofs$Swears", "swears", "(I)I"⟩, ⟨"PromiseRoofs$Storey", "swears", "(I)I"⟩), ("PromiseRoofs$Attic", ⟨"PromiseRoofs$Swears", "swears", "(I)I"⟩, ⟨"PromiseRoofs$Attic", "swears", "(I)I"⟩), ("PromiseRoofs$Cellar", ⟨"PromiseRoofs$Swears", "swears", "(I)I"⟩, ⟨"PromiseRoofs$Storey", "swears", "(I)I"⟩), ("PromiseRoofs$Tower", ⟨"PromiseRoofs$Swears", "swears", "(I)I"⟩, ⟨"PromiseRoofs$Storey", "swears", "(I)I"⟩), ("PromiseRoofs$Widow", ⟨"PromiseRoofs$Swears", "swears", "(I)I"⟩, ⟨"PromiseRoofs$Attic", "swears", "(I)I"⟩), ("PromiseRoofs$Saint", ⟨"PromiseRoofs$Swears", "swears", "(I)I"⟩, ⟨"PromiseRoofs$Storey", "swears", "(I)I"⟩), ("PromiseRoofs$Pole", ⟨"PromiseRoofs$Swears", "swears", "(I)I"⟩, ⟨"PromiseRoofs$Pole", "swears", "(I)I"⟩), ("PromiseRoofs$Potter", ⟨"PromiseRoofs$Swears", "swears", "(I)I"⟩, ⟨"PromiseRoofs$Attic", "swears", "(I)I"⟩), ("PromiseRoofs$Storey", ⟨"PromiseRoofs$Tells", "tells", "(I)I"⟩, ⟨"PromiseRoofs$Storey", "tells", "(I)I"⟩), ("PromiseRoofs$Attic", ⟨"PromiseRoofs$Tells", "tells", "(I)I"⟩, ⟨"PromiseRoofs$Storey", "tells", "(I)I"⟩), ("PromiseRoofs$Cellar", ⟨"PromiseRoofs$Tells", "tells", "(I)I"⟩, ⟨"PromiseRoofs$Storey", "tells", "(I)I"⟩), ("PromiseRoofs$Tower", ⟨"PromiseRoofs$Tells", "tells", "(I)I"⟩, ⟨"PromiseRoofs$Storey", "tells", "(I)I"⟩), ("PromiseRoofs$Widow", ⟨"PromiseRoofs$Tells", "tells", "(I)I"⟩, ⟨"PromiseRoofs$Storey", "tells", "(I)I"⟩), ("PromiseRoofs$Saint", ⟨"PromiseRoofs$Tells", "tells", "(I)I"⟩, ⟨"PromiseRoofs$Saint", "tells", "(I)I"⟩), ("PromiseRoofs$Pole", ⟨"PromiseRoofs$Tells", "tells", "(I)I"⟩, ⟨"PromiseRoofs$Storey", "tells", "(I)I"⟩), ("PromiseRoofs$Potter", ⟨"PromiseRoofs$Tells", "tells", "(I)I"⟩, ⟨"PromiseRoofs$Potter", "tells", "(I)I"⟩)]
def zAO : List String := ["PromiseRoofs$Owner", "PromiseRoofs$Promise", "PromiseRoofs$Change", "PromiseRoofs$Storey", "PromiseRoofs$Held"]
/-- the words that don't ride in lw_all -/
def ZE (s : State) : Prop := (∀ w ∈ zW, va_Nw w s) ∧ (∀ q ∈ zFw, va_Fw q.1 q.2.1 q.2.2 s) ∧ ∀ q ∈ zAO, va_AO q s
def zkind (w : Cond) : Bool := match w with
  | .fieldLinkNest _ _ _ _ _ _ => true
  | .methodLinkNest _ _ _ _ => true
  | .castable _ _ => true
  | .declares _ => true
  | _ => false
theorem zW_k : ∀ w ∈ zW, zkind w = true := by
  have h : zW.all zkind = true := rfl
  exact List.all_eq_true.mp h
theorem zk_tab {w : Cond} (h : zkind w = true) : w.onTables = true := by
  unfold zkind at h
  split at h
  all_goals first
    | rfl
    | cases h
theorem zk_warm {w : Cond} (h : zkind w = true) {s U : State} (hW : s.WarmedH U.vm) (hZ : va_Nw w s) : va_Nw w U := by
  unfold zkind at h
  split at h
  · exact va_Nw.warmF hW hZ
  · exact va_Nw.warmM hW hZ
  · exact va_Nw.warmC hW hZ
  · exact va_Nw.warmD hW hZ
  · cases h
theorem zFw_ok : ∀ q ∈ zFw, q.2.1.cls ≠ "java/lang/invoke/MethodHandle" ∧ q.2.1.cls ≠ "java/lang/invoke/VarHandle" := by decide +kernel
theorem stZE : Stab ZE := ⟨fun s U hW h => ⟨fun w hw => zk_warm (zW_k w hw) hW (h.1 w hw), fun q hq => va_Fw.moved (zFw_ok q hq) hW.alike (h.2.1 q hq), fun q hq => va_AO.moved hW.alike (h.2.2 q hq)⟩, fun U g mk a h => ⟨fun w hw => va_Nw.same (u := U) (U := U.calling g mk a) (zk_tab (zW_k w hw)) rfl (h.1 w hw), fun q hq => va_Fw.moved (zFw_ok q hq) (u := U) (U := U.calling g mk a) (Vm.Alike.refl U.vm) (h.2.1 q hq), fun q hq => va_AO.moved (u := U) (U := U.calling g mk a) (Vm.Alike.refl U.vm) (h.2.2 q hq)⟩⟩
theorem ZE.of {s : State} {A : Array Value} (hts : ∀ w ∈ lw_tbl, w.before A s = true) : ZE s := ⟨fun w hw => va_Nw.of (zk_tab (zW_k w hw)) (hts w (zW_tbl w hw)), (List.forall_mem_cons.mpr ⟨va_Fw.of (hts _ q1183) (hts _ q1182) (hts _ q1201) (hts _ q1218) (hts _ q1216), (List.forall_mem_cons.mpr ⟨va_Fw.of (hts _ q1183) (hts _ q1182) (hts _ q1188) (hts _ q1186) (hts _ q1184), (List.forall_mem_cons.mpr ⟨va_Fw.of (hts _ q1183) (hts _ q1182) (hts _ q1201) (hts _ q1200) (hts _ q1198), (List.forall_mem_cons.mpr ⟨va_Fw.of (hts _ q1183) (hts _ q1182) (hts _ q1201) (hts _ q1221) (hts _ q1219), (List.forall_mem_cons.mpr ⟨va_Fw.of (hts _ q1183) (hts _ q1182) (hts _ q1188) (hts _ q1224) (hts _ q1222), (List.forall_mem_cons.mpr ⟨va_Fw.of (hts _ q1183) (hts _ q1182) (hts _ q1201) (hts _ q1215) (hts _ q1213), (List.forall_mem_cons.mpr ⟨va_Fw.of (hts _ q1183) (hts _ q1182) (hts _ q1206) (hts _ q1204) (hts _ q1202), (List.forall_mem_cons.mpr ⟨va_Fw.of (hts _ q1183) (hts _ q1182) (hts _ q1188) (hts _ q1212) (hts _ q1210), (List.forall_mem_cons.mpr ⟨va_Fw.of (hts _ q1228) (hts _ q1227) (hts _ q1233) (hts _ q1310) (hts _ q1308), (List.forall_mem_cons.mpr ⟨va_Fw.of (hts _ q1228) (hts _ q1227) (hts _ q1233) (hts _ q1231) (hts _ q1229), (List.forall_mem_cons.mpr ⟨va_Fw.of (hts _ q1228) (hts _ q1227) (hts _ q1233) (hts _ q1286) (hts _ q1284), (List.forall_mem_cons.mpr ⟨va_Fw.of (hts _ q1228) (hts _ q1227) (hts _ q1233) (hts _ q1313) (hts _ q1311), (List.forall_mem_cons.mpr ⟨va_Fw.of (hts _ q1228) (hts _ q1227) (hts _ q1233) (hts _ q1316) (hts _ q1314), (List.forall_mem_cons.mpr ⟨va_Fw.of (hts _ q1228) (hts _ q1227) (hts _ q1303) (hts _ q1301) (hts _ q1299), (List.forall_mem_cons.mpr ⟨va_Fw.of (hts _ q1228) (hts _ q1227) (hts _ q1233) (hts _ q1289) (hts _ q1287), (List.forall_mem_cons.mpr ⟨va_Fw.of (hts _ q1228) (hts _ q1227) (hts _ q1294) (hts _ q1292) (hts _ q1290), (fun _ h => by cases h)⟩)⟩)⟩)⟩)⟩)⟩)⟩)⟩)⟩)⟩)⟩)⟩)⟩)⟩)⟩)⟩), (List.forall_mem_cons.mpr ⟨va_AO.of (hts _ q154), (List.forall_mem_cons.mpr ⟨va_AO.of (hts _ q156), (List.forall_mem_cons.mpr ⟨va_AO.of (hts _ q158), (List.forall_mem_cons.mpr ⟨va_AO.of (hts _ q174), (List.forall_mem_cons.mpr ⟨va_AO.of (hts _ q176), (fun _ h => by cases h)⟩)⟩)⟩)⟩)⟩)⟩
theorem ze399 : ∀ U, ZE U → va_Nw (Jvm.Cond.declares ({ cls := "java/lang/Throwable", name := "fillInStackTrace", desc := "()Ljava/lang/Throwable;" } : Jvm.MethodName)) U := fun U h => h.1 _ (List.mem_of_getElem? (i := 0) rfl)
theorem ze432 : ∀ U, ZE U → va_Nw (Jvm.Cond.declares ({ cls := "java/lang/Throwable", name := "<init>", desc := "()V" } : Jvm.MethodName)) U := fun U h => h.1 _ (List.mem_of_getElem? (i := 1) rfl)
theorem ze433 : ∀ U, ZE U → va_Nw (Jvm.Cond.declares ({ cls := "java/lang/Throwable", name := "<init>", desc := "(Ljava/lang/String;)V" } : Jvm.MethodName)) U := fun U h => h.1 _ (List.mem_of_getElem? (i := 2) rfl)
theorem ze430 : ∀ U, ZE U → va_Nw (Jvm.Cond.declares ({ cls := "java/lang/Exception", name := "<init>", desc := "()V" } : Jvm.MethodName)) U := fun U h => h.1 _ (List.mem_of_getElem? (i := 3) rfl)
theorem ze431 : ∀ U, ZE U → va_Nw (Jvm.Cond.declares ({ cls := "java/lang/Exception", name := "<init>", desc := "(Ljava/lang/String;)V" } : Jvm.MethodName)) U := fun U h => h.1 _ (List.mem_of_getElem? (i := 4) rfl)
theorem ze1343 : ∀ U, ZE U → va_Nw (Jvm.Cond.castable "java/lang/NegativeArraySizeException" "java/lang/NegativeArraySizeException") U := fun U h => h.1 _ (List.mem_of_getElem? (i := 5) rfl)
theorem ze428 : ∀ U, ZE U → va_Nw (Jvm.Cond.declares ({ cls := "java/lang/RuntimeException", name := "<init>", desc := "()V" } : Jvm.MethodName)) U := fun U h => h.1 _ (List.mem_of_getElem? (i := 6) rfl)
theorem ze429 : ∀ U, ZE U → va_Nw (Jvm.Cond.declares ({ cls := "java/lang/RuntimeException", name := "<init>", desc := "(Ljava/lang/String;)V" } : Jvm.MethodName)) U := fun U h => h.1 _ (List.mem_of_getElem? (i := 7) rfl)
theorem ze473 : ∀ U, ZE U → va_Nw (Jvm.Cond.castable "java/lang/RuntimeException" "java/lang/Throwable") U := fun U h => h.1 _ (List.mem_of_getElem? (i := 8) rfl)
theorem ze427 : ∀ U, ZE U → va_Nw (Jvm.Cond.castable "java/lang/ClassCastException" "java/lang/ClassCastException") U := fun U h => h.1 _ (List.mem_of_getElem? (i := 9) rfl)
theorem ze471 : ∀ U, ZE U → va_Nw (Jvm.Cond.castable "java/lang/NullPointerException" "java/lang/NullPointerException") U := fun U h => h.1 _ (List.mem_of_getElem? (i := 10) rfl)
theorem ze490 : ∀ U, ZE U → va_Nw (Jvm.Cond.declares ({ cls := "java/lang/IndexOutOfBoundsException", name := "<init>", desc := "()V" } : Jvm.MethodName)) U := fun U h => h.1 _ (List.mem_of_getElem? (i := 11) rfl)
theorem ze491 : ∀ U, ZE U → va_Nw (Jvm.Cond.declares ({ cls := "java/lang/IndexOutOfBoundsException", name := "<init>", desc := "(Ljava/lang/String;)V" } : Jvm.MethodName)) U := fun U h => h.1 _ (List.mem_of_getElem? (i := 12) rfl)
theorem ze489 : ∀ U, ZE U → va_Nw (Jvm.Cond.castable "java/lang/ArrayIndexOutOfBoundsException" "java/lang/ArrayIndexOutOfBoundsException") U := fun U h => h.1 _ (List.mem_of_getElem? (i := 13) rfl)
theorem ze2069 : ∀ U, ZE U → va_Nw (Jvm.Cond.castable "java/lang/ArrayIndexOutOfBoundsException" "java/lang/IndexOutOfBoundsException") U := fun U h => h.1 _ (List.mem_of_getElem? (i := 14) rfl)
theorem ze161 : ∀ U, ZE U → va_Nw (Jvm.Cond.methodLinkNest "PromiseRoofs" (33 : Nat) ({ cls := "PromiseRoofs$Facts", name := "<init>", desc := "()V" } : Jvm.MethodName) "PromiseRoofs") U := fun U h => h.1 _ (List.mem_of_getElem? (i := 15) rfl)
theorem ze167 : ∀ U, ZE U → va_Nw (Jvm.Cond.fieldLinkNest "PromiseRoofs" (222 : Nat) "PromiseRoofs$Facts" "named" "[I" "PromiseRoofs") U := fun U h => h.1 _ (List.mem_of_getElem? (i := 16) rfl)
theorem ze307 : ∀ U, ZE U → va_Nw (Jvm.Cond.fieldLinkNest "PromiseRoofs" (113 : Nat) "PromiseRoofs$Owner" "money" "I" "PromiseRoofs") U := fun U h => h.1 _ (List.mem_of_getElem? (i := 17) rfl)
theorem ze333 : ∀ U, ZE U → va_Nw (Jvm.Cond.fieldLinkNest "PromiseRoofs" (173 : Nat) "PromiseRoofs$Promise" "by" "I" "PromiseRoofs") U := fun U h => h.1 _ (List.mem_of_getElem? (i := 18) rfl)
theorem ze335 : ∀ U, ZE U → va_Nw (Jvm.Cond.fieldLinkNest "PromiseRoofs" (176 : Nat) "PromiseRoofs$Promise" "to" "I" "PromiseRoofs") U := fun U h => h.1 _ (List.mem_of_getElem? (i := 19) rfl)
theorem ze337 : ∀ U, ZE U → va_Nw (Jvm.Cond.fieldLinkNest "PromiseRoofs" (116 : Nat) "PromiseRoofs$Promise" "worth" "I" "PromiseRoofs") U := fun U h => h.1 _ (List.mem_of_getElem? (i := 20) rfl)
theorem ze339 : ∀ U, ZE U → va_Nw (Jvm.Cond.fieldLinkNest "PromiseRoofs" (119 : Nat) "PromiseRoofs$Promise" "kind" "I" "PromiseRoofs") U := fun U h => h.1 _ (List.mem_of_getElem? (i := 21) rfl)
theorem ze341 : ∀ U, ZE U → va_Nw (Jvm.Cond.fieldLinkNest "PromiseRoofs" (122 : Nat) "PromiseRoofs$Promise" "lasts" "I" "PromiseRoofs") U := fun U h => h.1 _ (List.mem_of_getElem? (i := 22) rfl)
theorem ze343 : ∀ U, ZE U → va_Nw (Jvm.Cond.fieldLinkNest "PromiseRoofs" (125 : Nat) "PromiseRoofs$Promise" "made" "I" "PromiseRoofs") U := fun U h => h.1 _ (List.mem_of_getElem? (i := 23) rfl)
theorem ze345 : ∀ U, ZE U → va_Nw (Jvm.Cond.fieldLinkNest "PromiseRoofs" (128 : Nat) "PromiseRoofs$Promise" "done" "I" "PromiseRoofs") U := fun U h => h.1 _ (List.mem_of_getElem? (i := 24) rfl)
theorem ze542 : ∀ U, ZE U → va_Nw (Jvm.Cond.fieldLinkNest "PromiseRoofs" (144 : Nat) "PromiseRoofs$Change" "of" "I" "PromiseRoofs") U := fun U h => h.1 _ (List.mem_of_getElem? (i := 25) rfl)
theorem ze544 : ∀ U, ZE U → va_Nw (Jvm.Cond.fieldLinkNest "PromiseRoofs" (147 : Nat) "PromiseRoofs$Change" "at" "I" "PromiseRoofs") U := fun U h => h.1 _ (List.mem_of_getElem? (i := 26) rfl)
theorem ze546 : ∀ U, ZE U → va_Nw (Jvm.Cond.fieldLinkNest "PromiseRoofs" (149 : Nat) "PromiseRoofs$Change" "before" "I" "PromiseRoofs") U := fun U h => h.1 _ (List.mem_of_getElem? (i := 27) rfl)
theorem ze548 : ∀ U, ZE U → va_Nw (Jvm.Cond.fieldLinkNest "PromiseRoofs" (152 : Nat) "PromiseRoofs$Change" "behind" "I" "PromiseRoofs") U := fun U h => h.1 _ (List.mem_of_getElem? (i := 28) rfl)
theorem ze573 : ∀ U, ZE U → va_Nw (Jvm.Cond.methodLinkNest "PromiseRoofs" (184 : Nat) ({ cls := "PromiseRoofs$Reader", name := "<init>", desc := "(LPromiseRoofs;)V" } : Jvm.MethodName) "PromiseRoofs") U := fun U h => h.1 _ (List.mem_of_getElem? (i := 29) rfl)
theorem ze579 : ∀ U, ZE U → va_Nw (Jvm.Cond.fieldLinkNest "PromiseRoofs" (191 : Nat) "PromiseRoofs$Reader" "fault" "I" "PromiseRoofs") U := fun U h => h.1 _ (List.mem_of_getElem? (i := 30) rfl)
theorem ze606 : ∀ U, ZE U → va_Nw (Jvm.Cond.fieldLinkNest "PromiseRoofs" (198 : Nat) "PromiseRoofs$Line" "test" "LPromiseRoofs$Node;" "PromiseRoofs") U := fun U h => h.1 _ (List.mem_of_getElem? (i := 31) rfl)
theorem ze608 : ∀ U, ZE U → va_Nw (Jvm.Cond.fieldLinkNest "PromiseRoofs" (210 : Nat) "PromiseRoofs$Line" "gives" "LPromiseRoofs$Node;" "PromiseRoofs") U := fun U h => h.1 _ (List.mem_of_getElem? (i := 32) rfl)
theorem ze610 : ∀ U, ZE U → va_Nw (Jvm.Cond.fieldLinkNest "PromiseRoofs" (213 : Nat) "PromiseRoofs$Line" "next" "LPromiseRoofs$Line;" "PromiseRoofs") U := fun U h => h.1 _ (List.mem_of_getElem? (i := 33) rfl)
theorem ze763 : ∀ U, ZE U → va_Nw (Jvm.Cond.methodLinkNest "PromiseRoofs$Denied" (1 : Nat) ({ cls := "PromiseRoofs$Node", name := "<init>", desc := "()V" } : Jvm.MethodName) "PromiseRoofs") U := fun U h => h.1 _ (List.mem_of_getElem? (i := 34) rfl)
theorem ze773 : ∀ U, ZE U → va_Nw (Jvm.Cond.methodLinkNest "PromiseRoofs$Turned" (1 : Nat) ({ cls := "PromiseRoofs$Node", name := "<init>", desc := "()V" } : Jvm.MethodName) "PromiseRoofs") U := fun U h => h.1 _ (List.mem_of_getElem? (i := 35) rfl)
theorem ze784 : ∀ U, ZE U → va_Nw (Jvm.Cond.methodLinkNest "PromiseRoofs$Leaf" (1 : Nat) ({ cls := "PromiseRoofs$Node", name := "<init>", desc := "()V" } : Jvm.MethodName) "PromiseRoofs") U := fun U h => h.1 _ (List.mem_of_getElem? (i := 36) rfl)
theorem ze799 : ∀ U, ZE U → va_Nw (Jvm.Cond.methodLinkNest "PromiseRoofs$Pair" (1 : Nat) ({ cls := "PromiseRoofs$Node", name := "<init>", desc := "()V" } : Jvm.MethodName) "PromiseRoofs") U := fun U h => h.1 _ (List.mem_of_getElem? (i := 37) rfl)
theorem ze1075 : ∀ U, ZE U → va_Nw (Jvm.Cond.methodLinkNest "PromiseRoofs$Storey" (9 : Nat) ({ cls := "PromiseRoofs$Held", name := "<init>", desc := "()V" } : Jvm.MethodName) "PromiseRoofs") U := fun U h => h.1 _ (List.mem_of_getElem? (i := 38) rfl)
theorem ze1197 : ∀ U, ZE U → va_Nw (Jvm.Cond.methodLinkNest "PromiseRoofs$Storey" (23 : Nat) ({ cls := "PromiseRoofs", name := "ran", desc := "(I)V" } : Jvm.MethodName) "PromiseRoofs") U := fun U h => h.1 _ (List.mem_of_getElem? (i := 39) rfl)
theorem ze1216 : ∀ U, ZE U → va_Nw (Jvm.Cond.castable "PromiseRoofs$Storey" "PromiseRoofs$Swears") U := fun U h => h.1 _ (List.mem_of_getElem? (i := 40) rfl)
theorem ze1254 : ∀ U, ZE U → va_Nw (Jvm.Cond.declares ({ cls := "PromiseRoofs$Storey", name := "builds", desc := "(I)I" } : Jvm.MethodName)) U := fun U h => h.1 _ (List.mem_of_getElem? (i := 41) rfl)
theorem ze1264 : ∀ U, ZE U → va_Nw (Jvm.Cond.declares ({ cls := "PromiseRoofs$Storey", name := "comesDown", desc := "(I)I" } : Jvm.MethodName)) U := fun U h => h.1 _ (List.mem_of_getElem? (i := 42) rfl)
theorem ze1298 : ∀ U, ZE U → va_Nw (Jvm.Cond.declares ({ cls := "PromiseRoofs$Storey", name := "tells", desc := "(I)I" } : Jvm.MethodName)) U := fun U h => h.1 _ (List.mem_of_getElem? (i := 43) rfl)
theorem ze1308 : ∀ U, ZE U → va_Nw (Jvm.Cond.castable "PromiseRoofs$Storey" "PromiseRoofs$Tells") U := fun U h => h.1 _ (List.mem_of_getElem? (i := 44) rfl)
theorem ze2089 : ∀ U, ZE U → va_Nw (Jvm.Cond.castable "PromiseRoofs$Storey" "PromiseRoofs$Held") U := fun U h => h.1 _ (List.mem_of_getElem? (i := 45) rfl)
theorem ze1184 : ∀ U, ZE U → va_Nw (Jvm.Cond.castable "PromiseRoofs$Attic" "PromiseRoofs$Swears") U := fun U h => h.1 _ (List.mem_of_getElem? (i := 46) rfl)
theorem ze1190 : ∀ U, ZE U → va_Nw (Jvm.Cond.methodLinkNest "PromiseRoofs$Attic" (17 : Nat) ({ cls := "PromiseRoofs", name := "ran", desc := "(I)V" } : Jvm.MethodName) "PromiseRoofs") U := fun U h => h.1 _ (List.mem_of_getElem? (i := 47) rfl)
theorem ze1229 : ∀ U, ZE U → va_Nw (Jvm.Cond.castable "PromiseRoofs$Attic" "PromiseRoofs$Tells") U := fun U h => h.1 _ (List.mem_of_getElem? (i := 48) rfl)
theorem ze1269 : ∀ U, ZE U → va_Nw (Jvm.Cond.declares ({ cls := "PromiseRoofs$Attic", name := "swears", desc := "(I)I" } : Jvm.MethodName)) U := fun U h => h.1 _ (List.mem_of_getElem? (i := 49) rfl)
theorem ze2075 : ∀ U, ZE U → va_Nw (Jvm.Cond.castable "PromiseRoofs$Attic" "PromiseRoofs$Storey") U := fun U h => h.1 _ (List.mem_of_getElem? (i := 50) rfl)
theorem ze2082 : ∀ U, ZE U → va_Nw (Jvm.Cond.castable "PromiseRoofs$Attic" "PromiseRoofs$Held") U := fun U h => h.1 _ (List.mem_of_getElem? (i := 51) rfl)
theorem ze1198 : ∀ U, ZE U → va_Nw (Jvm.Cond.castable "PromiseRoofs$Cellar" "PromiseRoofs$Swears") U := fun U h => h.1 _ (List.mem_of_getElem? (i := 52) rfl)
theorem ze1243 : ∀ U, ZE U → va_Nw (Jvm.Cond.methodLinkNest "PromiseRoofs$Cellar" (17 : Nat) ({ cls := "PromiseRoofs", name := "ran", desc := "(I)V" } : Jvm.MethodName) "PromiseRoofs") U := fun U h => h.1 _ (List.mem_of_getElem? (i := 53) rfl)
theorem ze1284 : ∀ U, ZE U → va_Nw (Jvm.Cond.castable "PromiseRoofs$Cellar" "PromiseRoofs$Tells") U := fun U h => h.1 _ (List.mem_of_getElem? (i := 54) rfl)
theorem ze2076 : ∀ U, ZE U → va_Nw (Jvm.Cond.castable "PromiseRoofs$Cellar" "PromiseRoofs$Storey") U := fun U h => h.1 _ (List.mem_of_getElem? (i := 55) rfl)
theorem ze2083 : ∀ U, ZE U → va_Nw (Jvm.Cond.castable "PromiseRoofs$Cellar" "PromiseRoofs$Held") U := fun U h => h.1 _ (List.mem_of_getElem? (i := 56) rfl)
theorem ze1219 : ∀ U, ZE U → va_Nw (Jvm.Cond.castable "PromiseRoofs$Tower" "PromiseRoofs$Swears") U := fun U h => h.1 _ (List.mem_of_getElem? (i := 57) rfl)
theorem ze1275 : ∀ U, ZE U → va_Nw (Jvm.Cond.methodLinkNest "PromiseRoofs$Tower" (17 : Nat) ({ cls := "PromiseRoofs", name := "ran", desc := "(I)V" } : Jvm.MethodName) "PromiseRoofs") U := fun U h => h.1 _ (List.mem_of_getElem? (i := 58) rfl)
theorem ze1311 : ∀ U, ZE U → va_Nw (Jvm.Cond.castable "PromiseRoofs$Tower" "PromiseRoofs$Tells") U := fun U h => h.1 _ (List.mem_of_getElem? (i := 59) rfl)
theorem ze2080 : ∀ U, ZE U → va_Nw (Jvm.Cond.castable "PromiseRoofs$Tower" "PromiseRoofs$Storey") U := fun U h => h.1 _ (List.mem_of_getElem? (i := 60) rfl)
theorem ze2084 : ∀ U, ZE U → va_Nw (Jvm.Cond.castable "PromiseRoofs$Tower" "PromiseRoofs$Held") U := fun U h => h.1 _ (List.mem_of_getElem? (i := 61) rfl)
theorem ze1222 : ∀ U, ZE U → va_Nw (Jvm.Cond.castable "PromiseRoofs$Widow" "PromiseRoofs$Swears") U := fun U h => h.1 _ (List.mem_of_getElem? (i := 62) rfl)
theorem ze1257 : ∀ U, ZE U → va_Nw (Jvm.Cond.declares ({ cls := "PromiseRoofs$Widow", name := "comesDown", desc := "(I)I" } : Jvm.MethodName)) U := fun U h => h.1 _ (List.mem_of_getElem? (i := 63) rfl)
theorem ze1261 : ∀ U, ZE U → va_Nw (Jvm.Cond.methodLinkNest "PromiseRoofs$Widow" (17 : Nat) ({ cls := "PromiseRoofs", name := "ran", desc := "(I)V" } : Jvm.MethodName) "PromiseRoofs") U := fun U h => h.1 _ (List.mem_of_getElem? (i := 64) rfl)
theorem ze1314 : ∀ U, ZE U → va_Nw (Jvm.Cond.castable "PromiseRoofs$Widow" "PromiseRoofs$Tells") U := fun U h => h.1 _ (List.mem_of_getElem? (i := 65) rfl)
theorem ze2081 : ∀ U, ZE U → va_Nw (Jvm.Cond.castable "PromiseRoofs$Widow" "PromiseRoofs$Storey") U := fun U h => h.1 _ (List.mem_of_getElem? (i := 66) rfl)
theorem ze2085 : ∀ U, ZE U → va_Nw (Jvm.Cond.castable "PromiseRoofs$Widow" "PromiseRoofs$Held") U := fun U h => h.1 _ (List.mem_of_getElem? (i := 67) rfl)
theorem ze1213 : ∀ U, ZE U → va_Nw (Jvm.Cond.castable "PromiseRoofs$Saint" "PromiseRoofs$Swears") U := fun U h => h.1 _ (List.mem_of_getElem? (i := 68) rfl)
theorem ze1299 : ∀ U, ZE U → va_Nw (Jvm.Cond.castable "PromiseRoofs$Saint" "PromiseRoofs$Tells") U := fun U h => h.1 _ (List.mem_of_getElem? (i := 69) rfl)
theorem ze1305 : ∀ U, ZE U → va_Nw (Jvm.Cond.methodLinkNest "PromiseRoofs$Saint" (13 : Nat) ({ cls := "PromiseRoofs", name := "ran", desc := "(I)V" } : Jvm.MethodName) "PromiseRoofs") U := fun U h => h.1 _ (List.mem_of_getElem? (i := 70) rfl)
theorem ze2079 : ∀ U, ZE U → va_Nw (Jvm.Cond.castable "PromiseRoofs$Saint" "PromiseRoofs$Storey") U := fun U h => h.1 _ (List.mem_of_getElem? (i := 71) rfl)
theorem ze2086 : ∀ U, ZE U → va_Nw (Jvm.Cond.castable "PromiseRoofs$Saint" "PromiseRoofs$Held") U := fun U h => h.1 _ (List.mem_of_getElem? (i := 72) rfl)
theorem ze1202 : ∀ U, ZE U → va_Nw (Jvm.Cond.castable "PromiseRoofs$Pole" "PromiseRoofs$Swears") U := fun U h => h.1 _ (List.mem_of_getElem? (i := 73) rfl)
theorem ze1208 : ∀ U, ZE U → va_Nw (Jvm.Cond.methodLinkNest "PromiseRoofs$Pole" (13 : Nat) ({ cls := "PromiseRoofs", name := "ran", desc := "(I)V" } : Jvm.MethodName) "PromiseRoofs") U := fun U h => h.1 _ (List.mem_of_getElem? (i := 74) rfl)
theorem ze1287 : ∀ U, ZE U → va_Nw (Jvm.Cond.castable "PromiseRoofs$Pole" "PromiseRoofs$Tells") U := fun U h => h.1 _ (List.mem_of_getElem? (i := 75) rfl)
theorem ze2077 : ∀ U, ZE U → va_Nw (Jvm.Cond.castable "PromiseRoofs$Pole" "PromiseRoofs$Storey") U := fun U h => h.1 _ (List.mem_of_getElem? (i := 76) rfl)
theorem ze2087 : ∀ U, ZE U → va_Nw (Jvm.Cond.castable "PromiseRoofs$Pole" "PromiseRoofs$Held") U := fun U h => h.1 _ (List.mem_of_getElem? (i := 77) rfl)
theorem ze1210 : ∀ U, ZE U → va_Nw (Jvm.Cond.castable "PromiseRoofs$Potter" "PromiseRoofs$Swears") U := fun U h => h.1 _ (List.mem_of_getElem? (i := 78) rfl)
theorem ze1251 : ∀ U, ZE U → va_Nw (Jvm.Cond.methodLinkNest "PromiseRoofs$Potter" (13 : Nat) ({ cls := "PromiseRoofs", name := "ran", desc := "(I)V" } : Jvm.MethodName) "PromiseRoofs") U := fun U h => h.1 _ (List.mem_of_getElem? (i := 79) rfl)
theorem ze1290 : ∀ U, ZE U → va_Nw (Jvm.Cond.castable "PromiseRoofs$Potter" "PromiseRoofs$Tells") U := fun U h => h.1 _ (List.mem_of_getElem? (i := 80) rfl)
theorem ze2078 : ∀ U, ZE U → va_Nw (Jvm.Cond.castable "PromiseRoofs$Potter" "PromiseRoofs$Storey") U := fun U h => h.1 _ (List.mem_of_getElem? (i := 81) rfl)
theorem ze2088 : ∀ U, ZE U → va_Nw (Jvm.Cond.castable "PromiseRoofs$Potter" "PromiseRoofs$Held") U := fun U h => h.1 _ (List.mem_of_getElem? (i := 82) rfl)
theorem ze1355 : ∀ U, ZE U → va_Nw (Jvm.Cond.methodLinkNest "PromiseRoofs$Row" (1 : Nat) ({ cls := "PromiseRoofs$Held", name := "<init>", desc := "()V" } : Jvm.MethodName) "PromiseRoofs") U := fun U h => h.1 _ (List.mem_of_getElem? (i := 83) rfl)
theorem ze1409 : ∀ U, ZE U → va_Nw (Jvm.Cond.declares ({ cls := "PromiseRoofs$Row", name := "put", desc := "(IJ)Z" } : Jvm.MethodName)) U := fun U h => h.1 _ (List.mem_of_getElem? (i := 84) rfl)
theorem ze1432 : ∀ U, ZE U → va_Nw (Jvm.Cond.declares ({ cls := "PromiseRoofs$Row", name := "at", desc := "(I)J" } : Jvm.MethodName)) U := fun U h => h.1 _ (List.mem_of_getElem? (i := 85) rfl)
theorem ze1452 : ∀ U, ZE U → va_Nw (Jvm.Cond.declares ({ cls := "PromiseRoofs$Row", name := "copy", desc := "(ILPromiseRoofs$Row;II)V" } : Jvm.MethodName)) U := fun U h => h.1 _ (List.mem_of_getElem? (i := 86) rfl)
theorem ze1352 : ∀ U, ZE U → va_Nw (Jvm.Cond.methodLinkNest "PromiseRoofs$ByteRow" (1 : Nat) ({ cls := "PromiseRoofs$Row", name := "<init>", desc := "()V" } : Jvm.MethodName) "PromiseRoofs") U := fun U h => h.1 _ (List.mem_of_getElem? (i := 87) rfl)
theorem ze2071 : ∀ U, ZE U → va_Nw (Jvm.Cond.castable "PromiseRoofs$ByteRow" "PromiseRoofs$Row") U := fun U h => h.1 _ (List.mem_of_getElem? (i := 88) rfl)
theorem ze2090 : ∀ U, ZE U → va_Nw (Jvm.Cond.castable "PromiseRoofs$ByteRow" "PromiseRoofs$Held") U := fun U h => h.1 _ (List.mem_of_getElem? (i := 89) rfl)
theorem ze1365 : ∀ U, ZE U → va_Nw (Jvm.Cond.methodLinkNest "PromiseRoofs$ShortRow" (1 : Nat) ({ cls := "PromiseRoofs$Row", name := "<init>", desc := "()V" } : Jvm.MethodName) "PromiseRoofs") U := fun U h => h.1 _ (List.mem_of_getElem? (i := 90) rfl)
theorem ze2074 : ∀ U, ZE U → va_Nw (Jvm.Cond.castable "PromiseRoofs$ShortRow" "PromiseRoofs$Row") U := fun U h => h.1 _ (List.mem_of_getElem? (i := 91) rfl)
theorem ze2091 : ∀ U, ZE U → va_Nw (Jvm.Cond.castable "PromiseRoofs$ShortRow" "PromiseRoofs$Held") U := fun U h => h.1 _ (List.mem_of_getElem? (i := 92) rfl)
theorem ze1376 : ∀ U, ZE U → va_Nw (Jvm.Cond.methodLinkNest "PromiseRoofs$IntRow" (1 : Nat) ({ cls := "PromiseRoofs$Row", name := "<init>", desc := "()V" } : Jvm.MethodName) "PromiseRoofs") U := fun U h => h.1 _ (List.mem_of_getElem? (i := 93) rfl)
theorem ze2072 : ∀ U, ZE U → va_Nw (Jvm.Cond.castable "PromiseRoofs$IntRow" "PromiseRoofs$Row") U := fun U h => h.1 _ (List.mem_of_getElem? (i := 94) rfl)
theorem ze2092 : ∀ U, ZE U → va_Nw (Jvm.Cond.castable "PromiseRoofs$IntRow" "PromiseRoofs$Held") U := fun U h => h.1 _ (List.mem_of_getElem? (i := 95) rfl)
theorem ze1386 : ∀ U, ZE U → va_Nw (Jvm.Cond.methodLinkNest "PromiseRoofs$LongRow" (1 : Nat) ({ cls := "PromiseRoofs$Row", name := "<init>", desc := "()V" } : Jvm.MethodName) "PromiseRoofs") U := fun U h => h.1 _ (List.mem_of_getElem? (i := 96) rfl)
theorem ze2073 : ∀ U, ZE U → va_Nw (Jvm.Cond.castable "PromiseRoofs$LongRow" "PromiseRoofs$Row") U := fun U h => h.1 _ (List.mem_of_getElem? (i := 97) rfl)
theorem ze2093 : ∀ U, ZE U → va_Nw (Jvm.Cond.castable "PromiseRoofs$LongRow" "PromiseRoofs$Held") U := fun U h => h.1 _ (List.mem_of_getElem? (i := 98) rfl)
theorem ze1397 : ∀ U, ZE U → va_Nw (Jvm.Cond.methodLinkNest "PromiseRoofs$BooleanRow" (1 : Nat) ({ cls := "PromiseRoofs$Row", name := "<init>", desc := "()V" } : Jvm.MethodName) "PromiseRoofs") U := fun U h => h.1 _ (List.mem_of_getElem? (i := 99) rfl)
theorem ze2070 : ∀ U, ZE U → va_Nw (Jvm.Cond.castable "PromiseRoofs$BooleanRow" "PromiseRoofs$Row") U := fun U h => h.1 _ (List.mem_of_getElem? (i := 100) rfl)
theorem ze2094 : ∀ U, ZE U → va_Nw (Jvm.Cond.castable "PromiseRoofs$BooleanRow" "PromiseRoofs$Held") U := fun U h => h.1 _ (List.mem_of_getElem? (i := 101) rfl)
theorem ze187 : ∀ U, ZE U → va_Nw (Jvm.Cond.fieldLinkNest "PromiseRoofs$Reader" (25 : Nat) "PromiseRoofs" "tape" "[B" "PromiseRoofs") U := fun U h => h.1 _ (List.mem_of_getElem? (i := 102) rfl)
theorem ze188 : ∀ U, ZE U → va_Nw (Jvm.Cond.fieldLinkNest "PromiseRoofs$Reader" (22 : Nat) "PromiseRoofs" "taped" "I" "PromiseRoofs") U := fun U h => h.1 _ (List.mem_of_getElem? (i := 103) rfl)
theorem ze601 : ∀ U, ZE U → va_Nw (Jvm.Cond.methodLinkNest "PromiseRoofs$Reader" (49 : Nat) ({ cls := "PromiseRoofs$Line", name := "<init>", desc := "()V" } : Jvm.MethodName) "PromiseRoofs") U := fun U h => h.1 _ (List.mem_of_getElem? (i := 104) rfl)
theorem ze605 : ∀ U, ZE U → va_Nw (Jvm.Cond.fieldLinkNest "PromiseRoofs$Reader" (58 : Nat) "PromiseRoofs$Line" "test" "LPromiseRoofs$Node;" "PromiseRoofs") U := fun U h => h.1 _ (List.mem_of_getElem? (i := 105) rfl)
theorem ze607 : ∀ U, ZE U → va_Nw (Jvm.Cond.fieldLinkNest "PromiseRoofs$Reader" (54 : Nat) "PromiseRoofs$Line" "gives" "LPromiseRoofs$Node;" "PromiseRoofs") U := fun U h => h.1 _ (List.mem_of_getElem? (i := 106) rfl)
theorem ze609 : ∀ U, ZE U → va_Nw (Jvm.Cond.fieldLinkNest "PromiseRoofs$Reader" (43 : Nat) "PromiseRoofs$Line" "next" "LPromiseRoofs$Line;" "PromiseRoofs") U := fun U h => h.1 _ (List.mem_of_getElem? (i := 107) rfl)
theorem ze778 : ∀ U, ZE U → va_Nw (Jvm.Cond.methodLinkNest "PromiseRoofs$Reader" (120 : Nat) ({ cls := "PromiseRoofs", name := "in", desc := "(III)Z" } : Jvm.MethodName) "PromiseRoofs") U := fun U h => h.1 _ (List.mem_of_getElem? (i := 108) rfl)
theorem ze838 : ∀ U, ZE U → va_Nw (Jvm.Cond.declares ({ cls := "PromiseRoofs$Node", name := "value", desc := "(LPromiseRoofs$Facts;)I" } : Jvm.MethodName)) U := fun U h => h.1 _ (List.mem_of_getElem? (i := 109) rfl)
theorem ze166 : ∀ U, ZE U → va_Nw (Jvm.Cond.fieldLinkNest "PromiseRoofs$Name" (13 : Nat) "PromiseRoofs$Facts" "named" "[I" "PromiseRoofs") U := fun U h => h.1 _ (List.mem_of_getElem? (i := 110) rfl)
theorem ze742 : ∀ U, ZE U → va_Nw (Jvm.Cond.methodLinkNest "PromiseRoofs$Name" (1 : Nat) ({ cls := "PromiseRoofs$Node", name := "<init>", desc := "()V" } : Jvm.MethodName) "PromiseRoofs") U := fun U h => h.1 _ (List.mem_of_getElem? (i := 111) rfl)
theorem ze1183 : ∀ U, ZE U → va_Nw (Jvm.Cond.declares ({ cls := "PromiseRoofs$Swears", name := "swears", desc := "(I)I" } : Jvm.MethodName)) U := fun U h => h.1 _ (List.mem_of_getElem? (i := 112) rfl)
theorem ze1228 : ∀ U, ZE U → va_Nw (Jvm.Cond.declares ({ cls := "PromiseRoofs$Tells", name := "tells", desc := "(I)I" } : Jvm.MethodName)) U := fun U h => h.1 _ (List.mem_of_getElem? (i := 113) rfl)
theorem zf0 : ∀ U, ZE U → va_Fw "PromiseRoofs$Storey" ⟨"PromiseRoofs$Swears", "swears", "(I)I"⟩ ⟨"PromiseRoofs$Storey", "swears", "(I)I"⟩ U := fun U h => h.2.1 _ (List.mem_of_getElem? (i := 0) rfl)
theorem zf1 : ∀ U, ZE U → va_Fw "PromiseRoofs$Attic" ⟨"PromiseRoofs$Swears", "swears", "(I)I"⟩ ⟨"PromiseRoofs$Attic", "swears", "(I)I"⟩ U := fun U h => h.2.1 _ (List.mem_of_getElem? (i := 1) rfl)
theorem zf2 : ∀ U, ZE U → va_Fw "PromiseRoofs$Cellar" ⟨"PromiseRoofs$Swears", "swears", "(I)I"⟩ ⟨"PromiseRoofs$Storey", "swears", "(I)I"⟩ U := fun U h => h.2.1 _ (List.mem_of_getElem? (i := 2) rfl)
theorem zf3 : ∀ U, ZE U → va_Fw "PromiseRoofs$Tower" ⟨"PromiseRoofs$Swears", "swears", "(I)I"⟩ ⟨"PromiseRoofs$Storey", "swears", "(I)I"⟩ U := fun U h => h.2.1 _ (List.mem_of_getElem? (i := 3) rfl)
theorem zf4 : ∀ U, ZE U → va_Fw "PromiseRoofs$Widow" ⟨"PromiseRoofs$Swears", "swears", "(I)I"⟩ ⟨"PromiseRoofs$Attic", "swears", "(I)I"⟩ U := fun U h => h.2.1 _ (List.mem_of_getElem? (i := 4) rfl)
theorem zf5 : ∀ U, ZE U → va_Fw "PromiseRoofs$Saint" ⟨"PromiseRoofs$Swears", "swears", "(I)I"⟩ ⟨"PromiseRoofs$Storey", "swears", "(I)I"⟩ U := fun U h => h.2.1 _ (List.mem_of_getElem? (i := 5) rfl)
theorem zf6 : ∀ U, ZE U → va_Fw "PromiseRoofs$Pole" ⟨"PromiseRoofs$Swears", "swears", "(I)I"⟩ ⟨"PromiseRoofs$Pole", "swears", "(I)I"⟩ U := fun U h => h.2.1 _ (List.mem_of_getElem? (i := 6) rfl)
theorem zf7 : ∀ U, ZE U → va_Fw "PromiseRoofs$Potter" ⟨"PromiseRoofs$Swears", "swears", "(I)I"⟩ ⟨"PromiseRoofs$Attic", "swears", "(I)I"⟩ U := fun U h => h.2.1 _ (List.mem_of_getElem? (i := 7) rfl)
theorem zf8 : ∀ U, ZE U → va_Fw "PromiseRoofs$Storey" ⟨"PromiseRoofs$Tells", "tells", "(I)I"⟩ ⟨"PromiseRoofs$Storey", "tells", "(I)I"⟩ U := fun U h => h.2.1 _ (List.mem_of_getElem? (i := 8) rfl)
theorem zf9 : ∀ U, ZE U → va_Fw "PromiseRoofs$Attic" ⟨"PromiseRoofs$Tells", "tells", "(I)I"⟩ ⟨"PromiseRoofs$Storey", "tells", "(I)I"⟩ U := fun U h => h.2.1 _ (List.mem_of_getElem? (i := 9) rfl)
theorem zf10 : ∀ U, ZE U → va_Fw "PromiseRoofs$Cellar" ⟨"PromiseRoofs$Tells", "tells", "(I)I"⟩ ⟨"PromiseRoofs$Storey", "tells", "(I)I"⟩ U := fun U h => h.2.1 _ (List.mem_of_getElem? (i := 10) rfl)
theorem zf11 : ∀ U, ZE U → va_Fw "PromiseRoofs$Tower" ⟨"PromiseRoofs$Tells", "tells", "(I)I"⟩ ⟨"PromiseRoofs$Storey", "tells", "(I)I"⟩ U := fun U h => h.2.1 _ (List.mem_of_getElem? (i := 11) rfl)
theorem zf12 : ∀ U, ZE U → va_Fw "PromiseRoofs$Widow" ⟨"PromiseRoofs$Tells", "tells", "(I)I"⟩ ⟨"PromiseRoofs$Storey", "tells", "(I)I"⟩ U := fun U h => h.2.1 _ (List.mem_of_getElem? (i := 12) rfl)
theorem zf13 : ∀ U, ZE U → va_Fw "PromiseRoofs$Saint" ⟨"PromiseRoofs$Tells", "tells", "(I)I"⟩ ⟨"PromiseRoofs$Saint", "tells", "(I)I"⟩ U := fun U h => h.2.1 _ (List.mem_of_getElem? (i := 13) rfl)
theorem zf14 : ∀ U, ZE U → va_Fw "PromiseRoofs$Pole" ⟨"PromiseRoofs$Tells", "tells", "(I)I"⟩ ⟨"PromiseRoofs$Storey", "tells", "(I)I"⟩ U := fun U h => h.2.1 _ (List.mem_of_getElem? (i := 14) rfl)
theorem zf15 : ∀ U, ZE U → va_Fw "PromiseRoofs$Potter" ⟨"PromiseRoofs$Tells", "tells", "(I)I"⟩ ⟨"PromiseRoofs$Potter", "tells", "(I)I"⟩ U := fun U h => h.2.1 _ (List.mem_of_getElem? (i := 15) rfl)
theorem za154 : ∀ U, ZE U → va_AO "PromiseRoofs$Owner" U := fun U h => h.2.2 _ (List.mem_of_getElem? (i := 0) rfl)
theorem za156 : ∀ U, ZE U → va_AO "PromiseRoofs$Promise" U := fun U h => h.2.2 _ (List.mem_of_getElem? (i := 1) rfl)
theorem za158 : ∀ U, ZE U → va_AO "PromiseRoofs$Change" U := fun U h => h.2.2 _ (List.mem_of_getElem? (i := 2) rfl)
theorem za174 : ∀ U, ZE U → va_AO "PromiseRoofs$Storey" U := fun U h => h.2.2 _ (List.mem_of_getElem? (i := 3) rfl)
theorem za176 : ∀ U, ZE U → va_AO "PromiseRoofs$Held" U := fun U h => h.2.2 _ (List.mem_of_getElem? (i := 4) rfl)
