/-! rows over the typed memory -/
set_option linter.unusedVariables false
theorem jx_rfc (r : Option Nat) : (va_rf r).category = 1 := by cases r <;> rfl
theorem jx_c1 (x : Int32) : (Value.int x).category = 1 := rfl
theorem jx_c2 (x : Int64) : (Value.long x).category = 2 := rfl
theorem jx_c3 (x : Nat) : (Value.ref x).category = 1 := rfl
theorem jx_c4 : (Value.null).category = 1 := rfl
/-- words of the tables that do not ride in the lists: nest mates, castable, declares -/
def jx_nest : List Cond := [
  Jvm.Cond.declares ({ cls := "java/lang/Throwable", name := "<init>", desc := "()V" } : Jvm.MethodName),
  Jvm.Cond.declares ({ cls := "java/lang/Throwable", name := "<init>", desc := "(Ljava/lang/String;)V" } : Jvm.MethodName),
  Jvm.Cond.declares ({ cls := "java/lang/Exception", name := "<init>", desc := "()V" } : Jvm.MethodName),
  Jvm.Cond.declares ({ cls := "java/lang/Exception", name := "<init>", desc := "(Ljava/lang/String;)V" } : Jvm.MethodName),
  Jvm.Cond.declares ({ cls := "java/lang/RuntimeException", name := "<init>", desc := "()V" } : Jvm.MethodName),
  Jvm.Cond.declares ({ cls := "java/lang/RuntimeException", name := "<init>", desc := "(Ljava/lang/String;)V" } : Jvm.MethodName),
  Jvm.Cond.castable "java/lang/NegativeArraySizeException" "java/lang/NegativeArraySizeException",
  Jvm.Cond.declares ({ cls := "java/lang/IndexOutOfBoundsException", name := "<init>", desc := "()V" } : Jvm.MethodName),
  Jvm.Cond.declares ({ cls := "java/lang/IndexOutOfBoundsException", name := "<init>", desc := "(Ljava/lang/String;)V" } : Jvm.MethodName),
  Jvm.Cond.castable "java/lang/ArrayIndexOutOfBoundsException" "java/lang/ArrayIndexOutOfBoundsException",
  Jvm.Cond.castable "java/lang/ArrayIndexOutOfBoundsException" "java/lang/IndexOutOfBoundsException",
  Jvm.Cond.methodLinkNest "RaisedPress" (26 : Nat) ({ cls := "RaisedPress$Tray", name := "<init>", desc := "()V" } : Jvm.MethodName) "RaisedPress",
  Jvm.Cond.fieldLinkNest "RaisedPress" (143 : Nat) "RaisedPress$Tray" "row" "Ljava/lang/Object;" "RaisedPress",
  Jvm.Cond.fieldLinkNest "RaisedPress" (214 : Nat) "RaisedPress$Bad" "kind" "I" "RaisedPress",
  Jvm.Cond.fieldLinkNest "RaisedPress" (217 : Nat) "RaisedPress$Bad" "place" "I" "RaisedPress",
  Jvm.Cond.fieldLinkNest "RaisedPress" (124 : Nat) "RaisedPress$Refused" "why" "I" "RaisedPress",
  Jvm.Cond.methodLinkNest "RaisedPress" (61 : Nat) ({ cls := "RaisedPress$House", name := "<init>", desc := "()V" } : Jvm.MethodName) "RaisedPress",
  Jvm.Cond.fieldLinkNest "RaisedPress" (202 : Nat) "RaisedPress$Table" "rules" "[LRaisedPress$Rule;" "RaisedPress",
  Jvm.Cond.fieldLinkNest "RaisedPress" (190 : Nat) "RaisedPress$Table" "size" "I" "RaisedPress",
  Jvm.Cond.fieldLinkNest "RaisedPress" (259 : Nat) "RaisedPress$Table" "capital" "I" "RaisedPress",
  Jvm.Cond.fieldLinkNest "RaisedPress" (266 : Nat) "RaisedPress$Table" "number" "I" "RaisedPress",
  Jvm.Cond.fieldLinkNest "RaisedPress" (268 : Nat) "RaisedPress$Table" "hyphen" "I" "RaisedPress",
  Jvm.Cond.fieldLinkNest "RaisedPress" (271 : Nat) "RaisedPress$Table" "line" "I" "RaisedPress",
  Jvm.Cond.fieldLinkNest "RaisedPress" (274 : Nat) "RaisedPress$Table" "page" "I" "RaisedPress",
  Jvm.Cond.fieldLinkNest "RaisedPress" (72 : Nat) "RaisedPress$House" "table" "LRaisedPress$Table;" "RaisedPress",
  Jvm.Cond.fieldLinkNest "RaisedPress" (199 : Nat) "RaisedPress$House" "dropped" "I" "RaisedPress",
  Jvm.Cond.fieldLinkNest "RaisedPress" (233 : Nat) "RaisedPress$House" "writing" "LRaisedPress$Writing;" "RaisedPress",
  Jvm.Cond.fieldLinkNest "RaisedPress" (206 : Nat) "RaisedPress$Setter" "table" "LRaisedPress$Table;" "RaisedPress",
  Jvm.Cond.fieldLinkNest "RaisedPress" (353 : Nat) "RaisedPress$Setter" "dropped" "I" "RaisedPress",
  Jvm.Cond.fieldLinkNest "RaisedPress" (351 : Nat) "RaisedPress$Setter" "bytes" "[B" "RaisedPress",
  Jvm.Cond.fieldLinkNest "RaisedPress" (352 : Nat) "RaisedPress$Setter" "size" "I" "RaisedPress",
  Jvm.Cond.fieldLinkNest "RaisedPress" (302 : Nat) "RaisedPress$Setter" "cells" "I" "RaisedPress",
  Jvm.Cond.fieldLinkNest "RaisedPress" (446 : Nat) "RaisedPress$Setter" "cell" "[I" "RaisedPress",
  Jvm.Cond.methodLinkNest "RaisedPress" (224 : Nat) ({ cls := "RaisedPress$Table", name := "<init>", desc := "()V" } : Jvm.MethodName) "RaisedPress",
  Jvm.Cond.fieldLinkNest "RaisedPress" (299 : Nat) "RaisedPress$Writing" "bytes" "[B" "RaisedPress",
  Jvm.Cond.fieldLinkNest "RaisedPress" (252 : Nat) "RaisedPress$Writing" "cells" "[I" "RaisedPress",
  Jvm.Cond.fieldLinkNest "RaisedPress" (318 : Nat) "RaisedPress$Writing" "pieceAt" "[I" "RaisedPress",
  Jvm.Cond.fieldLinkNest "RaisedPress" (363 : Nat) "RaisedPress$Writing" "pieceMany" "[I" "RaisedPress",
  Jvm.Cond.fieldLinkNest "RaisedPress" (366 : Nat) "RaisedPress$Writing" "pieceLine" "[I" "RaisedPress",
  Jvm.Cond.fieldLinkNest "RaisedPress" (381 : Nat) "RaisedPress$Writing" "pieceEnd" "[I" "RaisedPress",
  Jvm.Cond.fieldLinkNest "RaisedPress" (369 : Nat) "RaisedPress$Writing" "cellBy" "[I" "RaisedPress",
  Jvm.Cond.fieldLinkNest "RaisedPress" (329 : Nat) "RaisedPress$Writing" "laid" "[I" "RaisedPress",
  Jvm.Cond.fieldLinkNest "RaisedPress" (332 : Nat) "RaisedPress$Writing" "lineAt" "[I" "RaisedPress",
  Jvm.Cond.fieldLinkNest "RaisedPress" (340 : Nat) "RaisedPress$Writing" "used" "[I" "RaisedPress",
  Jvm.Cond.fieldLinkNest "RaisedPress" (321 : Nat) "RaisedPress$Writing" "all" "I" "RaisedPress",
  Jvm.Cond.fieldLinkNest "RaisedPress" (337 : Nat) "RaisedPress$Writing" "hyphens" "I" "RaisedPress",
  Jvm.Cond.fieldLinkNest "RaisedPress" (357 : Nat) "RaisedPress$Writing" "lettered" "I" "RaisedPress",
  Jvm.Cond.castable "RaisedPress$Begin" "RaisedPress$Rule",
  Jvm.Cond.castable "RaisedPress$Middle" "RaisedPress$Rule",
  Jvm.Cond.castable "RaisedPress$Ending" "RaisedPress$Rule",
  Jvm.Cond.castable "RaisedPress$Alone" "RaisedPress$Rule",
  Jvm.Cond.castable "RaisedPress$Anywhere" "RaisedPress$Rule",
  Jvm.Cond.castable "RaisedPress$Bad" "RaisedPress$Bad",
  Jvm.Cond.castable "RaisedPress$Refused" "RaisedPress$Refused",
  Jvm.Cond.methodLinkNest "RaisedPress$House" (9 : Nat) ({ cls := "RaisedPress$Table", name := "<init>", desc := "()V" } : Jvm.MethodName) "RaisedPress",
  Jvm.Cond.fieldLinkNest "RaisedPress$Setter" (54 : Nat) "RaisedPress$Table" "rules" "[LRaisedPress$Rule;" "RaisedPress",
  Jvm.Cond.fieldLinkNest "RaisedPress$Setter" (84 : Nat) "RaisedPress$Table" "size" "I" "RaisedPress",
  Jvm.Cond.fieldLinkNest "RaisedPress$Setter" (133 : Nat) "RaisedPress$Table" "capital" "I" "RaisedPress",
  Jvm.Cond.fieldLinkNest "RaisedPress$Setter" (142 : Nat) "RaisedPress$Table" "number" "I" "RaisedPress",
  Jvm.Cond.fieldLinkNest "RaisedPress$Setter" (182 : Nat) "RaisedPress$Table" "hyphen" "I" "RaisedPress",
  Jvm.Cond.fieldLinkNest "RaisedPress$Setter" (173 : Nat) "RaisedPress$Table" "line" "I" "RaisedPress",
  Jvm.Cond.fieldLinkNest "RaisedPress$Setter" (123 : Nat) "RaisedPress" "bad" "LRaisedPress$Bad;" "RaisedPress",
  Jvm.Cond.methodLinkNest "RaisedPress$Setter" (154 : Nat) ({ cls := "RaisedPress", name := "isBlank", desc := "(I)Z" } : Jvm.MethodName) "RaisedPress",
  Jvm.Cond.methodLinkNest "RaisedPress$Setter" (113 : Nat) ({ cls := "RaisedPress", name := "isLetter", desc := "(I)Z" } : Jvm.MethodName) "RaisedPress",
  Jvm.Cond.methodLinkNest "RaisedPress$Setter" (77 : Nat) ({ cls := "RaisedPress", name := "isGreat", desc := "(I)Z" } : Jvm.MethodName) "RaisedPress",
  Jvm.Cond.methodLinkNest "RaisedPress$Setter" (80 : Nat) ({ cls := "RaisedPress", name := "small", desc := "(I)I" } : Jvm.MethodName) "RaisedPress",
  Jvm.Cond.methodLinkNest "RaisedPress$Setter" (145 : Nat) ({ cls := "RaisedPress", name := "isFigure", desc := "(I)Z" } : Jvm.MethodName) "RaisedPress",
  Jvm.Cond.fieldLinkNest "RaisedPress$Setter" (206 : Nat) "RaisedPress$Writing" "cells" "[I" "RaisedPress",
  Jvm.Cond.fieldLinkNest "RaisedPress$Setter" (207 : Nat) "RaisedPress$Writing" "pieceAt" "[I" "RaisedPress",
  Jvm.Cond.fieldLinkNest "RaisedPress$Setter" (208 : Nat) "RaisedPress$Writing" "pieceMany" "[I" "RaisedPress",
  Jvm.Cond.fieldLinkNest "RaisedPress$Setter" (209 : Nat) "RaisedPress$Writing" "pieceLine" "[I" "RaisedPress",
  Jvm.Cond.fieldLinkNest "RaisedPress$Setter" (210 : Nat) "RaisedPress$Writing" "pieceEnd" "[I" "RaisedPress",
  Jvm.Cond.fieldLinkNest "RaisedPress$Setter" (211 : Nat) "RaisedPress$Writing" "cellBy" "[I" "RaisedPress",
  Jvm.Cond.fieldLinkNest "RaisedPress$Setter" (212 : Nat) "RaisedPress$Writing" "laid" "[I" "RaisedPress",
  Jvm.Cond.fieldLinkNest "RaisedPress$Setter" (213 : Nat) "RaisedPress$Writing" "lineAt" "[I" "RaisedPress",
  Jvm.Cond.fieldLinkNest "RaisedPress$Setter" (214 : Nat) "RaisedPress$Writing" "used" "[I" "RaisedPress",
  Jvm.Cond.fieldLinkNest "RaisedPress$Setter" (215 : Nat) "RaisedPress$Writing" "all" "I" "RaisedPress",
  Jvm.Cond.fieldLinkNest "RaisedPress$Setter" (216 : Nat) "RaisedPress$Writing" "hyphens" "I" "RaisedPress",
  Jvm.Cond.fieldLinkNest "RaisedPress$Setter" (217 : Nat) "RaisedPress$Writing" "lettered" "I" "RaisedPress",
  Jvm.Cond.fieldLinkNest "RaisedPress$Reader" (137 : Nat) "RaisedPress$Table" "rules" "[LRaisedPress$Rule;" "RaisedPress",
  Jvm.Cond.fieldLinkNest "RaisedPress$Reader" (124 : Nat) "RaisedPress$Table" "size" "I" "RaisedPress",
  Jvm.Cond.fieldLinkNest "RaisedPress$Reader" (88 : Nat) "RaisedPress$Table" "capital" "I" "RaisedPress",
  Jvm.Cond.fieldLinkNest "RaisedPress$Reader" (97 : Nat) "RaisedPress$Table" "number" "I" "RaisedPress",
  Jvm.Cond.fieldLinkNest "RaisedPress$Reader" (100 : Nat) "RaisedPress$Table" "hyphen" "I" "RaisedPress",
  Jvm.Cond.fieldLinkNest "RaisedPress$Reader" (117 : Nat) "RaisedPress$Table" "line" "I" "RaisedPress",
  Jvm.Cond.fieldLinkNest "RaisedPress$Reader" (122 : Nat) "RaisedPress$Table" "page" "I" "RaisedPress",
  Jvm.Cond.fieldLinkNest "RaisedPress$Reader" (64 : Nat) "RaisedPress" "bad" "LRaisedPress$Bad;" "RaisedPress",
  Jvm.Cond.fieldLinkNest "RaisedPress$Reader" (22 : Nat) "RaisedPress" "tape" "[B" "RaisedPress",
  Jvm.Cond.methodLinkNest "RaisedPress$Reader" (39 : Nat) ({ cls := "RaisedPress", name := "isBlank", desc := "(I)Z" } : Jvm.MethodName) "RaisedPress",
  Jvm.Cond.methodLinkNest "RaisedPress$Reader" (26 : Nat) ({ cls := "RaisedPress", name := "isSmall", desc := "(I)Z" } : Jvm.MethodName) "RaisedPress",
  Jvm.Cond.methodLinkNest "RaisedPress$Reader" (30 : Nat) ({ cls := "RaisedPress", name := "isFigure", desc := "(I)Z" } : Jvm.MethodName) "RaisedPress",
  Jvm.Cond.declares ({ cls := "RaisedPress$Rule", name := "told", desc := "()I" } : Jvm.MethodName),
  Jvm.Cond.declares ({ cls := "RaisedPress$Rule", name := "may", desc := "(ZZ)Z" } : Jvm.MethodName)]
theorem jx_nest_tbl : ∀ w ∈ jx_nest, w ∈ lw_tbl := by
  intro w h
  simp only [jx_nest, List.mem_cons, List.not_mem_nil, or_false] at h
  rcases h with rfl | rfl | rfl | rfl | rfl | rfl | rfl | rfl | rfl | rfl | rfl | rfl | rfl | rfl | rfl | rfl | rfl | rfl | rfl | rfl | rfl | rfl | rfl | rfl | rfl | rfl | rfl | rfl | rfl | rfl | rfl | rfl | rfl | rfl | rfl | rfl | rfl | rfl | rfl | rfl | rfl | rfl | rfl | rfl | rfl | rfl | rfl | rfl | rfl | rfl | rfl | rfl | rfl | rfl | rfl | rfl | rfl | rfl | rfl | rfl | rfl | rfl | rfl | rfl | rfl | rfl | rfl | rfl | rfl | rfl | rfl | rfl | rfl | rfl | rfl | rfl | rfl | rfl | rfl | rfl | rfl | rfl | rfl | rfl | rfl | rfl | rfl | rfl | rfl | rfl | rfl | rfl | rfl
  · exact q174
  · exact q175
  · exact q172
  · exact q173
  · exact q531
  · exact q532
  · exact q530
  · exact q576
  · exact q577
  · exact q575
  · exact q2199
  · exact q161
  · exact q165
  · exact q219
  · exact q221
  · exact q253
  · exact q261
  · exact q276
  · exact q279
  · exact q283
  · exact q287
  · exact q291
  · exact q295
  · exact q298
  · exact q315
  · exact q317
  · exact q319
  · exact q335
  · exact q337
  · exact q339
  · exact q341
  · exact q343
  · exact q348
  · exact q630
  · exact q1000
  · exact q1003
  · exact q1006
  · exact q1009
  · exact q1012
  · exact q1015
  · exact q1018
  · exact q1021
  · exact q1024
  · exact q1027
  · exact q1029
  · exact q1031
  · exact q1033
  · exact q2200
  · exact q2201
  · exact q2202
  · exact q2203
  · exact q2204
  · exact q171
  · exact q241
  · exact q267
  · exact q274
  · exact q277
  · exact q282
  · exact q286
  · exact q290
  · exact q294
  · exact q410
  · exact q887
  · exact q896
  · exact q941
  · exact q942
  · exact q950
  · exact q1002
  · exact q1005
  · exact q1008
  · exact q1011
  · exact q1014
  · exact q1017
  · exact q1020
  · exact q1023
  · exact q1026
  · exact q1028
  · exact q1030
  · exact q1032
  · exact q275
  · exact q278
  · exact q281
  · exact q285
  · exact q289
  · exact q293
  · exact q297
  · exact q409
  · exact q412
  · exact q641
  · exact q648
  · exact q655
  · exact q823
  · exact q924
theorem nq174 : (Jvm.Cond.declares ({ cls := "java/lang/Throwable", name := "<init>", desc := "()V" } : Jvm.MethodName)) ∈ jx_nest := List.mem_of_getElem? (i := 0) rfl
theorem nq175 : (Jvm.Cond.declares ({ cls := "java/lang/Throwable", name := "<init>", desc := "(Ljava/lang/String;)V" } : Jvm.MethodName)) ∈ jx_nest := List.mem_of_getElem? (i := 1) rfl
theorem nq172 : (Jvm.Cond.declares ({ cls := "java/lang/Exception", name := "<init>", desc := "()V" } : Jvm.MethodName)) ∈ jx_nest := List.mem_of_getElem? (i := 2) rfl
theorem nq173 : (Jvm.Cond.declares ({ cls := "java/lang/Exception", name := "<init>", desc := "(Ljava/lang/String;)V" } : Jvm.MethodName)) ∈ jx_nest := List.mem_of_getElem? (i := 3) rfl
theorem nq531 : (Jvm.Cond.declares ({ cls := "java/lang/RuntimeException", name := "<init>", desc := "()V" } : Jvm.MethodName)) ∈ jx_nest := List.mem_of_getElem? (i := 4) rfl
theorem nq532 : (Jvm.Cond.declares ({ cls := "java/lang/RuntimeException", name := "<init>", desc := "(Ljava/lang/String;)V" } : Jvm.MethodName)) ∈ jx_nest := List.mem_of_getElem? (i := 5) rfl
theorem nq530 : (Jvm.Cond.castable "java/lang/NegativeArraySizeException" "java/lang/NegativeArraySizeException") ∈ jx_nest := List.mem_of_getElem? (i := 6) rfl
theorem nq576 : (Jvm.Cond.declares ({ cls := "java/lang/IndexOutOfBoundsException", name := "<init>", desc := "()V" } : Jvm.MethodName)) ∈ jx_nest := List.mem_of_getElem? (i := 7) rfl
theorem nq577 : (Jvm.Cond.declares ({ cls := "java/lang/IndexOutOfBoundsException", name := "<init>", desc := "(Ljava/lang/String;)V" } : Jvm.MethodName)) ∈ jx_nest := List.mem_of_getElem? (i := 8) rfl
theorem nq575 : (Jvm.Cond.castable "java/lang/ArrayIndexOutOfBoundsException" "java/lang/ArrayIndexOutOfBoundsException") ∈ jx_nest := List.mem_of_getElem? (i := 9) rfl
theorem nq2199 : (Jvm.Cond.castable "java/lang/ArrayIndexOutOfBoundsException" "java/lang/IndexOutOfBoundsException") ∈ jx_nest := List.mem_of_getElem? (i := 10) rfl
theorem nq161 : (Jvm.Cond.methodLinkNest "RaisedPress" (26 : Nat) ({ cls := "RaisedPress$Tray", name := "<init>", desc := "()V" } : Jvm.MethodName) "RaisedPress") ∈ jx_nest := List.mem_of_getElem? (i := 11) rfl
theorem nq165 : (Jvm.Cond.fieldLinkNest "RaisedPress" (143 : Nat) "RaisedPress$Tray" "row" "Ljava/lang/Object;" "RaisedPress") ∈ jx_nest := List.mem_of_getElem? (i := 12) rfl
theorem nq219 : (Jvm.Cond.fieldLinkNest "RaisedPress" (214 : Nat) "RaisedPress$Bad" "kind" "I" "RaisedPress") ∈ jx_nest := List.mem_of_getElem? (i := 13) rfl
theorem nq221 : (Jvm.Cond.fieldLinkNest "RaisedPress" (217 : Nat) "RaisedPress$Bad" "place" "I" "RaisedPress") ∈ jx_nest := List.mem_of_getElem? (i := 14) rfl
theorem nq253 : (Jvm.Cond.fieldLinkNest "RaisedPress" (124 : Nat) "RaisedPress$Refused" "why" "I" "RaisedPress") ∈ jx_nest := List.mem_of_getElem? (i := 15) rfl
theorem nq261 : (Jvm.Cond.methodLinkNest "RaisedPress" (61 : Nat) ({ cls := "RaisedPress$House", name := "<init>", desc := "()V" } : Jvm.MethodName) "RaisedPress") ∈ jx_nest := List.mem_of_getElem? (i := 16) rfl
theorem nq276 : (Jvm.Cond.fieldLinkNest "RaisedPress" (202 : Nat) "RaisedPress$Table" "rules" "[LRaisedPress$Rule;" "RaisedPress") ∈ jx_nest := List.mem_of_getElem? (i := 17) rfl
theorem nq279 : (Jvm.Cond.fieldLinkNest "RaisedPress" (190 : Nat) "RaisedPress$Table" "size" "I" "RaisedPress") ∈ jx_nest := List.mem_of_getElem? (i := 18) rfl
theorem nq283 : (Jvm.Cond.fieldLinkNest "RaisedPress" (259 : Nat) "RaisedPress$Table" "capital" "I" "RaisedPress") ∈ jx_nest := List.mem_of_getElem? (i := 19) rfl
theorem nq287 : (Jvm.Cond.fieldLinkNest "RaisedPress" (266 : Nat) "RaisedPress$Table" "number" "I" "RaisedPress") ∈ jx_nest := List.mem_of_getElem? (i := 20) rfl
theorem nq291 : (Jvm.Cond.fieldLinkNest "RaisedPress" (268 : Nat) "RaisedPress$Table" "hyphen" "I" "RaisedPress") ∈ jx_nest := List.mem_of_getElem? (i := 21) rfl
theorem nq295 : (Jvm.Cond.fieldLinkNest "RaisedPress" (271 : Nat) "RaisedPress$Table" "line" "I" "RaisedPress") ∈ jx_nest := List.mem_of_getElem? (i := 22) rfl
theorem nq298 : (Jvm.Cond.fieldLinkNest "RaisedPress" (274 : Nat) "RaisedPress$Table" "page" "I" "RaisedPress") ∈ jx_nest := List.mem_of_getElem? (i := 23) rfl
theorem nq315 : (Jvm.Cond.fieldLinkNest "RaisedPress" (72 : Nat) "RaisedPress$House" "table" "LRaisedPress$Table;" "RaisedPress") ∈ jx_nest := List.mem_of_getElem? (i := 24) rfl
theorem nq317 : (Jvm.Cond.fieldLinkNest "RaisedPress" (199 : Nat) "RaisedPress$House" "dropped" "I" "RaisedPress") ∈ jx_nest := List.mem_of_getElem? (i := 25) rfl
theorem nq319 : (Jvm.Cond.fieldLinkNest "RaisedPress" (233 : Nat) "RaisedPress$House" "writing" "LRaisedPress$Writing;" "RaisedPress") ∈ jx_nest := List.mem_of_getElem? (i := 26) rfl
theorem nq335 : (Jvm.Cond.fieldLinkNest "RaisedPress" (206 : Nat) "RaisedPress$Setter" "table" "LRaisedPress$Table;" "RaisedPress") ∈ jx_nest := List.mem_of_getElem? (i := 27) rfl
theorem nq337 : (Jvm.Cond.fieldLinkNest "RaisedPress" (353 : Nat) "RaisedPress$Setter" "dropped" "I" "RaisedPress") ∈ jx_nest := List.mem_of_getElem? (i := 28) rfl
theorem nq339 : (Jvm.Cond.fieldLinkNest "RaisedPress" (351 : Nat) "RaisedPress$Setter" "bytes" "[B" "RaisedPress") ∈ jx_nest := List.mem_of_getElem? (i := 29) rfl
theorem nq341 : (Jvm.Cond.fieldLinkNest "RaisedPress" (352 : Nat) "RaisedPress$Setter" "size" "I" "RaisedPress") ∈ jx_nest := List.mem_of_getElem? (i := 30) rfl
theorem nq343 : (Jvm.Cond.fieldLinkNest "RaisedPress" (302 : Nat) "RaisedPress$Setter" "cells" "I" "RaisedPress") ∈ jx_nest := List.mem_of_getElem? (i := 31) rfl
theorem nq348 : (Jvm.Cond.fieldLinkNest "RaisedPress" (446 : Nat) "RaisedPress$Setter" "cell" "[I" "RaisedPress") ∈ jx_nest := List.mem_of_getElem? (i := 32) rfl
theorem nq630 : (Jvm.Cond.methodLinkNest "RaisedPress" (224 : Nat) ({ cls := "RaisedPress$Table", name := "<init>", desc := "()V" } : Jvm.MethodName) "RaisedPress") ∈ jx_nest := List.mem_of_getElem? (i := 33) rfl
theorem nq1000 : (Jvm.Cond.fieldLinkNest "RaisedPress" (299 : Nat) "RaisedPress$Writing" "bytes" "[B" "RaisedPress") ∈ jx_nest := List.mem_of_getElem? (i := 34) rfl
theorem nq1003 : (Jvm.Cond.fieldLinkNest "RaisedPress" (252 : Nat) "RaisedPress$Writing" "cells" "[I" "RaisedPress") ∈ jx_nest := List.mem_of_getElem? (i := 35) rfl
theorem nq1006 : (Jvm.Cond.fieldLinkNest "RaisedPress" (318 : Nat) "RaisedPress$Writing" "pieceAt" "[I" "RaisedPress") ∈ jx_nest := List.mem_of_getElem? (i := 36) rfl
theorem nq1009 : (Jvm.Cond.fieldLinkNest "RaisedPress" (363 : Nat) "RaisedPress$Writing" "pieceMany" "[I" "RaisedPress") ∈ jx_nest := List.mem_of_getElem? (i := 37) rfl
theorem nq1012 : (Jvm.Cond.fieldLinkNest "RaisedPress" (366 : Nat) "RaisedPress$Writing" "pieceLine" "[I" "RaisedPress") ∈ jx_nest := List.mem_of_getElem? (i := 38) rfl
theorem nq1015 : (Jvm.Cond.fieldLinkNest "RaisedPress" (381 : Nat) "RaisedPress$Writing" "pieceEnd" "[I" "RaisedPress") ∈ jx_nest := List.mem_of_getElem? (i := 39) rfl
theorem nq1018 : (Jvm.Cond.fieldLinkNest "RaisedPress" (369 : Nat) "RaisedPress$Writing" "cellBy" "[I" "RaisedPress") ∈ jx_nest := List.mem_of_getElem? (i := 40) rfl
theorem nq1021 : (Jvm.Cond.fieldLinkNest "RaisedPress" (329 : Nat) "RaisedPress$Writing" "laid" "[I" "RaisedPress") ∈ jx_nest := List.mem_of_getElem? (i := 41) rfl
theorem nq1024 : (Jvm.Cond.fieldLinkNest "RaisedPress" (332 : Nat) "RaisedPress$Writing" "lineAt" "[I" "RaisedPress") ∈ jx_nest := List.mem_of_getElem? (i := 42) rfl
theorem nq1027 : (Jvm.Cond.fieldLinkNest "RaisedPress" (340 : Nat) "RaisedPress$Writing" "used" "[I" "RaisedPress") ∈ jx_nest := List.mem_of_getElem? (i := 43) rfl
theorem nq1029 : (Jvm.Cond.fieldLinkNest "RaisedPress" (321 : Nat) "RaisedPress$Writing" "all" "I" "RaisedPress") ∈ jx_nest := List.mem_of_getElem? (i := 44) rfl
theorem nq1031 : (Jvm.Cond.fieldLinkNest "RaisedPress" (337 : Nat) "RaisedPress$Writing" "hyphens" "I" "RaisedPress") ∈ jx_nest := List.mem_of_getElem? (i := 45) rfl
theorem nq1033 : (Jvm.Cond.fieldLinkNest "RaisedPress" (357 : Nat) "RaisedPress$Writing" "lettered" "I" "RaisedPress") ∈ jx_nest := List.mem_of_getElem? (i := 46) rfl
theorem nq2200 : (Jvm.Cond.castable "RaisedPress$Begin" "RaisedPress$Rule") ∈ jx_nest := List.mem_of_getElem? (i := 47) rfl
theorem nq2201 : (Jvm.Cond.castable "RaisedPress$Middle" "RaisedPress$Rule") ∈ jx_nest := List.mem_of_getElem? (i := 48) rfl
theorem nq2202 : (Jvm.Cond.castable "RaisedPress$Ending" "RaisedPress$Rule") ∈ jx_nest := List.mem_of_getElem? (i := 49) rfl
theorem nq2203 : (Jvm.Cond.castable "RaisedPress$Alone" "RaisedPress$Rule") ∈ jx_nest := List.mem_of_getElem? (i := 50) rfl
theorem nq2204 : (Jvm.Cond.castable "RaisedPress$Anywhere" "RaisedPress$Rule") ∈ jx_nest := List.mem_of_getElem? (i := 51) rfl
theorem nq171 : (Jvm.Cond.castable "RaisedPress$Bad" "RaisedPress$Bad") ∈ jx_nest := List.mem_of_getElem? (i := 52) rfl
theorem nq241 : (Jvm.Cond.castable "RaisedPress$Refused" "RaisedPress$Refused") ∈ jx_nest := List.mem_of_getElem? (i := 53) rfl
theorem nq267 : (Jvm.Cond.methodLinkNest "RaisedPress$House" (9 : Nat) ({ cls := "RaisedPress$Table", name := "<init>", desc := "()V" } : Jvm.MethodName) "RaisedPress") ∈ jx_nest := List.mem_of_getElem? (i := 54) rfl
theorem nq274 : (Jvm.Cond.fieldLinkNest "RaisedPress$Setter" (54 : Nat) "RaisedPress$Table" "rules" "[LRaisedPress$Rule;" "RaisedPress") ∈ jx_nest := List.mem_of_getElem? (i := 55) rfl
theorem nq277 : (Jvm.Cond.fieldLinkNest "RaisedPress$Setter" (84 : Nat) "RaisedPress$Table" "size" "I" "RaisedPress") ∈ jx_nest := List.mem_of_getElem? (i := 56) rfl
theorem nq282 : (Jvm.Cond.fieldLinkNest "RaisedPress$Setter" (133 : Nat) "RaisedPress$Table" "capital" "I" "RaisedPress") ∈ jx_nest := List.mem_of_getElem? (i := 57) rfl
theorem nq286 : (Jvm.Cond.fieldLinkNest "RaisedPress$Setter" (142 : Nat) "RaisedPress$Table" "number" "I" "RaisedPress") ∈ jx_nest := List.mem_of_getElem? (i := 58) rfl
theorem nq290 : (Jvm.Cond.fieldLinkNest "RaisedPress$Setter" (182 : Nat) "RaisedPress$Table" "hyphen" "I" "RaisedPress") ∈ jx_nest := List.mem_of_getElem? (i := 59) rfl
theorem nq294 : (Jvm.Cond.fieldLinkNest "RaisedPress$Setter" (173 : Nat) "RaisedPress$Table" "line" "I" "RaisedPress") ∈ jx_nest := List.mem_of_getElem? (i := 60) rfl
theorem nq410 : (Jvm.Cond.fieldLinkNest "RaisedPress$Setter" (123 : Nat) "RaisedPress" "bad" "LRaisedPress$Bad;" "RaisedPress") ∈ jx_nest := List.mem_of_getElem? (i := 61) rfl
theorem nq887 : (Jvm.Cond.methodLinkNest "RaisedPress$Setter" (154 : Nat) ({ cls := "RaisedPress", name := "isBlank", desc := "(I)Z" } : Jvm.MethodName) "RaisedPress") ∈ jx_nest := List.mem_of_getElem? (i := 62) rfl
theorem nq896 : (Jvm.Cond.methodLinkNest "RaisedPress$Setter" (113 : Nat) ({ cls := "RaisedPress", name := "isLetter", desc := "(I)Z" } : Jvm.MethodName) "RaisedPress") ∈ jx_nest := List.mem_of_getElem? (i := 63) rfl
theorem nq941 : (Jvm.Cond.methodLinkNest "RaisedPress$Setter" (77 : Nat) ({ cls := "RaisedPress", name := "isGreat", desc := "(I)Z" } : Jvm.MethodName) "RaisedPress") ∈ jx_nest := List.mem_of_getElem? (i := 64) rfl
theorem nq942 : (Jvm.Cond.methodLinkNest "RaisedPress$Setter" (80 : Nat) ({ cls := "RaisedPress", name := "small", desc := "(I)I" } : Jvm.MethodName) "RaisedPress") ∈ jx_nest := List.mem_of_getElem? (i := 65) rfl
theorem nq950 : (Jvm.Cond.methodLinkNest "RaisedPress$Setter" (145 : Nat) ({ cls := "RaisedPress", name := "isFigure", desc := "(I)Z" } : Jvm.MethodName) "RaisedPress") ∈ jx_nest := List.mem_of_getElem? (i := 66) rfl
theorem nq1002 : (Jvm.Cond.fieldLinkNest "RaisedPress$Setter" (206 : Nat) "RaisedPress$Writing" "cells" "[I" "RaisedPress") ∈ jx_nest := List.mem_of_getElem? (i := 67) rfl
theorem nq1005 : (Jvm.Cond.fieldLinkNest "RaisedPress$Setter" (207 : Nat) "RaisedPress$Writing" "pieceAt" "[I" "RaisedPress") ∈ jx_nest := List.mem_of_getElem? (i := 68) rfl
theorem nq1008 : (Jvm.Cond.fieldLinkNest "RaisedPress$Setter" (208 : Nat) "RaisedPress$Writing" "pieceMany" "[I" "RaisedPress") ∈ jx_nest := List.mem_of_getElem? (i := 69) rfl
theorem nq1011 : (Jvm.Cond.fieldLinkNest "RaisedPress$Setter" (209 : Nat) "RaisedPress$Writing" "pieceLine" "[I" "RaisedPress") ∈ jx_nest := List.mem_of_getElem? (i := 70) rfl
theorem nq1014 : (Jvm.Cond.fieldLinkNest "RaisedPress$Setter" (210 : Nat) "RaisedPress$Writing" "pieceEnd" "[I" "RaisedPress") ∈ jx_nest := List.mem_of_getElem? (i := 71) rfl
theorem nq1017 : (Jvm.Cond.fieldLinkNest "RaisedPress$Setter" (211 : Nat) "RaisedPress$Writing" "cellBy" "[I" "RaisedPress") ∈ jx_nest := List.mem_of_getElem? (i := 72) rfl
theorem nq1020 : (Jvm.Cond.fieldLinkNest "RaisedPress$Setter" (212 : Nat) "RaisedPress$Writing" "laid" "[I" "RaisedPress") ∈ jx_nest := List.mem_of_getElem? (i := 73) rfl
theorem nq1023 : (Jvm.Cond.fieldLinkNest "RaisedPress$Setter" (213 : Nat) "RaisedPress$Writing" "lineAt" "[I" "RaisedPress") ∈ jx_nest := List.mem_of_getElem? (i := 74) rfl
theorem nq1026 : (Jvm.Cond.fieldLinkNest "RaisedPress$Setter" (214 : Nat) "RaisedPress$Writing" "used" "[I" "RaisedPress") ∈ jx_nest := List.mem_of_getElem? (i := 75) rfl
theorem nq1028 : (Jvm.Cond.fieldLinkNest "RaisedPress$Setter" (215 : Nat) "RaisedPress$Writing" "all" "I" "RaisedPress") ∈ jx_nest := List.mem_of_getElem? (i := 76) rfl
theorem nq1030 : (Jvm.Cond.fieldLinkNest "RaisedPress$Setter" (216 : Nat) "RaisedPress$Writing" "hyphens" "I" "RaisedPress") ∈ jx_nest := List.mem_of_getElem? (i := 77) rfl
theorem nq1032 : (Jvm.Cond.fieldLinkNest "RaisedPress$Setter" (217 : Nat) "RaisedPress$Writing" "lettered" "I" "RaisedPress") ∈ jx_nest := List.mem_of_getElem? (i := 78) rfl
theorem nq275 : (Jvm.Cond.fieldLinkNest "RaisedPress$Reader" (137 : Nat) "RaisedPress$Table" "rules" "[LRaisedPress$Rule;" "RaisedPress") ∈ jx_nest := List.mem_of_getElem? (i := 79) rfl
theorem nq278 : (Jvm.Cond.fieldLinkNest "RaisedPress$Reader" (124 : Nat) "RaisedPress$Table" "size" "I" "RaisedPress") ∈ jx_nest := List.mem_of_getElem? (i := 80) rfl
theorem nq281 : (Jvm.Cond.fieldLinkNest "RaisedPress$Reader" (88 : Nat) "RaisedPress$Table" "capital" "I" "RaisedPress") ∈ jx_nest := List.mem_of_getElem? (i := 81) rfl
theorem nq285 : (Jvm.Cond.fieldLinkNest "RaisedPress$Reader" (97 : Nat) "RaisedPress$Table" "number" "I" "RaisedPress") ∈ jx_nest := List.mem_of_getElem? (i := 82) rfl
theorem nq289 : (Jvm.Cond.fieldLinkNest "RaisedPress$Reader" (100 : Nat) "RaisedPress$Table" "hyphen" "I" "RaisedPress") ∈ jx_nest := List.mem_of_getElem? (i := 83) rfl
theorem nq293 : (Jvm.Cond.fieldLinkNest "RaisedPress$Reader" (117 : Nat) "RaisedPress$Table" "line" "I" "RaisedPress") ∈ jx_nest := List.mem_of_getElem? (i := 84) rfl
theorem nq297 : (Jvm.Cond.fieldLinkNest "RaisedPress$Reader" (122 : Nat) "RaisedPress$Table" "page" "I" "RaisedPress") ∈ jx_nest := List.mem_of_getElem? (i := 85) rfl
theorem nq409 : (Jvm.Cond.fieldLinkNest "RaisedPress$Reader" (64 : Nat) "RaisedPress" "bad" "LRaisedPress$Bad;" "RaisedPress") ∈ jx_nest := List.mem_of_getElem? (i := 86) rfl
theorem nq412 : (Jvm.Cond.fieldLinkNest "RaisedPress$Reader" (22 : Nat) "RaisedPress" "tape" "[B" "RaisedPress") ∈ jx_nest := List.mem_of_getElem? (i := 87) rfl
theorem nq641 : (Jvm.Cond.methodLinkNest "RaisedPress$Reader" (39 : Nat) ({ cls := "RaisedPress", name := "isBlank", desc := "(I)Z" } : Jvm.MethodName) "RaisedPress") ∈ jx_nest := List.mem_of_getElem? (i := 88) rfl
theorem nq648 : (Jvm.Cond.methodLinkNest "RaisedPress$Reader" (26 : Nat) ({ cls := "RaisedPress", name := "isSmall", desc := "(I)Z" } : Jvm.MethodName) "RaisedPress") ∈ jx_nest := List.mem_of_getElem? (i := 89) rfl
theorem nq655 : (Jvm.Cond.methodLinkNest "RaisedPress$Reader" (30 : Nat) ({ cls := "RaisedPress", name := "isFigure", desc := "(I)Z" } : Jvm.MethodName) "RaisedPress") ∈ jx_nest := List.mem_of_getElem? (i := 90) rfl
theorem nq823 : (Jvm.Cond.declares ({ cls := "RaisedPress$Rule", name := "told", desc := "()I" } : Jvm.MethodName)) ∈ jx_nest := List.mem_of_getElem? (i := 91) rfl
theorem nq924 : (Jvm.Cond.declares ({ cls := "RaisedPress$Rule", name := "may", desc := "(ZZ)Z" } : Jvm.MethodName)) ∈ jx_nest := List.mem_of_getElem? (i := 92) rfl
/-- casts that fail: told by the claim's premises -/
def jx_nc : List (String × String) := [("RaisedPress$Refused", "java/lang/NegativeArraySizeException"), ("RaisedPress$Refused", "java/lang/ArrayIndexOutOfBoundsException"), ("[S", "[B"), ("[I", "[B"), ("[J", "[B"), ("[I", "[S"), ("[J", "[S"), ("[J", "[I")]
def JN (U : State) : Prop := (∀ w ∈ jx_nest, va_Nw w U) ∧ va_AO "RaisedPress$Rule" U ∧ va_AO "RaisedPress$House" U ∧ va_AO "RaisedPress$Tray" U ∧ ∀ p ∈ jx_nc, va_Nc p.1 p.2 U
def jx_nf : Cond → Bool
  | .fieldLinkNest _ _ _ _ _ _ => true
  | .methodLinkNest _ _ _ _ => true
  | .castable _ _ => true
  | .declares _ => true
  | _ => false
theorem jx_nf_all : jx_nest.all jx_nf = true := rfl
theorem jx_nf_ot {w : Cond} (h : jx_nf w = true) : w.onTables = true := by
  unfold jx_nf at h
  split at h <;> first | rfl | exact absurd h (by decide)
theorem JN.warm {s U : State} (hW : s.WarmedH U.vm) (h : JN s) : JN U := by
  refine ⟨fun w hw => ?_, h.2.1.moved hW.alike, h.2.2.1.moved hW.alike, h.2.2.2.1.moved hW.alike, fun p hp => (h.2.2.2.2 p hp).moved hW.alike⟩
  have h1 := List.all_eq_true.mp jx_nf_all w hw
  have h2 := h.1 w hw
  unfold jx_nf at h1
  split at h1
  · exact va_Nw.warmF hW h2
  · exact va_Nw.warmM hW h2
  · exact va_Nw.warmC hW h2
  · exact va_Nw.warmD hW h2
  · exact absurd h1 (by decide)
theorem JN.same {u U : State} (hv : u.vm = U.vm) (h : JN u) : JN U :=
  have hA : u.vm.Alike U.vm := by rw [hv]; exact Vm.Alike.refl _
  ⟨fun w hw => (h.1 w hw).same (jx_nf_ot (List.all_eq_true.mp jx_nf_all w hw)) hv, h.2.1.moved hA, h.2.2.1.moved hA, h.2.2.2.1.moved hA, fun p hp => (h.2.2.2.2 p hp).moved hA⟩
theorem JN.of {s : State} {A : Array Value} (h : ∀ w ∈ lw_tbl, w.before A s = true) (hc : ∀ p ∈ jx_nc, va_Nc p.1 p.2 s) : JN s := ⟨fun w hw => va_Nw.of (jx_nf_ot (List.all_eq_true.mp jx_nf_all w hw)) (h w (jx_nest_tbl w hw)), va_AO.of (h _ q272), va_AO.of (h _ q327), va_AO.of (h _ q159), hc⟩
theorem JN.use {s : State} {A : Array Value} {w : Cond} (h : JN s) (hw : w ∈ jx_nest) : w.before A s = true := (h.1 w hw).use (jx_nf_ot (List.all_eq_true.mp jx_nf_all w hw))
section JXR1
variable {p : Program} {l : Launch} {e : Env} {R : Room} {s : State} {m : MethodId} {args : Array Value} {below : List Frame} {meth : Method} {c : Code} {H : Heap} {locs : List Loc} {cells slots : Nat} {Q : State → Prop}
variable {cc : ByteArray} {pc : Nat} {ls : Array Slot} {rest : List Value} {own ref C host : String} {T : u_T} {N index : Nat} {Ts : List Cond} {cC : ClassId} {iS : Nat → Nat} {a : Nat} {V : Nat → Value}
/-- getfield of a nest mate's -/
theorem jj_getNW (hx : p.tables.exec = Jvm.exec) (hb : c.code = cc) (hts : ∀ w ∈ Ts, w.before args s = true) (hin : ∀ w ∈ u_ws C T N, w ∈ Ts) (hown : s.vm.findClass own = some m.cls) (hKn : u_Kn s C T N cC iS) (hO : t_OB a cC N iS H V) (k : Nat) (hk : k < N) (hlink : (Cond.fieldLinkNest own index ref (T k).2.1 (T k).2.2.1 host).before args s = true) (hsame : ∀ x, s.fieldFound? (T k).1 (T k).2.1 (T k).2.2.1 = some x → s.fieldFound? ref (T k).2.1 (T k).2.2.1 = some x) {v : Value} (hv : V k = v) (hdg : decode cc pc = .ok (.getfield index, 3))
    (kk : W p l e R s m args below meth c H locs cells slots Q (F0 m (pc + 3) ls (v :: rest))) : W p l e R s m args below meth c H locs cells slots Q (F0 m pc ls (.ref a :: rest)) := by
  obtain ⟨cell, q1, -, q3, q4⟩ := hO
  obtain ⟨hS, hfc, kC, hkC, -⟩ := hKn
  obtain ⟨cf, kf, fi, f, hi, hsl⟩ := hS k hk
  refine va_Wgetf hx hb hown hlink (hsame _ hi) (u_facts hfc hkC (u_lays hts hin hk) hi).1 q1 (by rw [q3]; exact fun h => by cases h) (v := v) ?_ rfl rfl hdg kk
  rw [hsl, q4 k hk, hv]
theorem jj_putNW (hx : p.tables.exec = Jvm.exec) (hb : c.code = cc) (hts : ∀ w ∈ Ts, w.before args s = true) (hin : ∀ w ∈ u_ws C T N, w ∈ Ts) (ty0 : Nat → FieldType) (hty : ∀ k, k < N → parseFieldDescriptor (T k).2.2.1 = some (ty0 k)) (hnm : ∀ a, a < N → ∀ b, b < N → a ≠ b → (T a).2.1 ≠ (T b).2.1) (hown : s.vm.findClass own = some m.cls) (hKn : u_Kn s C T N cC iS) (hO : t_OB a cC N iS H V) (k : Nat) (hk : k < N) (hlink : (Cond.fieldLinkNest own index ref (T k).2.1 (T k).2.2.1 host).before args s = true) (hsame : ∀ x, s.fieldFound? (T k).1 (T k).2.1 (T k).2.2.1 = some x → s.fieldFound? ref (T k).2.1 (T k).2.2.1 = some x) (hfin : (T k).2.2.2 = false) {ty : FieldType} {v : Value} (hd : parseFieldDescriptor (T k).2.2.1 = some ty) (hn : narrow ty v = v) (hfit : fits ty v = true) (hdg : decode cc pc = .ok (.putfield index, 3))
    (kk : ∀ H1 : Heap, t_OB a cC N iS H1 (updV V k v) → H1.size = H.size → (∀ q : Nat, q ≠ a → H1[q]? = H[q]?) → W p l e R s m args below meth c H1 (locs ++ [⟨a, iS k⟩]) cells slots Q (F0 m (pc + 3) ls rest)) : W p l e R s m args below meth c H locs cells slots Q (F0 m pc ls (v :: .ref a :: rest)) := by
  have hap := jj_apart hts hin ty0 hty hnm hKn
  obtain ⟨cell, q1, q2, q3, q4⟩ := hO
  obtain ⟨hS, hfc, kC, hkC, hkind⟩ := hKn
  obtain ⟨cf, kf, fi, f, hi, hsl⟩ := hS k hk
  have hlay := hts _ (hin _ (u_in_lay hk))
  unfold u_lay at hlay
  rw [if_neg (by rw [hfin]; decide)] at hlay
  have hst := (u_facts hfc hkC (u_lays hts hin hk) hi).1
  have h6 := u_store hfc hkC hkind hlay hi hd hn hfit
  refine va_WputK hx hb (f := f) hown hlink (hsame _ hi) hst (by rw [q2]; exact h6) q1 q3 (by rw [hsl]; exact k2_hasslot (q4 k hk)) rfl rfl hdg fun H' e1 e2 e3 => ?_
  rw [hsl] at e1 ⊢
  exact kk H' ⟨_, e1, q2, q3, t_set q4 hap hk v⟩ e2 e3
end JXR1
section JXR2
variable {X : JC} {Q : State → Prop} {nL : Nat} {k n pc : Nat} {lv : List (Nat × Value)} {st : List Value} {own : String} {cc : ByteArray} {ret : Option FieldType} {F LL mc ms : Nat} {D : va_G} {dA : Nat → Nat} {K : XK} {u : XS} {A : Nat → Prop} {a c f N ix : Nat} {C host : String} {T : u_T} {ty0 : Nat → FieldType}
/-- what a class's names give: its fields' words, their types, their names apart -/
def JF (c : Nat) (C : String) (T : u_T) (N : Nat) (ty0 : Nat → FieldType) : Prop := jx_cl[c]? = some (C, T, N) ∧ (∀ w ∈ u_ws C T N, w ∈ lw_all) ∧ (∀ k, k < N → parseFieldDescriptor (T k).2.2.1 = some (ty0 k)) ∧ ∀ a, a < N → ∀ b, b < N → a ≠ b → (T a).2.1 ≠ (T b).2.1
theorem XW.ob {H : Heap} (h : XW D dA K u H) (h1 : K a = (1, c)) (hF : JF c C T N ty0) : t_OB a (D.1 c) N (D.2 c) H (jx_fv u c a) := by
  obtain ⟨r, e, h2⟩ := h.1 a c h1
  cases Option.some.inj (e.symm.trans hF.1)
  exact h2
theorem KX.kn {U : State} (h : KX D dA U) (hF : JF c C T N ty0) : u_Kn U C T N (D.1 c) (D.2 c) := h.1 c _ hF.1
theorem jx_get (hX : JX X own cc nL ret F LL mc ms) (hK : KX D dA (jj_s X)) (hF : JF c C T N ty0) (h1 : K a = (1, c)) (f : Nat) (hf : f < N) (hlk : (Cond.fieldLink own ix (T f).1 (T f).2.1 (T f).2.2.1) ∈ lw_all) {v : Value} (hv : jx_fv u c a f = v) (d : decode cc pc = .ok (.getfield ix, 3)) (q : Nat) (hq : pc + 3 = q) (h : JJ X A Q nL (XP D dA A K u) k n q lv (v :: st)) : JJ X A Q nL (XP D dA A K u) k n pc lv (.ref a :: st) := by
  subst hq
  exact fun H locs ls hP hS hh => jj_getW hX.1 hX.2.1 hX.2.2.2.2.1 hF.2.1 hX.2.2.2.1 (hK.kn hF) (hP.1.ob h1 hF) f hf (hX.2.2.2.2.1 _ hlk) (fun _ h9 => h9) hv d (h H locs ls hP hS hh)
theorem jx_getN (hX : JX X own cc nL ret F LL mc ms) (hK : KX D dA (jj_s X)) (hN : JN (jj_s X)) (hF : JF c C T N ty0) (h1 : K a = (1, c)) (f : Nat) (hf : f < N) (hlk : (Cond.fieldLinkNest own ix (T f).1 (T f).2.1 (T f).2.2.1 host) ∈ jx_nest) {v : Value} (hv : jx_fv u c a f = v) (d : decode cc pc = .ok (.getfield ix, 3)) (q : Nat) (hq : pc + 3 = q) (h : JJ X A Q nL (XP D dA A K u) k n q lv (v :: st)) : JJ X A Q nL (XP D dA A K u) k n pc lv (.ref a :: st) := by
  subst hq
  exact fun H locs ls hP hS hh => jj_getNW hX.1 hX.2.1 hX.2.2.2.2.1 hF.2.1 hX.2.2.2.1 (hK.kn hF) (hP.1.ob h1 hF) f hf (hN.use hlk) (fun _ h9 => h9) hv d (h H locs ls hP hS hh)

theorem jx_puti {v : Int32} {ty : FieldType} (hX : JX X own cc nL ret F LL mc ms) (hK : KX D dA (jj_s X)) (hF : JF c C T N ty0) (h1 : K a = (1, c)) (f : Nat) (hf : f < N) (hft0 : jx_ft c f = 0) (hlk : (Cond.fieldLink own ix (T f).1 (T f).2.1 (T f).2.2.1) ∈ lw_all) (hfin : (T f).2.2.2 = false) (hty : parseFieldDescriptor (T f).2.2.1 = some ty) (hnr : narrow ty (.int v) = .int v) (hft : fits ty (.int v) = true) (d : decode cc pc = .ok (.putfield ix, 3)) (q : Nat) (hq : pc + 3 = q) (h : ∀ u2 : XS, u2 = xsi u a f v → JJ X A Q nL (XP D dA A K u2) k n q lv st) : JJ X A Q nL (XP D dA A K u) k n pc lv (.int v :: .ref a :: st) := by
  subst hq
  exact fun H locs ls hP hS hh => jj_putW hX.1 hX.2.1 hX.2.2.2.2.1 hF.2.1 ty0 hF.2.2.1 hF.2.2.2 hX.2.2.2.1 (hK.kn hF) (hP.1.ob h1 hF) f hf (hX.2.2.2.2.1 _ hlk) (fun _ h9 => h9) hfin hty hnr hft d (fun H1 e1 e2 e3 => h _ rfl H1 _ ls ⟨hP.1.puti h1 hF.1 hft0 e1 e3, hP.2⟩ (hS.put e2 e3 (hP.2 a (by rw [h1]; simp))) hh)
theorem jx_putl {v : Int64} {ty : FieldType} (hX : JX X own cc nL ret F LL mc ms) (hK : KX D dA (jj_s X)) (hF : JF c C T N ty0) (h1 : K a = (1, c)) (f : Nat) (hf : f < N) (hft0 : jx_ft c f = 1) (hlk : (Cond.fieldLink own ix (T f).1 (T f).2.1 (T f).2.2.1) ∈ lw_all) (hfin : (T f).2.2.2 = false) (hty : parseFieldDescriptor (T f).2.2.1 = some ty) (hnr : narrow ty (.long v) = .long v) (hft : fits ty (.long v) = true) (d : decode cc pc = .ok (.putfield ix, 3)) (q : Nat) (hq : pc + 3 = q) (h : ∀ u2 : XS, u2 = xsl u a f v → JJ X A Q nL (XP D dA A K u2) k n q lv st) : JJ X A Q nL (XP D dA A K u) k n pc lv (.long v :: .ref a :: st) := by
  subst hq
  exact fun H locs ls hP hS hh => jj_putW hX.1 hX.2.1 hX.2.2.2.2.1 hF.2.1 ty0 hF.2.2.1 hF.2.2.2 hX.2.2.2.1 (hK.kn hF) (hP.1.ob h1 hF) f hf (hX.2.2.2.2.1 _ hlk) (fun _ h9 => h9) hfin hty hnr hft d (fun H1 e1 e2 e3 => h _ rfl H1 _ ls ⟨hP.1.putl h1 hF.1 hft0 e1 e3, hP.2⟩ (hS.put e2 e3 (hP.2 a (by rw [h1]; simp))) hh)
theorem jx_putr {v : Option Nat} {ty : FieldType} (hX : JX X own cc nL ret F LL mc ms) (hK : KX D dA (jj_s X)) (hF : JF c C T N ty0) (h1 : K a = (1, c)) (f : Nat) (hf : f < N) (hft0 : jx_ft c f = 2) (hlk : (Cond.fieldLink own ix (T f).1 (T f).2.1 (T f).2.2.1) ∈ lw_all) (hfin : (T f).2.2.2 = false) (hty : parseFieldDescriptor (T f).2.2.1 = some ty) (hnr : narrow ty (va_rf v) = va_rf v) (hft : fits ty (va_rf v) = true) (d : decode cc pc = .ok (.putfield ix, 3)) (q : Nat) (hq : pc + 3 = q) (h : ∀ u2 : XS, u2 = xsr u a f v → JJ X A Q nL (XP D dA A K u2) k n q lv st) : JJ X A Q nL (XP D dA A K u) k n pc lv (va_rf v :: .ref a :: st) := by
  subst hq
  exact fun H locs ls hP hS hh => jj_putW hX.1 hX.2.1 hX.2.2.2.2.1 hF.2.1 ty0 hF.2.2.1 hF.2.2.2 hX.2.2.2.1 (hK.kn hF) (hP.1.ob h1 hF) f hf (hX.2.2.2.2.1 _ hlk) (fun _ h9 => h9) hfin hty hnr hft d (fun H1 e1 e2 e3 => h _ rfl H1 _ ls ⟨hP.1.putr h1 hF.1 hft0 e1 e3, hP.2⟩ (hS.put e2 e3 (hP.2 a (by rw [h1]; simp))) hh)
theorem jx_putiN {v : Int32} {ty : FieldType} (hX : JX X own cc nL ret F LL mc ms) (hK : KX D dA (jj_s X)) (hN : JN (jj_s X)) (hF : JF c C T N ty0) (h1 : K a = (1, c)) (f : Nat) (hf : f < N) (hft0 : jx_ft c f = 0) (hlk : (Cond.fieldLinkNest own ix (T f).1 (T f).2.1 (T f).2.2.1 host) ∈ jx_nest) (hfin : (T f).2.2.2 = false) (hty : parseFieldDescriptor (T f).2.2.1 = some ty) (hnr : narrow ty (.int v) = .int v) (hft : fits ty (.int v) = true) (d : decode cc pc = .ok (.putfield ix, 3)) (q : Nat) (hq : pc + 3 = q) (h : ∀ u2 : XS, u2 = xsi u a f v → JJ X A Q nL (XP D dA A K u2) k n q lv st) : JJ X A Q nL (XP D dA A K u) k n pc lv (.int v :: .ref a :: st) := by
  subst hq
  exact fun H locs ls hP hS hh => jj_putNW hX.1 hX.2.1 hX.2.2.2.2.1 hF.2.1 ty0 hF.2.2.1 hF.2.2.2 hX.2.2.2.1 (hK.kn hF) (hP.1.ob h1 hF) f hf (hN.use hlk) (fun _ h9 => h9) hfin hty hnr hft d (fun H1 e1 e2 e3 => h _ rfl H1 _ ls ⟨hP.1.puti h1 hF.1 hft0 e1 e3, hP.2⟩ (hS.put e2 e3 (hP.2 a (by rw [h1]; simp))) hh)
theorem jx_putlN {v : Int64} {ty : FieldType} (hX : JX X own cc nL ret F LL mc ms) (hK : KX D dA (jj_s X)) (hN : JN (jj_s X)) (hF : JF c C T N ty0) (h1 : K a = (1, c)) (f : Nat) (hf : f < N) (hft0 : jx_ft c f = 1) (hlk : (Cond.fieldLinkNest own ix (T f).1 (T f).2.1 (T f).2.2.1 host) ∈ jx_nest) (hfin : (T f).2.2.2 = false) (hty : parseFieldDescriptor (T f).2.2.1 = some ty) (hnr : narrow ty (.long v) = .long v) (hft : fits ty (.long v) = true) (d : decode cc pc = .ok (.putfield ix, 3)) (q : Nat) (hq : pc + 3 = q) (h : ∀ u2 : XS, u2 = xsl u a f v → JJ X A Q nL (XP D dA A K u2) k n q lv st) : JJ X A Q nL (XP D dA A K u) k n pc lv (.long v :: .ref a :: st) := by
  subst hq
  exact fun H locs ls hP hS hh => jj_putNW hX.1 hX.2.1 hX.2.2.2.2.1 hF.2.1 ty0 hF.2.2.1 hF.2.2.2 hX.2.2.2.1 (hK.kn hF) (hP.1.ob h1 hF) f hf (hN.use hlk) (fun _ h9 => h9) hfin hty hnr hft d (fun H1 e1 e2 e3 => h _ rfl H1 _ ls ⟨hP.1.putl h1 hF.1 hft0 e1 e3, hP.2⟩ (hS.put e2 e3 (hP.2 a (by rw [h1]; simp))) hh)
theorem jx_putrN {v : Option Nat} {ty : FieldType} (hX : JX X own cc nL ret F LL mc ms) (hK : KX D dA (jj_s X)) (hN : JN (jj_s X)) (hF : JF c C T N ty0) (h1 : K a = (1, c)) (f : Nat) (hf : f < N) (hft0 : jx_ft c f = 2) (hlk : (Cond.fieldLinkNest own ix (T f).1 (T f).2.1 (T f).2.2.1 host) ∈ jx_nest) (hfin : (T f).2.2.2 = false) (hty : parseFieldDescriptor (T f).2.2.1 = some ty) (hnr : narrow ty (va_rf v) = va_rf v) (hft : fits ty (va_rf v) = true) (d : decode cc pc = .ok (.putfield ix, 3)) (q : Nat) (hq : pc + 3 = q) (h : ∀ u2 : XS, u2 = xsr u a f v → JJ X A Q nL (XP D dA A K u2) k n q lv st) : JJ X A Q nL (XP D dA A K u) k n pc lv (va_rf v :: .ref a :: st) := by
  subst hq
  exact fun H locs ls hP hS hh => jj_putNW hX.1 hX.2.1 hX.2.2.2.2.1 hF.2.1 ty0 hF.2.2.1 hF.2.2.2 hX.2.2.2.1 (hK.kn hF) (hP.1.ob h1 hF) f hf (hN.use hlk) (fun _ h9 => h9) hfin hty hnr hft d (fun H1 e1 e2 e3 => h _ rfl H1 _ ls ⟨hP.1.putr h1 hF.1 hft0 e1 e3, hP.2⟩ (hS.put e2 e3 (hP.2 a (by rw [h1]; simp))) hh)
theorem jx_putiF {v : Int32} {ty : FieldType} (hX : JX X own cc nL ret F LL mc ms) (hK : KX D dA (jj_s X)) (hF : JF c C T N ty0) (h1 : K a = (1, c)) (f : Nat) (hf : f < N) (hin : (jj_me X).name = "<init>") (hdc : (T f).1 = own) (hft0 : jx_ft c f = 0) (hlk : (Cond.fieldLink own ix (T f).1 (T f).2.1 (T f).2.2.1) ∈ lw_all) (hfin : (T f).2.2.2 = true) (hty : parseFieldDescriptor (T f).2.2.1 = some ty) (hnr : narrow ty (.int v) = .int v) (hft : fits ty (.int v) = true) (d : decode cc pc = .ok (.putfield ix, 3)) (q : Nat) (hq : pc + 3 = q) (h : ∀ u2 : XS, u2 = xsi u a f v → JJ X A Q nL (XP D dA A K u2) k n q lv st) : JJ X A Q nL (XP D dA A K u) k n pc lv (.int v :: .ref a :: st) := by
  subst hq
  exact fun H locs ls hP hS hh => jj_putFW hX.1 hX.2.1 hX.2.2.2.2.1 hF.2.1 ty0 hF.2.2.1 hF.2.2.2 hX.2.2.2.1 (hK.kn hF) (hP.1.ob h1 hF) f hf (hX.2.2.2.2.1 _ hlk) (fun _ h9 => h9) hfin hin hdc hty hnr hft d (fun H1 e1 e2 e3 => h _ rfl H1 _ ls ⟨hP.1.puti h1 hF.1 hft0 e1 e3, hP.2⟩ (hS.put e2 e3 (hP.2 a (by rw [h1]; simp))) hh)
theorem jx_putlF {v : Int64} {ty : FieldType} (hX : JX X own cc nL ret F LL mc ms) (hK : KX D dA (jj_s X)) (hF : JF c C T N ty0) (h1 : K a = (1, c)) (f : Nat) (hf : f < N) (hin : (jj_me X).name = "<init>") (hdc : (T f).1 = own) (hft0 : jx_ft c f = 1) (hlk : (Cond.fieldLink own ix (T f).1 (T f).2.1 (T f).2.2.1) ∈ lw_all) (hfin : (T f).2.2.2 = true) (hty : parseFieldDescriptor (T f).2.2.1 = some ty) (hnr : narrow ty (.long v) = .long v) (hft : fits ty (.long v) = true) (d : decode cc pc = .ok (.putfield ix, 3)) (q : Nat) (hq : pc + 3 = q) (h : ∀ u2 : XS, u2 = xsl u a f v → JJ X A Q nL (XP D dA A K u2) k n q lv st) : JJ X A Q nL (XP D dA A K u) k n pc lv (.long v :: .ref a :: st) := by
  subst hq
  exact fun H locs ls hP hS hh => jj_putFW hX.1 hX.2.1 hX.2.2.2.2.1 hF.2.1 ty0 hF.2.2.1 hF.2.2.2 hX.2.2.2.1 (hK.kn hF) (hP.1.ob h1 hF) f hf (hX.2.2.2.2.1 _ hlk) (fun _ h9 => h9) hfin hin hdc hty hnr hft d (fun H1 e1 e2 e3 => h _ rfl H1 _ ls ⟨hP.1.putl h1 hF.1 hft0 e1 e3, hP.2⟩ (hS.put e2 e3 (hP.2 a (by rw [h1]; simp))) hh)
theorem jx_putrF {v : Option Nat} {ty : FieldType} (hX : JX X own cc nL ret F LL mc ms) (hK : KX D dA (jj_s X)) (hF : JF c C T N ty0) (h1 : K a = (1, c)) (f : Nat) (hf : f < N) (hin : (jj_me X).name = "<init>") (hdc : (T f).1 = own) (hft0 : jx_ft c f = 2) (hlk : (Cond.fieldLink own ix (T f).1 (T f).2.1 (T f).2.2.1) ∈ lw_all) (hfin : (T f).2.2.2 = true) (hty : parseFieldDescriptor (T f).2.2.1 = some ty) (hnr : narrow ty (va_rf v) = va_rf v) (hft : fits ty (va_rf v) = true) (d : decode cc pc = .ok (.putfield ix, 3)) (q : Nat) (hq : pc + 3 = q) (h : ∀ u2 : XS, u2 = xsr u a f v → JJ X A Q nL (XP D dA A K u2) k n q lv st) : JJ X A Q nL (XP D dA A K u) k n pc lv (va_rf v :: .ref a :: st) := by
  subst hq
  exact fun H locs ls hP hS hh => jj_putFW hX.1 hX.2.1 hX.2.2.2.2.1 hF.2.1 ty0 hF.2.2.1 hF.2.2.2 hX.2.2.2.1 (hK.kn hF) (hP.1.ob h1 hF) f hf (hX.2.2.2.2.1 _ hlk) (fun _ h9 => h9) hfin hin hdc hty hnr hft d (fun H1 e1 e2 e3 => h _ rfl H1 _ ls ⟨hP.1.putr h1 hF.1 hft0 e1 e3, hP.2⟩ (hS.put e2 e3 (hP.2 a (by rw [h1]; simp))) hh)
theorem KX.arr {U : State} (h : KX D dA U) {t : Nat} {ty : FieldType} (ht : jx_tt[t]? = some ty) : ArrOfT U (dA t) ty ∧ va_RA U (dA t) ty := by
  have h8 : t < 8 := (List.getElem?_eq_some_iff.mp ht).1
  match t, h8, ht with
  | 0, _, ht => cases ht; exact h.2 0 _ rfl
  | 1, _, ht => cases ht; exact h.2 1 _ rfl
  | 2, _, ht => cases ht; exact h.2 2 _ rfl
  | 3, _, ht => cases ht; exact h.2 3 _ rfl
  | 4, _, ht => cases ht; exact h.2 4 _ rfl
  | 5, _, ht => cases ht; exact h.2 5 _ rfl
  | 6, _, ht => cases ht; exact h.2 6 _ rfl
  | 7, _, ht => cases ht; exact h.2 7 _ rfl
  | t + 8, h8, _ => exact absurd h8 (by omega)
theorem jx_alen {nn t : Nat} (hX : JX X own cc nL ret F LL mc ms) (hK : KX D dA (jj_s X)) (h1 : K a = (t + 2, nn)) (d : decode cc pc = .ok (.arraylength, 1)) (q : Nat) (hq : pc + 1 = q) (h : JJ X A Q nL (XP D dA A K u) k n q lv (.int (nI nn) :: st)) : JJ X A Q nL (XP D dA A K u) k n pc lv (.ref a :: st) := by
  subst hq
  refine fun H locs ls hP hS hh => ?_
  obtain ⟨h8, hc⟩ := hP.1.2.1 a t nn h1
  obtain ⟨ty, ht⟩ : ∃ ty, jx_tt[t]? = some ty := ⟨_, List.getElem?_eq_getElem (by exact h8)⟩
  exact W.alen (n := Int32.ofNat nn) hX.1 hX.2.1 hc ((hK.arr ht).1 _ _) (by rw [arrV_size]) rfl rfl d (h H locs ls hP hS hh)
theorem jx_iald {nn : Nat} {i : Int32} (hX : JX X own cc nL ret F LL mc ms) (hK : KX D dA (jj_s X)) (h1 : K a = (2, nn)) (kk : Nat) (hkk : i.toNatClampNeg = kk) (hin : vp_in i nn) (d : decode cc pc = .ok (.iaload, 1)) (q : Nat) (hq : pc + 1 = q) (h : JJ X A Q nL (XP D dA A K u) k n q lv (.int (xi u a kk) :: st)) : JJ X A Q nL (XP D dA A K u) k n pc lv (.int i :: .ref a :: st) := by
  subst hq
  subst hkk
  have hlt : i.toNatClampNeg < nn := Nat.not_le.mp fun q => hin (Or.inr q)
  refine fun H locs ls hP hS hh => W.iald hX.1 hX.2.1 (hP.1.2.1 a 0 nn h1).2 ((hK.arr (t := 0) rfl).1 _ _) (fun q => by cases q) (by rw [arrV_size]; exact hin) (v := .int (xi u a i.toNatClampNeg)) ?_ rfl rfl d (h H locs ls hP hS hh)
  rw [arrV_read _ _ hlt]
  rfl
theorem jx_bald {nn : Nat} {i : Int32} (hX : JX X own cc nL ret F LL mc ms) (hK : KX D dA (jj_s X)) (h1 : K a = (3, nn)) (kk : Nat) (hkk : i.toNatClampNeg = kk) (hin : vp_in i nn) (d : decode cc pc = .ok (.baload, 1)) (q : Nat) (hq : pc + 1 = q) (h : JJ X A Q nL (XP D dA A K u) k n q lv (.int (xi u a kk) :: st)) : JJ X A Q nL (XP D dA A K u) k n pc lv (.int i :: .ref a :: st) := by
  subst hq
  subst hkk
  have hlt : i.toNatClampNeg < nn := Nat.not_le.mp fun q => hin (Or.inr q)
  refine fun H locs ls hP hS hh => W.bald hX.1 hX.2.1 (hP.1.2.1 a 1 nn h1).2 ((hK.arr (t := 1) rfl).1 _ _) (fun q => by cases q) (by rw [arrV_size]; exact hin) (v := .int (xi u a i.toNatClampNeg)) ?_ rfl rfl d (h H locs ls hP hS hh)
  rw [arrV_read _ _ hlt]
  rfl
theorem jx_sald {nn : Nat} {i : Int32} (hX : JX X own cc nL ret F LL mc ms) (hK : KX D dA (jj_s X)) (h1 : K a = (4, nn)) (kk : Nat) (hkk : i.toNatClampNeg = kk) (hin : vp_in i nn) (d : decode cc pc = .ok (.saload, 1)) (q : Nat) (hq : pc + 1 = q) (h : JJ X A Q nL (XP D dA A K u) k n q lv (.int (xi u a kk) :: st)) : JJ X A Q nL (XP D dA A K u) k n pc lv (.int i :: .ref a :: st) := by
  subst hq
  subst hkk
  have hlt : i.toNatClampNeg < nn := Nat.not_le.mp fun q => hin (Or.inr q)
  refine fun H locs ls hP hS hh => W.sald hX.1 hX.2.1 (hP.1.2.1 a 2 nn h1).2 ((hK.arr (t := 2) rfl).1 _ _) (fun q => by cases q) (by rw [arrV_size]; exact hin) (v := .int (xi u a i.toNatClampNeg)) ?_ rfl rfl d (h H locs ls hP hS hh)
  rw [arrV_read _ _ hlt]
  rfl
theorem jx_lald {nn : Nat} {i : Int32} (hX : JX X own cc nL ret F LL mc ms) (hK : KX D dA (jj_s X)) (h1 : K a = (5, nn)) (kk : Nat) (hkk : i.toNatClampNeg = kk) (hin : vp_in i nn) (d : decode cc pc = .ok (.laload, 1)) (q : Nat) (hq : pc + 1 = q) (h : JJ X A Q nL (XP D dA A K u) k n q lv (.long (xl u a kk) :: st)) : JJ X A Q nL (XP D dA A K u) k n pc lv (.int i :: .ref a :: st) := by
  subst hq
  subst hkk
  have hlt : i.toNatClampNeg < nn := Nat.not_le.mp fun q => hin (Or.inr q)
  refine fun H locs ls hP hS hh => W.lald hX.1 hX.2.1 (hP.1.2.1 a 3 nn h1).2 ((hK.arr (t := 3) rfl).1 _ _) (fun q => by cases q) (by rw [arrV_size]; exact hin) (v := .long (xl u a i.toNatClampNeg)) ?_ rfl rfl d (h H locs ls hP hS hh)
  rw [arrV_read _ _ hlt]
  rfl
theorem jx_zald {nn : Nat} {i : Int32} (hX : JX X own cc nL ret F LL mc ms) (hK : KX D dA (jj_s X)) (h1 : K a = (6, nn)) (kk : Nat) (hkk : i.toNatClampNeg = kk) (hin : vp_in i nn) (d : decode cc pc = .ok (.baload, 1)) (q : Nat) (hq : pc + 1 = q) (h : JJ X A Q nL (XP D dA A K u) k n q lv (.int (xi u a kk) :: st)) : JJ X A Q nL (XP D dA A K u) k n pc lv (.int i :: .ref a :: st) := by
  subst hq
  subst hkk
  have hlt : i.toNatClampNeg < nn := Nat.not_le.mp fun q => hin (Or.inr q)
  refine fun H locs ls hP hS hh => W.zald hX.1 hX.2.1 (hP.1.2.1 a 4 nn h1).2 ((hK.arr (t := 4) rfl).1 _ _) (fun q => by cases q) (by rw [arrV_size]; exact hin) (v := .int (xi u a i.toNatClampNeg)) ?_ rfl rfl d (h H locs ls hP hS hh)
  rw [arrV_read _ _ hlt]
  rfl
theorem jx_aald5 {nn : Nat} {i : Int32} (hX : JX X own cc nL ret F LL mc ms) (hK : KX D dA (jj_s X)) (h1 : K a = (7, nn)) (kk : Nat) (hkk : i.toNatClampNeg = kk) (hin : vp_in i nn) (d : decode cc pc = .ok (.aaload, 1)) (q : Nat) (hq : pc + 1 = q) (h : JJ X A Q nL (XP D dA A K u) k n q lv (va_rf (xr u a kk) :: st)) : JJ X A Q nL (XP D dA A K u) k n pc lv (.int i :: .ref a :: st) := by
  subst hq
  subst hkk
  have hlt : i.toNatClampNeg < nn := Nat.not_le.mp fun q => hin (Or.inr q)
  refine fun H locs ls hP hS hh => W.aald (ty := .object "RaisedPress$Rule") hX.1 hX.2.1 (hP.1.2.1 a 5 nn h1).2 ((hK.arr (t := 5) rfl).1 _ _) rfl (fun q => by cases q) (by rw [arrV_size]; exact hin) (v := va_rf (xr u a i.toNatClampNeg)) ?_ rfl rfl d (h H locs ls hP hS hh)
  rw [arrV_read _ _ hlt]
  rfl
theorem jx_aald6 {nn : Nat} {i : Int32} (hX : JX X own cc nL ret F LL mc ms) (hK : KX D dA (jj_s X)) (h1 : K a = (8, nn)) (kk : Nat) (hkk : i.toNatClampNeg = kk) (hin : vp_in i nn) (d : decode cc pc = .ok (.aaload, 1)) (q : Nat) (hq : pc + 1 = q) (h : JJ X A Q nL (XP D dA A K u) k n q lv (va_rf (xr u a kk) :: st)) : JJ X A Q nL (XP D dA A K u) k n pc lv (.int i :: .ref a :: st) := by
  subst hq
  subst hkk
  have hlt : i.toNatClampNeg < nn := Nat.not_le.mp fun q => hin (Or.inr q)
  refine fun H locs ls hP hS hh => W.aald (ty := .object "RaisedPress$House") hX.1 hX.2.1 (hP.1.2.1 a 6 nn h1).2 ((hK.arr (t := 6) rfl).1 _ _) rfl (fun q => by cases q) (by rw [arrV_size]; exact hin) (v := va_rf (xr u a i.toNatClampNeg)) ?_ rfl rfl d (h H locs ls hP hS hh)
  rw [arrV_read _ _ hlt]
  rfl
theorem jx_aald7 {nn : Nat} {i : Int32} (hX : JX X own cc nL ret F LL mc ms) (hK : KX D dA (jj_s X)) (h1 : K a = (9, nn)) (kk : Nat) (hkk : i.toNatClampNeg = kk) (hin : vp_in i nn) (d : decode cc pc = .ok (.aaload, 1)) (q : Nat) (hq : pc + 1 = q) (h : JJ X A Q nL (XP D dA A K u) k n q lv (va_rf (xr u a kk) :: st)) : JJ X A Q nL (XP D dA A K u) k n pc lv (.int i :: .ref a :: st) := by
  subst hq
  subst hkk
  have hlt : i.toNatClampNeg < nn := Nat.not_le.mp fun q => hin (Or.inr q)
  refine fun H locs ls hP hS hh => W.aald (ty := .object "RaisedPress$Tray") hX.1 hX.2.1 (hP.1.2.1 a 7 nn h1).2 ((hK.arr (t := 7) rfl).1 _ _) rfl (fun q => by cases q) (by rw [arrV_size]; exact hin) (v := va_rf (xr u a i.toNatClampNeg)) ?_ rfl rfl d (h H locs ls hP hS hh)
  rw [arrV_read _ _ hlt]
  rfl
theorem jx_iast {nn : Nat} {i : Int32} {x : Int32} (hX : JX X own cc nL ret F LL mc ms) (hK : KX D dA (jj_s X)) (h1 : K a = (2, nn)) (kk : Nat) (hkk : i.toNatClampNeg = kk) (hin : vp_in i nn) (d : decode cc pc = .ok (.iastore, 1)) (q : Nat) (hq : pc + 1 = q) (h : ∀ u2 : XS, u2 = xsi u a kk x → JJ X A Q nL (XP D dA A K u2) k n q lv st) : JJ X A Q nL (XP D dA A K u) k n pc lv (.int x :: .int i :: .ref a :: st) := by
  subst hq
  subst hkk
  exact fun H locs ls hP hS hh => W.iast hX.1 hX.2.1 (hP.1.2.1 a 0 nn h1).2 ((hK.arr (t := 0) rfl).1 _ _) (fun q => by cases q) (by rw [arrV_size]; exact hin) rfl rfl d (fun H1 e1 z oq => h _ rfl H1 _ ls ⟨hP.1.sti h1 (by decide) (fun q => by cases q) (fun q => by cases q) (by rw [e1, arrV_store] <;> rfl) oq, hP.2⟩ (hS.put z oq (hP.2 a (by rw [h1]; simp))) hh)
theorem jx_bast {nn : Nat} {i : Int32} {x : Int32} (hX : JX X own cc nL ret F LL mc ms) (hK : KX D dA (jj_s X)) (h1 : K a = (3, nn)) (kk : Nat) (hkk : i.toNatClampNeg = kk) (hin : vp_in i nn) (d : decode cc pc = .ok (.bastore, 1)) (q : Nat) (hq : pc + 1 = q) (h : ∀ u2 : XS, u2 = xsi u a kk x.toInt8.toInt32 → JJ X A Q nL (XP D dA A K u2) k n q lv st) : JJ X A Q nL (XP D dA A K u) k n pc lv (.int x :: .int i :: .ref a :: st) := by
  subst hq
  subst hkk
  exact fun H locs ls hP hS hh => W.bast hX.1 hX.2.1 (hP.1.2.1 a 1 nn h1).2 ((hK.arr (t := 1) rfl).1 _ _) (fun q => by cases q) (by rw [arrV_size]; exact hin) rfl rfl d (fun H1 e1 z oq => h _ rfl H1 _ ls ⟨hP.1.sti h1 (by decide) (fun q => by exact pk_fb x) (fun q => by cases q) (by rw [e1, arrV_store] <;> rfl) oq, hP.2⟩ (hS.put z oq (hP.2 a (by rw [h1]; simp))) hh)
theorem jx_sast {nn : Nat} {i : Int32} {x : Int32} (hX : JX X own cc nL ret F LL mc ms) (hK : KX D dA (jj_s X)) (h1 : K a = (4, nn)) (kk : Nat) (hkk : i.toNatClampNeg = kk) (hin : vp_in i nn) (d : decode cc pc = .ok (.sastore, 1)) (q : Nat) (hq : pc + 1 = q) (h : ∀ u2 : XS, u2 = xsi u a kk x.toInt16.toInt32 → JJ X A Q nL (XP D dA A K u2) k n q lv st) : JJ X A Q nL (XP D dA A K u) k n pc lv (.int x :: .int i :: .ref a :: st) := by
  subst hq
  subst hkk
  exact fun H locs ls hP hS hh => W.sast hX.1 hX.2.1 (hP.1.2.1 a 2 nn h1).2 ((hK.arr (t := 2) rfl).1 _ _) (fun q => by cases q) (by rw [arrV_size]; exact hin) rfl rfl d (fun H1 e1 z oq => h _ rfl H1 _ ls ⟨hP.1.sti h1 (by decide) (fun q => by cases q) (fun q => by exact pk_fs x) (by rw [e1, arrV_store] <;> rfl) oq, hP.2⟩ (hS.put z oq (hP.2 a (by rw [h1]; simp))) hh)
theorem jx_zast {nn : Nat} {i : Int32} {x : Int32} (hX : JX X own cc nL ret F LL mc ms) (hK : KX D dA (jj_s X)) (h1 : K a = (6, nn)) (kk : Nat) (hkk : i.toNatClampNeg = kk) (hin : vp_in i nn) (d : decode cc pc = .ok (.bastore, 1)) (q : Nat) (hq : pc + 1 = q) (h : ∀ u2 : XS, u2 = xsi u a kk (vp_nar .boolean x) → JJ X A Q nL (XP D dA A K u2) k n q lv st) : JJ X A Q nL (XP D dA A K u) k n pc lv (.int x :: .int i :: .ref a :: st) := by
  subst hq
  subst hkk
  exact fun H locs ls hP hS hh => W.zast hX.1 hX.2.1 (hP.1.2.1 a 4 nn h1).2 ((hK.arr (t := 4) rfl).1 _ _) (fun q => by cases q) (by rw [arrV_size]; exact hin) rfl rfl d (fun H1 e1 z oq => h _ rfl H1 _ ls ⟨hP.1.sti h1 (by decide) (fun q => by cases q) (fun q => by cases q) (by rw [e1, arrV_store] <;> rfl) oq, hP.2⟩ (hS.put z oq (hP.2 a (by rw [h1]; simp))) hh)
theorem jx_last {nn : Nat} {i : Int32} {x : Int64} (hX : JX X own cc nL ret F LL mc ms) (hK : KX D dA (jj_s X)) (h1 : K a = (5, nn)) (kk : Nat) (hkk : i.toNatClampNeg = kk) (hin : vp_in i nn) (d : decode cc pc = .ok (.lastore, 1)) (q : Nat) (hq : pc + 1 = q) (h : ∀ u2 : XS, u2 = xsl u a kk x → JJ X A Q nL (XP D dA A K u2) k n q lv st) : JJ X A Q nL (XP D dA A K u) k n pc lv (.long x :: .int i :: .ref a :: st) := by
  subst hq
  subst hkk
  exact fun H locs ls hP hS hh => W.last hX.1 hX.2.1 (hP.1.2.1 a 3 nn h1).2 ((hK.arr (t := 3) rfl).1 _ _) (fun q => by cases q) (by rw [arrV_size]; exact hin) rfl rfl d (fun H1 e1 z oq => h _ rfl H1 _ ls ⟨hP.1.stl h1 (by rw [e1, arrV_store] <;> rfl) oq, hP.2⟩ (hS.put z oq (hP.2 a (by rw [h1]; simp))) hh)
theorem jx_aast {t nn b cv : Nat} {E Cv : String} {i : Int32} {Tv : u_T} {Nv : Nat} {tyv : Nat → FieldType} (hX : JX X own cc nL ret F LL mc ms) (hK : KX D dA (jj_s X)) (h1 : K a = (t + 2, nn)) (ht : jx_tt[t]? = some (.object E)) (h5 : 5 ≤ t) (hb : K b = (1, cv)) (hFv : JF cv Cv Tv Nv tyv) (hasg : ∀ comp c0, (jj_s X).vm.findClass E = some comp → (jj_s X).vm.findClass Cv = some c0 → (jj_s X).vm.assignable c0 comp = true) (kk : Nat) (hkk : i.toNatClampNeg = kk) (hin : vp_in i nn) (d : decode cc pc = .ok (.aastore, 1)) (q : Nat) (hq : pc + 1 = q) (h : ∀ u2 : XS, u2 = xsr u a kk (some b) → JJ X A Q nL (XP D dA A K u2) k n q lv st) : JJ X A Q nL (XP D dA A K u) k n pc lv (.ref b :: .int i :: .ref a :: st) := by
  subst hq
  subst hkk
  have hlt : i.toNatClampNeg < nn := Nat.not_le.mp fun q => hin (Or.inr q)
  have h0 : ¬ i < 0 := fun q => hin (Or.inl q)
  refine fun H locs ls hP hS hh => ?_
  obtain ⟨cellV, g1, g2, g3, -⟩ := hP.1.ob hb hFv
  have hcls := (hK.kn hFv).2
  obtain ⟨kA, comp, k1, k2, k3, -⟩ := (hK.arr ht).2
  obtain ⟨kC, hkC, -⟩ := hcls.2
  have ha := hasg comp (D.1 cv) k3 hcls.1
  obtain ⟨kc, hkc⟩ : ∃ kc, (jj_s X).vm.classes[comp]? = some kc := by
    obtain ⟨kc, h9, -⟩ := Vm.findClass_spec k3
    exact ⟨kc, h9⟩
  refine W.aast hX.1 hX.2.1 (hP.1.2.1 a t nn h1).2 (fun q h => by cases h) (fun h => by cases h) k1 k2 rfl hkc ⟨h0, by rw [arrV_size]; exact hlt⟩ g1 (fun q h => by rw [g3] at h; cases h) (by rw [g2]; exact hkC) (by rw [g2]; exact ha) rfl rfl d (fun H1 e1 z oq => h _ rfl H1 _ ls ⟨hP.1.str h1 h5 (by rw [e1, arrV_store] <;> rfl) oq, hP.2⟩ (hS.put z oq (hP.2 a (by rw [h1]; simp))) hh)
end JXR2
