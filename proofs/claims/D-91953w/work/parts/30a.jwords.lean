/-! TABLE FACTS 1 (printed by gentab.py): words, fields, methods -/
set_option maxRecDepth 100000
def jnw : List Cond := [(Jvm.Cond.methodLinkNest "BalloonStall$FigureReader" (9 : Nat) ({ cls := "BalloonStall$Reader", name := "<init>", desc := "(LBalloonStall;)V" } : Jvm.MethodName) "BalloonStall"),
  (Jvm.Cond.methodLinkNest "BalloonStall$RuleReader" (9 : Nat) ({ cls := "BalloonStall$Reader", name := "<init>", desc := "(LBalloonStall;)V" } : Jvm.MethodName) "BalloonStall"),
  (Jvm.Cond.declares ({ cls := "java/lang/RuntimeException", name := "<init>", desc := "()V" } : Jvm.MethodName)),
  (Jvm.Cond.declares ({ cls := "java/lang/Exception", name := "<init>", desc := "()V" } : Jvm.MethodName)),
  (Jvm.Cond.declares ({ cls := "java/lang/Throwable", name := "<init>", desc := "()V" } : Jvm.MethodName)),
  (Jvm.Cond.methodLinkNest "BalloonStall" (98 : Nat) ({ cls := "BalloonStall$FigureReader", name := "<init>", desc := "(LBalloonStall;)V" } : Jvm.MethodName) "BalloonStall"),
  (Jvm.Cond.methodLinkNest "BalloonStall" (107 : Nat) ({ cls := "BalloonStall$RuleReader", name := "<init>", desc := "(LBalloonStall;)V" } : Jvm.MethodName) "BalloonStall"),
  (Jvm.Cond.methodLinkNest "BalloonStall" (59 : Nat) ({ cls := "BalloonStall$Letters", name := "<init>", desc := "()V" } : Jvm.MethodName) "BalloonStall"),
  (Jvm.Cond.fieldLinkNest "BalloonStall" (113 : Nat) "BalloonStall$Wrong" "at" "I" "BalloonStall"),
  (Jvm.Cond.fieldLinkNest "BalloonStall" (144 : Nat) "BalloonStall$Figure" "balloons" "I" "BalloonStall"),
  (Jvm.Cond.fieldLinkNest "BalloonStall" (138 : Nat) "BalloonStall$Figure" "bubbles" "I" "BalloonStall"),
  (Jvm.Cond.fieldLinkNest "BalloonStall" (141 : Nat) "BalloonStall$Figure" "points" "I" "BalloonStall"),
  (Jvm.Cond.fieldLinkNest "BalloonStall" (184 : Nat) "BalloonStall$Figure" "ends" "[I" "BalloonStall"),
  (Jvm.Cond.fieldLinkNest "BalloonStall" (178 : Nat) "BalloonStall$Figure" "sort" "[I" "BalloonStall"),
  (Jvm.Cond.fieldLinkNest "BalloonStall" (175 : Nat) "BalloonStall$Figure" "balloon" "[I" "BalloonStall"),
  (Jvm.Cond.fieldLinkNest "BalloonStall" (194 : Nat) "BalloonStall$Sort" "air" "I" "BalloonStall"),
  (Jvm.Cond.fieldLinkNest "BalloonStall" (203 : Nat) "BalloonStall$Figure" "hands" "I" "BalloonStall"),
  (Jvm.Cond.fieldLinkNest "BalloonStall" (172 : Nat) "BalloonStall$Figure" "to" "[I" "BalloonStall"),
  (Jvm.Cond.fieldLinkNest "BalloonStall" (215 : Nat) "BalloonStall$Hand" "sort" "[I" "BalloonStall"),
  (Jvm.Cond.fieldLinkNest "BalloonStall" (222 : Nat) "BalloonStall$Hand" "balloons" "I" "BalloonStall"),
  (Jvm.Cond.fieldLinkNest "BalloonStall" (166 : Nat) "BalloonStall$Figure" "lengths" "[I" "BalloonStall"),
  (Jvm.Cond.fieldLinkNest "BalloonStall" (169 : Nat) "BalloonStall$Figure" "from" "[I" "BalloonStall"),
  (Jvm.Cond.fieldLinkNest "BalloonStall" (307 : Nat) "BalloonStall$Sort" "stock" "I" "BalloonStall"),
  (Jvm.Cond.fieldLinkNest "BalloonStall" (332 : Nat) "BalloonStall$Sort" "there" "I" "BalloonStall"),
  (Jvm.Cond.fieldLinkNest "BalloonStall" (342 : Nat) "BalloonStall$Guest" "ends" "I" "BalloonStall"),
  (Jvm.Cond.fieldLinkNest "BalloonStall" (373 : Nat) "BalloonStall$Guest" "went" "I" "BalloonStall"),
  (Jvm.Cond.fieldLinkNest "BalloonStall" (360 : Nat) "BalloonStall$Guest" "comes" "I" "BalloonStall"),
  (Jvm.Cond.fieldLinkNest "BalloonStall" (363 : Nat) "BalloonStall$Guest" "begins" "I" "BalloonStall"),
  (Jvm.Cond.fieldLinkNest "BalloonStall" (339 : Nat) "BalloonStall$Guest" "taken" "I" "BalloonStall"),
  (Jvm.Cond.fieldLinkNest "BalloonStall" (366 : Nat) "BalloonStall$Guest" "patience" "I" "BalloonStall"),
  (Jvm.Cond.fieldLinkNest "BalloonStall" (335 : Nat) "BalloonStall$Guest" "wants" "LBalloonStall$Figure;" "BalloonStall"),
  (Jvm.Cond.fieldLinkNest "BalloonStall" (329 : Nat) "BalloonStall$Sort" "needed" "I" "BalloonStall"),
  (Jvm.Cond.fieldLinkNest "BalloonStall" (357 : Nat) "BalloonStall$Sort" "chance" "I" "BalloonStall"),
  (Jvm.Cond.methodLinkNest "BalloonStall" (417 : Nat) ({ cls := "BalloonStall$Figure", name := "left", desc := "(II)I" } : Jvm.MethodName) "BalloonStall"),
  (Jvm.Cond.fieldLinkNest "BalloonStall" (420 : Nat) "BalloonStall$Sort" "strain" "I" "BalloonStall"),
  (Jvm.Cond.fieldLinkNest "BalloonStall" (386 : Nat) "BalloonStall$Letters" "of" "[I" "BalloonStall"),
  (Jvm.Cond.fieldLinkNest "BalloonStall" (392 : Nat) "BalloonStall$Clause" "sum" "LBalloonStall$Sum;" "BalloonStall"),
  (Jvm.Cond.declares ({ cls := "BalloonStall$Sum", name := "of", desc := "(LBalloonStall$Letters;)I" } : Jvm.MethodName)),
  (Jvm.Cond.fieldLinkNest "BalloonStall" (401 : Nat) "BalloonStall$Clause" "next" "LBalloonStall$Clause;" "BalloonStall"),
  (Jvm.Cond.fieldLinkNest "BalloonStall$Reader" (19 : Nat) "BalloonStall" "length" "I" "BalloonStall"),
  (Jvm.Cond.fieldLinkNest "BalloonStall$Reader" (22 : Nat) "BalloonStall" "tape" "[B" "BalloonStall"),
  (Jvm.Cond.declares ({ cls := "BalloonStall$Reader", name := "look", desc := "()I" } : Jvm.MethodName)),
  (Jvm.Cond.declares ({ cls := "BalloonStall$Reader", name := "take", desc := "(Z)I" } : Jvm.MethodName)),
  (Jvm.Cond.fieldLinkNest "BalloonStall$FigureReader" (31 : Nat) "BalloonStall$Move" "next" "LBalloonStall$Move;" "BalloonStall"),
  (Jvm.Cond.fieldLinkNest "BalloonStall$FigureReader" (45 : Nat) "BalloonStall" "sortMany" "I" "BalloonStall"),
  (Jvm.Cond.declares ({ cls := "BalloonStall$Reader", name := "goIn", desc := "()V" } : Jvm.MethodName)),
  (Jvm.Cond.declares ({ cls := "BalloonStall$Reader", name := "goOut", desc := "(I)V" } : Jvm.MethodName)),
  (Jvm.Cond.declares ({ cls := "BalloonStall$Reader", name := "isDigit", desc := "()Z" } : Jvm.MethodName)),
  (Jvm.Cond.methodLinkNest "BalloonStall$FigureReader" (93 : Nat) ({ cls := "BalloonStall", name := "isIn", desc := "(JJJ)Z" } : Jvm.MethodName) "BalloonStall"),
  (Jvm.Cond.declares ({ cls := "BalloonStall$Move", name := "made", desc := "(LBalloonStall$Hand;)V" } : Jvm.MethodName)),
  (Jvm.Cond.methodLinkNest "BalloonStall$Fresh" (1 : Nat) ({ cls := "BalloonStall$Move", name := "<init>", desc := "()V" } : Jvm.MethodName) "BalloonStall"),
  (Jvm.Cond.methodLinkNest "BalloonStall$Name" (3 : Nat) ({ cls := "BalloonStall$Move", name := "<init>", desc := "()V" } : Jvm.MethodName) "BalloonStall"),
  (Jvm.Cond.fieldLinkNest "BalloonStall$Name" (15 : Nat) "BalloonStall$Hand" "named" "[I" "BalloonStall"),
  (Jvm.Cond.fieldLinkNest "BalloonStall$Name" (21 : Nat) "BalloonStall$Hand" "at" "I" "BalloonStall"),
  (Jvm.Cond.methodLinkNest "BalloonStall$Blow" (1 : Nat) ({ cls := "BalloonStall$Move", name := "<init>", desc := "()V" } : Jvm.MethodName) "BalloonStall"),
  (Jvm.Cond.methodLinkNest "BalloonStall$Ring" (1 : Nat) ({ cls := "BalloonStall$Move", name := "<init>", desc := "()V" } : Jvm.MethodName) "BalloonStall"),
  (Jvm.Cond.fieldLinkNest "BalloonStall$Ring" (13 : Nat) "BalloonStall$Hand" "at" "I" "BalloonStall"),
  (Jvm.Cond.fieldLinkNest "BalloonStall$RuleReader" (27 : Nat) "BalloonStall$Clause" "next" "LBalloonStall$Clause;" "BalloonStall"),
  (Jvm.Cond.declares ({ cls := "BalloonStall$Reader", name := "comeOut", desc := "()V" } : Jvm.MethodName)),
  (Jvm.Cond.methodLinkNest "BalloonStall$Not" (1 : Nat) ({ cls := "BalloonStall$Test", name := "<init>", desc := "()V" } : Jvm.MethodName) "BalloonStall"),
  (Jvm.Cond.declares ({ cls := "BalloonStall$Test", name := "holds", desc := "(LBalloonStall$Letters;)Z" } : Jvm.MethodName)),
  (Jvm.Cond.methodLinkNest "BalloonStall$Letter" (1 : Nat) ({ cls := "BalloonStall$Sum", name := "<init>", desc := "()V" } : Jvm.MethodName) "BalloonStall"),
  (Jvm.Cond.fieldLinkNest "BalloonStall$Letter" (13 : Nat) "BalloonStall$Letters" "of" "[I" "BalloonStall"),
  (Jvm.Cond.methodLinkNest "BalloonStall$Plain" (1 : Nat) ({ cls := "BalloonStall$Sum", name := "<init>", desc := "()V" } : Jvm.MethodName) "BalloonStall"),
  (Jvm.Cond.methodLinkNest "BalloonStall$Pair" (3 : Nat) ({ cls := "BalloonStall$Sum", name := "<init>", desc := "()V" } : Jvm.MethodName) "BalloonStall"),
  (Jvm.Cond.methodLinkNest "BalloonStall$Compares" (1 : Nat) ({ cls := "BalloonStall$Test", name := "<init>", desc := "()V" } : Jvm.MethodName) "BalloonStall"),
  (Jvm.Cond.methodLinkNest "BalloonStall$Both" (1 : Nat) ({ cls := "BalloonStall$Test", name := "<init>", desc := "()V" } : Jvm.MethodName) "BalloonStall"),
  (Jvm.Cond.fieldLinkNest "BalloonStall$Hand" (64 : Nat) "BalloonStall$Figure" "sort" "[I" "BalloonStall"),
  (Jvm.Cond.fieldLinkNest "BalloonStall$Hand" (67 : Nat) "BalloonStall$Figure" "balloons" "I" "BalloonStall"),
  (Jvm.Cond.fieldLinkNest "BalloonStall$Hand" (74 : Nat) "BalloonStall$Figure" "bubbles" "I" "BalloonStall"),
  (Jvm.Cond.fieldLinkNest "BalloonStall$Hand" (77 : Nat) "BalloonStall$Figure" "lengths" "[I" "BalloonStall"),
  (Jvm.Cond.fieldLinkNest "BalloonStall$Hand" (78 : Nat) "BalloonStall$Figure" "from" "[I" "BalloonStall"),
  (Jvm.Cond.fieldLinkNest "BalloonStall$Hand" (79 : Nat) "BalloonStall$Figure" "to" "[I" "BalloonStall"),
  (Jvm.Cond.fieldLinkNest "BalloonStall$Hand" (80 : Nat) "BalloonStall$Figure" "balloon" "[I" "BalloonStall"),
  (Jvm.Cond.fieldLinkNest "BalloonStall$Figure" (30 : Nat) "BalloonStall$Hand" "bubbles" "I" "BalloonStall"),
  (Jvm.Cond.fieldLinkNest "BalloonStall$Figure" (37 : Nat) "BalloonStall$Hand" "balloons" "I" "BalloonStall"),
  (Jvm.Cond.fieldLinkNest "BalloonStall$Figure" (41 : Nat) "BalloonStall$Hand" "most" "I" "BalloonStall"),
  (Jvm.Cond.fieldLinkNest "BalloonStall$Figure" (47 : Nat) "BalloonStall$Hand" "points" "I" "BalloonStall"),
  (Jvm.Cond.fieldLinkNest "BalloonStall$Figure" (55 : Nat) "BalloonStall$Hand" "from" "[I" "BalloonStall"),
  (Jvm.Cond.fieldLinkNest "BalloonStall$Figure" (56 : Nat) "BalloonStall$Hand" "to" "[I" "BalloonStall"),
  (Jvm.Cond.fieldLinkNest "BalloonStall$Figure" (57 : Nat) "BalloonStall$Hand" "lengths" "[I" "BalloonStall"),
  (Jvm.Cond.fieldLinkNest "BalloonStall$Figure" (58 : Nat) "BalloonStall$Hand" "balloon" "[I" "BalloonStall"),
  (Jvm.Cond.fieldLinkNest "BalloonStall$Figure" (59 : Nat) "BalloonStall$Hand" "sort" "[I" "BalloonStall")]
theorem jnw_tbl : ∀ w ∈ jnw, w ∈ lw_tbl := by
  intro w hw
  rcases List.mem_cons.mp hw with rfl | hw
  · exact q301
  rcases List.mem_cons.mp hw with rfl | hw
  · exact q521
  rcases List.mem_cons.mp hw with rfl | hw
  · exact q357
  rcases List.mem_cons.mp hw with rfl | hw
  · exact q359
  rcases List.mem_cons.mp hw with rfl | hw
  · exact q361
  rcases List.mem_cons.mp hw with rfl | hw
  · exact q298
  rcases List.mem_cons.mp hw with rfl | hw
  · exact q518
  rcases List.mem_cons.mp hw with rfl | hw
  · exact q153
  rcases List.mem_cons.mp hw with rfl | hw
  · exact q407
  rcases List.mem_cons.mp hw with rfl | hw
  · exact q850
  rcases List.mem_cons.mp hw with rfl | hw
  · exact q847
  rcases List.mem_cons.mp hw with rfl | hw
  · exact q852
  rcases List.mem_cons.mp hw with rfl | hw
  · exact q844
  rcases List.mem_cons.mp hw with rfl | hw
  · exact q842
  rcases List.mem_cons.mp hw with rfl | hw
  · exact q839
  rcases List.mem_cons.mp hw with rfl | hw
  · exact q255
  rcases List.mem_cons.mp hw with rfl | hw
  · exact q854
  rcases List.mem_cons.mp hw with rfl | hw
  · exact q833
  rcases List.mem_cons.mp hw with rfl | hw
  · exact q717
  rcases List.mem_cons.mp hw with rfl | hw
  · exact q727
  rcases List.mem_cons.mp hw with rfl | hw
  · exact q836
  rcases List.mem_cons.mp hw with rfl | hw
  · exact q830
  rcases List.mem_cons.mp hw with rfl | hw
  · exact q260
  rcases List.mem_cons.mp hw with rfl | hw
  · exact q261
  rcases List.mem_cons.mp hw with rfl | hw
  · exact q1142
  rcases List.mem_cons.mp hw with rfl | hw
  · exact q1140
  rcases List.mem_cons.mp hw with rfl | hw
  · exact q1137
  rcases List.mem_cons.mp hw with rfl | hw
  · exact q1141
  rcases List.mem_cons.mp hw with rfl | hw
  · exact q1143
  rcases List.mem_cons.mp hw with rfl | hw
  · exact q1139
  rcases List.mem_cons.mp hw with rfl | hw
  · exact q1135
  rcases List.mem_cons.mp hw with rfl | hw
  · exact q262
  rcases List.mem_cons.mp hw with rfl | hw
  · exact q259
  rcases List.mem_cons.mp hw with rfl | hw
  · exact q1207
  rcases List.mem_cons.mp hw with rfl | hw
  · exact q257
  rcases List.mem_cons.mp hw with rfl | hw
  · exact q159
  rcases List.mem_cons.mp hw with rfl | hw
  · exact q682
  rcases List.mem_cons.mp hw with rfl | hw
  · exact q1226
  rcases List.mem_cons.mp hw with rfl | hw
  · exact q684
  rcases List.mem_cons.mp hw with rfl | hw
  · exact q170
  rcases List.mem_cons.mp hw with rfl | hw
  · exact q168
  rcases List.mem_cons.mp hw with rfl | hw
  · exact q338
  rcases List.mem_cons.mp hw with rfl | hw
  · exact q350
  rcases List.mem_cons.mp hw with rfl | hw
  · exact q449
  rcases List.mem_cons.mp hw with rfl | hw
  · exact q167
  rcases List.mem_cons.mp hw with rfl | hw
  · exact q481
  rcases List.mem_cons.mp hw with rfl | hw
  · exact q488
  rcases List.mem_cons.mp hw with rfl | hw
  · exact q464
  rcases List.mem_cons.mp hw with rfl | hw
  · exact q469
  rcases List.mem_cons.mp hw with rfl | hw
  · exact q764
  rcases List.mem_cons.mp hw with rfl | hw
  · exact q507
  rcases List.mem_cons.mp hw with rfl | hw
  · exact q444
  rcases List.mem_cons.mp hw with rfl | hw
  · exact q706
  rcases List.mem_cons.mp hw with rfl | hw
  · exact q719
  rcases List.mem_cons.mp hw with rfl | hw
  · exact q473
  rcases List.mem_cons.mp hw with rfl | hw
  · exact q498
  rcases List.mem_cons.mp hw with rfl | hw
  · exact q718
  rcases List.mem_cons.mp hw with rfl | hw
  · exact q683
  rcases List.mem_cons.mp hw with rfl | hw
  · exact q573
  rcases List.mem_cons.mp hw with rfl | hw
  · exact q563
  rcases List.mem_cons.mp hw with rfl | hw
  · exact q1217
  rcases List.mem_cons.mp hw with rfl | hw
  · exact q597
  rcases List.mem_cons.mp hw with rfl | hw
  · exact q158
  rcases List.mem_cons.mp hw with rfl | hw
  · exact q613
  rcases List.mem_cons.mp hw with rfl | hw
  · exact q623
  rcases List.mem_cons.mp hw with rfl | hw
  · exact q643
  rcases List.mem_cons.mp hw with rfl | hw
  · exact q659
  rcases List.mem_cons.mp hw with rfl | hw
  · exact q841
  rcases List.mem_cons.mp hw with rfl | hw
  · exact q849
  rcases List.mem_cons.mp hw with rfl | hw
  · exact q846
  rcases List.mem_cons.mp hw with rfl | hw
  · exact q835
  rcases List.mem_cons.mp hw with rfl | hw
  · exact q829
  rcases List.mem_cons.mp hw with rfl | hw
  · exact q832
  rcases List.mem_cons.mp hw with rfl | hw
  · exact q838
  rcases List.mem_cons.mp hw with rfl | hw
  · exact q723
  rcases List.mem_cons.mp hw with rfl | hw
  · exact q725
  rcases List.mem_cons.mp hw with rfl | hw
  · exact q728
  rcases List.mem_cons.mp hw with rfl | hw
  · exact q721
  rcases List.mem_cons.mp hw with rfl | hw
  · exact q708
  rcases List.mem_cons.mp hw with rfl | hw
  · exact q710
  rcases List.mem_cons.mp hw with rfl | hw
  · exact q712
  rcases List.mem_cons.mp hw with rfl | hw
  · exact q714
  rcases List.mem_cons.mp hw with rfl | hw
  · exact q716
  cases hw
theorem jw_q301 : (Jvm.Cond.methodLinkNest "BalloonStall$FigureReader" (9 : Nat) ({ cls := "BalloonStall$Reader", name := "<init>", desc := "(LBalloonStall;)V" } : Jvm.MethodName) "BalloonStall") ∈ jnw := List.mem_of_getElem? (i := 0) rfl
theorem jw_q521 : (Jvm.Cond.methodLinkNest "BalloonStall$RuleReader" (9 : Nat) ({ cls := "BalloonStall$Reader", name := "<init>", desc := "(LBalloonStall;)V" } : Jvm.MethodName) "BalloonStall") ∈ jnw := List.mem_of_getElem? (i := 1) rfl
theorem jw_q357 : (Jvm.Cond.declares ({ cls := "java/lang/RuntimeException", name := "<init>", desc := "()V" } : Jvm.MethodName)) ∈ jnw := List.mem_of_getElem? (i := 2) rfl
theorem jw_q359 : (Jvm.Cond.declares ({ cls := "java/lang/Exception", name := "<init>", desc := "()V" } : Jvm.MethodName)) ∈ jnw := List.mem_of_getElem? (i := 3) rfl
theorem jw_q361 : (Jvm.Cond.declares ({ cls := "java/lang/Throwable", name := "<init>", desc := "()V" } : Jvm.MethodName)) ∈ jnw := List.mem_of_getElem? (i := 4) rfl
theorem jw_q298 : (Jvm.Cond.methodLinkNest "BalloonStall" (98 : Nat) ({ cls := "BalloonStall$FigureReader", name := "<init>", desc := "(LBalloonStall;)V" } : Jvm.MethodName) "BalloonStall") ∈ jnw := List.mem_of_getElem? (i := 5) rfl
theorem jw_q518 : (Jvm.Cond.methodLinkNest "BalloonStall" (107 : Nat) ({ cls := "BalloonStall$RuleReader", name := "<init>", desc := "(LBalloonStall;)V" } : Jvm.MethodName) "BalloonStall") ∈ jnw := List.mem_of_getElem? (i := 6) rfl
theorem jw_q153 : (Jvm.Cond.methodLinkNest "BalloonStall" (59 : Nat) ({ cls := "BalloonStall$Letters", name := "<init>", desc := "()V" } : Jvm.MethodName) "BalloonStall") ∈ jnw := List.mem_of_getElem? (i := 7) rfl
theorem jw_q407 : (Jvm.Cond.fieldLinkNest "BalloonStall" (113 : Nat) "BalloonStall$Wrong" "at" "I" "BalloonStall") ∈ jnw := List.mem_of_getElem? (i := 8) rfl
theorem jw_q850 : (Jvm.Cond.fieldLinkNest "BalloonStall" (144 : Nat) "BalloonStall$Figure" "balloons" "I" "BalloonStall") ∈ jnw := List.mem_of_getElem? (i := 9) rfl
theorem jw_q847 : (Jvm.Cond.fieldLinkNest "BalloonStall" (138 : Nat) "BalloonStall$Figure" "bubbles" "I" "BalloonStall") ∈ jnw := List.mem_of_getElem? (i := 10) rfl
theorem jw_q852 : (Jvm.Cond.fieldLinkNest "BalloonStall" (141 : Nat) "BalloonStall$Figure" "points" "I" "BalloonStall") ∈ jnw := List.mem_of_getElem? (i := 11) rfl
theorem jw_q844 : (Jvm.Cond.fieldLinkNest "BalloonStall" (184 : Nat) "BalloonStall$Figure" "ends" "[I" "BalloonStall") ∈ jnw := List.mem_of_getElem? (i := 12) rfl
theorem jw_q842 : (Jvm.Cond.fieldLinkNest "BalloonStall" (178 : Nat) "BalloonStall$Figure" "sort" "[I" "BalloonStall") ∈ jnw := List.mem_of_getElem? (i := 13) rfl
theorem jw_q839 : (Jvm.Cond.fieldLinkNest "BalloonStall" (175 : Nat) "BalloonStall$Figure" "balloon" "[I" "BalloonStall") ∈ jnw := List.mem_of_getElem? (i := 14) rfl
theorem jw_q255 : (Jvm.Cond.fieldLinkNest "BalloonStall" (194 : Nat) "BalloonStall$Sort" "air" "I" "BalloonStall") ∈ jnw := List.mem_of_getElem? (i := 15) rfl
theorem jw_q854 : (Jvm.Cond.fieldLinkNest "BalloonStall" (203 : Nat) "BalloonStall$Figure" "hands" "I" "BalloonStall") ∈ jnw := List.mem_of_getElem? (i := 16) rfl
theorem jw_q833 : (Jvm.Cond.fieldLinkNest "BalloonStall" (172 : Nat) "BalloonStall$Figure" "to" "[I" "BalloonStall") ∈ jnw := List.mem_of_getElem? (i := 17) rfl
theorem jw_q717 : (Jvm.Cond.fieldLinkNest "BalloonStall" (215 : Nat) "BalloonStall$Hand" "sort" "[I" "BalloonStall") ∈ jnw := List.mem_of_getElem? (i := 18) rfl
theorem jw_q727 : (Jvm.Cond.fieldLinkNest "BalloonStall" (222 : Nat) "BalloonStall$Hand" "balloons" "I" "BalloonStall") ∈ jnw := List.mem_of_getElem? (i := 19) rfl
theorem jw_q836 : (Jvm.Cond.fieldLinkNest "BalloonStall" (166 : Nat) "BalloonStall$Figure" "lengths" "[I" "BalloonStall") ∈ jnw := List.mem_of_getElem? (i := 20) rfl
theorem jw_q830 : (Jvm.Cond.fieldLinkNest "BalloonStall" (169 : Nat) "BalloonStall$Figure" "from" "[I" "BalloonStall") ∈ jnw := List.mem_of_getElem? (i := 21) rfl
theorem jw_q260 : (Jvm.Cond.fieldLinkNest "BalloonStall" (307 : Nat) "BalloonStall$Sort" "stock" "I" "BalloonStall") ∈ jnw := List.mem_of_getElem? (i := 22) rfl
theorem jw_q261 : (Jvm.Cond.fieldLinkNest "BalloonStall" (332 : Nat) "BalloonStall$Sort" "there" "I" "BalloonStall") ∈ jnw := List.mem_of_getElem? (i := 23) rfl
theorem jw_q1142 : (Jvm.Cond.fieldLinkNest "BalloonStall" (342 : Nat) "BalloonStall$Guest" "ends" "I" "BalloonStall") ∈ jnw := List.mem_of_getElem? (i := 24) rfl
theorem jw_q1140 : (Jvm.Cond.fieldLinkNest "BalloonStall" (373 : Nat) "BalloonStall$Guest" "went" "I" "BalloonStall") ∈ jnw := List.mem_of_getElem? (i := 25) rfl
theorem jw_q1137 : (Jvm.Cond.fieldLinkNest "BalloonStall" (360 : Nat) "BalloonStall$Guest" "comes" "I" "BalloonStall") ∈ jnw := List.mem_of_getElem? (i := 26) rfl
theorem jw_q1141 : (Jvm.Cond.fieldLinkNest "BalloonStall" (363 : Nat) "BalloonStall$Guest" "begins" "I" "BalloonStall") ∈ jnw := List.mem_of_getElem? (i := 27) rfl
theorem jw_q1143 : (Jvm.Cond.fieldLinkNest "BalloonStall" (339 : Nat) "BalloonStall$Guest" "taken" "I" "BalloonStall") ∈ jnw := List.mem_of_getElem? (i := 28) rfl
theorem jw_q1139 : (Jvm.Cond.fieldLinkNest "BalloonStall" (366 : Nat) "BalloonStall$Guest" "patience" "I" "BalloonStall") ∈ jnw := List.mem_of_getElem? (i := 29) rfl
theorem jw_q1135 : (Jvm.Cond.fieldLinkNest "BalloonStall" (335 : Nat) "BalloonStall$Guest" "wants" "LBalloonStall$Figure;" "BalloonStall") ∈ jnw := List.mem_of_getElem? (i := 30) rfl
theorem jw_q262 : (Jvm.Cond.fieldLinkNest "BalloonStall" (329 : Nat) "BalloonStall$Sort" "needed" "I" "BalloonStall") ∈ jnw := List.mem_of_getElem? (i := 31) rfl
theorem jw_q259 : (Jvm.Cond.fieldLinkNest "BalloonStall" (357 : Nat) "BalloonStall$Sort" "chance" "I" "BalloonStall") ∈ jnw := List.mem_of_getElem? (i := 32) rfl
theorem jw_q1207 : (Jvm.Cond.methodLinkNest "BalloonStall" (417 : Nat) ({ cls := "BalloonStall$Figure", name := "left", desc := "(II)I" } : Jvm.MethodName) "BalloonStall") ∈ jnw := List.mem_of_getElem? (i := 33) rfl
theorem jw_q257 : (Jvm.Cond.fieldLinkNest "BalloonStall" (420 : Nat) "BalloonStall$Sort" "strain" "I" "BalloonStall") ∈ jnw := List.mem_of_getElem? (i := 34) rfl
theorem jw_q159 : (Jvm.Cond.fieldLinkNest "BalloonStall" (386 : Nat) "BalloonStall$Letters" "of" "[I" "BalloonStall") ∈ jnw := List.mem_of_getElem? (i := 35) rfl
theorem jw_q682 : (Jvm.Cond.fieldLinkNest "BalloonStall" (392 : Nat) "BalloonStall$Clause" "sum" "LBalloonStall$Sum;" "BalloonStall") ∈ jnw := List.mem_of_getElem? (i := 36) rfl
theorem jw_q1226 : (Jvm.Cond.declares ({ cls := "BalloonStall$Sum", name := "of", desc := "(LBalloonStall$Letters;)I" } : Jvm.MethodName)) ∈ jnw := List.mem_of_getElem? (i := 37) rfl
theorem jw_q684 : (Jvm.Cond.fieldLinkNest "BalloonStall" (401 : Nat) "BalloonStall$Clause" "next" "LBalloonStall$Clause;" "BalloonStall") ∈ jnw := List.mem_of_getElem? (i := 38) rfl
theorem jw_q170 : (Jvm.Cond.fieldLinkNest "BalloonStall$Reader" (19 : Nat) "BalloonStall" "length" "I" "BalloonStall") ∈ jnw := List.mem_of_getElem? (i := 39) rfl
theorem jw_q168 : (Jvm.Cond.fieldLinkNest "BalloonStall$Reader" (22 : Nat) "BalloonStall" "tape" "[B" "BalloonStall") ∈ jnw := List.mem_of_getElem? (i := 40) rfl
theorem jw_q338 : (Jvm.Cond.declares ({ cls := "BalloonStall$Reader", name := "look", desc := "()I" } : Jvm.MethodName)) ∈ jnw := List.mem_of_getElem? (i := 41) rfl
theorem jw_q350 : (Jvm.Cond.declares ({ cls := "BalloonStall$Reader", name := "take", desc := "(Z)I" } : Jvm.MethodName)) ∈ jnw := List.mem_of_getElem? (i := 42) rfl
theorem jw_q449 : (Jvm.Cond.fieldLinkNest "BalloonStall$FigureReader" (31 : Nat) "BalloonStall$Move" "next" "LBalloonStall$Move;" "BalloonStall") ∈ jnw := List.mem_of_getElem? (i := 43) rfl
theorem jw_q167 : (Jvm.Cond.fieldLinkNest "BalloonStall$FigureReader" (45 : Nat) "BalloonStall" "sortMany" "I" "BalloonStall") ∈ jnw := List.mem_of_getElem? (i := 44) rfl
theorem jw_q481 : (Jvm.Cond.declares ({ cls := "BalloonStall$Reader", name := "goIn", desc := "()V" } : Jvm.MethodName)) ∈ jnw := List.mem_of_getElem? (i := 45) rfl
theorem jw_q488 : (Jvm.Cond.declares ({ cls := "BalloonStall$Reader", name := "goOut", desc := "(I)V" } : Jvm.MethodName)) ∈ jnw := List.mem_of_getElem? (i := 46) rfl
theorem jw_q464 : (Jvm.Cond.declares ({ cls := "BalloonStall$Reader", name := "isDigit", desc := "()Z" } : Jvm.MethodName)) ∈ jnw := List.mem_of_getElem? (i := 47) rfl
theorem jw_q469 : (Jvm.Cond.methodLinkNest "BalloonStall$FigureReader" (93 : Nat) ({ cls := "BalloonStall", name := "isIn", desc := "(JJJ)Z" } : Jvm.MethodName) "BalloonStall") ∈ jnw := List.mem_of_getElem? (i := 48) rfl
theorem jw_q764 : (Jvm.Cond.declares ({ cls := "BalloonStall$Move", name := "made", desc := "(LBalloonStall$Hand;)V" } : Jvm.MethodName)) ∈ jnw := List.mem_of_getElem? (i := 49) rfl
theorem jw_q507 : (Jvm.Cond.methodLinkNest "BalloonStall$Fresh" (1 : Nat) ({ cls := "BalloonStall$Move", name := "<init>", desc := "()V" } : Jvm.MethodName) "BalloonStall") ∈ jnw := List.mem_of_getElem? (i := 50) rfl
theorem jw_q444 : (Jvm.Cond.methodLinkNest "BalloonStall$Name" (3 : Nat) ({ cls := "BalloonStall$Move", name := "<init>", desc := "()V" } : Jvm.MethodName) "BalloonStall") ∈ jnw := List.mem_of_getElem? (i := 51) rfl
theorem jw_q706 : (Jvm.Cond.fieldLinkNest "BalloonStall$Name" (15 : Nat) "BalloonStall$Hand" "named" "[I" "BalloonStall") ∈ jnw := List.mem_of_getElem? (i := 52) rfl
theorem jw_q719 : (Jvm.Cond.fieldLinkNest "BalloonStall$Name" (21 : Nat) "BalloonStall$Hand" "at" "I" "BalloonStall") ∈ jnw := List.mem_of_getElem? (i := 53) rfl
theorem jw_q473 : (Jvm.Cond.methodLinkNest "BalloonStall$Blow" (1 : Nat) ({ cls := "BalloonStall$Move", name := "<init>", desc := "()V" } : Jvm.MethodName) "BalloonStall") ∈ jnw := List.mem_of_getElem? (i := 54) rfl
theorem jw_q498 : (Jvm.Cond.methodLinkNest "BalloonStall$Ring" (1 : Nat) ({ cls := "BalloonStall$Move", name := "<init>", desc := "()V" } : Jvm.MethodName) "BalloonStall") ∈ jnw := List.mem_of_getElem? (i := 55) rfl
theorem jw_q718 : (Jvm.Cond.fieldLinkNest "BalloonStall$Ring" (13 : Nat) "BalloonStall$Hand" "at" "I" "BalloonStall") ∈ jnw := List.mem_of_getElem? (i := 56) rfl
theorem jw_q683 : (Jvm.Cond.fieldLinkNest "BalloonStall$RuleReader" (27 : Nat) "BalloonStall$Clause" "next" "LBalloonStall$Clause;" "BalloonStall") ∈ jnw := List.mem_of_getElem? (i := 57) rfl
theorem jw_q573 : (Jvm.Cond.declares ({ cls := "BalloonStall$Reader", name := "comeOut", desc := "()V" } : Jvm.MethodName)) ∈ jnw := List.mem_of_getElem? (i := 58) rfl
theorem jw_q563 : (Jvm.Cond.methodLinkNest "BalloonStall$Not" (1 : Nat) ({ cls := "BalloonStall$Test", name := "<init>", desc := "()V" } : Jvm.MethodName) "BalloonStall") ∈ jnw := List.mem_of_getElem? (i := 59) rfl
theorem jw_q1217 : (Jvm.Cond.declares ({ cls := "BalloonStall$Test", name := "holds", desc := "(LBalloonStall$Letters;)Z" } : Jvm.MethodName)) ∈ jnw := List.mem_of_getElem? (i := 60) rfl
theorem jw_q597 : (Jvm.Cond.methodLinkNest "BalloonStall$Letter" (1 : Nat) ({ cls := "BalloonStall$Sum", name := "<init>", desc := "()V" } : Jvm.MethodName) "BalloonStall") ∈ jnw := List.mem_of_getElem? (i := 61) rfl
theorem jw_q158 : (Jvm.Cond.fieldLinkNest "BalloonStall$Letter" (13 : Nat) "BalloonStall$Letters" "of" "[I" "BalloonStall") ∈ jnw := List.mem_of_getElem? (i := 62) rfl
theorem jw_q613 : (Jvm.Cond.methodLinkNest "BalloonStall$Plain" (1 : Nat) ({ cls := "BalloonStall$Sum", name := "<init>", desc := "()V" } : Jvm.MethodName) "BalloonStall") ∈ jnw := List.mem_of_getElem? (i := 63) rfl
theorem jw_q623 : (Jvm.Cond.methodLinkNest "BalloonStall$Pair" (3 : Nat) ({ cls := "BalloonStall$Sum", name := "<init>", desc := "()V" } : Jvm.MethodName) "BalloonStall") ∈ jnw := List.mem_of_getElem? (i := 64) rfl
theorem jw_q643 : (Jvm.Cond.methodLinkNest "BalloonStall$Compares" (1 : Nat) ({ cls := "BalloonStall$Test", name := "<init>", desc := "()V" } : Jvm.MethodName) "BalloonStall") ∈ jnw := List.mem_of_getElem? (i := 65) rfl
theorem jw_q659 : (Jvm.Cond.methodLinkNest "BalloonStall$Both" (1 : Nat) ({ cls := "BalloonStall$Test", name := "<init>", desc := "()V" } : Jvm.MethodName) "BalloonStall") ∈ jnw := List.mem_of_getElem? (i := 66) rfl
theorem jw_q841 : (Jvm.Cond.fieldLinkNest "BalloonStall$Hand" (64 : Nat) "BalloonStall$Figure" "sort" "[I" "BalloonStall") ∈ jnw := List.mem_of_getElem? (i := 67) rfl
theorem jw_q849 : (Jvm.Cond.fieldLinkNest "BalloonStall$Hand" (67 : Nat) "BalloonStall$Figure" "balloons" "I" "BalloonStall") ∈ jnw := List.mem_of_getElem? (i := 68) rfl
theorem jw_q846 : (Jvm.Cond.fieldLinkNest "BalloonStall$Hand" (74 : Nat) "BalloonStall$Figure" "bubbles" "I" "BalloonStall") ∈ jnw := List.mem_of_getElem? (i := 69) rfl
theorem jw_q835 : (Jvm.Cond.fieldLinkNest "BalloonStall$Hand" (77 : Nat) "BalloonStall$Figure" "lengths" "[I" "BalloonStall") ∈ jnw := List.mem_of_getElem? (i := 70) rfl
theorem jw_q829 : (Jvm.Cond.fieldLinkNest "BalloonStall$Hand" (78 : Nat) "BalloonStall$Figure" "from" "[I" "BalloonStall") ∈ jnw := List.mem_of_getElem? (i := 71) rfl
theorem jw_q832 : (Jvm.Cond.fieldLinkNest "BalloonStall$Hand" (79 : Nat) "BalloonStall$Figure" "to" "[I" "BalloonStall") ∈ jnw := List.mem_of_getElem? (i := 72) rfl
theorem jw_q838 : (Jvm.Cond.fieldLinkNest "BalloonStall$Hand" (80 : Nat) "BalloonStall$Figure" "balloon" "[I" "BalloonStall") ∈ jnw := List.mem_of_getElem? (i := 73) rfl
theorem jw_q723 : (Jvm.Cond.fieldLinkNest "BalloonStall$Figure" (30 : Nat) "BalloonStall$Hand" "bubbles" "I" "BalloonStall") ∈ jnw := List.mem_of_getElem? (i := 74) rfl
theorem jw_q725 : (Jvm.Cond.fieldLinkNest "BalloonStall$Figure" (37 : Nat) "BalloonStall$Hand" "balloons" "I" "BalloonStall") ∈ jnw := List.mem_of_getElem? (i := 75) rfl
theorem jw_q728 : (Jvm.Cond.fieldLinkNest "BalloonStall$Figure" (41 : Nat) "BalloonStall$Hand" "most" "I" "BalloonStall") ∈ jnw := List.mem_of_getElem? (i := 76) rfl
theorem jw_q721 : (Jvm.Cond.fieldLinkNest "BalloonStall$Figure" (47 : Nat) "BalloonStall$Hand" "points" "I" "BalloonStall") ∈ jnw := List.mem_of_getElem? (i := 77) rfl
theorem jw_q708 : (Jvm.Cond.fieldLinkNest "BalloonStall$Figure" (55 : Nat) "BalloonStall$Hand" "from" "[I" "BalloonStall") ∈ jnw := List.mem_of_getElem? (i := 78) rfl
theorem jw_q710 : (Jvm.Cond.fieldLinkNest "BalloonStall$Figure" (56 : Nat) "BalloonStall$Hand" "to" "[I" "BalloonStall") ∈ jnw := List.mem_of_getElem? (i := 79) rfl
theorem jw_q712 : (Jvm.Cond.fieldLinkNest "BalloonStall$Figure" (57 : Nat) "BalloonStall$Hand" "lengths" "[I" "BalloonStall") ∈ jnw := List.mem_of_getElem? (i := 80) rfl
theorem jw_q714 : (Jvm.Cond.fieldLinkNest "BalloonStall$Figure" (58 : Nat) "BalloonStall$Hand" "balloon" "[I" "BalloonStall") ∈ jnw := List.mem_of_getElem? (i := 81) rfl
theorem jw_q716 : (Jvm.Cond.fieldLinkNest "BalloonStall$Figure" (59 : Nat) "BalloonStall$Hand" "sort" "[I" "BalloonStall") ∈ jnw := List.mem_of_getElem? (i := 82) rfl
def jao : List String := ["BalloonStall$Sort", "BalloonStall$Figure", "BalloonStall$Guest", "BalloonStall$Clause"]
/-- kinds that have no kinds below them -/
def pon (F : Nat) : Bool := F != 5 && F != 8 && F != 14 && F != 16
theorem pok_one {F c : Nat} (hF : pon F = true) (h : pok F c = true) : c = F := by
  simp only [pon, Bool.and_eq_true, bne_iff_ne] at hF
  obtain ⟨⟨⟨h1, h2⟩, h3⟩, h4⟩ := hF
  simp only [pok, Bool.or_eq_true, Bool.and_eq_true, beq_iff_eq] at h
  omega
theorem jk_5 {c : Nat} (h : pok 5 c = true) : c = 5 ∨ c = 6 ∨ c = 13 := by
  simp only [pok, Bool.or_eq_true, Bool.and_eq_true, beq_iff_eq] at h
  omega
theorem jk_8 {c : Nat} (h : pok 8 c = true) : c = 8 ∨ c = 9 ∨ c = 10 ∨ c = 11 ∨ c = 12 := by
  simp only [pok, Bool.or_eq_true, Bool.and_eq_true, beq_iff_eq] at h
  omega
theorem jk_14 {c : Nat} (h : pok 14 c = true) : c = 14 ∨ c = 15 ∨ c = 20 ∨ c = 21 := by
  simp only [pok, Bool.or_eq_true, Bool.and_eq_true, beq_iff_eq] at h
  omega
theorem jk_16 {c : Nat} (h : pok 16 c = true) : c = 16 ∨ c = 17 ∨ c = 18 ∨ c = 19 := by
  simp only [pok, Bool.or_eq_true, Bool.and_eq_true, beq_iff_eq] at h
  omega
theorem fk1 {F k : Nat} {r : vw_C} {ref name desc : String} (hF : pon F = true) (hc : sCl F = some r) (h1 : (r.2.1 k).2.1 = name) (h2 : (r.2.1 k).2.2.1 = desc) (h3 : (r.2.1 k).1 = ref ∨ Cond.sameField ref (r.2.1 k).1 name desc ∈ lw_all) : sFk F k ref name desc := by
  intro c r' hp hc' _
  cases pok_one hF hp
  cases hc.symm.trans hc'
  exact ⟨h1, h2, h3⟩
theorem apS1 {F k : Nat} {r : vw_C} (hF : pon F = true) (hc : sCl F = some r) (h : ∀ j, j < r.2.2 → j ≠ k → (r.2.1 j).2.1 ≠ (r.2.1 k).2.1) : sAp F k := by
  intro c r' hp hc' _
  cases pok_one hF hp
  cases hc.symm.trans hc'
  exact h
theorem fn1 {F k : Nat} {r : vw_C} {b : Bool} {own : String} (hF : pon F = true) (hc : sCl F = some r) (h : (r.2.1 k).2.2.2 = b) (h2 : b = true → (r.2.1 k).1 = own) : sFin F k b own := by
  intro c r' hp hc' _
  cases pok_one hF hp
  cases hc.symm.trans hc'
  exact ⟨h, h2⟩
theorem sl1 {F : Nat} {r : vw_C} {x t : MethodName} (hF : pon F = true) (hc : sCl F = some r) (h : Cond.selects r.1 x t ∈ lw_all) : ∀ c r, pok F c = true → sCl c = some r → Cond.selects r.1 x t ∈ lw_all := by
  intro c r' hp hc'
  cases pok_one hF hp
  cases hc.symm.trans hc'
  exact h
def jrf : FieldType → Bool
  | .object _ => true
  | .array _ => true
  | _ => false
theorem jRf {ty : FieldType} (h : jrf ty = true) : (∃ C, ty = .object C) ∨ ∃ t, ty = .array t := by
  cases ty with
  | object C => exact Or.inl ⟨C, rfl⟩
  | array t => exact Or.inr ⟨t, rfl⟩
  | _ => cases h
section
variable {M pc n : Nat} {cc : ByteArray} {own : String} {i : Instr} {idx F k a b : Nat} {ref name desc : String} {ty : FieldType} {l : List Nat}
theorem jcons {r : pI} {l : List (Nat × pI × Nat)} (h : sJ jnw jao M pc r n) (t : ∀ q ∈ l, sJ jnw jao M q.1 q.2.1 q.2.2) : ∀ q ∈ ((pc, r, n) :: l), sJ jnw jao M q.1 q.2.1 q.2.2 := by
  intro q hq
  rcases List.mem_cons.mp hq with rfl | hq
  · exact h
  · exact t q hq
theorem jnil : ∀ q ∈ ([] : List (Nat × pI × Nat)), sJ jnw jao M q.1 q.2.1 q.2.2 := fun q hq => by cases hq
theorem jmc {a : List (Nat × pI × Nat)} {l : List (List (Nat × pI × Nat))} (h : ∀ q ∈ a, sJ jnw jao M q.1 q.2.1 q.2.2) (t : ∀ x ∈ l, ∀ q ∈ x, sJ jnw jao M q.1 q.2.1 q.2.2) : ∀ x ∈ a :: l, ∀ q ∈ x, sJ jnw jao M q.1 q.2.1 q.2.2 := by
  intro x hx
  rcases List.mem_cons.mp hx with rfl | hx
  · exact h
  · exact t x hx
theorem jmn : ∀ x ∈ ([] : List (List (Nat × pI × Nat))), ∀ q ∈ x, sJ jnw jao M q.1 q.2.1 q.2.2 := fun q hq => by cases hq
def jP (k : Nat) (L : List (List (List (Nat × pI × Nat)))) : Prop := ∀ i t, L[i]? = some t → ∀ x ∈ t, ∀ q ∈ x, sJ jnw jao (k + i) q.1 q.2.1 q.2.2
theorem jpc {k : Nat} {t : List (List (Nat × pI × Nat))} {L : List (List (List (Nat × pI × Nat)))} (h : ∀ x ∈ t, ∀ q ∈ x, sJ jnw jao k q.1 q.2.1 q.2.2) (hL : jP (k + 1) L) : jP k (t :: L) := by
  intro i t' ht
  cases i with
  | zero => cases ht; exact h
  | succ i =>
    have := hL i t' (by simpa using ht)
    rwa [show k + 1 + i = k + (i + 1) by omega] at this
theorem jpn {k : Nat} : jP k [] := fun i t h => by cases h
theorem jL (hM : sCode M = cc) (hd : decode cc pc = .ok (i, n)) (hi : sJi i n pc = true) : sJ jnw jao M pc (.inl i) n := ⟨hM ▸ hd, hi⟩
theorem jG (hM : sCode M = cc) (hY : (sY M).cls = own) (hd : decode cc pc = .ok (.getfield idx, 3)) (hf : sFk F k ref name desc) (hl : sLk jnw own idx ref name desc) : sJ jnw jao M pc (.inr (0, F, k, l)) n := ⟨idx, ref, name, desc, hM ▸ hd, hf, hY ▸ hl⟩
theorem jPu {q : Nat} (hM : sCode M = cc) (hY : (sY M).cls = own) (hd : decode cc pc = .ok (.putfield idx, 3)) (hf : sFk F k ref name desc) (ha : sAp F k) (hn : sFin F k false (sY M).cls) (hl : sLk jnw own idx ref name desc) (ht : parseFieldDescriptor desc = some ty) (hk : sKd q ty) : sJ jnw jao M pc (.inr (1, F, k, [q])) n := ⟨idx, ref, name, desc, false, ty, hM ▸ hd, hf, ha, hn, Or.inl ⟨rfl, hY ▸ hl⟩, ht, hk⟩
theorem jPf {q : Nat} (hM : sCode M = cc) (hY : (sY M).cls = own) (hd : decode cc pc = .ok (.putfield idx, 3)) (hf : sFk F k ref name desc) (ha : sAp F k) (hn : sFin F k true own) (hl : Cond.fieldLink own idx ref name desc ∈ lw_all) (hi : (sY M).name = "<init>") (ht : parseFieldDescriptor desc = some ty) (hk : sKd q ty) : sJ jnw jao M pc (.inr (1, F, k, [q])) n := ⟨idx, ref, name, desc, true, ty, hM ▸ hd, hf, ha, hY ▸ hn, Or.inr ⟨rfl, hY ▸ hl, hi⟩, ht, hk⟩
theorem j2 {v : Int32} {a : Nat} (hM : sCode M = cc) (hY : (sY M).cls = own) (hd : decode cc pc = .ok (.ldc_w idx, 3)) (hl : Cond.constant own idx v ∈ lw_all) (hv : v = Int32.ofNat a := by decide) : sJ jnw jao M pc (.inr (2, a, b, l)) 3 := ⟨idx, rfl, hM ▸ hd, by rw [hY, ← hv]; exact hl⟩
theorem j3 {v : Int64} {a : Nat} (hM : sCode M = cc) (hY : (sY M).cls = own) (hd : decode cc pc = .ok (.ldc2_w idx, 3)) (hl : Cond.constantLong own idx v ∈ lw_all) (hv : v = Int64.ofNat a := by decide) : sJ jnw jao M pc (.inr (3, a, b, l)) 3 := ⟨idx, rfl, hM ▸ hd, by rw [hY, ← hv]; exact hl⟩
theorem j4S {na : Nat} (hM : sCode M = cc) (hY : (sY M).cls = own) (hd : decode cc pc = .ok (.invokestatic idx, 3)) (hc : sJc jnw (sY M).cls a) (hs : Cond.static (sY a) ∈ lw_all) (hp : (parseMethodDescriptor (sY a).desc).map (fun d => d.parameters.length) = some k) (hl : Cond.methodLink own idx (sY a) ∈ lw_all ∨ ∃ host, Cond.methodLinkNest own idx (sY a) host ∈ jnw) (hF : F ≠ 99 := by decide) (hk : k = pna a := by decide) : sJ jnw jao M pc (.inr (4, a, 0, [na, F])) 3 :=
  ⟨idx, na, F, rfl, hF, rfl, hc, Or.inl ⟨rfl, hM ▸ hd, hs, hk ▸ hp, hY ▸ hl⟩⟩
theorem j4V {na : Nat} (hM : sCode M = cc) (hY : (sY M).cls = own) (hd : decode cc pc = .ok (.invokevirtual idx, 3)) (hc : sJc jnw (sY M).cls a) (hs : Cond.instanceMethod (sY a) ∈ lw_all) (hp : (parseMethodDescriptor (sY a).desc).map (fun d => d.parameters.length) = some k) (hl : Cond.methodLink own idx (sY a) ∈ lw_all ∨ ∃ host, Cond.methodLinkNest own idx (sY a) host ∈ jnw) (hsel : ∀ c r, pok F c = true → sCl c = some r → Cond.selects r.1 (sY a) (sY a) ∈ lw_all) (hF : F ≠ 99 := by decide) (hk : pna a = k + 1 := by decide) : sJ jnw jao M pc (.inr (4, a, 1, [na, F])) 3 :=
  ⟨idx, na, F, rfl, hF, rfl, hc, Or.inr (Or.inl ⟨rfl, hM ▸ hd, hs, Or.inl ⟨k, hk, hp, hY ▸ hl, hsel⟩⟩)⟩
theorem j4W {na : Nat} {x : MethodName} {owner : String} (hM : sCode M = cc) (hY : (sY M).cls = own) (hd : decode cc pc = .ok (.invokevirtual idx, 3)) (hc : sJc jnw (sY M).cls a) (hs : Cond.instanceMethod (sY a) ∈ lw_all) (hp : (parseMethodDescriptor x.desc).map (fun d => d.parameters.length) = some k) (hl : Cond.methodLink own idx x ∈ lw_all) (hsm : Cond.sameMethod x.cls owner x.name x.desc ∈ lw_all) (hdc : Cond.declares ⟨owner, x.name, x.desc⟩ ∈ jnw) (ho : owner ≠ "java/lang/invoke/MethodHandle" ∧ owner ≠ "java/lang/invoke/VarHandle") (hsel : ∀ c r, pok F c = true → sCl c = some r → Cond.selects r.1 x (sY a) ∈ lw_all) (hF : F ≠ 99 := by decide) (hk : pna a = k + 1 := by decide) : sJ jnw jao M pc (.inr (4, a, 1, [na, F])) 3 :=
  ⟨idx, na, F, rfl, hF, rfl, hc, Or.inr (Or.inl ⟨rfl, hM ▸ hd, hs, Or.inr ⟨k, x, owner, hk, hp, hY ▸ hl, hsm, hdc, ho, hsel⟩⟩)⟩
theorem j4I {na : Nat} (hM : sCode M = cc) (hY : (sY M).cls = own) (hd : decode cc pc = .ok (.invokespecial idx, 3)) (hc : sJc jnw (sY M).cls a) (hi : (sY a).name = "<init>") (hs : Cond.instanceMethod (sY a) ∈ lw_all) (hcd : ∃ bb L, Cond.code (sY a) bb L none ∈ lw_all) (hp : (parseMethodDescriptor (sY a).desc).map (fun d => d.parameters.length) = some k) (hl : Cond.methodLink own idx (sY a) ∈ lw_all ∨ ∃ host, Cond.methodLinkNest own idx (sY a) host ∈ jnw) (hF : F ≠ 99 := by decide) (hk : pna a = k + 1 := by decide) : sJ jnw jao M pc (.inr (4, a, 2, [na, F])) 3 :=
  ⟨idx, na, F, rfl, hF, rfl, hc, Or.inr (Or.inr ⟨rfl, hM ▸ hd, hi, hs, hcd, ⟨k, hk, hp⟩, hY ▸ hl⟩)⟩
def jVc (nb : Nat) (own : String) (x : MethodName) (c M' : Nat) : Prop := c ≠ 99 ∧ pna M' = nb + 1 ∧ sJc jnw own M' ∧ Cond.instanceMethod (sY M') ∈ lw_all ∧ ∀ r, sCl c = some r → Cond.selects r.1 x (sY M') ∈ lw_all
theorem jA {nb : Nat} {x : MethodName} {owner : String} (hM : sCode M = cc) (hY : (sY M).cls = own) (hd : decode cc pc = .ok (.invokevirtual idx, 3)) (hp : (parseMethodDescriptor x.desc).map (fun d => d.parameters.length) = some nb) (hl : Cond.methodLink own idx x ∈ lw_all) (hsm : Cond.sameMethod x.cls owner x.name x.desc ∈ lw_all) (hdc : Cond.declares ⟨owner, x.name, x.desc⟩ ∈ jnw) (ho : owner ≠ "java/lang/invoke/MethodHandle" ∧ owner ≠ "java/lang/invoke/VarHandle") (hv : ∀ c M', pvt l c = some M' → jVc nb (sY M).cls x c M') : sJ jnw jao M pc (.inr (5, a, b, l)) 3 :=
  ⟨idx, nb, x, owner, rfl, hM ▸ hd, hp, hY ▸ hl, hsm, hdc, ho, hv⟩
theorem jvk {nb : Nat} {x : MethodName} {c M' : Nat} {r : vw_C} (h1 : c ≠ 99) (h2 : pna M' = nb + 1) (h3 : sJc jnw own M') (h4 : Cond.instanceMethod (sY M') ∈ lw_all) (h5 : sCl c = some r) (h6 : Cond.selects r.1 x (sY M') ∈ lw_all) : jVc nb own x c M' := ⟨h1, h2, h3, h4, fun r' hr => by cases h5.symm.trans hr; exact h6⟩
theorem jvc {nb : Nat} {x : MethodName} {c M' : Nat} (h : jVc nb own x c M') (t : ∀ c M', pvt l c = some M' → jVc nb own x c M') : ∀ c' M'', pvt (c :: M' :: l) c' = some M'' → jVc nb own x c' M'' := by
  intro c' M'' hh
  unfold pvt at hh
  split at hh
  · rename_i hc
    cases hh
    cases hc
    exact h
  · exact t c' M'' hh
theorem jvn {nb : Nat} {x : MethodName} : ∀ c' M'', pvt [] c' = some M'' → jVc nb own x c' M'' := fun c' M'' h => by cases h
theorem j6 {r : vw_C} (hM : sCode M = cc) (hY : (sY M).cls = own) (hd : decode cc pc = .ok (.new idx, 3)) (hr : sCl a = some r) (hl : Cond.classLink own idx r.1 ∈ lw_all) (hi : Cond.instantiable r.1 b ∈ lw_all) (hn : Cond.initialized r.1 ∈ lw_all) : sJ jnw jao M pc (.inr (6, a, b, l)) n := ⟨idx, r, hM ▸ hd, hr, hY ▸ hl, hi, hn⟩
theorem j8 {C : String} (hM : sCode M = cc) (hY : (sY M).cls = own) (hd : decode cc pc = .ok (.anewarray idx, 3)) (hr : sTy a = some (.object C)) (h9 : a ≠ 9) (hl : Cond.classLink own idx C ∈ lw_all) (ho : C ∈ jao) : sJ jnw jao M pc (.inr (8, a, b, l)) n := ⟨idx, C, hM ▸ hd, hr, h9, hY ▸ hl, ho⟩
theorem j9 (hM : sCode M = cc) (hY : (sY M).cls = own) (hd : decode cc pc = .ok (.invokestatic idx, 3)) (hl : Cond.methodLink own idx arraycopyName ∈ lw_all) : sJ jnw jao M pc (.inr (9, a, b, l)) n := ⟨idx, hM ▸ hd, hY ▸ hl, q827, q826, q131⟩
theorem j10 (hM : sCode M = cc) (hY : (sY M).cls = own) (hd : decode cc pc = .ok (.invokespecial idx, 3)) (hl : Cond.methodLink own idx objectInit ∈ lw_all) : sJ jnw jao M pc (.inr (10, a, b, l)) n := ⟨idx, hM ▸ hd, hY ▸ hl, q141, q142⟩
theorem j11 (hM : sCode M = cc) (hd : decode cc pc = .ok (.invokespecial idx, 3)) (hY : (sY M).cls = RX1) (h : (a = 6 ∧ idx = 98) ∨ (a = 13 ∧ idx = 107)) : sJ jnw jao M pc (.inr (11, a, b, l)) n := ⟨idx, hM ▸ hd, hY, h⟩
theorem j12 (hM : sCode M = cc) (hY : (sY M).cls = own) (hd : decode cc pc = .ok (.invokespecial idx, 3)) (hl : Cond.methodLink own idx (sY 259) ∈ lw_all) : sJ jnw jao M pc (.inr (12, a, b, l)) n := ⟨idx, hM ▸ hd, hY ▸ hl⟩
theorem j13 {idx' : Nat} (hM : sCode M = cc) (hY : (sY M).cls = own) (hd : decode cc pc = .ok (.new idx, 3)) (hl : Cond.classLink own idx RJ4 ∈ lw_all) (hd2 : decode cc (pc + 3) = .ok (.dup, 1)) (hd3 : decode cc (pc + 4) = .ok (.invokespecial idx', 3)) (hl2 : Cond.methodLink own idx' yJ4_init ∈ lw_all) (hd4 : decode cc (pc + 7) = .ok (.athrow, 1)) : sJ jnw jao M pc (.inr (13, 26, 6, l)) n := ⟨idx, idx', hM ▸ hd, hY ▸ hl, hM ▸ hd2, hM ▸ hd3, hY ▸ hl2, hM ▸ hd4, rfl, rfl⟩
theorem j14 (hM : sCode M = cc) (hY : (sY M).cls = own) (hd : decode cc pc = .ok (.invokestatic idx, 3)) (hl : Cond.methodLink own idx (sY (250 + a)) ∈ lw_all) : sJ jnw jao M pc (.inr (14, a, b, l)) n := ⟨idx, hM ▸ hd, hY ▸ hl⟩
theorem j7_0 (hM : sCode M = cc) (hd : decode cc pc = .ok (.newarray .int, 2)) : sJ jnw jao M pc (.inr (7, 0, b, l)) n := ⟨.int, .int, hM ▸ hd, rfl, rfl, fun _ _ => rfl, by decide, q164, by decide, fun _ _ => rfl⟩
theorem j7_1 (hM : sCode M = cc) (hd : decode cc pc = .ok (.newarray .byte, 2)) : sJ jnw jao M pc (.inr (7, 1, b, l)) n := ⟨.byte, .byte, hM ▸ hd, rfl, rfl, fun _ _ => rfl, by decide, q163, by decide, fun _ _ => rfl⟩
theorem j7_2 (hM : sCode M = cc) (hd : decode cc pc = .ok (.newarray .boolean, 2)) : sJ jnw jao M pc (.inr (7, 2, b, l)) n := ⟨.boolean, .boolean, hM ▸ hd, rfl, rfl, fun _ _ => rfl, by decide, q1470, by decide, fun _ _ => rfl⟩
theorem j7_3 (hM : sCode M = cc) (hd : decode cc pc = .ok (.newarray .long, 2)) : sJ jnw jao M pc (.inr (7, 3, b, l)) n := ⟨.long, .long, hM ▸ hd, rfl, rfl, fun _ _ => rfl, by decide, q1469, by decide, fun _ _ => rfl⟩
end

theorem fk_1_0_X1 : sFk 1 0 "BalloonStall" "sorts" "[LBalloonStall$Sort;" := fk1 (by decide) rfl rfl rfl (Or.inl rfl)
theorem fk_1_1_X1 : sFk 1 1 "BalloonStall" "sortMany" "I" := fk1 (by decide) rfl rfl rfl (Or.inl rfl)
theorem fk_1_10_X1 : sFk 1 10 "BalloonStall" "oddPoints" "[I" := fk1 (by decide) rfl rfl rfl (Or.inl rfl)
theorem fk_1_11_X1 : sFk 1 11 "BalloonStall" "guests" "[LBalloonStall$Guest;" := fk1 (by decide) rfl rfl rfl (Or.inl rfl)
theorem fk_1_12_X1 : sFk 1 12 "BalloonStall" "guestMany" "I" := fk1 (by decide) rfl rfl rfl (Or.inl rfl)
theorem fk_1_13_X1 : sFk 1 13 "BalloonStall" "ran" "I" := fk1 (by decide) rfl rfl rfl (Or.inl rfl)
theorem fk_1_14_X1 : sFk 1 14 "BalloonStall" "bubblePace" "I" := fk1 (by decide) rfl rfl rfl (Or.inl rfl)
theorem fk_1_15_X1 : sFk 1 15 "BalloonStall" "balloonPace" "I" := fk1 (by decide) rfl rfl rfl (Or.inl rfl)
theorem fk_1_16_X1 : sFk 1 16 "BalloonStall" "latest" "I" := fk1 (by decide) rfl rfl rfl (Or.inl rfl)
theorem fk_1_17_X1 : sFk 1 17 "BalloonStall" "x" "J" := fk1 (by decide) rfl rfl rfl (Or.inl rfl)
theorem fk_1_18_X1 : sFk 1 18 "BalloonStall" "rules" "[LBalloonStall$Clause;" := fk1 (by decide) rfl rfl rfl (Or.inl rfl)
theorem fk_1_19_X1 : sFk 1 19 "BalloonStall" "letters" "LBalloonStall$Letters;" := fk1 (by decide) rfl rfl rfl (Or.inl rfl)
theorem fk_1_2_X1 : sFk 1 2 "BalloonStall" "tape" "[B" := fk1 (by decide) rfl rfl rfl (Or.inl rfl)
theorem fk_1_20_X1 : sFk 1 20 "BalloonStall" "ruleMany" "I" := fk1 (by decide) rfl rfl rfl (Or.inl rfl)
theorem fk_1_21_X1 : sFk 1 21 "BalloonStall" "ages" "[I" := fk1 (by decide) rfl rfl rfl (Or.inl rfl)
theorem fk_1_22_X1 : sFk 1 22 "BalloonStall" "lost" "I" := fk1 (by decide) rfl rfl rfl (Or.inl rfl)
theorem fk_1_3_X1 : sFk 1 3 "BalloonStall" "length" "I" := fk1 (by decide) rfl rfl rfl (Or.inl rfl)
theorem fk_1_4_X1 : sFk 1 4 "BalloonStall" "figures" "[LBalloonStall$Figure;" := fk1 (by decide) rfl rfl rfl (Or.inl rfl)
theorem fk_1_5_X1 : sFk 1 5 "BalloonStall" "figureMany" "I" := fk1 (by decide) rfl rfl rfl (Or.inl rfl)
theorem fk_1_6_X1 : sFk 1 6 "BalloonStall" "images" "[I" := fk1 (by decide) rfl rfl rfl (Or.inl rfl)
theorem fk_1_7_X1 : sFk 1 7 "BalloonStall" "fars" "[I" := fk1 (by decide) rfl rfl rfl (Or.inl rfl)
theorem fk_1_8_X1 : sFk 1 8 "BalloonStall" "fewest" "[I" := fk1 (by decide) rfl rfl rfl (Or.inl rfl)
theorem fk_1_9_X1 : sFk 1 9 "BalloonStall" "waysOf" "[I" := fk1 (by decide) rfl rfl rfl (Or.inl rfl)
theorem fk_10_1_X10 : sFk 10 1 "BalloonStall$Name" "which" "I" := fk1 (by decide) rfl rfl rfl (Or.inl rfl)
theorem fk_11_1_X11 : sFk 11 1 "BalloonStall$Blow" "length" "I" := fk1 (by decide) rfl rfl rfl (Or.inl rfl)
theorem fk_12_1_X12 : sFk 12 1 "BalloonStall$Ring" "first" "LBalloonStall$Move;" := fk1 (by decide) rfl rfl rfl (Or.inl rfl)
theorem fk_13_0_X13 : sFk 13 0 "BalloonStall$RuleReader" "at" "I" := fk1 (by decide) rfl rfl rfl (Or.inr q310)
theorem fk_15_0_X15 : sFk 15 0 "BalloonStall$Not" "of" "LBalloonStall$Test;" := fk1 (by decide) rfl rfl rfl (Or.inl rfl)
theorem fk_17_0_X17 : sFk 17 0 "BalloonStall$Letter" "letter" "I" := fk1 (by decide) rfl rfl rfl (Or.inl rfl)
theorem fk_18_0_X18 : sFk 18 0 "BalloonStall$Plain" "value" "I" := fk1 (by decide) rfl rfl rfl (Or.inl rfl)
theorem fk_19_0_X19 : sFk 19 0 "BalloonStall$Pair" "sign" "I" := fk1 (by decide) rfl rfl rfl (Or.inl rfl)
theorem fk_19_1_X19 : sFk 19 1 "BalloonStall$Pair" "one" "LBalloonStall$Sum;" := fk1 (by decide) rfl rfl rfl (Or.inl rfl)
theorem fk_19_2_X19 : sFk 19 2 "BalloonStall$Pair" "other" "LBalloonStall$Sum;" := fk1 (by decide) rfl rfl rfl (Or.inl rfl)
theorem fk_2_0_X2 : sFk 2 0 "BalloonStall$Letters" "of" "[I" := fk1 (by decide) rfl rfl rfl (Or.inl rfl)
theorem fk_20_0_X20 : sFk 20 0 "BalloonStall$Compares" "sign" "I" := fk1 (by decide) rfl rfl rfl (Or.inl rfl)
theorem fk_20_1_X20 : sFk 20 1 "BalloonStall$Compares" "one" "LBalloonStall$Sum;" := fk1 (by decide) rfl rfl rfl (Or.inl rfl)
theorem fk_20_2_X20 : sFk 20 2 "BalloonStall$Compares" "other" "LBalloonStall$Sum;" := fk1 (by decide) rfl rfl rfl (Or.inl rfl)
theorem fk_21_0_X21 : sFk 21 0 "BalloonStall$Both" "all" "Z" := fk1 (by decide) rfl rfl rfl (Or.inl rfl)
theorem fk_21_1_X21 : sFk 21 1 "BalloonStall$Both" "one" "LBalloonStall$Test;" := fk1 (by decide) rfl rfl rfl (Or.inl rfl)
theorem fk_21_2_X21 : sFk 21 2 "BalloonStall$Both" "other" "LBalloonStall$Test;" := fk1 (by decide) rfl rfl rfl (Or.inl rfl)
theorem fk_22_0_X22 : sFk 22 0 "BalloonStall$Clause" "test" "LBalloonStall$Test;" := fk1 (by decide) rfl rfl rfl (Or.inl rfl)
theorem fk_22_1_X22 : sFk 22 1 "BalloonStall$Clause" "sum" "LBalloonStall$Sum;" := fk1 (by decide) rfl rfl rfl (Or.inl rfl)
theorem fk_22_2_X22 : sFk 22 2 "BalloonStall$Clause" "next" "LBalloonStall$Clause;" := fk1 (by decide) rfl rfl rfl (Or.inl rfl)
theorem fk_23_0_X23 : sFk 23 0 "BalloonStall$Hand" "joined" "[I" := fk1 (by decide) rfl rfl rfl (Or.inl rfl)
theorem fk_23_1_X23 : sFk 23 1 "BalloonStall$Hand" "named" "[I" := fk1 (by decide) rfl rfl rfl (Or.inl rfl)
theorem fk_23_10_X23 : sFk 23 10 "BalloonStall$Hand" "balloons" "I" := fk1 (by decide) rfl rfl rfl (Or.inl rfl)
theorem fk_23_11_X23 : sFk 23 11 "BalloonStall$Hand" "most" "I" := fk1 (by decide) rfl rfl rfl (Or.inl rfl)
theorem fk_23_2_X23 : sFk 23 2 "BalloonStall$Hand" "from" "[I" := fk1 (by decide) rfl rfl rfl (Or.inl rfl)
theorem fk_23_3_X23 : sFk 23 3 "BalloonStall$Hand" "to" "[I" := fk1 (by decide) rfl rfl rfl (Or.inl rfl)
theorem fk_23_4_X23 : sFk 23 4 "BalloonStall$Hand" "lengths" "[I" := fk1 (by decide) rfl rfl rfl (Or.inl rfl)
theorem fk_23_5_X23 : sFk 23 5 "BalloonStall$Hand" "balloon" "[I" := fk1 (by decide) rfl rfl rfl (Or.inl rfl)
theorem fk_23_6_X23 : sFk 23 6 "BalloonStall$Hand" "sort" "[I" := fk1 (by decide) rfl rfl rfl (Or.inl rfl)
theorem fk_23_7_X23 : sFk 23 7 "BalloonStall$Hand" "at" "I" := fk1 (by decide) rfl rfl rfl (Or.inl rfl)
theorem fk_23_8_X23 : sFk 23 8 "BalloonStall$Hand" "points" "I" := fk1 (by decide) rfl rfl rfl (Or.inl rfl)
theorem fk_23_9_X23 : sFk 23 9 "BalloonStall$Hand" "bubbles" "I" := fk1 (by decide) rfl rfl rfl (Or.inl rfl)
theorem fk_24_0_X24 : sFk 24 0 "BalloonStall$Figure" "from" "[I" := fk1 (by decide) rfl rfl rfl (Or.inl rfl)
theorem fk_24_1_X24 : sFk 24 1 "BalloonStall$Figure" "to" "[I" := fk1 (by decide) rfl rfl rfl (Or.inl rfl)
theorem fk_24_2_X24 : sFk 24 2 "BalloonStall$Figure" "lengths" "[I" := fk1 (by decide) rfl rfl rfl (Or.inl rfl)
theorem fk_24_3_X24 : sFk 24 3 "BalloonStall$Figure" "balloon" "[I" := fk1 (by decide) rfl rfl rfl (Or.inl rfl)
theorem fk_24_4_X24 : sFk 24 4 "BalloonStall$Figure" "sort" "[I" := fk1 (by decide) rfl rfl rfl (Or.inl rfl)
theorem fk_24_5_X24 : sFk 24 5 "BalloonStall$Figure" "ends" "[I" := fk1 (by decide) rfl rfl rfl (Or.inl rfl)
theorem fk_24_6_X24 : sFk 24 6 "BalloonStall$Figure" "bubbles" "I" := fk1 (by decide) rfl rfl rfl (Or.inl rfl)
theorem fk_24_7_X24 : sFk 24 7 "BalloonStall$Figure" "balloons" "I" := fk1 (by decide) rfl rfl rfl (Or.inl rfl)
theorem fk_24_8_X24 : sFk 24 8 "BalloonStall$Figure" "points" "I" := fk1 (by decide) rfl rfl rfl (Or.inl rfl)
theorem fk_24_9_X24 : sFk 24 9 "BalloonStall$Figure" "hands" "I" := fk1 (by decide) rfl rfl rfl (Or.inl rfl)
theorem fk_25_0_X25 : sFk 25 0 "BalloonStall$Guest" "wants" "LBalloonStall$Figure;" := fk1 (by decide) rfl rfl rfl (Or.inl rfl)
theorem fk_25_1_X25 : sFk 25 1 "BalloonStall$Guest" "comes" "I" := fk1 (by decide) rfl rfl rfl (Or.inl rfl)
theorem fk_25_2_X25 : sFk 25 2 "BalloonStall$Guest" "patience" "I" := fk1 (by decide) rfl rfl rfl (Or.inl rfl)
theorem fk_25_3_X25 : sFk 25 3 "BalloonStall$Guest" "went" "I" := fk1 (by decide) rfl rfl rfl (Or.inl rfl)
theorem fk_25_4_X25 : sFk 25 4 "BalloonStall$Guest" "begins" "I" := fk1 (by decide) rfl rfl rfl (Or.inl rfl)
theorem fk_25_5_X25 : sFk 25 5 "BalloonStall$Guest" "ends" "I" := fk1 (by decide) rfl rfl rfl (Or.inl rfl)
theorem fk_25_6_X25 : sFk 25 6 "BalloonStall$Guest" "taken" "I" := fk1 (by decide) rfl rfl rfl (Or.inl rfl)
theorem fk_3_0_X3 : sFk 3 0 "BalloonStallModel" "thrown" "I" := fk1 (by decide) rfl rfl rfl (Or.inl rfl)
theorem fk_3_1_X3 : sFk 3 1 "BalloonStallModel" "air" "[I" := fk1 (by decide) rfl rfl rfl (Or.inl rfl)
theorem fk_3_10_X3 : sFk 3 10 "BalloonStallModel" "deep" "I" := fk1 (by decide) rfl rfl rfl (Or.inl rfl)
theorem fk_3_11_X3 : sFk 3 11 "BalloonStallModel" "balloons" "[I" := fk1 (by decide) rfl rfl rfl (Or.inl rfl)
theorem fk_3_12_X3 : sFk 3 12 "BalloonStallModel" "sortOf" "[I" := fk1 (by decide) rfl rfl rfl (Or.inl rfl)
theorem fk_3_13_X3 : sFk 3 13 "BalloonStallModel" "bubbles" "[I" := fk1 (by decide) rfl rfl rfl (Or.inl rfl)
theorem fk_3_14_X3 : sFk 3 14 "BalloonStallModel" "points" "[I" := fk1 (by decide) rfl rfl rfl (Or.inl rfl)
theorem fk_3_15_X3 : sFk 3 15 "BalloonStallModel" "length" "[I" := fk1 (by decide) rfl rfl rfl (Or.inl rfl)
theorem fk_3_16_X3 : sFk 3 16 "BalloonStallModel" "from" "[I" := fk1 (by decide) rfl rfl rfl (Or.inl rfl)
theorem fk_3_17_X3 : sFk 3 17 "BalloonStallModel" "to" "[I" := fk1 (by decide) rfl rfl rfl (Or.inl rfl)
theorem fk_3_18_X3 : sFk 3 18 "BalloonStallModel" "balloonOf" "[I" := fk1 (by decide) rfl rfl rfl (Or.inl rfl)
theorem fk_3_19_X3 : sFk 3 19 "BalloonStallModel" "hands" "[I" := fk1 (by decide) rfl rfl rfl (Or.inl rfl)
theorem fk_3_2_X3 : sFk 3 2 "BalloonStallModel" "strain" "[I" := fk1 (by decide) rfl rfl rfl (Or.inl rfl)
theorem fk_3_20_X3 : sFk 3 20 "BalloonStallModel" "figures" "I" := fk1 (by decide) rfl rfl rfl (Or.inl rfl)
theorem fk_3_21_X3 : sFk 3 21 "BalloonStallModel" "head" "[I" := fk1 (by decide) rfl rfl rfl (Or.inl rfl)
theorem fk_3_22_X3 : sFk 3 22 "BalloonStallModel" "named" "[I" := fk1 (by decide) rfl rfl rfl (Or.inl rfl)
theorem fk_3_23_X3 : sFk 3 23 "BalloonStallModel" "raw" "I" := fk1 (by decide) rfl rfl rfl (Or.inl rfl)
theorem fk_3_24_X3 : sFk 3 24 "BalloonStallModel" "where" "I" := fk1 (by decide) rfl rfl rfl (Or.inl rfl)
theorem fk_3_25_X3 : sFk 3 25 "BalloonStallModel" "f" "I" := fk1 (by decide) rfl rfl rfl (Or.inl rfl)
theorem fk_3_26_X3 : sFk 3 26 "BalloonStallModel" "number" "[I" := fk1 (by decide) rfl rfl rfl (Or.inl rfl)
theorem fk_3_27_X3 : sFk 3 27 "BalloonStallModel" "codes" "[I" := fk1 (by decide) rfl rfl rfl (Or.inl rfl)
theorem fk_3_28_X3 : sFk 3 28 "BalloonStallModel" "clauses" "[I" := fk1 (by decide) rfl rfl rfl (Or.inl rfl)
theorem fk_3_29_X3 : sFk 3 29 "BalloonStallModel" "testTo" "[I" := fk1 (by decide) rfl rfl rfl (Or.inl rfl)
theorem fk_3_3_X3 : sFk 3 3 "BalloonStallModel" "chance" "[I" := fk1 (by decide) rfl rfl rfl (Or.inl rfl)
theorem fk_3_30_X3 : sFk 3 30 "BalloonStallModel" "sumTo" "[I" := fk1 (by decide) rfl rfl rfl (Or.inl rfl)
theorem fk_3_31_X3 : sFk 3 31 "BalloonStallModel" "rules" "I" := fk1 (by decide) rfl rfl rfl (Or.inl rfl)
theorem fk_3_32_X3 : sFk 3 32 "BalloonStallModel" "into" "I" := fk1 (by decide) rfl rfl rfl (Or.inl rfl)
theorem fk_3_33_X3 : sFk 3 33 "BalloonStallModel" "said" "I" := fk1 (by decide) rfl rfl rfl (Or.inl rfl)
theorem fk_3_34_X3 : sFk 3 34 "BalloonStallModel" "pile" "[J" := fk1 (by decide) rfl rfl rfl (Or.inl rfl)
theorem fk_3_35_X3 : sFk 3 35 "BalloonStallModel" "partner" "[I" := fk1 (by decide) rfl rfl rfl (Or.inl rfl)
theorem fk_3_36_X3 : sFk 3 36 "BalloonStallModel" "fars" "[I" := fk1 (by decide) rfl rfl rfl (Or.inl rfl)
theorem fk_3_37_X3 : sFk 3 37 "BalloonStallModel" "fewest" "[I" := fk1 (by decide) rfl rfl rfl (Or.inl rfl)
theorem fk_3_38_X3 : sFk 3 38 "BalloonStallModel" "isWay" "[Z" := fk1 (by decide) rfl rfl rfl (Or.inl rfl)
theorem fk_3_39_X3 : sFk 3 39 "BalloonStallModel" "odds" "[I" := fk1 (by decide) rfl rfl rfl (Or.inl rfl)
theorem fk_3_4_X3 : sFk 3 4 "BalloonStallModel" "stock" "[I" := fk1 (by decide) rfl rfl rfl (Or.inl rfl)
theorem fk_3_40_X3 : sFk 3 40 "BalloonStallModel" "comes" "[I" := fk1 (by decide) rfl rfl rfl (Or.inl rfl)
theorem fk_3_41_X3 : sFk 3 41 "BalloonStallModel" "wants" "[I" := fk1 (by decide) rfl rfl rfl (Or.inl rfl)
theorem fk_3_42_X3 : sFk 3 42 "BalloonStallModel" "patience" "[I" := fk1 (by decide) rfl rfl rfl (Or.inl rfl)
theorem fk_3_43_X3 : sFk 3 43 "BalloonStallModel" "went" "[I" := fk1 (by decide) rfl rfl rfl (Or.inl rfl)
theorem fk_3_44_X3 : sFk 3 44 "BalloonStallModel" "shelf" "[I" := fk1 (by decide) rfl rfl rfl (Or.inl rfl)
theorem fk_3_45_X3 : sFk 3 45 "BalloonStallModel" "guests" "I" := fk1 (by decide) rfl rfl rfl (Or.inl rfl)
theorem fk_3_46_X3 : sFk 3 46 "BalloonStallModel" "ran" "I" := fk1 (by decide) rfl rfl rfl (Or.inl rfl)
theorem fk_3_47_X3 : sFk 3 47 "BalloonStallModel" "paceBubble" "I" := fk1 (by decide) rfl rfl rfl (Or.inl rfl)
theorem fk_3_48_X3 : sFk 3 48 "BalloonStallModel" "paceBalloon" "I" := fk1 (by decide) rfl rfl rfl (Or.inl rfl)
theorem fk_3_49_X3 : sFk 3 49 "BalloonStallModel" "now" "[I" := fk1 (by decide) rfl rfl rfl (Or.inl rfl)
theorem fk_3_5_X3 : sFk 3 5 "BalloonStallModel" "sorts" "I" := fk1 (by decide) rfl rfl rfl (Or.inl rfl)
theorem fk_3_50_X3 : sFk 3 50 "BalloonStallModel" "lose" "[I" := fk1 (by decide) rfl rfl rfl (Or.inl rfl)
theorem fk_3_51_X3 : sFk 3 51 "BalloonStallModel" "lasting" "I" := fk1 (by decide) rfl rfl rfl (Or.inl rfl)
theorem fk_3_6_X3 : sFk 3 6 "BalloonStallModel" "tape" "[I" := fk1 (by decide) rfl rfl rfl (Or.inl rfl)
theorem fk_3_7_X3 : sFk 3 7 "BalloonStallModel" "size" "I" := fk1 (by decide) rfl rfl rfl (Or.inl rfl)
theorem fk_3_8_X3 : sFk 3 8 "BalloonStallModel" "at" "I" := fk1 (by decide) rfl rfl rfl (Or.inl rfl)
theorem fk_3_9_X3 : sFk 3 9 "BalloonStallModel" "wrong" "I" := fk1 (by decide) rfl rfl rfl (Or.inl rfl)
theorem fk_4_0_X4 : sFk 4 0 "BalloonStall$Sort" "air" "I" := fk1 (by decide) rfl rfl rfl (Or.inl rfl)
theorem fk_4_1_X4 : sFk 4 1 "BalloonStall$Sort" "strain" "I" := fk1 (by decide) rfl rfl rfl (Or.inl rfl)
theorem fk_4_2_X4 : sFk 4 2 "BalloonStall$Sort" "chance" "I" := fk1 (by decide) rfl rfl rfl (Or.inl rfl)
theorem fk_4_3_X4 : sFk 4 3 "BalloonStall$Sort" "stock" "I" := fk1 (by decide) rfl rfl rfl (Or.inl rfl)
theorem fk_4_4_X4 : sFk 4 4 "BalloonStall$Sort" "there" "I" := fk1 (by decide) rfl rfl rfl (Or.inl rfl)
theorem fk_4_5_X4 : sFk 4 5 "BalloonStall$Sort" "needed" "I" := fk1 (by decide) rfl rfl rfl (Or.inl rfl)
theorem fk_5_0_X5 : sFk 5 0 "BalloonStall$Reader" "at" "I" := by
  intro c r hp hc hk
  rcases jk_5 hp with rfl | rfl | rfl
  · cases hc
  · cases hc; exact ⟨rfl, rfl, Or.inl rfl⟩
  · cases hc; exact ⟨rfl, rfl, Or.inl rfl⟩

theorem fk_5_1_X5 : sFk 5 1 "BalloonStall$Reader" "deep" "I" := by
  intro c r hp hc hk
  rcases jk_5 hp with rfl | rfl | rfl
  · cases hc
  · cases hc; exact ⟨rfl, rfl, Or.inl rfl⟩
  · cases hc; exact ⟨rfl, rfl, Or.inl rfl⟩

theorem fk_5_2_X5 : sFk 5 2 "BalloonStall$Reader" "this$0" "LBalloonStall;" := by
  intro c r hp hc hk
  rcases jk_5 hp with rfl | rfl | rfl
  · cases hc
  · cases hc; exact ⟨rfl, rfl, Or.inl rfl⟩
  · cases hc; exact ⟨rfl, rfl, Or.inl rfl⟩

theorem fk_6_0_X6 : sFk 6 0 "BalloonStall$FigureReader" "at" "I" := fk1 (by decide) rfl rfl rfl (Or.inr q312)
theorem fk_6_3_X6 : sFk 6 3 "BalloonStall$FigureReader" "bubbles" "I" := fk1 (by decide) rfl rfl rfl (Or.inl rfl)
theorem fk_6_4_X6 : sFk 6 4 "BalloonStall$FigureReader" "balloons" "I" := fk1 (by decide) rfl rfl rfl (Or.inl rfl)
theorem fk_6_5_X6 : sFk 6 5 "BalloonStall$FigureReader" "this$0" "LBalloonStall;" := fk1 (by decide) rfl rfl rfl (Or.inl rfl)
theorem fk_7_6_X7 : sFk 7 6 "BalloonStall$Wrong" "at" "I" := fk1 (by decide) rfl rfl rfl (Or.inl rfl)
theorem fk_8_0_X8 : sFk 8 0 "BalloonStall$Move" "next" "LBalloonStall$Move;" := by
  intro c r hp hc hk
  rcases jk_8 hp with rfl | rfl | rfl | rfl | rfl
  · cases hc
  · cases hc; exact ⟨rfl, rfl, Or.inl rfl⟩
  · cases hc; exact ⟨rfl, rfl, Or.inl rfl⟩
  · cases hc; exact ⟨rfl, rfl, Or.inl rfl⟩
  · cases hc; exact ⟨rfl, rfl, Or.inl rfl⟩

theorem fk_9_1_X9 : sFk 9 1 "BalloonStall$Fresh" "sort" "I" := fk1 (by decide) rfl rfl rfl (Or.inl rfl)
theorem fk_9_2_X9 : sFk 9 2 "BalloonStall$Fresh" "first" "LBalloonStall$Move;" := fk1 (by decide) rfl rfl rfl (Or.inl rfl)
theorem ap_1_0 : sAp 1 0 := apS1 (by decide) rfl (by decide +kernel)
theorem fn_1_0 : sFin 1 0 true "BalloonStall" := fn1 (by decide) rfl rfl (fun _ => rfl)
theorem ap_1_1 : sAp 1 1 := apS1 (by decide) rfl (by decide +kernel)
theorem fn_1_1 (own : String) : sFin 1 1 false own := fn1 (by decide) rfl rfl Bool.noConfusion
theorem ap_1_2 : sAp 1 2 := apS1 (by decide) rfl (by decide +kernel)
theorem fn_1_2 : sFin 1 2 true "BalloonStall" := fn1 (by decide) rfl rfl (fun _ => rfl)
theorem ap_1_3 : sAp 1 3 := apS1 (by decide) rfl (by decide +kernel)
theorem fn_1_3 (own : String) : sFin 1 3 false own := fn1 (by decide) rfl rfl Bool.noConfusion
theorem ap_1_4 : sAp 1 4 := apS1 (by decide) rfl (by decide +kernel)
theorem fn_1_4 : sFin 1 4 true "BalloonStall" := fn1 (by decide) rfl rfl (fun _ => rfl)
theorem ap_1_5 : sAp 1 5 := apS1 (by decide) rfl (by decide +kernel)
theorem fn_1_5 (own : String) : sFin 1 5 false own := fn1 (by decide) rfl rfl Bool.noConfusion
theorem ap_1_6 : sAp 1 6 := apS1 (by decide) rfl (by decide +kernel)
theorem fn_1_6 : sFin 1 6 true "BalloonStall" := fn1 (by decide) rfl rfl (fun _ => rfl)
theorem ap_1_7 : sAp 1 7 := apS1 (by decide) rfl (by decide +kernel)
theorem fn_1_7 : sFin 1 7 true "BalloonStall" := fn1 (by decide) rfl rfl (fun _ => rfl)
theorem ap_1_8 : sAp 1 8 := apS1 (by decide) rfl (by decide +kernel)
theorem fn_1_8 : sFin 1 8 true "BalloonStall" := fn1 (by decide) rfl rfl (fun _ => rfl)
theorem ap_1_9 : sAp 1 9 := apS1 (by decide) rfl (by decide +kernel)
theorem fn_1_9 : sFin 1 9 true "BalloonStall" := fn1 (by decide) rfl rfl (fun _ => rfl)
theorem ap_1_10 : sAp 1 10 := apS1 (by decide) rfl (by decide +kernel)
theorem fn_1_10 : sFin 1 10 true "BalloonStall" := fn1 (by decide) rfl rfl (fun _ => rfl)
theorem ap_1_11 : sAp 1 11 := apS1 (by decide) rfl (by decide +kernel)
theorem fn_1_11 : sFin 1 11 true "BalloonStall" := fn1 (by decide) rfl rfl (fun _ => rfl)
theorem ap_1_12 : sAp 1 12 := apS1 (by decide) rfl (by decide +kernel)
theorem fn_1_12 (own : String) : sFin 1 12 false own := fn1 (by decide) rfl rfl Bool.noConfusion
theorem ap_1_13 : sAp 1 13 := apS1 (by decide) rfl (by decide +kernel)
theorem fn_1_13 (own : String) : sFin 1 13 false own := fn1 (by decide) rfl rfl Bool.noConfusion
theorem ap_1_14 : sAp 1 14 := apS1 (by decide) rfl (by decide +kernel)
theorem fn_1_14 (own : String) : sFin 1 14 false own := fn1 (by decide) rfl rfl Bool.noConfusion
theorem ap_1_15 : sAp 1 15 := apS1 (by decide) rfl (by decide +kernel)
theorem fn_1_15 (own : String) : sFin 1 15 false own := fn1 (by decide) rfl rfl Bool.noConfusion
theorem ap_1_16 : sAp 1 16 := apS1 (by decide) rfl (by decide +kernel)
theorem fn_1_16 (own : String) : sFin 1 16 false own := fn1 (by decide) rfl rfl Bool.noConfusion
theorem ap_1_17 : sAp 1 17 := apS1 (by decide) rfl (by decide +kernel)
theorem fn_1_17 (own : String) : sFin 1 17 false own := fn1 (by decide) rfl rfl Bool.noConfusion
theorem ap_1_18 : sAp 1 18 := apS1 (by decide) rfl (by decide +kernel)
theorem fn_1_18 : sFin 1 18 true "BalloonStall" := fn1 (by decide) rfl rfl (fun _ => rfl)
theorem ap_1_19 : sAp 1 19 := apS1 (by decide) rfl (by decide +kernel)
theorem fn_1_19 : sFin 1 19 true "BalloonStall" := fn1 (by decide) rfl rfl (fun _ => rfl)
theorem ap_1_20 : sAp 1 20 := apS1 (by decide) rfl (by decide +kernel)
theorem fn_1_20 (own : String) : sFin 1 20 false own := fn1 (by decide) rfl rfl Bool.noConfusion
theorem ap_1_21 : sAp 1 21 := apS1 (by decide) rfl (by decide +kernel)
theorem fn_1_21 : sFin 1 21 true "BalloonStall" := fn1 (by decide) rfl rfl (fun _ => rfl)
theorem ap_1_22 : sAp 1 22 := apS1 (by decide) rfl (by decide +kernel)
theorem fn_1_22 (own : String) : sFin 1 22 false own := fn1 (by decide) rfl rfl Bool.noConfusion
theorem ap_2_0 : sAp 2 0 := apS1 (by decide) rfl (by decide +kernel)
theorem fn_2_0 : sFin 2 0 true "BalloonStall$Letters" := fn1 (by decide) rfl rfl (fun _ => rfl)
theorem ap_3_0 : sAp 3 0 := apS1 (by decide) rfl (by decide +kernel)
theorem fn_3_0 (own : String) : sFin 3 0 false own := fn1 (by decide) rfl rfl Bool.noConfusion
theorem ap_3_1 : sAp 3 1 := apS1 (by decide) rfl (by decide +kernel)
theorem fn_3_1 : sFin 3 1 true "BalloonStallModel" := fn1 (by decide) rfl rfl (fun _ => rfl)
theorem ap_3_2 : sAp 3 2 := apS1 (by decide) rfl (by decide +kernel)
theorem fn_3_2 : sFin 3 2 true "BalloonStallModel" := fn1 (by decide) rfl rfl (fun _ => rfl)
theorem ap_3_3 : sAp 3 3 := apS1 (by decide) rfl (by decide +kernel)
theorem fn_3_3 : sFin 3 3 true "BalloonStallModel" := fn1 (by decide) rfl rfl (fun _ => rfl)
theorem ap_3_4 : sAp 3 4 := apS1 (by decide) rfl (by decide +kernel)
theorem fn_3_4 : sFin 3 4 true "BalloonStallModel" := fn1 (by decide) rfl rfl (fun _ => rfl)
theorem ap_3_5 : sAp 3 5 := apS1 (by decide) rfl (by decide +kernel)
theorem fn_3_5 (own : String) : sFin 3 5 false own := fn1 (by decide) rfl rfl Bool.noConfusion
theorem ap_3_6 : sAp 3 6 := apS1 (by decide) rfl (by decide +kernel)
theorem fn_3_6 : sFin 3 6 true "BalloonStallModel" := fn1 (by decide) rfl rfl (fun _ => rfl)
theorem ap_3_7 : sAp 3 7 := apS1 (by decide) rfl (by decide +kernel)
theorem fn_3_7 (own : String) : sFin 3 7 false own := fn1 (by decide) rfl rfl Bool.noConfusion
theorem ap_3_8 : sAp 3 8 := apS1 (by decide) rfl (by decide +kernel)
theorem fn_3_8 (own : String) : sFin 3 8 false own := fn1 (by decide) rfl rfl Bool.noConfusion
theorem ap_3_9 : sAp 3 9 := apS1 (by decide) rfl (by decide +kernel)
theorem fn_3_9 (own : String) : sFin 3 9 false own := fn1 (by decide) rfl rfl Bool.noConfusion
theorem ap_3_10 : sAp 3 10 := apS1 (by decide) rfl (by decide +kernel)
theorem fn_3_10 (own : String) : sFin 3 10 false own := fn1 (by decide) rfl rfl Bool.noConfusion
theorem ap_3_11 : sAp 3 11 := apS1 (by decide) rfl (by decide +kernel)
theorem fn_3_11 : sFin 3 11 true "BalloonStallModel" := fn1 (by decide) rfl rfl (fun _ => rfl)
theorem ap_3_12 : sAp 3 12 := apS1 (by decide) rfl (by decide +kernel)
theorem fn_3_12 : sFin 3 12 true "BalloonStallModel" := fn1 (by decide) rfl rfl (fun _ => rfl)
theorem ap_3_13 : sAp 3 13 := apS1 (by decide) rfl (by decide +kernel)
theorem fn_3_13 : sFin 3 13 true "BalloonStallModel" := fn1 (by decide) rfl rfl (fun _ => rfl)
theorem ap_3_14 : sAp 3 14 := apS1 (by decide) rfl (by decide +kernel)
theorem fn_3_14 : sFin 3 14 true "BalloonStallModel" := fn1 (by decide) rfl rfl (fun _ => rfl)
theorem ap_3_15 : sAp 3 15 := apS1 (by decide) rfl (by decide +kernel)
theorem fn_3_15 : sFin 3 15 true "BalloonStallModel" := fn1 (by decide) rfl rfl (fun _ => rfl)
theorem ap_3_16 : sAp 3 16 := apS1 (by decide) rfl (by decide +kernel)
theorem fn_3_16 : sFin 3 16 true "BalloonStallModel" := fn1 (by decide) rfl rfl (fun _ => rfl)
theorem ap_3_17 : sAp 3 17 := apS1 (by decide) rfl (by decide +kernel)
theorem fn_3_17 : sFin 3 17 true "BalloonStallModel" := fn1 (by decide) rfl rfl (fun _ => rfl)
theorem ap_3_18 : sAp 3 18 := apS1 (by decide) rfl (by decide +kernel)
theorem fn_3_18 : sFin 3 18 true "BalloonStallModel" := fn1 (by decide) rfl rfl (fun _ => rfl)
theorem ap_3_19 : sAp 3 19 := apS1 (by decide) rfl (by decide +kernel)
theorem fn_3_19 : sFin 3 19 true "BalloonStallModel" := fn1 (by decide) rfl rfl (fun _ => rfl)
theorem ap_3_20 : sAp 3 20 := apS1 (by decide) rfl (by decide +kernel)
theorem fn_3_20 (own : String) : sFin 3 20 false own := fn1 (by decide) rfl rfl Bool.noConfusion
theorem ap_3_21 : sAp 3 21 := apS1 (by decide) rfl (by decide +kernel)
theorem fn_3_21 : sFin 3 21 true "BalloonStallModel" := fn1 (by decide) rfl rfl (fun _ => rfl)
theorem ap_3_22 : sAp 3 22 := apS1 (by decide) rfl (by decide +kernel)
theorem fn_3_22 : sFin 3 22 true "BalloonStallModel" := fn1 (by decide) rfl rfl (fun _ => rfl)
theorem ap_3_23 : sAp 3 23 := apS1 (by decide) rfl (by decide +kernel)
theorem fn_3_23 (own : String) : sFin 3 23 false own := fn1 (by decide) rfl rfl Bool.noConfusion
theorem ap_3_24 : sAp 3 24 := apS1 (by decide) rfl (by decide +kernel)
theorem fn_3_24 (own : String) : sFin 3 24 false own := fn1 (by decide) rfl rfl Bool.noConfusion
theorem ap_3_25 : sAp 3 25 := apS1 (by decide) rfl (by decide +kernel)
theorem fn_3_25 (own : String) : sFin 3 25 false own := fn1 (by decide) rfl rfl Bool.noConfusion
theorem ap_3_26 : sAp 3 26 := apS1 (by decide) rfl (by decide +kernel)
theorem fn_3_26 : sFin 3 26 true "BalloonStallModel" := fn1 (by decide) rfl rfl (fun _ => rfl)
theorem ap_3_27 : sAp 3 27 := apS1 (by decide) rfl (by decide +kernel)
theorem fn_3_27 : sFin 3 27 true "BalloonStallModel" := fn1 (by decide) rfl rfl (fun _ => rfl)
theorem ap_3_28 : sAp 3 28 := apS1 (by decide) rfl (by decide +kernel)
theorem fn_3_28 : sFin 3 28 true "BalloonStallModel" := fn1 (by decide) rfl rfl (fun _ => rfl)
theorem ap_3_29 : sAp 3 29 := apS1 (by decide) rfl (by decide +kernel)
theorem fn_3_29 : sFin 3 29 true "BalloonStallModel" := fn1 (by decide) rfl rfl (fun _ => rfl)
theorem ap_3_30 : sAp 3 30 := apS1 (by decide) rfl (by decide +kernel)
theorem fn_3_30 : sFin 3 30 true "BalloonStallModel" := fn1 (by decide) rfl rfl (fun _ => rfl)
theorem ap_3_31 : sAp 3 31 := apS1 (by decide) rfl (by decide +kernel)
theorem fn_3_31 (own : String) : sFin 3 31 false own := fn1 (by decide) rfl rfl Bool.noConfusion
theorem ap_3_32 : sAp 3 32 := apS1 (by decide) rfl (by decide +kernel)
theorem fn_3_32 (own : String) : sFin 3 32 false own := fn1 (by decide) rfl rfl Bool.noConfusion
theorem ap_3_33 : sAp 3 33 := apS1 (by decide) rfl (by decide +kernel)
theorem fn_3_33 (own : String) : sFin 3 33 false own := fn1 (by decide) rfl rfl Bool.noConfusion
theorem ap_3_34 : sAp 3 34 := apS1 (by decide) rfl (by decide +kernel)
theorem fn_3_34 : sFin 3 34 true "BalloonStallModel" := fn1 (by decide) rfl rfl (fun _ => rfl)
theorem ap_3_35 : sAp 3 35 := apS1 (by decide) rfl (by decide +kernel)
theorem fn_3_35 : sFin 3 35 true "BalloonStallModel" := fn1 (by decide) rfl rfl (fun _ => rfl)
theorem ap_3_36 : sAp 3 36 := apS1 (by decide) rfl (by decide +kernel)
theorem fn_3_36 : sFin 3 36 true "BalloonStallModel" := fn1 (by decide) rfl rfl (fun _ => rfl)
theorem ap_3_37 : sAp 3 37 := apS1 (by decide) rfl (by decide +kernel)
theorem fn_3_37 : sFin 3 37 true "BalloonStallModel" := fn1 (by decide) rfl rfl (fun _ => rfl)
theorem ap_3_38 : sAp 3 38 := apS1 (by decide) rfl (by decide +kernel)
theorem fn_3_38 : sFin 3 38 true "BalloonStallModel" := fn1 (by decide) rfl rfl (fun _ => rfl)
theorem ap_3_39 : sAp 3 39 := apS1 (by decide) rfl (by decide +kernel)
theorem fn_3_39 : sFin 3 39 true "BalloonStallModel" := fn1 (by decide) rfl rfl (fun _ => rfl)
theorem ap_3_40 : sAp 3 40 := apS1 (by decide) rfl (by decide +kernel)
theorem fn_3_40 : sFin 3 40 true "BalloonStallModel" := fn1 (by decide) rfl rfl (fun _ => rfl)
theorem ap_3_41 : sAp 3 41 := apS1 (by decide) rfl (by decide +kernel)
theorem fn_3_41 : sFin 3 41 true "BalloonStallModel" := fn1 (by decide) rfl rfl (fun _ => rfl)
theorem ap_3_42 : sAp 3 42 := apS1 (by decide) rfl (by decide +kernel)
theorem fn_3_42 : sFin 3 42 true "BalloonStallModel" := fn1 (by decide) rfl rfl (fun _ => rfl)
theorem ap_3_43 : sAp 3 43 := apS1 (by decide) rfl (by decide +kernel)
theorem fn_3_43 : sFin 3 43 true "BalloonStallModel" := fn1 (by decide) rfl rfl (fun _ => rfl)
theorem ap_3_44 : sAp 3 44 := apS1 (by decide) rfl (by decide +kernel)
theorem fn_3_44 : sFin 3 44 true "BalloonStallModel" := fn1 (by decide) rfl rfl (fun _ => rfl)
theorem ap_3_45 : sAp 3 45 := apS1 (by decide) rfl (by decide +kernel)
theorem fn_3_45 (own : String) : sFin 3 45 false own := fn1 (by decide) rfl rfl Bool.noConfusion
theorem ap_3_46 : sAp 3 46 := apS1 (by decide) rfl (by decide +kernel)
theorem fn_3_46 (own : String) : sFin 3 46 false own := fn1 (by decide) rfl rfl Bool.noConfusion
theorem ap_3_47 : sAp 3 47 := apS1 (by decide) rfl (by decide +kernel)
theorem fn_3_47 (own : String) : sFin 3 47 false own := fn1 (by decide) rfl rfl Bool.noConfusion
theorem ap_3_48 : sAp 3 48 := apS1 (by decide) rfl (by decide +kernel)
theorem fn_3_48 (own : String) : sFin 3 48 false own := fn1 (by decide) rfl rfl Bool.noConfusion
theorem ap_3_49 : sAp 3 49 := apS1 (by decide) rfl (by decide +kernel)
theorem fn_3_49 : sFin 3 49 true "BalloonStallModel" := fn1 (by decide) rfl rfl (fun _ => rfl)
theorem ap_3_50 : sAp 3 50 := apS1 (by decide) rfl (by decide +kernel)
theorem fn_3_50 : sFin 3 50 true "BalloonStallModel" := fn1 (by decide) rfl rfl (fun _ => rfl)
theorem ap_3_51 : sAp 3 51 := apS1 (by decide) rfl (by decide +kernel)
theorem fn_3_51 (own : String) : sFin 3 51 false own := fn1 (by decide) rfl rfl Bool.noConfusion
theorem ap_4_0 : sAp 4 0 := apS1 (by decide) rfl (by decide +kernel)
theorem fn_4_0 : sFin 4 0 true "BalloonStall$Sort" := fn1 (by decide) rfl rfl (fun _ => rfl)
theorem ap_4_1 : sAp 4 1 := apS1 (by decide) rfl (by decide +kernel)
theorem fn_4_1 : sFin 4 1 true "BalloonStall$Sort" := fn1 (by decide) rfl rfl (fun _ => rfl)
theorem ap_4_2 : sAp 4 2 := apS1 (by decide) rfl (by decide +kernel)
theorem fn_4_2 : sFin 4 2 true "BalloonStall$Sort" := fn1 (by decide) rfl rfl (fun _ => rfl)
theorem ap_4_3 : sAp 4 3 := apS1 (by decide) rfl (by decide +kernel)
theorem fn_4_3 (own : String) : sFin 4 3 false own := fn1 (by decide) rfl rfl Bool.noConfusion
theorem ap_4_4 : sAp 4 4 := apS1 (by decide) rfl (by decide +kernel)
theorem fn_4_4 (own : String) : sFin 4 4 false own := fn1 (by decide) rfl rfl Bool.noConfusion
theorem ap_4_5 : sAp 4 5 := apS1 (by decide) rfl (by decide +kernel)
theorem fn_4_5 (own : String) : sFin 4 5 false own := fn1 (by decide) rfl rfl Bool.noConfusion
theorem ap_5_0 : sAp 5 0 := by
  intro c r hp hc hk
  rcases jk_5 hp with rfl | rfl | rfl
  · cases hc
  · cases hc; decide +kernel
  · cases hc; decide +kernel

theorem fn_5_0 (own : String) : sFin 5 0 false own := by
  intro c r hp hc hk
  rcases jk_5 hp with rfl | rfl | rfl
  · cases hc
  · cases hc; exact ⟨rfl, Bool.noConfusion⟩
  · cases hc; exact ⟨rfl, Bool.noConfusion⟩

theorem ap_5_1 : sAp 5 1 := by
  intro c r hp hc hk
  rcases jk_5 hp with rfl | rfl | rfl
  · cases hc
  · cases hc; decide +kernel
  · cases hc; decide +kernel

theorem fn_5_1 (own : String) : sFin 5 1 false own := by
  intro c r hp hc hk
  rcases jk_5 hp with rfl | rfl | rfl
  · cases hc
  · cases hc; exact ⟨rfl, Bool.noConfusion⟩
  · cases hc; exact ⟨rfl, Bool.noConfusion⟩

theorem ap_6_3 : sAp 6 3 := apS1 (by decide) rfl (by decide +kernel)
theorem fn_6_3 (own : String) : sFin 6 3 false own := fn1 (by decide) rfl rfl Bool.noConfusion
theorem ap_6_4 : sAp 6 4 := apS1 (by decide) rfl (by decide +kernel)
theorem fn_6_4 (own : String) : sFin 6 4 false own := fn1 (by decide) rfl rfl Bool.noConfusion
theorem ap_7_6 : sAp 7 6 := apS1 (by decide) rfl (by decide +kernel)
theorem fn_7_6 : sFin 7 6 true "BalloonStall$Wrong" := fn1 (by decide) rfl rfl (fun _ => rfl)
theorem ap_8_0 : sAp 8 0 := by
  intro c r hp hc hk
  rcases jk_8 hp with rfl | rfl | rfl | rfl | rfl
  · cases hc
  · cases hc; decide +kernel
  · cases hc; decide +kernel
  · cases hc; decide +kernel
  · cases hc; decide +kernel

theorem fn_8_0 (own : String) : sFin 8 0 false own := by
  intro c r hp hc hk
  rcases jk_8 hp with rfl | rfl | rfl | rfl | rfl
  · cases hc
  · cases hc; exact ⟨rfl, Bool.noConfusion⟩
  · cases hc; exact ⟨rfl, Bool.noConfusion⟩
  · cases hc; exact ⟨rfl, Bool.noConfusion⟩
  · cases hc; exact ⟨rfl, Bool.noConfusion⟩

theorem ap_9_1 : sAp 9 1 := apS1 (by decide) rfl (by decide +kernel)
theorem fn_9_1 : sFin 9 1 true "BalloonStall$Fresh" := fn1 (by decide) rfl rfl (fun _ => rfl)
theorem ap_9_2 : sAp 9 2 := apS1 (by decide) rfl (by decide +kernel)
theorem fn_9_2 : sFin 9 2 true "BalloonStall$Fresh" := fn1 (by decide) rfl rfl (fun _ => rfl)
theorem ap_10_1 : sAp 10 1 := apS1 (by decide) rfl (by decide +kernel)
theorem fn_10_1 : sFin 10 1 true "BalloonStall$Name" := fn1 (by decide) rfl rfl (fun _ => rfl)
theorem ap_11_1 : sAp 11 1 := apS1 (by decide) rfl (by decide +kernel)
theorem fn_11_1 : sFin 11 1 true "BalloonStall$Blow" := fn1 (by decide) rfl rfl (fun _ => rfl)
theorem ap_12_1 : sAp 12 1 := apS1 (by decide) rfl (by decide +kernel)
theorem fn_12_1 : sFin 12 1 true "BalloonStall$Ring" := fn1 (by decide) rfl rfl (fun _ => rfl)
theorem ap_13_0 : sAp 13 0 := apS1 (by decide) rfl (by decide +kernel)
theorem fn_13_0 (own : String) : sFin 13 0 false own := fn1 (by decide) rfl rfl Bool.noConfusion
theorem ap_15_0 : sAp 15 0 := apS1 (by decide) rfl (by decide +kernel)
theorem fn_15_0 : sFin 15 0 true "BalloonStall$Not" := fn1 (by decide) rfl rfl (fun _ => rfl)
theorem ap_17_0 : sAp 17 0 := apS1 (by decide) rfl (by decide +kernel)
theorem fn_17_0 : sFin 17 0 true "BalloonStall$Letter" := fn1 (by decide) rfl rfl (fun _ => rfl)
theorem ap_18_0 : sAp 18 0 := apS1 (by decide) rfl (by decide +kernel)
theorem fn_18_0 : sFin 18 0 true "BalloonStall$Plain" := fn1 (by decide) rfl rfl (fun _ => rfl)
theorem ap_19_0 : sAp 19 0 := apS1 (by decide) rfl (by decide +kernel)
theorem fn_19_0 : sFin 19 0 true "BalloonStall$Pair" := fn1 (by decide) rfl rfl (fun _ => rfl)
theorem ap_19_1 : sAp 19 1 := apS1 (by decide) rfl (by decide +kernel)
theorem fn_19_1 : sFin 19 1 true "BalloonStall$Pair" := fn1 (by decide) rfl rfl (fun _ => rfl)
theorem ap_19_2 : sAp 19 2 := apS1 (by decide) rfl (by decide +kernel)
theorem fn_19_2 : sFin 19 2 true "BalloonStall$Pair" := fn1 (by decide) rfl rfl (fun _ => rfl)
theorem ap_20_0 : sAp 20 0 := apS1 (by decide) rfl (by decide +kernel)
theorem fn_20_0 : sFin 20 0 true "BalloonStall$Compares" := fn1 (by decide) rfl rfl (fun _ => rfl)
theorem ap_20_1 : sAp 20 1 := apS1 (by decide) rfl (by decide +kernel)
theorem fn_20_1 : sFin 20 1 true "BalloonStall$Compares" := fn1 (by decide) rfl rfl (fun _ => rfl)
theorem ap_20_2 : sAp 20 2 := apS1 (by decide) rfl (by decide +kernel)
theorem fn_20_2 : sFin 20 2 true "BalloonStall$Compares" := fn1 (by decide) rfl rfl (fun _ => rfl)
theorem ap_21_0 : sAp 21 0 := apS1 (by decide) rfl (by decide +kernel)
theorem fn_21_0 : sFin 21 0 true "BalloonStall$Both" := fn1 (by decide) rfl rfl (fun _ => rfl)
theorem ap_21_1 : sAp 21 1 := apS1 (by decide) rfl (by decide +kernel)
theorem fn_21_1 : sFin 21 1 true "BalloonStall$Both" := fn1 (by decide) rfl rfl (fun _ => rfl)
theorem ap_21_2 : sAp 21 2 := apS1 (by decide) rfl (by decide +kernel)
theorem fn_21_2 : sFin 21 2 true "BalloonStall$Both" := fn1 (by decide) rfl rfl (fun _ => rfl)
theorem ap_22_0 : sAp 22 0 := apS1 (by decide) rfl (by decide +kernel)
theorem fn_22_0 : sFin 22 0 true "BalloonStall$Clause" := fn1 (by decide) rfl rfl (fun _ => rfl)
theorem ap_22_1 : sAp 22 1 := apS1 (by decide) rfl (by decide +kernel)
theorem fn_22_1 : sFin 22 1 true "BalloonStall$Clause" := fn1 (by decide) rfl rfl (fun _ => rfl)
theorem ap_22_2 : sAp 22 2 := apS1 (by decide) rfl (by decide +kernel)
theorem fn_22_2 (own : String) : sFin 22 2 false own := fn1 (by decide) rfl rfl Bool.noConfusion
theorem ap_23_0 : sAp 23 0 := apS1 (by decide) rfl (by decide +kernel)
theorem fn_23_0 : sFin 23 0 true "BalloonStall$Hand" := fn1 (by decide) rfl rfl (fun _ => rfl)
theorem ap_23_1 : sAp 23 1 := apS1 (by decide) rfl (by decide +kernel)
theorem fn_23_1 : sFin 23 1 true "BalloonStall$Hand" := fn1 (by decide) rfl rfl (fun _ => rfl)
theorem ap_23_2 : sAp 23 2 := apS1 (by decide) rfl (by decide +kernel)
theorem fn_23_2 : sFin 23 2 true "BalloonStall$Hand" := fn1 (by decide) rfl rfl (fun _ => rfl)
theorem ap_23_3 : sAp 23 3 := apS1 (by decide) rfl (by decide +kernel)
theorem fn_23_3 : sFin 23 3 true "BalloonStall$Hand" := fn1 (by decide) rfl rfl (fun _ => rfl)
theorem ap_23_4 : sAp 23 4 := apS1 (by decide) rfl (by decide +kernel)
theorem fn_23_4 : sFin 23 4 true "BalloonStall$Hand" := fn1 (by decide) rfl rfl (fun _ => rfl)
theorem ap_23_5 : sAp 23 5 := apS1 (by decide) rfl (by decide +kernel)
theorem fn_23_5 : sFin 23 5 true "BalloonStall$Hand" := fn1 (by decide) rfl rfl (fun _ => rfl)
theorem ap_23_6 : sAp 23 6 := apS1 (by decide) rfl (by decide +kernel)
theorem fn_23_6 : sFin 23 6 true "BalloonStall$Hand" := fn1 (by decide) rfl rfl (fun _ => rfl)
theorem ap_23_7 : sAp 23 7 := apS1 (by decide) rfl (by decide +kernel)
theorem fn_23_7 (own : String) : sFin 23 7 false own := fn1 (by decide) rfl rfl Bool.noConfusion
theorem ap_23_8 : sAp 23 8 := apS1 (by decide) rfl (by decide +kernel)
theorem fn_23_8 (own : String) : sFin 23 8 false own := fn1 (by decide) rfl rfl Bool.noConfusion
theorem ap_23_9 : sAp 23 9 := apS1 (by decide) rfl (by decide +kernel)
theorem fn_23_9 (own : String) : sFin 23 9 false own := fn1 (by decide) rfl rfl Bool.noConfusion
theorem ap_23_10 : sAp 23 10 := apS1 (by decide) rfl (by decide +kernel)
theorem fn_23_10 (own : String) : sFin 23 10 false own := fn1 (by decide) rfl rfl Bool.noConfusion
theorem ap_23_11 : sAp 23 11 := apS1 (by decide) rfl (by decide +kernel)
theorem fn_23_11 (own : String) : sFin 23 11 false own := fn1 (by decide) rfl rfl Bool.noConfusion
theorem ap_24_0 : sAp 24 0 := apS1 (by decide) rfl (by decide +kernel)
theorem fn_24_0 : sFin 24 0 true "BalloonStall$Figure" := fn1 (by decide) rfl rfl (fun _ => rfl)
theorem ap_24_1 : sAp 24 1 := apS1 (by decide) rfl (by decide +kernel)
theorem fn_24_1 : sFin 24 1 true "BalloonStall$Figure" := fn1 (by decide) rfl rfl (fun _ => rfl)
theorem ap_24_2 : sAp 24 2 := apS1 (by decide) rfl (by decide +kernel)
theorem fn_24_2 : sFin 24 2 true "BalloonStall$Figure" := fn1 (by decide) rfl rfl (fun _ => rfl)
theorem ap_24_3 : sAp 24 3 := apS1 (by decide) rfl (by decide +kernel)
theorem fn_24_3 : sFin 24 3 true "BalloonStall$Figure" := fn1 (by decide) rfl rfl (fun _ => rfl)
theorem ap_24_4 : sAp 24 4 := apS1 (by decide) rfl (by decide +kernel)
theorem fn_24_4 : sFin 24 4 true "BalloonStall$Figure" := fn1 (by decide) rfl rfl (fun _ => rfl)
theorem ap_24_5 : sAp 24 5 := apS1 (by decide) rfl (by decide +kernel)
theorem fn_24_5 : sFin 24 5 true "BalloonStall$Figure" := fn1 (by decide) rfl rfl (fun _ => rfl)
theorem ap_24_6 : sAp 24 6 := apS1 (by decide) rfl (by decide +kernel)
theorem fn_24_6 : sFin 24 6 true "BalloonStall$Figure" := fn1 (by decide) rfl rfl (fun _ => rfl)
theorem ap_24_7 : sAp 24 7 := apS1 (by decide) rfl (by decide +kernel)
theorem fn_24_7 : sFin 24 7 true "BalloonStall$Figure" := fn1 (by decide) rfl rfl (fun _ => rfl)
theorem ap_24_8 : sAp 24 8 := apS1 (by decide) rfl (by decide +kernel)
theorem fn_24_8 : sFin 24 8 true "BalloonStall$Figure" := fn1 (by decide) rfl rfl (fun _ => rfl)
theorem ap_24_9 : sAp 24 9 := apS1 (by decide) rfl (by decide +kernel)
theorem fn_24_9 : sFin 24 9 true "BalloonStall$Figure" := fn1 (by decide) rfl rfl (fun _ => rfl)
theorem ap_25_0 : sAp 25 0 := apS1 (by decide) rfl (by decide +kernel)
theorem fn_25_0 : sFin 25 0 true "BalloonStall$Guest" := fn1 (by decide) rfl rfl (fun _ => rfl)
theorem ap_25_1 : sAp 25 1 := apS1 (by decide) rfl (by decide +kernel)
theorem fn_25_1 : sFin 25 1 true "BalloonStall$Guest" := fn1 (by decide) rfl rfl (fun _ => rfl)
theorem ap_25_2 : sAp 25 2 := apS1 (by decide) rfl (by decide +kernel)
theorem fn_25_2 : sFin 25 2 true "BalloonStall$Guest" := fn1 (by decide) rfl rfl (fun _ => rfl)
theorem ap_25_3 : sAp 25 3 := apS1 (by decide) rfl (by decide +kernel)
theorem fn_25_3 (own : String) : sFin 25 3 false own := fn1 (by decide) rfl rfl Bool.noConfusion
theorem ap_25_4 : sAp 25 4 := apS1 (by decide) rfl (by decide +kernel)
theorem fn_25_4 (own : String) : sFin 25 4 false own := fn1 (by decide) rfl rfl Bool.noConfusion
theorem ap_25_5 : sAp 25 5 := apS1 (by decide) rfl (by decide +kernel)
theorem fn_25_5 (own : String) : sFin 25 5 false own := fn1 (by decide) rfl rfl Bool.noConfusion
theorem ap_25_6 : sAp 25 6 := apS1 (by decide) rfl (by decide +kernel)
theorem fn_25_6 (own : String) : sFin 25 6 false own := fn1 (by decide) rfl rfl Bool.noConfusion
theorem jc_0 (own : String) : sJc jnw own 0 := ⟨q1263, q102, by decide, by decide, by decide +kernel⟩
theorem pd_0 : (parseMethodDescriptor (sY 0).desc).map (fun d => d.parameters.length) = some 5 := by decide +kernel
theorem jc_1 (own : String) : sJc jnw own 1 := ⟨q1293, q102, by decide, by decide, by decide +kernel⟩
theorem pd_1 : (parseMethodDescriptor (sY 1).desc).map (fun d => d.parameters.length) = some 4 := by decide +kernel
theorem jc_2 (own : String) : sJc jnw own 2 := ⟨q1301, q102, by decide, by decide, by decide +kernel⟩
theorem pd_2 : (parseMethodDescriptor (sY 2).desc).map (fun d => d.parameters.length) = some 8 := by decide +kernel
theorem jc_4 (own : String) : sJc jnw own 4 := ⟨q139, q103, by decide, by decide, by decide +kernel⟩
theorem pd_4 : (parseMethodDescriptor (sY 4).desc).map (fun d => d.parameters.length) = some 0 := by decide +kernel
theorem jc_5 (own : String) : sJc jnw own 5 := ⟨q241, q103, by decide, by decide, by decide +kernel⟩
theorem pd_5 : (parseMethodDescriptor (sY 5).desc).map (fun d => d.parameters.length) = some 3 := by decide +kernel
theorem jc_6 (own : String) : sJc jnw own 6 := ⟨q246, q103, by decide, by decide, by decide +kernel⟩
theorem pd_6 : (parseMethodDescriptor (sY 6).desc).map (fun d => d.parameters.length) = some 3 := by decide +kernel
theorem jc_7 (own : String) : sJc jnw own 7 := ⟨q279, q103, by decide, by decide, by decide +kernel⟩
theorem pd_7 : (parseMethodDescriptor (sY 7).desc).map (fun d => d.parameters.length) = some 5 := by decide +kernel
theorem jc_8 (own : String) : sJc jnw own 8 := ⟨q282, q103, by decide, by decide, by decide +kernel⟩
theorem pd_8 : (parseMethodDescriptor (sY 8).desc).map (fun d => d.parameters.length) = some 1 := by decide +kernel
theorem jc_9 (own : String) : sJc jnw own 9 := ⟨q286, q103, by decide, by decide, by decide +kernel⟩
theorem pd_9 : (parseMethodDescriptor (sY 9).desc).map (fun d => d.parameters.length) = some 1 := by decide +kernel
theorem jc_10 (own : String) : sJc jnw own 10 := ⟨q290, q103, by decide, by decide, by decide +kernel⟩
theorem pd_10 : (parseMethodDescriptor (sY 10).desc).map (fun d => d.parameters.length) = some 1 := by decide +kernel
theorem jc_11 (own : String) : sJc jnw own 11 := ⟨q294, q103, by decide, by decide, by decide +kernel⟩
theorem pd_11 : (parseMethodDescriptor (sY 11).desc).map (fun d => d.parameters.length) = some 1 := by decide +kernel
theorem jc_12 (own : String) : sJc jnw own 12 := ⟨q697, q103, by decide, by decide, by decide +kernel⟩
theorem pd_12 : (parseMethodDescriptor (sY 12).desc).map (fun d => d.parameters.length) = some 0 := by decide +kernel
theorem jc_13 (own : String) : sJc jnw own 13 := ⟨q879, q103, by decide, by decide, by decide +kernel⟩
theorem pd_13 : (parseMethodDescriptor (sY 13).desc).map (fun d => d.parameters.length) = some 1 := by decide +kernel
theorem jc_14 (own : String) : sJc jnw own 14 := ⟨q883, q103, by decide, by decide, by decide +kernel⟩
theorem pd_14 : (parseMethodDescriptor (sY 14).desc).map (fun d => d.parameters.length) = some 2 := by decide +kernel
theorem jc_15 (own : String) : sJc jnw own 15 := ⟨q887, q103, by decide, by decide, by decide +kernel⟩
theorem pd_15 : (parseMethodDescriptor (sY 15).desc).map (fun d => d.parameters.length) = some 1 := by decide +kernel
theorem jc_16 (own : String) : sJc jnw own 16 := ⟨q911, q103, by decide, by decide, by decide +kernel⟩
theorem pd_16 : (parseMethodDescriptor (sY 16).desc).map (fun d => d.parameters.length) = some 2 := by decide +kernel
theorem jc_17 (own : String) : sJc jnw own 17 := ⟨q915, q103, by decide, by decide, by decide +kernel⟩
theorem pd_17 : (parseMethodDescriptor (sY 17).desc).map (fun d => d.parameters.length) = some 2 := by decide +kernel
theorem jc_18 (own : String) : sJc jnw own 18 := ⟨q919, q103, by decide, by decide, by decide +kernel⟩
theorem pd_18 : (parseMethodDescriptor (sY 18).desc).map (fun d => d.parameters.length) = some 2 := by decide +kernel
theorem jc_19 (own : String) : sJc jnw own 19 := ⟨q923, q103, by decide, by decide, by decide +kernel⟩
theorem pd_19 : (parseMethodDescriptor (sY 19).desc).map (fun d => d.parameters.length) = some 2 := by decide +kernel
theorem jc_20 (own : String) : sJc jnw own 20 := ⟨q935, q103, by decide, by decide, by decide +kernel⟩
theorem pd_20 : (parseMethodDescriptor (sY 20).desc).map (fun d => d.parameters.length) = some 2 := by decide +kernel
theorem jc_21 (own : String) : sJc jnw own 21 := ⟨q940, q103, by decide, by decide, by decide +kernel⟩
theorem pd_21 : (parseMethodDescriptor (sY 21).desc).map (fun d => d.parameters.length) = some 1 := by decide +kernel
theorem jc_22 (own : String) : sJc jnw own 22 := ⟨q944, q103, by decide, by decide, by decide +kernel⟩
theorem pd_22 : (parseMethodDescriptor (sY 22).desc).map (fun d => d.parameters.length) = some 2 := by decide +kernel
theorem jc_23 (own : String) : sJc jnw own 23 := ⟨q948, q103, by decide, by decide, by decide +kernel⟩
theorem pd_23 : (parseMethodDescriptor (sY 23).desc).map (fun d => d.parameters.length) = some 2 := by decide +kernel
theorem jc_24 (own : String) : sJc jnw own 24 := ⟨q954, q103, by decide, by decide, by decide +kernel⟩
theorem pd_24 : (parseMethodDescriptor (sY 24).desc).map (fun d => d.parameters.length) = some 1 := by decide +kernel
theorem jc_25 (own : String) : sJc jnw own 25 := ⟨q961, q103, by decide, by decide, by decide +kernel⟩
theorem pd_25 : (parseMethodDescriptor (sY 25).desc).map (fun d => d.parameters.length) = some 3 := by decide +kernel
theorem jc_26 (own : String) : sJc jnw own 26 := ⟨q1004, q103, by decide, by decide, by decide +kernel⟩
theorem pd_26 : (parseMethodDescriptor (sY 26).desc).map (fun d => d.parameters.length) = some 1 := by decide +kernel
theorem jc_27 (own : String) : sJc jnw own 27 := ⟨q1008, q103, by decide, by decide, by decide +kernel⟩
theorem pd_27 : (parseMethodDescriptor (sY 27).desc).map (fun d => d.parameters.length) = some 4 := by decide +kernel
theorem jc_28 (own : String) : sJc jnw own 28 := ⟨q1018, q103, by decide, by decide, by decide +kernel⟩
theorem pd_28 : (parseMethodDescriptor (sY 28).desc).map (fun d => d.parameters.length) = some 2 := by decide +kernel
theorem jc_29 (own : String) : sJc jnw own 29 := ⟨q1022, q103, by decide, by decide, by decide +kernel⟩
theorem pd_29 : (parseMethodDescriptor (sY 29).desc).map (fun d => d.parameters.length) = some 1 := by decide +kernel
theorem jc_30 (own : String) : sJc jnw own 30 := ⟨q1026, q103, by decide, by decide, by decide +kernel⟩
theorem pd_30 : (parseMethodDescriptor (sY 30).desc).map (fun d => d.parameters.length) = some 2 := by decide +kernel
theorem jc_31 (own : String) : sJc jnw own 31 := ⟨q1030, q103, by decide, by decide, by decide +kernel⟩
theorem pd_31 : (parseMethodDescriptor (sY 31).desc).map (fun d => d.parameters.length) = some 4 := by decide +kernel
theorem jc_32 (own : String) : sJc jnw own 32 := ⟨q1034, q103, by decide, by decide, by decide +kernel⟩
theorem pd_32 : (parseMethodDescriptor (sY 32).desc).map (fun d => d.parameters.length) = some 4 := by decide +kernel
theorem jc_33 (own : String) : sJc jnw own 33 := ⟨q1042, q103, by decide, by decide, by decide +kernel⟩
theorem pd_33 : (parseMethodDescriptor (sY 33).desc).map (fun d => d.parameters.length) = some 3 := by decide +kernel
theorem jc_34 (own : String) : sJc jnw own 34 := ⟨q1046, q103, by decide, by decide, by decide +kernel⟩
theorem pd_34 : (parseMethodDescriptor (sY 34).desc).map (fun d => d.parameters.length) = some 3 := by decide +kernel
theorem jc_35 (own : String) : sJc jnw own 35 := ⟨q1050, q103, by decide, by decide, by decide +kernel⟩
theorem pd_35 : (parseMethodDescriptor (sY 35).desc).map (fun d => d.parameters.length) = some 1 := by decide +kernel
theorem jc_36 (own : String) : sJc jnw own 36 := ⟨q1056, q103, by decide, by decide, by decide +kernel⟩
theorem pd_36 : (parseMethodDescriptor (sY 36).desc).map (fun d => d.parameters.length) = some 1 := by decide +kernel
theorem jc_37 (own : String) : sJc jnw own 37 := ⟨q1060, q103, by decide, by decide, by decide +kernel⟩
theorem pd_37 : (parseMethodDescriptor (sY 37).desc).map (fun d => d.parameters.length) = some 1 := by decide +kernel
theorem jc_38 (own : String) : sJc jnw own 38 := ⟨q1075, q103, by decide, by decide, by decide +kernel⟩
theorem pd_38 : (parseMethodDescriptor (sY 38).desc).map (fun d => d.parameters.length) = some 2 := by decide +kernel
theorem jc_39 (own : String) : sJc jnw own 39 := ⟨q1079, q103, by decide, by decide, by decide +kernel⟩
theorem pd_39 : (parseMethodDescriptor (sY 39).desc).map (fun d => d.parameters.length) = some 2 := by decide +kernel
theorem jc_40 (own : String) : sJc jnw own 40 := ⟨q1083, q103, by decide, by decide, by decide +kernel⟩
theorem pd_40 : (parseMethodDescriptor (sY 40).desc).map (fun d => d.parameters.length) = some 1 := by decide +kernel
theorem jc_41 (own : String) : sJc jnw own 41 := ⟨q1087, q103, by decide, by decide, by decide +kernel⟩
theorem pd_41 : (parseMethodDescriptor (sY 41).desc).map (fun d => d.parameters.length) = some 2 := by decide +kernel
theorem jc_42 (own : String) : sJc jnw own 42 := ⟨q1101, q103, by decide, by decide, by decide +kernel⟩
theorem pd_42 : (parseMethodDescriptor (sY 42).desc).map (fun d => d.parameters.length) = some 3 := by decide +kernel
theorem jc_43 (own : String) : sJc jnw own 43 := ⟨q1106, q103, by decide, by decide, by decide +kernel⟩
theorem pd_43 : (parseMethodDescriptor (sY 43).desc).map (fun d => d.parameters.length) = some 1 := by decide +kernel
theorem jc_44 (own : String) : sJc jnw own 44 := ⟨q1110, q103, by decide, by decide, by decide +kernel⟩
theorem pd_44 : (parseMethodDescriptor (sY 44).desc).map (fun d => d.parameters.length) = some 1 := by decide +kernel
theorem jc_45 (own : String) : sJc jnw own 45 := ⟨q1114, q103, by decide, by decide, by decide +kernel⟩
theorem pd_45 : (parseMethodDescriptor (sY 45).desc).map (fun d => d.parameters.length) = some 3 := by decide +kernel
theorem jc_46 (own : String) : sJc jnw own 46 := ⟨q1118, q103, by decide, by decide, by decide +kernel⟩
theorem pd_46 : (parseMethodDescriptor (sY 46).desc).map (fun d => d.parameters.length) = some 2 := by decide +kernel
theorem jc_47 (own : String) : sJc jnw own 47 := ⟨q1122, q103, by decide, by decide, by decide +kernel⟩
theorem pd_47 : (parseMethodDescriptor (sY 47).desc).map (fun d => d.parameters.length) = some 2 := by decide +kernel
theorem jc_48 (own : String) : sJc jnw own 48 := ⟨q1126, q103, by decide, by decide, by decide +kernel⟩
theorem pd_48 : (parseMethodDescriptor (sY 48).desc).map (fun d => d.parameters.length) = some 3 := by decide +kernel
theorem jc_49 (own : String) : sJc jnw own 49 := ⟨q1162, q103, by decide, by decide, by decide +kernel⟩
theorem pd_49 : (parseMethodDescriptor (sY 49).desc).map (fun d => d.parameters.length) = some 0 := by decide +kernel
theorem jc_50 (own : String) : sJc jnw own 50 := ⟨q1166, q103, by decide, by decide, by decide +kernel⟩
theorem pd_50 : (parseMethodDescriptor (sY 50).desc).map (fun d => d.parameters.length) = some 1 := by decide +kernel
theorem jc_51 (own : String) : sJc jnw own 51 := ⟨q1170, q103, by decide, by decide, by decide +kernel⟩
theorem pd_51 : (parseMethodDescriptor (sY 51).desc).map (fun d => d.parameters.length) = some 2 := by decide +kernel
theorem jc_52 (own : String) : sJc jnw own 52 := ⟨q1174, q103, by decide, by decide, by decide +kernel⟩
theorem pd_52 : (parseMethodDescriptor (sY 52).desc).map (fun d => d.parameters.length) = some 1 := by decide +kernel
theorem jc_53 (own : String) : sJc jnw own 53 := ⟨q1178, q103, by decide, by decide, by decide +kernel⟩
theorem pd_53 : (parseMethodDescriptor (sY 53).desc).map (fun d => d.parameters.length) = some 2 := by decide +kernel
theorem jc_54 (own : String) : sJc jnw own 54 := ⟨q1189, q103, by decide, by decide, by decide +kernel⟩
theorem pd_54 : (parseMethodDescriptor (sY 54).desc).map (fun d => d.parameters.length) = some 0 := by decide +kernel
theorem jc_55 (own : String) : sJc jnw own 55 := ⟨q1193, q103, by decide, by decide, by decide +kernel⟩
theorem pd_55 : (parseMethodDescriptor (sY 55).desc).map (fun d => d.parameters.length) = some 4 := by decide +kernel
theorem jc_56 (own : String) : sJc jnw own 56 := ⟨q1197, q103, by decide, by decide, by decide +kernel⟩
theorem pd_56 : (parseMethodDescriptor (sY 56).desc).map (fun d => d.parameters.length) = some 1 := by decide +kernel
theorem jc_57 (own : String) : sJc jnw own 57 := ⟨q1202, q103, by decide, by decide, by decide +kernel⟩
theorem pd_57 : (parseMethodDescriptor (sY 57).desc).map (fun d => d.parameters.length) = some 1 := by decide +kernel
theorem jc_58 (own : String) : sJc jnw own 58 := ⟨q1206, q103, by decide, by decide, by decide +kernel⟩
theorem pd_58 : (parseMethodDescriptor (sY 58).desc).map (fun d => d.parameters.length) = some 3 := by decide +kernel
theorem jc_59 (own : String) : sJc jnw own 59 := ⟨q1211, q103, by decide, by decide, by decide +kernel⟩
theorem pd_59 : (parseMethodDescriptor (sY 59).desc).map (fun d => d.parameters.length) = some 6 := by decide +kernel
theorem jc_60 (own : String) : sJc jnw own 60 := ⟨q1256, q103, by decide, by decide, by decide +kernel⟩
theorem pd_60 : (parseMethodDescriptor (sY 60).desc).map (fun d => d.parameters.length) = some 3 := by decide +kernel
theorem jc_61 (own : String) : sJc jnw own 61 := ⟨q1260, q103, by decide, by decide, by decide +kernel⟩
theorem pd_61 : (parseMethodDescriptor (sY 61).desc).map (fun d => d.parameters.length) = some 1 := by decide +kernel
theorem jc_62 (own : String) : sJc jnw own 62 := ⟨q1268, q103, by decide, by decide, by decide +kernel⟩
theorem pd_62 : (parseMethodDescriptor (sY 62).desc).map (fun d => d.parameters.length) = some 3 := by decide +kernel
theorem jc_63 (own : String) : sJc jnw own 63 := ⟨q1297, q103, by decide, by decide, by decide +kernel⟩
theorem pd_63 : (parseMethodDescriptor (sY 63).desc).map (fun d => d.parameters.length) = some 2 := by decide +kernel
theorem jc_64 (own : String) : sJc jnw own 64 := ⟨q1305, q103, by decide, by decide, by decide +kernel⟩
theorem pd_64 : (parseMethodDescriptor (sY 64).desc).map (fun d => d.parameters.length) = some 6 := by decide +kernel
theorem jc_65 (own : String) : sJc jnw own 65 := ⟨q155, q104, by decide, by decide, by decide +kernel⟩
theorem pd_65 : (parseMethodDescriptor (sY 65).desc).map (fun d => d.parameters.length) = some 0 := by decide +kernel
theorem jc_66 (own : String) : sJc jnw own 66 := ⟨q1310, q105, by decide, by decide, by decide +kernel⟩
theorem pd_66 : (parseMethodDescriptor (sY 66).desc).map (fun d => d.parameters.length) = some 0 := by decide +kernel
theorem jc_67 (own : String) : sJc jnw own 67 := ⟨q1474, q105, by decide, by decide, by decide +kernel⟩
theorem pd_67 : (parseMethodDescriptor (sY 67).desc).map (fun d => d.parameters.length) = some 0 := by decide +kernel
theorem jc_68 (own : String) : sJc jnw own 68 := ⟨q1478, q105, by decide, by decide, by decide +kernel⟩
theorem pd_68 : (parseMethodDescriptor (sY 68).desc).map (fun d => d.parameters.length) = some 3 := by decide +kernel
theorem jc_69 (own : String) : sJc jnw own 69 := ⟨q1481, q105, by decide, by decide, by decide +kernel⟩
theorem pd_69 : (parseMethodDescriptor (sY 69).desc).map (fun d => d.parameters.length) = some 3 := by decide +kernel
theorem jc_70 (own : String) : sJc jnw own 70 := ⟨q1485, q105, by decide, by decide, by decide +kernel⟩
theorem pd_70 : (parseMethodDescriptor (sY 70).desc).map (fun d => d.parameters.length) = some 5 := by decide +kernel
theorem jc_71 (own : String) : sJc jnw own 71 := ⟨q1488, q105, by decide, by decide, by decide +kernel⟩
theorem pd_71 : (parseMethodDescriptor (sY 71).desc).map (fun d => d.parameters.length) = some 6 := by decide +kernel
theorem jc_72 (own : String) : sJc jnw own 72 := ⟨q1492, q105, by decide, by decide, by decide +kernel⟩
theorem pd_72 : (parseMethodDescriptor (sY 72).desc).map (fun d => d.parameters.length) = some 1 := by decide +kernel
theorem jc_73 (own : String) : sJc jnw own 73 := ⟨q1496, q105, by decide, by decide, by decide +kernel⟩
theorem pd_73 : (parseMethodDescriptor (sY 73).desc).map (fun d => d.parameters.length) = some 1 := by decide +kernel
theorem jc_74 (own : String) : sJc jnw own 74 := ⟨q1500, q105, by decide, by decide, by decide +kernel⟩
theorem pd_74 : (parseMethodDescriptor (sY 74).desc).map (fun d => d.parameters.length) = some 1 := by decide +kernel
theorem jc_75 (own : String) : sJc jnw own 75 := ⟨q1504, q105, by decide, by decide, by decide +kernel⟩
theorem pd_75 : (parseMethodDescriptor (sY 75).desc).map (fun d => d.parameters.length) = some 0 := by decide +kernel
theorem jc_76 (own : String) : sJc jnw own 76 := ⟨q1508, q105, by decide, by decide, by decide +kernel⟩
theorem pd_76 : (parseMethodDescriptor (sY 76).desc).map (fun d => d.parameters.length) = some 0 := by decide +kernel
theorem jc_77 (own : String) : sJc jnw own 77 := ⟨q1512, q105, by decide, by decide, by decide +kernel⟩
theorem pd_77 : (parseMethodDescriptor (sY 77).desc).map (fun d => d.parameters.length) = some 0 := by decide +kernel
theorem jc_78 (own : String) : sJc jnw own 78 := ⟨q1516, q105, by decide, by decide, by decide +kernel⟩
theorem pd_78 : (parseMethodDescriptor (sY 78).desc).map (fun d => d.parameters.length) = some 0 := by decide +kernel
theorem jc_79 (own : String) : sJc jnw own 79 := ⟨q1519, q105, by decide, by decide, by decide +kernel⟩
theorem pd_79 : (parseMethodDescriptor (sY 79).desc).map (fun d => d.parameters.length) = some 1 := by decide +kernel
theorem jc_80 (own : String) : sJc jnw own 80 := ⟨q1523, q105, by decide, by decide, by decide +kernel⟩
theorem pd_80 : (parseMethodDescriptor (sY 80).desc).map (fun d => d.parameters.length) = some 0 := by decide +kernel
theorem jc_81 (own : String) : sJc jnw own 81 := ⟨q1527, q105, by decide, by decide, by decide +kernel⟩
theorem pd_81 : (parseMethodDescriptor (sY 81).desc).map (fun d => d.parameters.length) = some 0 := by decide +kernel
theorem jc_82 (own : String) : sJc jnw own 82 := ⟨q1531, q105, by decide, by decide, by decide +kernel⟩
theorem pd_82 : (parseMethodDescriptor (sY 82).desc).map (fun d => d.parameters.length) = some 0 := by decide +kernel
theorem jc_83 (own : String) : sJc jnw own 83 := ⟨q1535, q105, by decide, by decide, by decide +kernel⟩
theorem pd_83 : (parseMethodDescriptor (sY 83).desc).map (fun d => d.parameters.length) = some 0 := by decide +kernel
theorem jc_84 (own : String) : sJc jnw own 84 := ⟨q1539, q105, by decide, by decide, by decide +kernel⟩
theorem pd_84 : (parseMethodDescriptor (sY 84).desc).map (fun d => d.parameters.length) = some 1 := by decide +kernel
theorem jc_85 (own : String) : sJc jnw own 85 := ⟨q1544, q105, by decide, by decide, by decide +kernel⟩
theorem pd_85 : (parseMethodDescriptor (sY 85).desc).map (fun d => d.parameters.length) = some 2 := by decide +kernel
theorem jc_86 (own : String) : sJc jnw own 86 := ⟨q1549, q105, by decide, by decide, by decide +kernel⟩
theorem pd_86 : (parseMethodDescriptor (sY 86).desc).map (fun d => d.parameters.length) = some 0 := by decide +kernel
theorem jc_87 (own : String) : sJc jnw own 87 := ⟨q1553, q105, by decide, by decide, by decide +kernel⟩
theorem pd_87 : (parseMethodDescriptor (sY 87).desc).map (fun d => d.parameters.length) = some 0 := by decide +kernel
theorem jc_88 (own : String) : sJc jnw own 88 := ⟨q1557, q105, by decide, by decide, by decide +kernel⟩
theorem pd_88 : (parseMethodDescriptor (sY 88).desc).map (fun d => d.parameters.length) = some 1 := by decide +kernel
theorem jc_89 (own : String) : sJc jnw own 89 := ⟨q1561, q105, by decide, by decide, by decide +kernel⟩
theorem pd_89 : (parseMethodDescriptor (sY 89).desc).map (fun d => d.parameters.length) = some 0 := by decide +kernel
theorem jc_90 (own : String) : sJc jnw own 90 := ⟨q1565, q105, by decide, by decide, by decide +kernel⟩
theorem pd_90 : (parseMethodDescriptor (sY 90).desc).map (fun d => d.parameters.length) = some 1 := by decide +kernel
theorem jc_91 (own : String) : sJc jnw own 91 := ⟨q1569, q105, by decide, by decide, by decide +kernel⟩
theorem pd_91 : (parseMethodDescriptor (sY 91).desc).map (fun d => d.parameters.length) = some 1 := by decide +kernel
theorem jc_92 (own : String) : sJc jnw own 92 := ⟨q1573, q105, by decide, by decide, by decide +kernel⟩
theorem pd_92 : (parseMethodDescriptor (sY 92).desc).map (fun d => d.parameters.length) = some 1 := by decide +kernel
theorem jc_93 (own : String) : sJc jnw own 93 := ⟨q1577, q105, by decide, by decide, by decide +kernel⟩
theorem pd_93 : (parseMethodDescriptor (sY 93).desc).map (fun d => d.parameters.length) = some 0 := by decide +kernel
theorem jc_94 (own : String) : sJc jnw own 94 := ⟨q1581, q105, by decide, by decide, by decide +kernel⟩
theorem pd_94 : (parseMethodDescriptor (sY 94).desc).map (fun d => d.parameters.length) = some 1 := by decide +kernel
theorem jc_95 (own : String) : sJc jnw own 95 := ⟨q1585, q105, by decide, by decide, by decide +kernel⟩
theorem pd_95 : (parseMethodDescriptor (sY 95).desc).map (fun d => d.parameters.length) = some 1 := by decide +kernel
theorem jc_96 (own : String) : sJc jnw own 96 := ⟨q1589, q105, by decide, by decide, by decide +kernel⟩
theorem pd_96 : (parseMethodDescriptor (sY 96).desc).map (fun d => d.parameters.length) = some 0 := by decide +kernel
theorem jc_97 (own : String) : sJc jnw own 97 := ⟨q1593, q105, by decide, by decide, by decide +kernel⟩
theorem pd_97 : (parseMethodDescriptor (sY 97).desc).map (fun d => d.parameters.length) = some 0 := by decide +kernel
theorem jc_98 (own : String) : sJc jnw own 98 := ⟨q1597, q105, by decide, by decide, by decide +kernel⟩
theorem pd_98 : (parseMethodDescriptor (sY 98).desc).map (fun d => d.parameters.length) = some 0 := by decide +kernel
theorem jc_99 (own : String) : sJc jnw own 99 := ⟨q1600, q105, by decide, by decide, by decide +kernel⟩
theorem pd_99 : (parseMethodDescriptor (sY 99).desc).map (fun d => d.parameters.length) = some 1 := by decide +kernel
theorem jc_100 (own : String) : sJc jnw own 100 := ⟨q1604, q105, by decide, by decide, by decide +kernel⟩
theorem pd_100 : (parseMethodDescriptor (sY 100).desc).map (fun d => d.parameters.length) = some 0 := by decide +kernel
theorem jc_101 (own : String) : sJc jnw own 101 := ⟨q1608, q105, by decide, by decide, by decide +kernel⟩
theorem pd_101 : (parseMethodDescriptor (sY 101).desc).map (fun d => d.parameters.length) = some 0 := by decide +kernel
theorem jc_102 (own : String) : sJc jnw own 102 := ⟨q1612, q105, by decide, by decide, by decide +kernel⟩
theorem pd_102 : (parseMethodDescriptor (sY 102).desc).map (fun d => d.parameters.length) = some 6 := by decide +kernel
theorem jc_103 (own : String) : sJc jnw own 103 := ⟨q1616, q105, by decide, by decide, by decide +kernel⟩
theorem pd_103 : (parseMethodDescriptor (sY 103).desc).map (fun d => d.parameters.length) = some 6 := by decide +kernel
theorem jc_104 (own : String) : sJc jnw own 104 := ⟨q1620, q105, by decide, by decide, by decide +kernel⟩
theorem pd_104 : (parseMethodDescriptor (sY 104).desc).map (fun d => d.parameters.length) = some 8 := by decide +kernel
theorem jc_105 (own : String) : sJc jnw own 105 := ⟨q1623, q105, by decide, by decide, by decide +kernel⟩
theorem pd_105 : (parseMethodDescriptor (sY 105).desc).map (fun d => d.parameters.length) = some 3 := by decide +kernel
theorem jc_106 (own : String) : sJc jnw own 106 := ⟨q1626, q105, by decide, by decide, by decide +kernel⟩
theorem pd_106 : (parseMethodDescriptor (sY 106).desc).map (fun d => d.parameters.length) = some 1 := by decide +kernel
theorem jc_107 (own : String) : sJc jnw own 107 := ⟨q1635, q105, by decide, by decide, by decide +kernel⟩
theorem pd_107 : (parseMethodDescriptor (sY 107).desc).map (fun d => d.parameters.length) = some 2 := by decide +kernel
theorem jc_108 (own : String) : sJc jnw own 108 := ⟨q1639, q105, by decide, by decide, by decide +kernel⟩
theorem pd_108 : (parseMethodDescriptor (sY 108).desc).map (fun d => d.parameters.length) = some 1 := by decide +kernel
theorem jc_109 (own : String) : sJc jnw own 109 := ⟨q1643, q105, by decide, by decide, by decide +kernel⟩
theorem pd_109 : (parseMethodDescriptor (sY 109).desc).map (fun d => d.parameters.length) = some 2 := by decide +kernel
theorem jc_110 (own : String) : sJc jnw own 110 := ⟨q1647, q105, by decide, by decide, by decide +kernel⟩
theorem pd_110 : (parseMethodDescriptor (sY 110).desc).map (fun d => d.parameters.length) = some 2 := by decide +kernel
theorem jc_111 (own : String) : sJc jnw own 111 := ⟨q1651, q105, by decide, by decide, by decide +kernel⟩
theorem pd_111 : (parseMethodDescriptor (sY 111).desc).map (fun d => d.parameters.length) = some 1 := by decide +kernel
theorem jc_112 (own : String) : sJc jnw own 112 := ⟨q1655, q105, by decide, by decide, by decide +kernel⟩
theorem pd_112 : (parseMethodDescriptor (sY 112).desc).map (fun d => d.parameters.length) = some 3 := by decide +kernel
theorem jc_113 (own : String) : sJc jnw own 113 := ⟨q1659, q105, by decide, by decide, by decide +kernel⟩
theorem pd_113 : (parseMethodDescriptor (sY 113).desc).map (fun d => d.parameters.length) = some 2 := by decide +kernel
theorem jc_114 (own : String) : sJc jnw own 114 := ⟨q1663, q105, by decide, by decide, by decide +kernel⟩
theorem pd_114 : (parseMethodDescriptor (sY 114).desc).map (fun d => d.parameters.length) = some 3 := by decide +kernel
theorem jc_115 (own : String) : sJc jnw own 115 := ⟨q1667, q105, by decide, by decide, by decide +kernel⟩
theorem pd_115 : (parseMethodDescriptor (sY 115).desc).map (fun d => d.parameters.length) = some 2 := by decide +kernel
theorem jc_116 (own : String) : sJc jnw own 116 := ⟨q1671, q105, by decide, by decide, by decide +kernel⟩
theorem pd_116 : (parseMethodDescriptor (sY 116).desc).map (fun d => d.parameters.length) = some 2 := by decide +kernel
theorem jc_117 (own : String) : sJc jnw own 117 := ⟨q1675, q105, by decide, by decide, by decide +kernel⟩
theorem pd_117 : (parseMethodDescriptor (sY 117).desc).map (fun d => d.parameters.length) = some 2 := by decide +kernel
theorem jc_118 (own : String) : sJc jnw own 118 := ⟨q1679, q105, by decide, by decide, by decide +kernel⟩
theorem pd_118 : (parseMethodDescriptor (sY 118).desc).map (fun d => d.parameters.length) = some 2 := by decide +kernel
theorem jc_119 (own : String) : sJc jnw own 119 := ⟨q1683, q105, by decide, by decide, by decide +kernel⟩
theorem pd_119 : (parseMethodDescriptor (sY 119).desc).map (fun d => d.parameters.length) = some 2 := by decide +kernel
theorem jc_120 (own : String) : sJc jnw own 120 := ⟨q1687, q105, by decide, by decide, by decide +kernel⟩
theorem pd_120 : (parseMethodDescriptor (sY 120).desc).map (fun d => d.parameters.length) = some 2 := by decide +kernel
theorem jc_121 (own : String) : sJc jnw own 121 := ⟨q1691, q105, by decide, by decide, by decide +kernel⟩
theorem pd_121 : (parseMethodDescriptor (sY 121).desc).map (fun d => d.parameters.length) = some 1 := by decide +kernel
theorem jc_122 (own : String) : sJc jnw own 122 := ⟨q1695, q105, by decide, by decide, by decide +kernel⟩
theorem pd_122 : (parseMethodDescriptor (sY 122).desc).map (fun d => d.parameters.length) = some 2 := by decide +kernel
theorem jc_123 (own : String) : sJc jnw own 123 := ⟨q1699, q105, by decide, by decide, by decide +kernel⟩
theorem pd_123 : (parseMethodDescriptor (sY 123).desc).map (fun d => d.parameters.length) = some 1 := by decide +kernel
theorem jc_124 (own : String) : sJc jnw own 124 := ⟨q1703, q105, by decide, by decide, by decide +kernel⟩
theorem pd_124 : (parseMethodDescriptor (sY 124).desc).map (fun d => d.parameters.length) = some 0 := by decide +kernel
theorem jc_125 (own : String) : sJc jnw own 125 := ⟨q1707, q105, by decide, by decide, by decide +kernel⟩
theorem pd_125 : (parseMethodDescriptor (sY 125).desc).map (fun d => d.parameters.length) = some 4 := by decide +kernel
theorem jc_126 (own : String) : sJc jnw own 126 := ⟨q1711, q105, by decide, by decide, by decide +kernel⟩
theorem pd_126 : (parseMethodDescriptor (sY 126).desc).map (fun d => d.parameters.length) = some 1 := by decide +kernel
theorem jc_127 (own : String) : sJc jnw own 127 := ⟨q1715, q105, by decide, by decide, by decide +kernel⟩
theorem pd_127 : (parseMethodDescriptor (sY 127).desc).map (fun d => d.parameters.length) = some 1 := by decide +kernel
theorem jc_128 (own : String) : sJc jnw own 128 := ⟨q1719, q105, by decide, by decide, by decide +kernel⟩
theorem pd_128 : (parseMethodDescriptor (sY 128).desc).map (fun d => d.parameters.length) = some 4 := by decide +kernel
theorem jc_129 (own : String) : sJc jnw own 129 := ⟨q1723, q105, by decide, by decide, by decide +kernel⟩
theorem pd_129 : (parseMethodDescriptor (sY 129).desc).map (fun d => d.parameters.length) = some 3 := by decide +kernel
theorem jc_130 (own : String) : sJc jnw own 130 := ⟨q1727, q105, by decide, by decide, by decide +kernel⟩
theorem pd_130 : (parseMethodDescriptor (sY 130).desc).map (fun d => d.parameters.length) = some 3 := by decide +kernel
theorem jc_131 (own : String) : sJc jnw own 131 := ⟨q1731, q105, by decide, by decide, by decide +kernel⟩
theorem pd_131 : (parseMethodDescriptor (sY 131).desc).map (fun d => d.parameters.length) = some 2 := by decide +kernel
theorem jc_132 (own : String) : sJc jnw own 132 := ⟨q1736, q105, by decide, by decide, by decide +kernel⟩
theorem pd_132 : (parseMethodDescriptor (sY 132).desc).map (fun d => d.parameters.length) = some 2 := by decide +kernel
theorem jc_133 (own : String) : sJc jnw own 133 := ⟨q1740, q105, by decide, by decide, by decide +kernel⟩
theorem pd_133 : (parseMethodDescriptor (sY 133).desc).map (fun d => d.parameters.length) = some 3 := by decide +kernel
theorem jc_134 (own : String) : sJc jnw own 134 := ⟨q1744, q105, by decide, by decide, by decide +kernel⟩
theorem pd_134 : (parseMethodDescriptor (sY 134).desc).map (fun d => d.parameters.length) = some 1 := by decide +kernel
theorem jc_135 (own : String) : sJc jnw own 135 := ⟨q1749, q105, by decide, by decide, by decide +kernel⟩
theorem pd_135 : (parseMethodDescriptor (sY 135).desc).map (fun d => d.parameters.length) = some 2 := by decide +kernel
theorem jc_136 (own : String) : sJc jnw own 136 := ⟨q1753, q105, by decide, by decide, by decide +kernel⟩
theorem pd_136 : (parseMethodDescriptor (sY 136).desc).map (fun d => d.parameters.length) = some 2 := by decide +kernel
theorem jc_137 (own : String) : sJc jnw own 137 := ⟨q1757, q105, by decide, by decide, by decide +kernel⟩
theorem pd_137 : (parseMethodDescriptor (sY 137).desc).map (fun d => d.parameters.length) = some 2 := by decide +kernel
theorem jc_138 (own : String) : sJc jnw own 138 := ⟨q1761, q105, by decide, by decide, by decide +kernel⟩
theorem pd_138 : (parseMethodDescriptor (sY 138).desc).map (fun d => d.parameters.length) = some 4 := by decide +kernel
theorem jc_139 (own : String) : sJc jnw own 139 := ⟨q1765, q105, by decide, by decide, by decide +kernel⟩
theorem pd_139 : (parseMethodDescriptor (sY 139).desc).map (fun d => d.parameters.length) = some 6 := by decide +kernel
theorem jc_140 (own : String) : sJc jnw own 140 := ⟨q1769, q105, by decide, by decide, by decide +kernel⟩
theorem pd_140 : (parseMethodDescriptor (sY 140).desc).map (fun d => d.parameters.length) = some 4 := by decide +kernel
theorem jc_141 (own : String) : sJc jnw own 141 := ⟨q1773, q105, by decide, by decide, by decide +kernel⟩
theorem pd_141 : (parseMethodDescriptor (sY 141).desc).map (fun d => d.parameters.length) = some 3 := by decide +kernel
theorem jc_142 (own : String) : sJc jnw own 142 := ⟨q1777, q105, by decide, by decide, by decide +kernel⟩
theorem pd_142 : (parseMethodDescriptor (sY 142).desc).map (fun d => d.parameters.length) = some 3 := by decide +kernel
theorem jc_143 (own : String) : sJc jnw own 143 := ⟨q1781, q105, by decide, by decide, by decide +kernel⟩
theorem pd_143 : (parseMethodDescriptor (sY 143).desc).map (fun d => d.parameters.length) = some 1 := by decide +kernel
theorem jc_144 (own : String) : sJc jnw own 144 := ⟨q1786, q105, by decide, by decide, by decide +kernel⟩
theorem pd_144 : (parseMethodDescriptor (sY 144).desc).map (fun d => d.parameters.length) = some 1 := by decide +kernel
theorem jc_145 (own : String) : sJc jnw own 145 := ⟨q1790, q105, by decide, by decide, by decide +kernel⟩
theorem pd_145 : (parseMethodDescriptor (sY 145).desc).map (fun d => d.parameters.length) = some 1 := by decide +kernel
theorem jc_146 (own : String) : sJc jnw own 146 := ⟨q1794, q105, by decide, by decide, by decide +kernel⟩
theorem pd_146 : (parseMethodDescriptor (sY 146).desc).map (fun d => d.parameters.length) = some 2 := by decide +kernel
theorem jc_147 (own : String) : sJc jnw own 147 := ⟨q1798, q105, by decide, by decide, by decide +kernel⟩
theorem pd_147 : (parseMethodDescriptor (sY 147).desc).map (fun d => d.parameters.length) = some 2 := by decide +kernel
theorem jc_148 (own : String) : sJc jnw own 148 := ⟨q1802, q105, by decide, by decide, by decide +kernel⟩
theorem pd_148 : (parseMethodDescriptor (sY 148).desc).map (fun d => d.parameters.length) = some 2 := by decide +kernel
theorem jc_149 (own : String) : sJc jnw own 149 := ⟨q1806, q105, by decide, by decide, by decide +kernel⟩
theorem pd_149 : (parseMethodDescriptor (sY 149).desc).map (fun d => d.parameters.length) = some 1 := by decide +kernel
theorem jc_150 (own : String) : sJc jnw own 150 := ⟨q1810, q105, by decide, by decide, by decide +kernel⟩
theorem pd_150 : (parseMethodDescriptor (sY 150).desc).map (fun d => d.parameters.length) = some 2 := by decide +kernel
theorem jc_151 (own : String) : sJc jnw own 151 := ⟨q1814, q105, by decide, by decide, by decide +kernel⟩
theorem pd_151 : (parseMethodDescriptor (sY 151).desc).map (fun d => d.parameters.length) = some 3 := by decide +kernel
theorem jc_152 (own : String) : sJc jnw own 152 := ⟨q1818, q105, by decide, by decide, by decide +kernel⟩
theorem pd_152 : (parseMethodDescriptor (sY 152).desc).map (fun d => d.parameters.length) = some 3 := by decide +kernel
theorem jc_153 (own : String) : sJc jnw own 153 := ⟨q1822, q105, by decide, by decide, by decide +kernel⟩
theorem pd_153 : (parseMethodDescriptor (sY 153).desc).map (fun d => d.parameters.length) = some 1 := by decide +kernel
theorem jc_154 (own : String) : sJc jnw own 154 := ⟨q1826, q105, by decide, by decide, by decide +kernel⟩
theorem pd_154 : (parseMethodDescriptor (sY 154).desc).map (fun d => d.parameters.length) = some 3 := by decide +kernel
theorem jc_155 (own : String) : sJc jnw own 155 := ⟨q1831, q105, by decide, by decide, by decide +kernel⟩
theorem pd_155 : (parseMethodDescriptor (sY 155).desc).map (fun d => d.parameters.length) = some 2 := by decide +kernel
theorem jc_156 (own : String) : sJc jnw own 156 := ⟨q1835, q105, by decide, by decide, by decide +kernel⟩
theorem pd_156 : (parseMethodDescriptor (sY 156).desc).map (fun d => d.parameters.length) = some 2 := by decide +kernel
theorem jc_157 (own : String) : sJc jnw own 157 := ⟨q1839, q105, by decide, by decide, by decide +kernel⟩
theorem pd_157 : (parseMethodDescriptor (sY 157).desc).map (fun d => d.parameters.length) = some 3 := by decide +kernel
theorem jc_158 (own : String) : sJc jnw own 158 := ⟨q1843, q105, by decide, by decide, by decide +kernel⟩
theorem pd_158 : (parseMethodDescriptor (sY 158).desc).map (fun d => d.parameters.length) = some 0 := by decide +kernel
theorem jc_159 (own : String) : sJc jnw own 159 := ⟨q1847, q105, by decide, by decide, by decide +kernel⟩
theorem pd_159 : (parseMethodDescriptor (sY 159).desc).map (fun d => d.parameters.length) = some 1 := by decide +kernel
theorem jc_160 (own : String) : sJc jnw own 160 := ⟨q1851, q105, by decide, by decide, by decide +kernel⟩
theorem pd_160 : (parseMethodDescriptor (sY 160).desc).map (fun d => d.parameters.length) = some 1 := by decide +kernel
theorem jc_161 (own : String) : sJc jnw own 161 := ⟨q1855, q105, by decide, by decide, by decide +kernel⟩
theorem pd_161 : (parseMethodDescriptor (sY 161).desc).map (fun d => d.parameters.length) = some 2 := by decide +kernel
theorem jc_162 (own : String) : sJc jnw own 162 := ⟨q1862, q105, by decide, by decide, by decide +kernel⟩
theorem pd_162 : (parseMethodDescriptor (sY 162).desc).map (fun d => d.parameters.length) = some 2 := by decide +kernel
theorem jc_163 (own : String) : sJc jnw own 163 := ⟨q1866, q105, by decide, by decide, by decide +kernel⟩
theorem pd_163 : (parseMethodDescriptor (sY 163).desc).map (fun d => d.parameters.length) = some 4 := by decide +kernel
theorem jc_164 (own : String) : sJc jnw own 164 := ⟨q1870, q105, by decide, by decide, by decide +kernel⟩
theorem pd_164 : (parseMethodDescriptor (sY 164).desc).map (fun d => d.parameters.length) = some 1 := by decide +kernel
theorem jc_165 (own : String) : sJc jnw own 165 := ⟨q1874, q105, by decide, by decide, by decide +kernel⟩
theorem pd_165 : (parseMethodDescriptor (sY 165).desc).map (fun d => d.parameters.length) = some 3 := by decide +kernel
theorem jc_166 (own : String) : sJc jnw own 166 := ⟨q1878, q105, by decide, by decide, by decide +kernel⟩
theorem pd_166 : (parseMethodDescriptor (sY 166).desc).map (fun d => d.parameters.length) = some 3 := by decide +kernel
theorem jc_167 (own : String) : sJc jnw own 167 := ⟨q1882, q105, by decide, by decide, by decide +kernel⟩
theorem pd_167 : (parseMethodDescriptor (sY 167).desc).map (fun d => d.parameters.length) = some 1 := by decide +kernel
theorem jc_168 (own : String) : sJc jnw own 168 := ⟨q252, q106, by decide, by decide, by decide +kernel⟩
theorem pd_168 : (parseMethodDescriptor (sY 168).desc).map (fun d => d.parameters.length) = some 3 := by decide +kernel
theorem jc_169 (own : String) : sJc jnw own 169 := ⟨q931, q106, by decide, by decide, by decide +kernel⟩
theorem pd_169 : (parseMethodDescriptor (sY 169).desc).map (fun d => d.parameters.length) = some 1 := by decide +kernel
theorem jc_170 (own : String) : sJc jnw own 170 := ⟨q341, q107, by decide, by decide, by decide +kernel⟩
theorem pd_170 : (parseMethodDescriptor (sY 170).desc).map (fun d => d.parameters.length) = some 0 := by decide +kernel
theorem jc_171 (own : String) : sJc jnw own 171 := ⟨q347, q107, by decide, by decide, by decide +kernel⟩
theorem pd_171 : (parseMethodDescriptor (sY 171).desc).map (fun d => d.parameters.length) = some 0 := by decide +kernel
theorem jc_172 (own : String) : sJc jnw own 172 := ⟨q353, q107, by decide, by decide, by decide +kernel⟩
theorem pd_172 : (parseMethodDescriptor (sY 172).desc).map (fun d => d.parameters.length) = some 1 := by decide +kernel
theorem jc_173 (own : String) : sJc jnw own 173 := ⟨q467, q107, by decide, by decide, by decide +kernel⟩
theorem pd_173 : (parseMethodDescriptor (sY 173).desc).map (fun d => d.parameters.length) = some 0 := by decide +kernel
theorem jc_174 (own : String) : sJc jnw own 174 := ⟨q484, q107, by decide, by decide, by decide +kernel⟩
theorem pd_174 : (parseMethodDescriptor (sY 174).desc).map (fun d => d.parameters.length) = some 0 := by decide +kernel
theorem jc_175 (own : String) : sJc jnw own 175 := ⟨q491, q107, by decide, by decide, by decide +kernel⟩
theorem pd_175 : (parseMethodDescriptor (sY 175).desc).map (fun d => d.parameters.length) = some 1 := by decide +kernel
theorem jc_176 (own : String) : sJc jnw own 176 := ⟨q576, q107, by decide, by decide, by decide +kernel⟩
theorem pd_176 : (parseMethodDescriptor (sY 176).desc).map (fun d => d.parameters.length) = some 0 := by decide +kernel
theorem jc_177 (own : String) : sJc jnw own 177 := ⟨q331, q108, by decide, by decide, by decide +kernel⟩
theorem pd_177 : (parseMethodDescriptor (sY 177).desc).map (fun d => d.parameters.length) = some 0 := by decide +kernel
theorem jc_178 (own : String) : sJc jnw own 178 := ⟨q335, q108, by decide, by decide, by decide +kernel⟩
theorem pd_178 : (parseMethodDescriptor (sY 178).desc).map (fun d => d.parameters.length) = some 0 := by decide +kernel
theorem jc_179 (own : String) : sJc jnw own 179 := ⟨q428, q108, by decide, by decide, by decide +kernel⟩
theorem pd_179 : (parseMethodDescriptor (sY 179).desc).map (fun d => d.parameters.length) = some 0 := by decide +kernel
theorem jc_180 (own : String) : sJc jnw own 180 := ⟨q432, q108, by decide, by decide, by decide +kernel⟩
theorem pd_180 : (parseMethodDescriptor (sY 180).desc).map (fun d => d.parameters.length) = some 0 := by decide +kernel
theorem jc_181 (own : String) : sJc jnw own 181 := ⟨q436, q108, by decide, by decide, by decide +kernel⟩
theorem pd_181 : (parseMethodDescriptor (sY 181).desc).map (fun d => d.parameters.length) = some 1 := by decide +kernel
theorem jc_182 (own : String) : sJc jnw own 182 := ⟨q461, q108, by decide, by decide, by decide +kernel⟩
theorem pd_182 : (parseMethodDescriptor (sY 182).desc).map (fun d => d.parameters.length) = some 0 := by decide +kernel
theorem jc_183 (own : String) : sJc jnw own 183 := ⟨q446, q113, by decide, by decide, by decide +kernel⟩
theorem pd_183 : (parseMethodDescriptor (sY 183).desc).map (fun d => d.parameters.length) = some 0 := by decide +kernel
theorem jc_184 (own : String) : sJc jnw own 184 := ⟨q762, q113, by decide, by decide, by decide +kernel⟩
theorem pd_184 : (parseMethodDescriptor (sY 184).desc).map (fun d => d.parameters.length) = some 1 := by decide +kernel
theorem jc_185 (own : String) : sJc jnw own 185 := ⟨q506, q114, by decide, by decide, by decide +kernel⟩
theorem pd_185 : (parseMethodDescriptor (sY 185).desc).map (fun d => d.parameters.length) = some 2 := by decide +kernel
theorem jc_186 (own : String) : sJc jnw own 186 := ⟨q798, q114, by decide, by decide, by decide +kernel⟩
theorem pd_186 : (parseMethodDescriptor (sY 186).desc).map (fun d => d.parameters.length) = some 1 := by decide +kernel
theorem jc_187 (own : String) : sJc jnw own 187 := ⟨q443, q115, by decide, by decide, by decide +kernel⟩
theorem pd_187 : (parseMethodDescriptor (sY 187).desc).map (fun d => d.parameters.length) = some 1 := by decide +kernel
theorem jc_188 (own : String) : sJc jnw own 188 := ⟨q806, q115, by decide, by decide, by decide +kernel⟩
theorem pd_188 : (parseMethodDescriptor (sY 188).desc).map (fun d => d.parameters.length) = some 1 := by decide +kernel
theorem jc_189 (own : String) : sJc jnw own 189 := ⟨q472, q116, by decide, by decide, by decide +kernel⟩
theorem pd_189 : (parseMethodDescriptor (sY 189).desc).map (fun d => d.parameters.length) = some 1 := by decide +kernel
theorem jc_190 (own : String) : sJc jnw own 190 := ⟨q768, q116, by decide, by decide, by decide +kernel⟩
theorem pd_190 : (parseMethodDescriptor (sY 190).desc).map (fun d => d.parameters.length) = some 1 := by decide +kernel
theorem jc_191 (own : String) : sJc jnw own 191 := ⟨q497, q117, by decide, by decide, by decide +kernel⟩
theorem pd_191 : (parseMethodDescriptor (sY 191).desc).map (fun d => d.parameters.length) = some 1 := by decide +kernel
theorem jc_192 (own : String) : sJc jnw own 192 := ⟨q816, q117, by decide, by decide, by decide +kernel⟩
theorem pd_192 : (parseMethodDescriptor (sY 192).desc).map (fun d => d.parameters.length) = some 1 := by decide +kernel
theorem jc_193 (own : String) : sJc jnw own 193 := ⟨q532, q118, by decide, by decide, by decide +kernel⟩
theorem pd_193 : (parseMethodDescriptor (sY 193).desc).map (fun d => d.parameters.length) = some 0 := by decide +kernel
theorem jc_194 (own : String) : sJc jnw own 194 := ⟨q536, q118, by decide, by decide, by decide +kernel⟩
theorem pd_194 : (parseMethodDescriptor (sY 194).desc).map (fun d => d.parameters.length) = some 0 := by decide +kernel
theorem jc_195 (own : String) : sJc jnw own 195 := ⟨q546, q118, by decide, by decide, by decide +kernel⟩
theorem pd_195 : (parseMethodDescriptor (sY 195).desc).map (fun d => d.parameters.length) = some 1 := by decide +kernel
theorem jc_196 (own : String) : sJc jnw own 196 := ⟨q550, q118, by decide, by decide, by decide +kernel⟩
theorem pd_196 : (parseMethodDescriptor (sY 196).desc).map (fun d => d.parameters.length) = some 1 := by decide +kernel
theorem jc_197 (own : String) : sJc jnw own 197 := ⟨q554, q118, by decide, by decide, by decide +kernel⟩
theorem pd_197 : (parseMethodDescriptor (sY 197).desc).map (fun d => d.parameters.length) = some 0 := by decide +kernel
theorem jc_198 (own : String) : sJc jnw own 198 := ⟨q583, q118, by decide, by decide, by decide +kernel⟩
theorem pd_198 : (parseMethodDescriptor (sY 198).desc).map (fun d => d.parameters.length) = some 0 := by decide +kernel
theorem jc_199 (own : String) : sJc jnw own 199 := ⟨q587, q118, by decide, by decide, by decide +kernel⟩
theorem pd_199 : (parseMethodDescriptor (sY 199).desc).map (fun d => d.parameters.length) = some 0 := by decide +kernel
theorem jc_200 (own : String) : sJc jnw own 200 := ⟨q591, q118, by decide, by decide, by decide +kernel⟩
theorem pd_200 : (parseMethodDescriptor (sY 200).desc).map (fun d => d.parameters.length) = some 0 := by decide +kernel
theorem jc_201 (own : String) : sJc jnw own 201 := ⟨q637, q118, by decide, by decide, by decide +kernel⟩
theorem pd_201 : (parseMethodDescriptor (sY 201).desc).map (fun d => d.parameters.length) = some 1 := by decide +kernel
theorem jc_202 (own : String) : sJc jnw own 202 := ⟨q673, q118, by decide, by decide, by decide +kernel⟩
theorem pd_202 : (parseMethodDescriptor (sY 202).desc).map (fun d => d.parameters.length) = some 1 := by decide +kernel
theorem jc_203 (own : String) : sJc jnw own 203 := ⟨q565, q119, by decide, by decide, by decide +kernel⟩
theorem pd_203 : (parseMethodDescriptor (sY 203).desc).map (fun d => d.parameters.length) = some 0 := by decide +kernel
theorem jc_204 (own : String) : sJc jnw own 204 := ⟨q562, q120, by decide, by decide, by decide +kernel⟩
theorem pd_204 : (parseMethodDescriptor (sY 204).desc).map (fun d => d.parameters.length) = some 1 := by decide +kernel
theorem jc_205 (own : String) : sJc jnw own 205 := ⟨q1247, q120, by decide, by decide, by decide +kernel⟩
theorem pd_205 : (parseMethodDescriptor (sY 205).desc).map (fun d => d.parameters.length) = some 1 := by decide +kernel
theorem jc_206 (own : String) : sJc jnw own 206 := ⟨q599, q121, by decide, by decide, by decide +kernel⟩
theorem pd_206 : (parseMethodDescriptor (sY 206).desc).map (fun d => d.parameters.length) = some 0 := by decide +kernel
theorem jc_207 (own : String) : sJc jnw own 207 := ⟨q596, q122, by decide, by decide, by decide +kernel⟩
theorem pd_207 : (parseMethodDescriptor (sY 207).desc).map (fun d => d.parameters.length) = some 1 := by decide +kernel
theorem jc_208 (own : String) : sJc jnw own 208 := ⟨q1230, q122, by decide, by decide, by decide +kernel⟩
theorem pd_208 : (parseMethodDescriptor (sY 208).desc).map (fun d => d.parameters.length) = some 1 := by decide +kernel
theorem jc_209 (own : String) : sJc jnw own 209 := ⟨q612, q123, by decide, by decide, by decide +kernel⟩
theorem pd_209 : (parseMethodDescriptor (sY 209).desc).map (fun d => d.parameters.length) = some 1 := by decide +kernel
theorem jc_210 (own : String) : sJc jnw own 210 := ⟨q1236, q123, by decide, by decide, by decide +kernel⟩
theorem pd_210 : (parseMethodDescriptor (sY 210).desc).map (fun d => d.parameters.length) = some 1 := by decide +kernel
theorem jc_211 (own : String) : sJc jnw own 211 := ⟨q622, q124, by decide, by decide, by decide +kernel⟩
theorem pd_211 : (parseMethodDescriptor (sY 211).desc).map (fun d => d.parameters.length) = some 3 := by decide +kernel
theorem jc_212 (own : String) : sJc jnw own 212 := ⟨q1233, q124, by decide, by decide, by decide +kernel⟩
theorem pd_212 : (parseMethodDescriptor (sY 212).desc).map (fun d => d.parameters.length) = some 1 := by decide +kernel
theorem jc_213 (own : String) : sJc jnw own 213 := ⟨q642, q125, by decide, by decide, by decide +kernel⟩
theorem pd_213 : (parseMethodDescriptor (sY 213).desc).map (fun d => d.parameters.length) = some 3 := by decide +kernel
theorem jc_214 (own : String) : sJc jnw own 214 := ⟨q1224, q125, by decide, by decide, by decide +kernel⟩
theorem pd_214 : (parseMethodDescriptor (sY 214).desc).map (fun d => d.parameters.length) = some 1 := by decide +kernel
theorem jc_215 (own : String) : sJc jnw own 215 := ⟨q658, q126, by decide, by decide, by decide +kernel⟩
theorem pd_215 : (parseMethodDescriptor (sY 215).desc).map (fun d => d.parameters.length) = some 3 := by decide +kernel
theorem jc_216 (own : String) : sJc jnw own 216 := ⟨q1221, q126, by decide, by decide, by decide +kernel⟩
theorem pd_216 : (parseMethodDescriptor (sY 216).desc).map (fun d => d.parameters.length) = some 1 := by decide +kernel
theorem jc_217 (own : String) : sJc jnw own 217 := ⟨q678, q127, by decide, by decide, by decide +kernel⟩
theorem pd_217 : (parseMethodDescriptor (sY 217).desc).map (fun d => d.parameters.length) = some 2 := by decide +kernel
theorem jc_218 (own : String) : sJc jnw own 218 := ⟨q1215, q127, by decide, by decide, by decide +kernel⟩
theorem pd_218 : (parseMethodDescriptor (sY 218).desc).map (fun d => d.parameters.length) = some 1 := by decide +kernel
theorem jc_219 (own : String) : sJc jnw own 219 := ⟨q702, q129, by decide, by decide, by decide +kernel⟩
theorem pd_219 : (parseMethodDescriptor (sY 219).desc).map (fun d => d.parameters.length) = some 0 := by decide +kernel
theorem jc_220 (own : String) : sJc jnw own 220 := ⟨q772, q129, by decide, by decide, by decide +kernel⟩
theorem pd_220 : (parseMethodDescriptor (sY 220).desc).map (fun d => d.parameters.length) = some 1 := by decide +kernel
theorem jc_221 (own : String) : sJc jnw own 221 := ⟨q776, q129, by decide, by decide, by decide +kernel⟩
theorem pd_221 : (parseMethodDescriptor (sY 221).desc).map (fun d => d.parameters.length) = some 0 := by decide +kernel
theorem jc_222 (own : String) : sJc jnw own 222 := ⟨q780, q129, by decide, by decide, by decide +kernel⟩
theorem pd_222 : (parseMethodDescriptor (sY 222).desc).map (fun d => d.parameters.length) = some 4 := by decide +kernel
theorem jc_223 (own : String) : sJc jnw own 223 := ⟨q784, q129, by decide, by decide, by decide +kernel⟩
theorem pd_223 : (parseMethodDescriptor (sY 223).desc).map (fun d => d.parameters.length) = some 0 := by decide +kernel
theorem jc_224 (own : String) : sJc jnw own 224 := ⟨q788, q129, by decide, by decide, by decide +kernel⟩
theorem pd_224 : (parseMethodDescriptor (sY 224).desc).map (fun d => d.parameters.length) = some 1 := by decide +kernel
theorem jc_225 (own : String) : sJc jnw own 225 := ⟨q792, q129, by decide, by decide, by decide +kernel⟩
theorem pd_225 : (parseMethodDescriptor (sY 225).desc).map (fun d => d.parameters.length) = some 1 := by decide +kernel
theorem jc_226 (own : String) : sJc jnw own 226 := ⟨q802, q129, by decide, by decide, by decide +kernel⟩
theorem pd_226 : (parseMethodDescriptor (sY 226).desc).map (fun d => d.parameters.length) = some 1 := by decide +kernel
theorem jc_227 (own : String) : sJc jnw own 227 := ⟨q810, q129, by decide, by decide, by decide +kernel⟩
theorem pd_227 : (parseMethodDescriptor (sY 227).desc).map (fun d => d.parameters.length) = some 2 := by decide +kernel
theorem jc_228 (own : String) : sJc jnw own 228 := ⟨q1013, q129, by decide, by decide, by decide +kernel⟩
theorem pd_228 : (parseMethodDescriptor (sY 228).desc).map (fun d => d.parameters.length) = some 2 := by decide +kernel
theorem jc_229 (own : String) : sJc jnw own 229 := ⟨q822, q130, by decide, by decide, by decide +kernel⟩
theorem pd_229 : (parseMethodDescriptor (sY 229).desc).map (fun d => d.parameters.length) = some 1 := by decide +kernel
theorem jc_230 (own : String) : sJc jnw own 230 := ⟨q891, q130, by decide, by decide, by decide +kernel⟩
theorem pd_230 : (parseMethodDescriptor (sY 230).desc).map (fun d => d.parameters.length) = some 0 := by decide +kernel
theorem jc_231 (own : String) : sJc jnw own 231 := ⟨q895, q130, by decide, by decide, by decide +kernel⟩
theorem pd_231 : (parseMethodDescriptor (sY 231).desc).map (fun d => d.parameters.length) = some 1 := by decide +kernel
theorem jc_232 (own : String) : sJc jnw own 232 := ⟨q899, q130, by decide, by decide, by decide +kernel⟩
theorem pd_232 : (parseMethodDescriptor (sY 232).desc).map (fun d => d.parameters.length) = some 0 := by decide +kernel
theorem jc_233 (own : String) : sJc jnw own 233 := ⟨q903, q130, by decide, by decide, by decide +kernel⟩
theorem pd_233 : (parseMethodDescriptor (sY 233).desc).map (fun d => d.parameters.length) = some 1 := by decide +kernel
theorem jc_234 (own : String) : sJc jnw own 234 := ⟨q907, q130, by decide, by decide, by decide +kernel⟩
theorem pd_234 : (parseMethodDescriptor (sY 234).desc).map (fun d => d.parameters.length) = some 0 := by decide +kernel
theorem jc_235 (own : String) : sJc jnw own 235 := ⟨q927, q130, by decide, by decide, by decide +kernel⟩
theorem pd_235 : (parseMethodDescriptor (sY 235).desc).map (fun d => d.parameters.length) = some 3 := by decide +kernel
theorem jc_236 (own : String) : sJc jnw own 236 := ⟨q966, q130, by decide, by decide, by decide +kernel⟩
theorem pd_236 : (parseMethodDescriptor (sY 236).desc).map (fun d => d.parameters.length) = some 1 := by decide +kernel
theorem jc_237 (own : String) : sJc jnw own 237 := ⟨q970, q130, by decide, by decide, by decide +kernel⟩
theorem pd_237 : (parseMethodDescriptor (sY 237).desc).map (fun d => d.parameters.length) = some 1 := by decide +kernel
theorem jc_238 (own : String) : sJc jnw own 238 := ⟨q974, q130, by decide, by decide, by decide +kernel⟩
theorem pd_238 : (parseMethodDescriptor (sY 238).desc).map (fun d => d.parameters.length) = some 2 := by decide +kernel
theorem jc_239 (own : String) : sJc jnw own 239 := ⟨q984, q130, by decide, by decide, by decide +kernel⟩
theorem pd_239 : (parseMethodDescriptor (sY 239).desc).map (fun d => d.parameters.length) = some 0 := by decide +kernel
theorem jc_240 (own : String) : sJc jnw own 240 := ⟨q988, q130, by decide, by decide, by decide +kernel⟩
theorem pd_240 : (parseMethodDescriptor (sY 240).desc).map (fun d => d.parameters.length) = some 1 := by decide +kernel
theorem jc_241 (own : String) : sJc jnw own 241 := ⟨q996, q130, by decide, by decide, by decide +kernel⟩
theorem pd_241 : (parseMethodDescriptor (sY 241).desc).map (fun d => d.parameters.length) = some 2 := by decide +kernel
theorem jc_242 (own : String) : sJc jnw own 242 := ⟨q1000, q130, by decide, by decide, by decide +kernel⟩
theorem pd_242 : (parseMethodDescriptor (sY 242).desc).map (fun d => d.parameters.length) = some 2 := by decide +kernel
theorem jc_243 (own : String) : sJc jnw own 243 := ⟨q1038, q130, by decide, by decide, by decide +kernel⟩
theorem pd_243 : (parseMethodDescriptor (sY 243).desc).map (fun d => d.parameters.length) = some 3 := by decide +kernel
theorem jc_244 (own : String) : sJc jnw own 244 := ⟨q1064, q130, by decide, by decide, by decide +kernel⟩
theorem pd_244 : (parseMethodDescriptor (sY 244).desc).map (fun d => d.parameters.length) = some 0 := by decide +kernel
theorem jc_245 (own : String) : sJc jnw own 245 := ⟨q1069, q130, by decide, by decide, by decide +kernel⟩
theorem pd_245 : (parseMethodDescriptor (sY 245).desc).map (fun d => d.parameters.length) = some 1 := by decide +kernel
theorem jc_246 (own : String) : sJc jnw own 246 := ⟨q1091, q130, by decide, by decide, by decide +kernel⟩
theorem pd_246 : (parseMethodDescriptor (sY 246).desc).map (fun d => d.parameters.length) = some 1 := by decide +kernel
theorem jc_247 (own : String) : sJc jnw own 247 := ⟨q1096, q130, by decide, by decide, by decide +kernel⟩
theorem pd_247 : (parseMethodDescriptor (sY 247).desc).map (fun d => d.parameters.length) = some 1 := by decide +kernel
theorem jc_248 (own : String) : sJc jnw own 248 := ⟨q1182, q130, by decide, by decide, by decide +kernel⟩
theorem pd_248 : (parseMethodDescriptor (sY 248).desc).map (fun d => d.parameters.length) = some 1 := by decide +kernel
theorem jc_249 (own : String) : sJc jnw own 249 := ⟨q1132, q134, by decide, by decide, by decide +kernel⟩
theorem pd_249 : (parseMethodDescriptor (sY 249).desc).map (fun d => d.parameters.length) = some 3 := by decide +kernel
theorem jc_254 (own : String) : sJc jnw own 254 := ⟨q977, q133, by decide, by decide, by decide +kernel⟩
theorem pd_254 : (parseMethodDescriptor (sY 254).desc).map (fun d => d.parameters.length) = some 1 := by decide +kernel
theorem jc_255 (own : String) : sJc jnw own 255 := ⟨q991, q133, by decide, by decide, by decide +kernel⟩
theorem pd_255 : (parseMethodDescriptor (sY 255).desc).map (fun d => d.parameters.length) = some 1 := by decide +kernel
theorem jc_256 (own : String) : sJc jnw own 256 := ⟨q396, q112, by decide, by decide, by decide +kernel⟩
theorem pd_256 : (parseMethodDescriptor (sY 256).desc).map (fun d => d.parameters.length) = some 1 := by decide +kernel
theorem jc_257 (own : String) : sJc jnw own 257 := ⟨q399, q111, by decide, by decide, by decide +kernel⟩
theorem pd_257 : (parseMethodDescriptor (sY 257).desc).map (fun d => d.parameters.length) = some 4 := by decide +kernel
theorem jc_258 (own : String) : sJc jnw own 258 := ⟨q402, q110, by decide, by decide, by decide +kernel⟩
theorem pd_258 : (parseMethodDescriptor (sY 258).desc).map (fun d => d.parameters.length) = some 4 := by decide +kernel
theorem js_0 : ∀ c r, pok 1 c = true → sCl c = some r → Cond.selects r.1 ⟨"BalloonStall", "bubble", "(III)I"⟩ ⟨"BalloonStall", "bubble", "(III)I"⟩ ∈ lw_all := sl1 (by decide) rfl q1267
theorem js_1 : ∀ c r, pok 1 c = true → sCl c = some r → Cond.selects r.1 ⟨"BalloonStall", "guest", "(II)I"⟩ ⟨"BalloonStall", "guest", "(II)I"⟩ ∈ lw_all := sl1 (by decide) rfl q1296
theorem js_2 : ∀ c r, pok 1 c = true → sCl c = some r → Cond.selects r.1 ⟨"BalloonStall", "worth", "(IIIIII)I"⟩ ⟨"BalloonStall", "worth", "(IIIIII)I"⟩ ∈ lw_all := sl1 (by decide) rfl q1304
theorem js_3 : ∀ c r, pok 1 c = true → sCl c = some r → Cond.selects r.1 ⟨"BalloonStall", "sort", "(III)I"⟩ ⟨"BalloonStall", "sort", "(III)I"⟩ ∈ lw_all := sl1 (by decide) rfl q240
theorem js_4 : ∀ c r, pok 3 c = true → sCl c = some r → Cond.selects r.1 ⟨"BalloonStallModel", "sort", "(III)I"⟩ ⟨"BalloonStallModel", "sort", "(III)I"⟩ ∈ lw_all := sl1 (by decide) rfl q1477
theorem js_5 : ∀ c r, pok 1 c = true → sCl c = some r → Cond.selects r.1 ⟨"BalloonStall", "feed", "(IIIII)I"⟩ ⟨"BalloonStall", "feed", "(IIIII)I"⟩ ∈ lw_all := sl1 (by decide) rfl q278
theorem js_6 : ∀ c r, pok 3 c = true → sCl c = some r → Cond.selects r.1 ⟨"BalloonStallModel", "feed", "(IIIII)I"⟩ ⟨"BalloonStallModel", "feed", "(IIIII)I"⟩ ∈ lw_all := sl1 (by decide) rfl q1484
theorem js_7 : ∀ c r, pok 1 c = true → sCl c = some r → Cond.selects r.1 ⟨"BalloonStall", "end", "(I)Z"⟩ ⟨"BalloonStall", "end", "(I)Z"⟩ ∈ lw_all := sl1 (by decide) rfl q289
theorem js_8 : ∀ c r, pok 3 c = true → sCl c = some r → Cond.selects r.1 ⟨"BalloonStallModel", "end", "(I)Z"⟩ ⟨"BalloonStallModel", "end", "(I)Z"⟩ ∈ lw_all := sl1 (by decide) rfl q1491
theorem js_9 : ∀ c r, pok 1 c = true → sCl c = some r → Cond.selects r.1 ⟨"BalloonStall", "fault", "(I)I"⟩ ⟨"BalloonStall", "fault", "(I)I"⟩ ∈ lw_all := sl1 (by decide) rfl q293
theorem js_10 : ∀ c r, pok 3 c = true → sCl c = some r → Cond.selects r.1 ⟨"BalloonStallModel", "fault", "(I)I"⟩ ⟨"BalloonStallModel", "fault", "(I)I"⟩ ∈ lw_all := sl1 (by decide) rfl q1495
theorem js_11 : ∀ c r, pok 1 c = true → sCl c = some r → Cond.selects r.1 ⟨"BalloonStall", "figure", "()I"⟩ ⟨"BalloonStall", "figure", "()I"⟩ ∈ lw_all := sl1 (by decide) rfl q696
theorem js_12 : ∀ c r, pok 3 c = true → sCl c = some r → Cond.selects r.1 ⟨"BalloonStallModel", "figure", "()I"⟩ ⟨"BalloonStallModel", "figure", "()I"⟩ ∈ lw_all := sl1 (by decide) rfl q1603
theorem js_13 : ∀ c r, pok 1 c = true → sCl c = some r → Cond.selects r.1 ⟨"BalloonStall", "rule", "()I"⟩ ⟨"BalloonStall", "rule", "()I"⟩ ∈ lw_all := sl1 (by decide) rfl q1188
theorem js_14 : ∀ c r, pok 3 c = true → sCl c = some r → Cond.selects r.1 ⟨"BalloonStallModel", "rule", "()I"⟩ ⟨"BalloonStallModel", "rule", "()I"⟩ ∈ lw_all := sl1 (by decide) rfl q1607
theorem js_15 : ∀ c r, pok 1 c = true → sCl c = some r → Cond.selects r.1 ⟨"BalloonStall", "many", "(II)I"⟩ ⟨"BalloonStall", "many", "(II)I"⟩ ∈ lw_all := sl1 (by decide) rfl q882
theorem js_16 : ∀ c r, pok 3 c = true → sCl c = some r → Cond.selects r.1 ⟨"BalloonStallModel", "many", "(II)I"⟩ ⟨"BalloonStallModel", "many", "(II)I"⟩ ∈ lw_all := sl1 (by decide) rfl q1634
theorem js_17 : ∀ c r, pok 3 c = true → sCl c = some r → Cond.selects r.1 ⟨"BalloonStallModel", "bubble", "(III)I"⟩ ⟨"BalloonStallModel", "bubble", "(III)I"⟩ ∈ lw_all := sl1 (by decide) rfl q1662
theorem js_18 : ∀ c r, pok 3 c = true → sCl c = some r → Cond.selects r.1 ⟨"BalloonStallModel", "thrown", "()I"⟩ ⟨"BalloonStallModel", "thrown", "()I"⟩ ∈ lw_all := sl1 (by decide) rfl q1473
theorem js_19 : ∀ c r, pok 1 c = true → sCl c = some r → Cond.selects r.1 ⟨"BalloonStall", "ends", "(II)I"⟩ ⟨"BalloonStall", "ends", "(II)I"⟩ ∈ lw_all := sl1 (by decide) rfl q910
theorem js_20 : ∀ c r, pok 3 c = true → sCl c = some r → Cond.selects r.1 ⟨"BalloonStallModel", "ends", "(II)I"⟩ ⟨"BalloonStallModel", "ends", "(II)I"⟩ ∈ lw_all := sl1 (by decide) rfl q1670
theorem js_21 : ∀ c r, pok 1 c = true → sCl c = some r → Cond.selects r.1 ⟨"BalloonStall", "bursts", "(II)I"⟩ ⟨"BalloonStall", "bursts", "(II)I"⟩ ∈ lw_all := sl1 (by decide) rfl q918
theorem js_22 : ∀ c r, pok 3 c = true → sCl c = some r → Cond.selects r.1 ⟨"BalloonStallModel", "bursts", "(II)I"⟩ ⟨"BalloonStallModel", "bursts", "(II)I"⟩ ∈ lw_all := sl1 (by decide) rfl q1678
theorem js_23 : ∀ c r, pok 1 c = true → sCl c = some r → Cond.selects r.1 ⟨"BalloonStall", "rest", "(II)I"⟩ ⟨"BalloonStall", "rest", "(II)I"⟩ ∈ lw_all := sl1 (by decide) rfl q934
theorem js_24 : ∀ c r, pok 3 c = true → sCl c = some r → Cond.selects r.1 ⟨"BalloonStallModel", "rest", "(II)I"⟩ ⟨"BalloonStallModel", "rest", "(II)I"⟩ ∈ lw_all := sl1 (by decide) rfl q1686
theorem js_25 : ∀ c r, pok 1 c = true → sCl c = some r → Cond.selects r.1 ⟨"BalloonStall", "hands", "(I)I"⟩ ⟨"BalloonStall", "hands", "(I)I"⟩ ∈ lw_all := sl1 (by decide) rfl q939
theorem js_26 : ∀ c r, pok 3 c = true → sCl c = some r → Cond.selects r.1 ⟨"BalloonStallModel", "hands", "(I)I"⟩ ⟨"BalloonStallModel", "hands", "(I)I"⟩ ∈ lw_all := sl1 (by decide) rfl q1690
theorem js_27 : ∀ c r, pok 1 c = true → sCl c = some r → Cond.selects r.1 ⟨"BalloonStall", "holds", "(II)I"⟩ ⟨"BalloonStall", "holds", "(II)I"⟩ ∈ lw_all := sl1 (by decide) rfl q943
theorem js_28 : ∀ c r, pok 3 c = true → sCl c = some r → Cond.selects r.1 ⟨"BalloonStallModel", "holds", "(II)I"⟩ ⟨"BalloonStallModel", "holds", "(II)I"⟩ ∈ lw_all := sl1 (by decide) rfl q1694
theorem js_29 : ∀ c r, pok 1 c = true → sCl c = some r → Cond.selects r.1 ⟨"BalloonStall", "plain", "(I)I"⟩ ⟨"BalloonStall", "plain", "(I)I"⟩ ∈ lw_all := sl1 (by decide) rfl q953
theorem js_30 : ∀ c r, pok 3 c = true → sCl c = some r → Cond.selects r.1 ⟨"BalloonStallModel", "plain", "(I)I"⟩ ⟨"BalloonStallModel", "plain", "(I)I"⟩ ∈ lw_all := sl1 (by decide) rfl q1698
theorem js_31 : ∀ c r, pok 1 c = true → sCl c = some r → Cond.selects r.1 ⟨"BalloonStall", "pop", "(III)I"⟩ ⟨"BalloonStall", "pop", "(III)I"⟩ ∈ lw_all := sl1 (by decide) rfl q960
theorem js_32 : ∀ c r, pok 3 c = true → sCl c = some r → Cond.selects r.1 ⟨"BalloonStallModel", "pop", "(III)I"⟩ ⟨"BalloonStallModel", "pop", "(III)I"⟩ ∈ lw_all := sl1 (by decide) rfl q1726
theorem js_33 : ∀ c r, pok 1 c = true → sCl c = some r → Cond.selects r.1 ⟨"BalloonStall", "weakest", "(I)I"⟩ ⟨"BalloonStall", "weakest", "(I)I"⟩ ∈ lw_all := sl1 (by decide) rfl q1003
theorem js_34 : ∀ c r, pok 3 c = true → sCl c = some r → Cond.selects r.1 ⟨"BalloonStallModel", "weakest", "(I)I"⟩ ⟨"BalloonStallModel", "weakest", "(I)I"⟩ ∈ lw_all := sl1 (by decide) rfl q1743
theorem js_35 : ∀ c r, pok 1 c = true → sCl c = some r → Cond.selects r.1 ⟨"BalloonStall", "add", "(IIII)I"⟩ ⟨"BalloonStall", "add", "(IIII)I"⟩ ∈ lw_all := sl1 (by decide) rfl q1007
theorem js_36 : ∀ c r, pok 3 c = true → sCl c = some r → Cond.selects r.1 ⟨"BalloonStallModel", "add", "(IIII)I"⟩ ⟨"BalloonStallModel", "add", "(IIII)I"⟩ ∈ lw_all := sl1 (by decide) rfl q1718
theorem js_37 : ∀ c r, pok 1 c = true → sCl c = some r → Cond.selects r.1 ⟨"BalloonStall", "alike", "(II)I"⟩ ⟨"BalloonStall", "alike", "(II)I"⟩ ∈ lw_all := sl1 (by decide) rfl q1017
theorem js_38 : ∀ c r, pok 3 c = true → sCl c = some r → Cond.selects r.1 ⟨"BalloonStallModel", "alike", "(II)I"⟩ ⟨"BalloonStallModel", "alike", "(II)I"⟩ ∈ lw_all := sl1 (by decide) rfl q1748
theorem js_39 : ∀ c r, pok 1 c = true → sCl c = some r → Cond.selects r.1 ⟨"BalloonStall", "match", "(III)I"⟩ ⟨"BalloonStall", "match", "(III)I"⟩ ∈ lw_all := sl1 (by decide) rfl q1041
theorem js_40 : ∀ c r, pok 3 c = true → sCl c = some r → Cond.selects r.1 ⟨"BalloonStallModel", "match", "(III)I"⟩ ⟨"BalloonStallModel", "match", "(III)I"⟩ ∈ lw_all := sl1 (by decide) rfl q1772
theorem js_41 : ∀ c r, pok 1 c = true → sCl c = some r → Cond.selects r.1 ⟨"BalloonStall", "far", "(III)I"⟩ ⟨"BalloonStall", "far", "(III)I"⟩ ∈ lw_all := sl1 (by decide) rfl q1045
theorem js_42 : ∀ c r, pok 3 c = true → sCl c = some r → Cond.selects r.1 ⟨"BalloonStallModel", "far", "(III)I"⟩ ⟨"BalloonStallModel", "far", "(III)I"⟩ ∈ lw_all := sl1 (by decide) rfl q1776
theorem js_43 : ∀ c r, pok 1 c = true → sCl c = some r → Cond.selects r.1 ⟨"BalloonStall", "span", "(I)I"⟩ ⟨"BalloonStall", "span", "(I)I"⟩ ∈ lw_all := sl1 (by decide) rfl q1055
theorem js_44 : ∀ c r, pok 3 c = true → sCl c = some r → Cond.selects r.1 ⟨"BalloonStallModel", "span", "(I)I"⟩ ⟨"BalloonStallModel", "span", "(I)I"⟩ ∈ lw_all := sl1 (by decide) rfl q1785
theorem js_45 : ∀ c r, pok 1 c = true → sCl c = some r → Cond.selects r.1 ⟨"BalloonStall", "strokes", "(I)I"⟩ ⟨"BalloonStall", "strokes", "(I)I"⟩ ∈ lw_all := sl1 (by decide) rfl q1059
theorem js_46 : ∀ c r, pok 3 c = true → sCl c = some r → Cond.selects r.1 ⟨"BalloonStallModel", "strokes", "(I)I"⟩ ⟨"BalloonStallModel", "strokes", "(I)I"⟩ ∈ lw_all := sl1 (by decide) rfl q1789
theorem js_47 : ∀ c r, pok 1 c = true → sCl c = some r → Cond.selects r.1 ⟨"BalloonStall", "made", "(II)I"⟩ ⟨"BalloonStall", "made", "(II)I"⟩ ∈ lw_all := sl1 (by decide) rfl q1074
theorem js_48 : ∀ c r, pok 3 c = true → sCl c = some r → Cond.selects r.1 ⟨"BalloonStallModel", "made", "(II)I"⟩ ⟨"BalloonStallModel", "made", "(II)I"⟩ ∈ lw_all := sl1 (by decide) rfl q1797
theorem js_49 : ∀ c r, pok 1 c = true → sCl c = some r → Cond.selects r.1 ⟨"BalloonStall", "set", "(III)I"⟩ ⟨"BalloonStall", "set", "(III)I"⟩ ∈ lw_all := sl1 (by decide) rfl q1100
theorem js_50 : ∀ c r, pok 3 c = true → sCl c = some r → Cond.selects r.1 ⟨"BalloonStallModel", "set", "(III)I"⟩ ⟨"BalloonStallModel", "set", "(III)I"⟩ ∈ lw_all := sl1 (by decide) rfl q1817
theorem js_51 : ∀ c r, pok 1 c = true → sCl c = some r → Cond.selects r.1 ⟨"BalloonStall", "twice", "(I)I"⟩ ⟨"BalloonStall", "twice", "(I)I"⟩ ∈ lw_all := sl1 (by decide) rfl q1109
theorem js_52 : ∀ c r, pok 3 c = true → sCl c = some r → Cond.selects r.1 ⟨"BalloonStallModel", "twice", "(I)I"⟩ ⟨"BalloonStallModel", "twice", "(I)I"⟩ ∈ lw_all := sl1 (by decide) rfl q1821
theorem js_53 : ∀ c r, pok 1 c = true → sCl c = some r → Cond.selects r.1 ⟨"BalloonStall", "stock", "(II)Z"⟩ ⟨"BalloonStall", "stock", "(II)Z"⟩ ∈ lw_all := sl1 (by decide) rfl q1117
theorem js_54 : ∀ c r, pok 3 c = true → sCl c = some r → Cond.selects r.1 ⟨"BalloonStallModel", "stock", "(II)Z"⟩ ⟨"BalloonStallModel", "stock", "(II)Z"⟩ ∈ lw_all := sl1 (by decide) rfl q1830
theorem js_55 : ∀ c r, pok 1 c = true → sCl c = some r → Cond.selects r.1 ⟨"BalloonStall", "pace", "(II)Z"⟩ ⟨"BalloonStall", "pace", "(II)Z"⟩ ∈ lw_all := sl1 (by decide) rfl q1121
theorem js_56 : ∀ c r, pok 3 c = true → sCl c = some r → Cond.selects r.1 ⟨"BalloonStallModel", "pace", "(II)Z"⟩ ⟨"BalloonStallModel", "pace", "(II)Z"⟩ ∈ lw_all := sl1 (by decide) rfl q1834
theorem js_57 : ∀ c r, pok 1 c = true → sCl c = some r → Cond.selects r.1 ⟨"BalloonStall", "comes", "(III)I"⟩ ⟨"BalloonStall", "comes", "(III)I"⟩ ∈ lw_all := sl1 (by decide) rfl q1125
theorem js_58 : ∀ c r, pok 3 c = true → sCl c = some r → Cond.selects r.1 ⟨"BalloonStallModel", "comes", "(III)I"⟩ ⟨"BalloonStallModel", "comes", "(III)I"⟩ ∈ lw_all := sl1 (by decide) rfl q1838
theorem js_59 : ∀ c r, pok 1 c = true → sCl c = some r → Cond.selects r.1 ⟨"BalloonStall", "close", "()I"⟩ ⟨"BalloonStall", "close", "()I"⟩ ∈ lw_all := sl1 (by decide) rfl q1161
theorem js_60 : ∀ c r, pok 3 c = true → sCl c = some r → Cond.selects r.1 ⟨"BalloonStallModel", "close", "()I"⟩ ⟨"BalloonStallModel", "close", "()I"⟩ ∈ lw_all := sl1 (by decide) rfl q1842
theorem js_61 : ∀ c r, pok 1 c = true → sCl c = some r → Cond.selects r.1 ⟨"BalloonStall", "run", "(J)I"⟩ ⟨"BalloonStall", "run", "(J)I"⟩ ∈ lw_all := sl1 (by decide) rfl q1165
theorem js_62 : ∀ c r, pok 3 c = true → sCl c = some r → Cond.selects r.1 ⟨"BalloonStallModel", "run", "(J)I"⟩ ⟨"BalloonStallModel", "run", "(J)I"⟩ ∈ lw_all := sl1 (by decide) rfl q1846
theorem js_63 : ∀ c r, pok 3 c = true → sCl c = some r → Cond.selects r.1 ⟨"BalloonStallModel", "guest", "(II)I"⟩ ⟨"BalloonStallModel", "guest", "(II)I"⟩ ∈ lw_all := sl1 (by decide) rfl q1861
theorem js_64 : ∀ c r, pok 3 c = true → sCl c = some r → Cond.selects r.1 ⟨"BalloonStallModel", "worth", "(IIIIII)I"⟩ ⟨"BalloonStallModel", "worth", "(IIIIII)I"⟩ ∈ lw_all := sl1 (by decide) rfl q1611
theorem js_65 : ∀ c r, pok 1 c = true → sCl c = some r → Cond.selects r.1 ⟨"BalloonStall", "aged", "(IIII)I"⟩ ⟨"BalloonStall", "aged", "(IIII)I"⟩ ∈ lw_all := sl1 (by decide) rfl q1192
theorem js_66 : ∀ c r, pok 3 c = true → sCl c = some r → Cond.selects r.1 ⟨"BalloonStallModel", "aged", "(IIII)I"⟩ ⟨"BalloonStallModel", "aged", "(IIII)I"⟩ ∈ lw_all := sl1 (by decide) rfl q1865
theorem js_67 : ∀ c r, pok 1 c = true → sCl c = some r → Cond.selects r.1 ⟨"BalloonStall", "falls", "(III)I"⟩ ⟨"BalloonStall", "falls", "(III)I"⟩ ∈ lw_all := sl1 (by decide) rfl q1255
theorem js_68 : ∀ c r, pok 3 c = true → sCl c = some r → Cond.selects r.1 ⟨"BalloonStallModel", "falls", "(III)I"⟩ ⟨"BalloonStallModel", "falls", "(III)I"⟩ ∈ lw_all := sl1 (by decide) rfl q1877
theorem js_69 : ∀ c r, pok 1 c = true → sCl c = some r → Cond.selects r.1 ⟨"BalloonStall", "count", "(I)I"⟩ ⟨"BalloonStall", "count", "(I)I"⟩ ∈ lw_all := sl1 (by decide) rfl q1259
theorem js_70 : ∀ c r, pok 3 c = true → sCl c = some r → Cond.selects r.1 ⟨"BalloonStallModel", "count", "(I)I"⟩ ⟨"BalloonStallModel", "count", "(I)I"⟩ ∈ lw_all := sl1 (by decide) rfl q1881
theorem js_71 : ∀ c r, pok 1 c = true → sCl c = some r → Cond.selects r.1 ⟨"BalloonStall", "bring", "(I)V"⟩ ⟨"BalloonStall", "bring", "(I)V"⟩ ∈ lw_all := sl1 (by decide) rfl qs0
theorem js_72 : ∀ c r, pok 6 c = true → sCl c = some r → Cond.selects r.1 ⟨"BalloonStall$FigureReader", "whole", "()LBalloonStall$Move;"⟩ ⟨"BalloonStall$FigureReader", "whole", "()LBalloonStall$Move;"⟩ ∈ lw_all := sl1 (by decide) rfl q330
theorem js_73 : ∀ c r, pok 13 c = true → sCl c = some r → Cond.selects r.1 ⟨"BalloonStall$RuleReader", "whole", "()LBalloonStall$Clause;"⟩ ⟨"BalloonStall$RuleReader", "whole", "()LBalloonStall$Clause;"⟩ ∈ lw_all := sl1 (by decide) rfl q531
theorem js_74 : ∀ c r, pok 8 c = true → sCl c = some r → Cond.selects r.1 ⟨"BalloonStall$Move", "all", "(LBalloonStall$Hand;)V"⟩ ⟨"BalloonStall$Move", "all", "(LBalloonStall$Hand;)V"⟩ ∈ lw_all := by
  intro c r hp hc
  rcases jk_8 hp with rfl | rfl | rfl | rfl | rfl
  · cases hc
  · cases hc; exact q759
  · cases hc; exact q760
  · cases hc; exact q758
  · cases hc; exact q761

theorem js_75 : ∀ c r, pok 1 c = true → sCl c = some r → Cond.selects r.1 ⟨"BalloonStall", "keep", "(LBalloonStall$Figure;)I"⟩ ⟨"BalloonStall", "keep", "(LBalloonStall$Figure;)I"⟩ ∈ lw_all := sl1 (by decide) rfl qs18
theorem js_76 : ∀ c r, pok 1 c = true → sCl c = some r → Cond.selects r.1 ⟨"BalloonStall", "isFigure", "(I)Z"⟩ ⟨"BalloonStall", "isFigure", "(I)Z"⟩ ∈ lw_all := sl1 (by decide) rfl qs19
theorem js_77 : ∀ c r, pok 24 c = true → sCl c = some r → Cond.selects r.1 ⟨"BalloonStall$Figure", "twists", "()I"⟩ ⟨"BalloonStall$Figure", "twists", "()I"⟩ ∈ lw_all := sl1 (by decide) rfl q890
theorem js_78 : ∀ c r, pok 24 c = true → sCl c = some r → Cond.selects r.1 ⟨"BalloonStall$Figure", "slack", "()I"⟩ ⟨"BalloonStall$Figure", "slack", "()I"⟩ ∈ lw_all := sl1 (by decide) rfl q898
theorem js_79 : ∀ c r, pok 24 c = true → sCl c = some r → Cond.selects r.1 ⟨"BalloonStall$Figure", "odd", "()I"⟩ ⟨"BalloonStall$Figure", "odd", "()I"⟩ ∈ lw_all := sl1 (by decide) rfl q906
theorem js_80 : ∀ c r, pok 1 c = true → sCl c = some r → Cond.selects r.1 ⟨"BalloonStall", "isPoint", "(II)Z"⟩ ⟨"BalloonStall", "isPoint", "(II)Z"⟩ ∈ lw_all := sl1 (by decide) rfl qs20
theorem js_81 : ∀ c r, pok 1 c = true → sCl c = some r → Cond.selects r.1 ⟨"BalloonStall", "isBalloon", "(II)Z"⟩ ⟨"BalloonStall", "isBalloon", "(II)Z"⟩ ∈ lw_all := sl1 (by decide) rfl qs21
theorem js_82 : ∀ c r, pok 24 c = true → sCl c = some r → Cond.selects r.1 ⟨"BalloonStall$Figure", "needs", "(IILBalloonStall$Sort;)I"⟩ ⟨"BalloonStall$Figure", "needs", "(IILBalloonStall$Sort;)I"⟩ ∈ lw_all := sl1 (by decide) rfl q926
theorem js_83 : ∀ c r, pok 1 c = true → sCl c = some r → Cond.selects r.1 ⟨"BalloonStall", "isBubble", "(II)Z"⟩ ⟨"BalloonStall", "isBubble", "(II)Z"⟩ ∈ lw_all := sl1 (by decide) rfl qs22
theorem js_84 : ∀ c r, pok 24 c = true → sCl c = some r → Cond.selects r.1 ⟨"BalloonStall$Figure", "isTwist", "(I)Z"⟩ ⟨"BalloonStall$Figure", "isTwist", "(I)Z"⟩ ∈ lw_all := sl1 (by decide) rfl q894
theorem js_85 : ∀ c r, pok 24 c = true → sCl c = some r → Cond.selects r.1 ⟨"BalloonStall$Figure", "holds", "(I)Z"⟩ ⟨"BalloonStall$Figure", "holds", "(I)Z"⟩ ∈ lw_all := sl1 (by decide) rfl q902
theorem js_86 : ∀ c r, pok 23 c = true → sCl c = some r → Cond.selects r.1 ⟨"BalloonStall$Hand", "point", "()I"⟩ ⟨"BalloonStall$Hand", "point", "()I"⟩ ∈ lw_all := sl1 (by decide) rfl q775
theorem js_87 : ∀ c r, pok 23 c = true → sCl c = some r → Cond.selects r.1 ⟨"BalloonStall$Hand", "adds", "(IIII)V"⟩ ⟨"BalloonStall$Hand", "adds", "(IIII)V"⟩ ∈ lw_all := sl1 (by decide) rfl q779
theorem js_88 : ∀ c r, pok 24 c = true → sCl c = some r → Cond.selects r.1 ⟨"BalloonStall$Figure", "lost", "(I)I"⟩ ⟨"BalloonStall$Figure", "lost", "(I)I"⟩ ∈ lw_all := sl1 (by decide) rfl q965
theorem js_89 : ∀ c r, pok 24 c = true → sCl c = some r → Cond.selects r.1 ⟨"BalloonStall$Figure", "every", "()I"⟩ ⟨"BalloonStall$Figure", "every", "()I"⟩ ∈ lw_all := sl1 (by decide) rfl q983
theorem js_90 : ∀ c r, pok 24 c = true → sCl c = some r → Cond.selects r.1 ⟨"BalloonStall$Figure", "parts", "(I)I"⟩ ⟨"BalloonStall$Figure", "parts", "(I)I"⟩ ∈ lw_all := sl1 (by decide) rfl q987
theorem js_91 : ∀ c r, pok 23 c = true → sCl c = some r → Cond.selects r.1 ⟨"BalloonStall$Hand", "joins", "(II)V"⟩ ⟨"BalloonStall$Hand", "joins", "(II)V"⟩ ∈ lw_all := sl1 (by decide) rfl q809
theorem js_92 : ∀ c r, pok 23 c = true → sCl c = some r → Cond.selects r.1 ⟨"BalloonStall$Hand", "takes", "(LBalloonStall$Figure;I)V"⟩ ⟨"BalloonStall$Hand", "takes", "(LBalloonStall$Figure;I)V"⟩ ∈ lw_all := sl1 (by decide) rfl q1012
theorem js_93 : ∀ c r, pok 1 c = true → sCl c = some r → Cond.selects r.1 ⟨"BalloonStall", "isMatched", "(I)Z"⟩ ⟨"BalloonStall", "isMatched", "(I)Z"⟩ ∈ lw_all := sl1 (by decide) rfl qs26
theorem js_94 : ∀ c r, pok 1 c = true → sCl c = some r → Cond.selects r.1 ⟨"BalloonStall", "areAlike", "(II)Z"⟩ ⟨"BalloonStall", "areAlike", "(II)Z"⟩ ∈ lw_all := sl1 (by decide) rfl qs27
theorem js_95 : ∀ c r, pok 1 c = true → sCl c = some r → Cond.selects r.1 ⟨"BalloonStall", "matches", "(LBalloonStall$Figure;LBalloonStall$Figure;II)Z"⟩ ⟨"BalloonStall", "matches", "(LBalloonStall$Figure;LBalloonStall$Figure;II)Z"⟩ ∈ lw_all := sl1 (by decide) rfl qs28
theorem js_96 : ∀ c r, pok 1 c = true → sCl c = some r → Cond.selects r.1 ⟨"BalloonStall", "fits", "(LBalloonStall$Figure;LBalloonStall$Figure;II)Z"⟩ ⟨"BalloonStall", "fits", "(LBalloonStall$Figure;LBalloonStall$Figure;II)Z"⟩ ∈ lw_all := sl1 (by decide) rfl qs29
theorem js_97 : ∀ c r, pok 24 c = true → sCl c = some r → Cond.selects r.1 ⟨"BalloonStall$Figure", "between", "(III)I"⟩ ⟨"BalloonStall$Figure", "between", "(III)I"⟩ ∈ lw_all := sl1 (by decide) rfl q1037
theorem js_98 : ∀ c r, pok 1 c = true → sCl c = some r → Cond.selects r.1 ⟨"BalloonStall", "layFars", "(LBalloonStall$Figure;)V"⟩ ⟨"BalloonStall", "layFars", "(LBalloonStall$Figure;)V"⟩ ∈ lw_all := sl1 (by decide) rfl qs30
theorem js_99 : ∀ c r, pok 24 c = true → sCl c = some r → Cond.selects r.1 ⟨"BalloonStall$Figure", "strokes", "()I"⟩ ⟨"BalloonStall$Figure", "strokes", "()I"⟩ ∈ lw_all := sl1 (by decide) rfl q1063
theorem js_100 : ∀ c r, pok 1 c = true → sCl c = some r → Cond.selects r.1 ⟨"BalloonStall", "isMaking", "(II)Z"⟩ ⟨"BalloonStall", "isMaking", "(II)Z"⟩ ∈ lw_all := sl1 (by decide) rfl qs31
theorem js_101 : ∀ c r, pok 1 c = true → sCl c = some r → Cond.selects r.1 ⟨"BalloonStall", "layMade", "(LBalloonStall$Figure;LBalloonStall$Sort;)V"⟩ ⟨"BalloonStall", "layMade", "(LBalloonStall$Figure;LBalloonStall$Sort;)V"⟩ ∈ lw_all := sl1 (by decide) rfl qs33
theorem js_102 : ∀ c r, pok 1 c = true → sCl c = some r → Cond.selects r.1 ⟨"BalloonStall", "isSort", "(I)Z"⟩ ⟨"BalloonStall", "isSort", "(I)Z"⟩ ∈ lw_all := sl1 (by decide) rfl qs32
theorem js_103 : ∀ c r, pok 24 c = true → sCl c = some r → Cond.selects r.1 ⟨"BalloonStall$Figure", "lengthOf", "(I)I"⟩ ⟨"BalloonStall$Figure", "lengthOf", "(I)I"⟩ ∈ lw_all := sl1 (by decide) rfl q1090
theorem js_104 : ∀ c r, pok 4 c = true → sCl c = some r → Cond.selects r.1 ⟨"BalloonStall$Sort", "strains", "(I)I"⟩ ⟨"BalloonStall$Sort", "strains", "(I)I"⟩ ∈ lw_all := sl1 (by decide) rfl q930
theorem js_105 : ∀ c r, pok 24 c = true → sCl c = some r → Cond.selects r.1 ⟨"BalloonStall$Figure", "isWay", "(I)Z"⟩ ⟨"BalloonStall$Figure", "isWay", "(I)Z"⟩ ∈ lw_all := sl1 (by decide) rfl q1095
theorem js_106 : ∀ c r, pok 1 c = true → sCl c = some r → Cond.selects r.1 ⟨"BalloonStall", "firstOf", "(I)I"⟩ ⟨"BalloonStall", "firstOf", "(I)I"⟩ ∈ lw_all := sl1 (by decide) rfl qs34
theorem js_107 : ∀ c r, pok 1 c = true → sCl c = some r → Cond.selects r.1 ⟨"BalloonStall", "paired", "(III)I"⟩ ⟨"BalloonStall", "paired", "(III)I"⟩ ∈ lw_all := sl1 (by decide) rfl qs35
theorem js_108 : ∀ c r, pok 1 c = true → sCl c = some r → Cond.selects r.1 ⟨"BalloonStall", "serves", "(LBalloonStall$Guest;I)V"⟩ ⟨"BalloonStall", "serves", "(LBalloonStall$Guest;I)V"⟩ ∈ lw_all := sl1 (by decide) rfl qs36
theorem js_109 : ∀ c r, pok 1 c = true → sCl c = some r → Cond.selects r.1 ⟨"BalloonStall", "hasFor", "(LBalloonStall$Figure;)Z"⟩ ⟨"BalloonStall", "hasFor", "(LBalloonStall$Figure;)Z"⟩ ∈ lw_all := sl1 (by decide) rfl qs37
theorem js_110 : ∀ c r, pok 1 c = true → sCl c = some r → Cond.selects r.1 ⟨"BalloonStall", "makes", "(LBalloonStall$Guest;I)Z"⟩ ⟨"BalloonStall", "makes", "(LBalloonStall$Guest;I)Z"⟩ ∈ lw_all := sl1 (by decide) rfl qs38
theorem js_111 : ∀ c r, pok 24 c = true → sCl c = some r → Cond.selects r.1 ⟨"BalloonStall$Figure", "bubblesOf", "(I)I"⟩ ⟨"BalloonStall$Figure", "bubblesOf", "(I)I"⟩ ∈ lw_all := sl1 (by decide) rfl q1181
theorem js_112 : ∀ c r, pok 1 c = true → sCl c = some r → Cond.selects r.1 ⟨"BalloonStall", "isRule", "(I)Z"⟩ ⟨"BalloonStall", "isRule", "(I)Z"⟩ ∈ lw_all := sl1 (by decide) rfl qs39
theorem js_113 : ∀ c r, pok 1 c = true → sCl c = some r → Cond.selects r.1 ⟨"BalloonStall", "fresh", "(LBalloonStall$Figure;)V"⟩ ⟨"BalloonStall", "fresh", "(LBalloonStall$Figure;)V"⟩ ∈ lw_all := sl1 (by decide) rfl qs40
theorem js_114 : ∀ c r, pok 1 c = true → sCl c = some r → Cond.selects r.1 ⟨"BalloonStall", "hour", "(LBalloonStall$Figure;LBalloonStall$Clause;I)V"⟩ ⟨"BalloonStall", "hour", "(LBalloonStall$Figure;LBalloonStall$Clause;I)V"⟩ ∈ lw_all := sl1 (by decide) rfl qs41
theorem js_115 : ∀ c r, pok 24 c = true → sCl c = some r → Cond.selects r.1 ⟨"BalloonStall$Figure", "left", "(II)I"⟩ ⟨"BalloonStall$Figure", "left", "(II)I"⟩ ∈ lw_all := sl1 (by decide) rfl qs23
theorem js_116 : ∀ c r, pok 1 c = true → sCl c = some r → Cond.selects r.1 ⟨"BalloonStall", "worthOf", "(LBalloonStall$Clause;IIIII)I"⟩ ⟨"BalloonStall", "worthOf", "(LBalloonStall$Clause;IIIII)I"⟩ ∈ lw_all := sl1 (by decide) rfl qs42
theorem js_117 : ∀ c r, pok 24 c = true → sCl c = some r → Cond.selects r.1 ⟨"BalloonStall$Figure", "lostWith", "(I)I"⟩ ⟨"BalloonStall$Figure", "lostWith", "(I)I"⟩ ∈ lw_all := sl1 (by decide) rfl q969
theorem js_118 : ∀ c r, pok 22 c = true → sCl c = some r → Cond.selects r.1 ⟨"BalloonStall$Clause", "holds", "(LBalloonStall$Letters;)Z"⟩ ⟨"BalloonStall$Clause", "holds", "(LBalloonStall$Letters;)Z"⟩ ∈ lw_all := sl1 (by decide) rfl q1214
theorem js_119 : ∀ c r, pok 3 c = true → sCl c = some r → Cond.selects r.1 ⟨"BalloonStallModel", "readFigure", "(I)I"⟩ ⟨"BalloonStallModel", "readFigure", "(I)I"⟩ ∈ lw_all := sl1 (by decide) rfl qs43
theorem js_120 : ∀ c r, pok 3 c = true → sCl c = some r → Cond.selects r.1 ⟨"BalloonStallModel", "readRule", "(I)I"⟩ ⟨"BalloonStallModel", "readRule", "(I)I"⟩ ∈ lw_all := sl1 (by decide) rfl qs56
theorem js_121 : ∀ c r, pok 3 c = true → sCl c = some r → Cond.selects r.1 ⟨"BalloonStallModel", "balloon", "()V"⟩ ⟨"BalloonStallModel", "balloon", "()V"⟩ ∈ lw_all := sl1 (by decide) rfl qs44
theorem js_122 : ∀ c r, pok 3 c = true → sCl c = some r → Cond.selects r.1 ⟨"BalloonStallModel", "look", "()I"⟩ ⟨"BalloonStallModel", "look", "()I"⟩ ∈ lw_all := sl1 (by decide) rfl qs45
theorem js_123 : ∀ c r, pok 3 c = true → sCl c = some r → Cond.selects r.1 ⟨"BalloonStallModel", "bad", "()V"⟩ ⟨"BalloonStallModel", "bad", "()V"⟩ ∈ lw_all := sl1 (by decide) rfl qs47
theorem js_124 : ∀ c r, pok 3 c = true → sCl c = some r → Cond.selects r.1 ⟨"BalloonStallModel", "numberPoints", "()V"⟩ ⟨"BalloonStallModel", "numberPoints", "()V"⟩ ∈ lw_all := sl1 (by decide) rfl qs55
theorem js_125 : ∀ c r, pok 3 c = true → sCl c = some r → Cond.selects r.1 ⟨"BalloonStallModel", "newPoint", "()I"⟩ ⟨"BalloonStallModel", "newPoint", "()I"⟩ ∈ lw_all := sl1 (by decide) rfl qs48
theorem js_126 : ∀ c r, pok 3 c = true → sCl c = some r → Cond.selects r.1 ⟨"BalloonStallModel", "moves", "()V"⟩ ⟨"BalloonStallModel", "moves", "()V"⟩ ∈ lw_all := sl1 (by decide) rfl qs49
theorem js_127 : ∀ c r, pok 3 c = true → sCl c = some r → Cond.selects r.1 ⟨"BalloonStallModel", "here", "()I"⟩ ⟨"BalloonStallModel", "here", "()I"⟩ ∈ lw_all := sl1 (by decide) rfl qs46
theorem js_128 : ∀ c r, pok 3 c = true → sCl c = some r → Cond.selects r.1 ⟨"BalloonStallModel", "bubble", "()V"⟩ ⟨"BalloonStallModel", "bubble", "()V"⟩ ∈ lw_all := sl1 (by decide) rfl qs50
theorem js_129 : ∀ c r, pok 3 c = true → sCl c = some r → Cond.selects r.1 ⟨"BalloonStallModel", "joinTo", "(II)V"⟩ ⟨"BalloonStallModel", "joinTo", "(II)V"⟩ ∈ lw_all := sl1 (by decide) rfl qs53
theorem js_130 : ∀ c r, pok 3 c = true → sCl c = some r → Cond.selects r.1 ⟨"BalloonStallModel", "nested", "()V"⟩ ⟨"BalloonStallModel", "nested", "()V"⟩ ∈ lw_all := sl1 (by decide) rfl qs54
theorem js_131 : ∀ c r, pok 3 c = true → sCl c = some r → Cond.selects r.1 ⟨"BalloonStallModel", "held", "()I"⟩ ⟨"BalloonStallModel", "held", "()I"⟩ ∈ lw_all := sl1 (by decide) rfl qs51
theorem js_132 : ∀ c r, pok 3 c = true → sCl c = some r → Cond.selects r.1 ⟨"BalloonStallModel", "find", "(I)I"⟩ ⟨"BalloonStallModel", "find", "(I)I"⟩ ∈ lw_all := sl1 (by decide) rfl qs52
theorem js_133 : ∀ c r, pok 3 c = true → sCl c = some r → Cond.selects r.1 ⟨"BalloonStallModel", "clause", "()V"⟩ ⟨"BalloonStallModel", "clause", "()V"⟩ ∈ lw_all := sl1 (by decide) rfl qs57
theorem js_134 : ∀ c r, pok 3 c = true → sCl c = some r → Cond.selects r.1 ⟨"BalloonStallModel", "condition", "(Z)V"⟩ ⟨"BalloonStallModel", "condition", "(Z)V"⟩ ∈ lw_all := sl1 (by decide) rfl qs58
theorem js_135 : ∀ c r, pok 3 c = true → sCl c = some r → Cond.selects r.1 ⟨"BalloonStallModel", "sum", "()V"⟩ ⟨"BalloonStallModel", "sum", "()V"⟩ ∈ lw_all := sl1 (by decide) rfl qs64
theorem js_136 : ∀ c r, pok 3 c = true → sCl c = some r → Cond.selects r.1 ⟨"BalloonStallModel", "truth", "(Z)V"⟩ ⟨"BalloonStallModel", "truth", "(Z)V"⟩ ∈ lw_all := sl1 (by decide) rfl qs59
theorem js_137 : ∀ c r, pok 3 c = true → sCl c = some r → Cond.selects r.1 ⟨"BalloonStallModel", "say", "(I)V"⟩ ⟨"BalloonStallModel", "say", "(I)V"⟩ ∈ lw_all := sl1 (by decide) rfl qs62
theorem js_138 : ∀ c r, pok 3 c = true → sCl c = some r → Cond.selects r.1 ⟨"BalloonStallModel", "unit", "(Z)V"⟩ ⟨"BalloonStallModel", "unit", "(Z)V"⟩ ∈ lw_all := sl1 (by decide) rfl qs60
theorem js_139 : ∀ c r, pok 3 c = true → sCl c = some r → Cond.selects r.1 ⟨"BalloonStallModel", "opens", "()V"⟩ ⟨"BalloonStallModel", "opens", "()V"⟩ ∈ lw_all := sl1 (by decide) rfl qs61
theorem js_140 : ∀ c r, pok 3 c = true → sCl c = some r → Cond.selects r.1 ⟨"BalloonStallModel", "sign", "(I)V"⟩ ⟨"BalloonStallModel", "sign", "(I)V"⟩ ∈ lw_all := sl1 (by decide) rfl qs63
theorem js_141 : ∀ c r, pok 3 c = true → sCl c = some r → Cond.selects r.1 ⟨"BalloonStallModel", "term", "()V"⟩ ⟨"BalloonStallModel", "term", "()V"⟩ ∈ lw_all := sl1 (by decide) rfl qs65
theorem js_142 : ∀ c r, pok 3 c = true → sCl c = some r → Cond.selects r.1 ⟨"BalloonStallModel", "atom", "()V"⟩ ⟨"BalloonStallModel", "atom", "()V"⟩ ∈ lw_all := sl1 (by decide) rfl qs66
theorem js_143 : ∀ c r, pok 3 c = true → sCl c = some r → Cond.selects r.1 ⟨"BalloonStallModel", "worthOf", "(IIIIII)I"⟩ ⟨"BalloonStallModel", "worthOf", "(IIIIII)I"⟩ ∈ lw_all := sl1 (by decide) rfl qs67
theorem js_144 : ∀ c r, pok 3 c = true → sCl c = some r → Cond.selects r.1 ⟨"BalloonStallModel", "work", "(IIIIIIII)J"⟩ ⟨"BalloonStallModel", "work", "(IIIIIIII)J"⟩ ∈ lw_all := sl1 (by decide) rfl qs68
theorem js_145 : ∀ c r, pok 3 c = true → sCl c = some r → Cond.selects r.1 ⟨"BalloonStallModel", "isFigure", "(I)Z"⟩ ⟨"BalloonStallModel", "isFigure", "(I)Z"⟩ ∈ lw_all := sl1 (by decide) rfl qs69
theorem js_146 : ∀ c r, pok 3 c = true → sCl c = some r → Cond.selects r.1 ⟨"BalloonStallModel", "isTwist", "(II)Z"⟩ ⟨"BalloonStallModel", "isTwist", "(II)Z"⟩ ∈ lw_all := sl1 (by decide) rfl qs70
theorem js_147 : ∀ c r, pok 3 c = true → sCl c = some r → Cond.selects r.1 ⟨"BalloonStallModel", "isSlack", "(II)Z"⟩ ⟨"BalloonStallModel", "isSlack", "(II)Z"⟩ ∈ lw_all := sl1 (by decide) rfl qs71
theorem js_148 : ∀ c r, pok 3 c = true → sCl c = some r → Cond.selects r.1 ⟨"BalloonStallModel", "all", "(I)I"⟩ ⟨"BalloonStallModel", "all", "(I)I"⟩ ∈ lw_all := sl1 (by decide) rfl qs72
theorem js_149 : ∀ c r, pok 3 c = true → sCl c = some r → Cond.selects r.1 ⟨"BalloonStallModel", "odd", "(II)I"⟩ ⟨"BalloonStallModel", "odd", "(II)I"⟩ ∈ lw_all := sl1 (by decide) rfl qs74
theorem js_150 : ∀ c r, pok 3 c = true → sCl c = some r → Cond.selects r.1 ⟨"BalloonStallModel", "endsIn", "(III)I"⟩ ⟨"BalloonStallModel", "endsIn", "(III)I"⟩ ∈ lw_all := sl1 (by decide) rfl qs73
theorem js_151 : ∀ c r, pok 3 c = true → sCl c = some r → Cond.selects r.1 ⟨"BalloonStallModel", "isBubble", "(II)Z"⟩ ⟨"BalloonStallModel", "isBubble", "(II)Z"⟩ ∈ lw_all := sl1 (by decide) rfl qs75
theorem js_152 : ∀ c r, pok 3 c = true → sCl c = some r → Cond.selects r.1 ⟨"BalloonStallModel", "isPoint", "(II)Z"⟩ ⟨"BalloonStallModel", "isPoint", "(II)Z"⟩ ∈ lw_all := sl1 (by decide) rfl qs76
theorem js_153 : ∀ c r, pok 3 c = true → sCl c = some r → Cond.selects r.1 ⟨"BalloonStallModel", "isBalloon", "(II)Z"⟩ ⟨"BalloonStallModel", "isBalloon", "(II)Z"⟩ ∈ lw_all := sl1 (by decide) rfl qs77
theorem js_154 : ∀ c r, pok 3 c = true → sCl c = some r → Cond.selects r.1 ⟨"BalloonStallModel", "startFigure", "()V"⟩ ⟨"BalloonStallModel", "startFigure", "()V"⟩ ∈ lw_all := sl1 (by decide) rfl qs78
theorem js_155 : ∀ c r, pok 3 c = true → sCl c = some r → Cond.selects r.1 ⟨"BalloonStallModel", "put", "(IIII)V"⟩ ⟨"BalloonStallModel", "put", "(IIII)V"⟩ ∈ lw_all := sl1 (by decide) rfl qs79
theorem js_156 : ∀ c r, pok 3 c = true → sCl c = some r → Cond.selects r.1 ⟨"BalloonStallModel", "endFigure", "(I)V"⟩ ⟨"BalloonStallModel", "endFigure", "(I)V"⟩ ∈ lw_all := sl1 (by decide) rfl qs80
theorem js_157 : ∀ c r, pok 3 c = true → sCl c = some r → Cond.selects r.1 ⟨"BalloonStallModel", "handsOf", "(I)I"⟩ ⟨"BalloonStallModel", "handsOf", "(I)I"⟩ ∈ lw_all := sl1 (by decide) rfl qs81
theorem js_158 : ∀ c r, pok 3 c = true → sCl c = some r → Cond.selects r.1 ⟨"BalloonStallModel", "addAll", "(III)V"⟩ ⟨"BalloonStallModel", "addAll", "(III)V"⟩ ∈ lw_all := sl1 (by decide) rfl qs82
theorem js_159 : ∀ c r, pok 3 c = true → sCl c = some r → Cond.selects r.1 ⟨"BalloonStallModel", "leftOf", "(II)I"⟩ ⟨"BalloonStallModel", "leftOf", "(II)I"⟩ ∈ lw_all := sl1 (by decide) rfl qs83
theorem js_160 : ∀ c r, pok 3 c = true → sCl c = some r → Cond.selects r.1 ⟨"BalloonStallModel", "partsOf", "(II)I"⟩ ⟨"BalloonStallModel", "partsOf", "(II)I"⟩ ∈ lw_all := sl1 (by decide) rfl qs84
theorem js_161 : ∀ c r, pok 3 c = true → sCl c = some r → Cond.selects r.1 ⟨"BalloonStallModel", "meets", "(III)Z"⟩ ⟨"BalloonStallModel", "meets", "(III)Z"⟩ ∈ lw_all := sl1 (by decide) rfl qs85
theorem js_162 : ∀ c r, pok 3 c = true → sCl c = some r → Cond.selects r.1 ⟨"BalloonStallModel", "mayMatch", "(II)Z"⟩ ⟨"BalloonStallModel", "mayMatch", "(II)Z"⟩ ∈ lw_all := sl1 (by decide) rfl qs86
theorem js_163 : ∀ c r, pok 3 c = true → sCl c = some r → Cond.selects r.1 ⟨"BalloonStallModel", "areAlike", "(II)Z"⟩ ⟨"BalloonStallModel", "areAlike", "(II)Z"⟩ ∈ lw_all := sl1 (by decide) rfl qs87
theorem js_164 : ∀ c r, pok 3 c = true → sCl c = some r → Cond.selects r.1 ⟨"BalloonStallModel", "pairs", "(IIII)Z"⟩ ⟨"BalloonStallModel", "pairs", "(IIII)Z"⟩ ∈ lw_all := sl1 (by decide) rfl qs88
theorem js_165 : ∀ c r, pok 3 c = true → sCl c = some r → Cond.selects r.1 ⟨"BalloonStallModel", "isSame", "(IIIIII)Z"⟩ ⟨"BalloonStallModel", "isSame", "(IIIIII)Z"⟩ ∈ lw_all := sl1 (by decide) rfl qs89
theorem js_166 : ∀ c r, pok 3 c = true → sCl c = some r → Cond.selects r.1 ⟨"BalloonStallModel", "between", "(IIII)I"⟩ ⟨"BalloonStallModel", "between", "(IIII)I"⟩ ∈ lw_all := sl1 (by decide) rfl qs90
theorem js_167 : ∀ c r, pok 3 c = true → sCl c = some r → Cond.selects r.1 ⟨"BalloonStallModel", "findFars", "(I)V"⟩ ⟨"BalloonStallModel", "findFars", "(I)V"⟩ ∈ lw_all := sl1 (by decide) rfl qs91
theorem js_168 : ∀ c r, pok 3 c = true → sCl c = some r → Cond.selects r.1 ⟨"BalloonStallModel", "firstPart", "(II)I"⟩ ⟨"BalloonStallModel", "firstPart", "(II)I"⟩ ∈ lw_all := sl1 (by decide) rfl qs92
theorem js_169 : ∀ c r, pok 3 c = true → sCl c = some r → Cond.selects r.1 ⟨"BalloonStallModel", "mayBeMade", "(II)Z"⟩ ⟨"BalloonStallModel", "mayBeMade", "(II)Z"⟩ ∈ lw_all := sl1 (by decide) rfl qs93
theorem js_170 : ∀ c r, pok 3 c = true → sCl c = some r → Cond.selects r.1 ⟨"BalloonStallModel", "isSort", "(I)Z"⟩ ⟨"BalloonStallModel", "isSort", "(I)Z"⟩ ∈ lw_all := sl1 (by decide) rfl qs94
theorem js_171 : ∀ c r, pok 3 c = true → sCl c = some r → Cond.selects r.1 ⟨"BalloonStallModel", "findFewest", "(II)V"⟩ ⟨"BalloonStallModel", "findFewest", "(II)V"⟩ ∈ lw_all := sl1 (by decide) rfl qs95
theorem js_172 : ∀ c r, pok 3 c = true → sCl c = some r → Cond.selects r.1 ⟨"BalloonStallModel", "isOneWay", "(III)Z"⟩ ⟨"BalloonStallModel", "isOneWay", "(III)Z"⟩ ∈ lw_all := sl1 (by decide) rfl qs96
theorem js_173 : ∀ c r, pok 3 c = true → sCl c = some r → Cond.selects r.1 ⟨"BalloonStallModel", "pairing", "(III)I"⟩ ⟨"BalloonStallModel", "pairing", "(III)I"⟩ ∈ lw_all := sl1 (by decide) rfl qs97
theorem js_174 : ∀ c r, pok 3 c = true → sCl c = some r → Cond.selects r.1 ⟨"BalloonStallModel", "isThere", "(I)Z"⟩ ⟨"BalloonStallModel", "isThere", "(I)Z"⟩ ∈ lw_all := sl1 (by decide) rfl qs98
theorem js_175 : ∀ c r, pok 3 c = true → sCl c = some r → Cond.selects r.1 ⟨"BalloonStallModel", "inBalloon", "(II)I"⟩ ⟨"BalloonStallModel", "inBalloon", "(II)I"⟩ ∈ lw_all := sl1 (by decide) rfl qs99
theorem js_176 : ∀ c r, pok 3 c = true → sCl c = some r → Cond.selects r.1 ⟨"BalloonStallModel", "startAging", "(I)V"⟩ ⟨"BalloonStallModel", "startAging", "(I)V"⟩ ∈ lw_all := sl1 (by decide) rfl qs100
theorem js_177 : ∀ c r, pok 3 c = true → sCl c = some r → Cond.selects r.1 ⟨"BalloonStallModel", "age", "(III)V"⟩ ⟨"BalloonStallModel", "age", "(III)V"⟩ ∈ lw_all := sl1 (by decide) rfl qs101
theorem js_178 : ∀ c r, pok 5 c = true → sCl c = some r → Cond.selects r.1 ⟨"BalloonStall$Reader", "here", "()I"⟩ ⟨"BalloonStall$Reader", "here", "()I"⟩ ∈ lw_all := by
  intro c r hp hc
  rcases jk_5 hp with rfl | rfl | rfl
  · cases hc
  · cases hc; exact q345
  · cases hc; exact q346

theorem js_179 : ∀ c r, pok 5 c = true → sCl c = some r → Cond.selects r.1 ⟨"BalloonStall$Reader", "take", "(Z)I"⟩ ⟨"BalloonStall$Reader", "take", "(Z)I"⟩ ∈ lw_all := by
  intro c r hp hc
  rcases jk_5 hp with rfl | rfl | rfl
  · cases hc
  · cases hc; exact q1886
  · cases hc; exact q1887

theorem js_180 : ∀ c r, pok 5 c = true → sCl c = some r → Cond.selects r.1 ⟨"BalloonStall$Reader", "look", "()I"⟩ ⟨"BalloonStall$Reader", "look", "()I"⟩ ∈ lw_all := by
  intro c r hp hc
  rcases jk_5 hp with rfl | rfl | rfl
  · cases hc
  · cases hc; exact q1889
  · cases hc; exact q1890

theorem js_181 : ∀ c r, pok 6 c = true → sCl c = some r → Cond.selects r.1 ⟨"BalloonStall$FigureReader", "balloon", "()LBalloonStall$Move;"⟩ ⟨"BalloonStall$FigureReader", "balloon", "()LBalloonStall$Move;"⟩ ∈ lw_all := sl1 (by decide) rfl qs1
theorem js_182 : ∀ c r, pok 6 c = true → sCl c = some r → Cond.selects r.1 ⟨"BalloonStall$FigureReader", "look", "()I"⟩ ⟨"BalloonStall$Reader", "look", "()I"⟩ ∈ lw_all := sl1 (by decide) rfl q339
theorem js_183 : ∀ c r, pok 6 c = true → sCl c = some r → Cond.selects r.1 ⟨"BalloonStall$FigureReader", "take", "(Z)I"⟩ ⟨"BalloonStall$Reader", "take", "(Z)I"⟩ ∈ lw_all := sl1 (by decide) rfl q351
theorem js_184 : ∀ c r, pok 6 c = true → sCl c = some r → Cond.selects r.1 ⟨"BalloonStall$FigureReader", "moves", "()LBalloonStall$Move;"⟩ ⟨"BalloonStall$FigureReader", "moves", "()LBalloonStall$Move;"⟩ ∈ lw_all := sl1 (by decide) rfl qs3
theorem js_185 : ∀ c r, pok 6 c = true → sCl c = some r → Cond.selects r.1 ⟨"BalloonStall$FigureReader", "move", "()LBalloonStall$Move;"⟩ ⟨"BalloonStall$FigureReader", "move", "()LBalloonStall$Move;"⟩ ∈ lw_all := sl1 (by decide) rfl qs4
theorem js_186 : ∀ c r, pok 6 c = true → sCl c = some r → Cond.selects r.1 ⟨"BalloonStall$FigureReader", "isMove", "(I)Z"⟩ ⟨"BalloonStall$FigureReader", "isMove", "(I)Z"⟩ ∈ lw_all := sl1 (by decide) rfl qs5
theorem js_187 : ∀ c r, pok 6 c = true → sCl c = some r → Cond.selects r.1 ⟨"BalloonStall$FigureReader", "bubble", "()I"⟩ ⟨"BalloonStall$FigureReader", "bubble", "()I"⟩ ∈ lw_all := sl1 (by decide) rfl qs6
theorem js_188 : ∀ c r, pok 6 c = true → sCl c = some r → Cond.selects r.1 ⟨"BalloonStall$FigureReader", "goIn", "()V"⟩ ⟨"BalloonStall$Reader", "goIn", "()V"⟩ ∈ lw_all := sl1 (by decide) rfl q482
theorem js_189 : ∀ c r, pok 6 c = true → sCl c = some r → Cond.selects r.1 ⟨"BalloonStall$FigureReader", "goOut", "(I)V"⟩ ⟨"BalloonStall$Reader", "goOut", "(I)V"⟩ ∈ lw_all := sl1 (by decide) rfl q489
theorem js_190 : ∀ c r, pok 6 c = true → sCl c = some r → Cond.selects r.1 ⟨"BalloonStall$FigureReader", "isDigit", "()Z"⟩ ⟨"BalloonStall$Reader", "isDigit", "()Z"⟩ ∈ lw_all := sl1 (by decide) rfl q465
theorem js_191 : ∀ c r, pok 23 c = true → sCl c = some r → Cond.selects r.1 ⟨"BalloonStall$Hand", "begins", "(I)V"⟩ ⟨"BalloonStall$Hand", "begins", "(I)V"⟩ ∈ lw_all := sl1 (by decide) rfl q801
theorem js_192 : ∀ c r, pok 23 c = true → sCl c = some r → Cond.selects r.1 ⟨"BalloonStall$Hand", "blows", "(I)V"⟩ ⟨"BalloonStall$Hand", "blows", "(I)V"⟩ ∈ lw_all := sl1 (by decide) rfl q771
theorem js_193 : ∀ c r, pok 13 c = true → sCl c = some r → Cond.selects r.1 ⟨"BalloonStall$RuleReader", "clause", "()LBalloonStall$Clause;"⟩ ⟨"BalloonStall$RuleReader", "clause", "()LBalloonStall$Clause;"⟩ ∈ lw_all := sl1 (by decide) rfl qs7
theorem js_194 : ∀ c r, pok 13 c = true → sCl c = some r → Cond.selects r.1 ⟨"BalloonStall$RuleReader", "look", "()I"⟩ ⟨"BalloonStall$Reader", "look", "()I"⟩ ∈ lw_all := sl1 (by decide) rfl q539
theorem js_195 : ∀ c r, pok 13 c = true → sCl c = some r → Cond.selects r.1 ⟨"BalloonStall$RuleReader", "take", "(Z)I"⟩ ⟨"BalloonStall$Reader", "take", "(Z)I"⟩ ∈ lw_all := sl1 (by decide) rfl q542
theorem js_196 : ∀ c r, pok 13 c = true → sCl c = some r → Cond.selects r.1 ⟨"BalloonStall$RuleReader", "condition", "(LBalloonStall$Sum;)LBalloonStall$Test;"⟩ ⟨"BalloonStall$RuleReader", "condition", "(LBalloonStall$Sum;)LBalloonStall$Test;"⟩ ∈ lw_all := sl1 (by decide) rfl qs8
theorem js_197 : ∀ c r, pok 13 c = true → sCl c = some r → Cond.selects r.1 ⟨"BalloonStall$RuleReader", "asked", "(LBalloonStall$Test;)LBalloonStall$Clause;"⟩ ⟨"BalloonStall$RuleReader", "asked", "(LBalloonStall$Test;)LBalloonStall$Clause;"⟩ ∈ lw_all := sl1 (by decide) rfl qs15
theorem js_198 : ∀ c r, pok 13 c = true → sCl c = some r → Cond.selects r.1 ⟨"BalloonStall$RuleReader", "sum", "()LBalloonStall$Sum;"⟩ ⟨"BalloonStall$RuleReader", "sum", "()LBalloonStall$Sum;"⟩ ∈ lw_all := sl1 (by decide) rfl qs11
theorem js_199 : ∀ c r, pok 13 c = true → sCl c = some r → Cond.selects r.1 ⟨"BalloonStall$RuleReader", "truth", "(LBalloonStall$Sum;)LBalloonStall$Test;"⟩ ⟨"BalloonStall$RuleReader", "truth", "(LBalloonStall$Sum;)LBalloonStall$Test;"⟩ ∈ lw_all := sl1 (by decide) rfl qs9
theorem js_200 : ∀ c r, pok 13 c = true → sCl c = some r → Cond.selects r.1 ⟨"BalloonStall$RuleReader", "unit", "()LBalloonStall$Test;"⟩ ⟨"BalloonStall$RuleReader", "unit", "()LBalloonStall$Test;"⟩ ∈ lw_all := sl1 (by decide) rfl qs10
theorem js_201 : ∀ c r, pok 13 c = true → sCl c = some r → Cond.selects r.1 ⟨"BalloonStall$RuleReader", "compares", "(LBalloonStall$Sum;)LBalloonStall$Test;"⟩ ⟨"BalloonStall$RuleReader", "compares", "(LBalloonStall$Sum;)LBalloonStall$Test;"⟩ ∈ lw_all := sl1 (by decide) rfl qs14
theorem js_202 : ∀ c r, pok 13 c = true → sCl c = some r → Cond.selects r.1 ⟨"BalloonStall$RuleReader", "goIn", "()V"⟩ ⟨"BalloonStall$Reader", "goIn", "()V"⟩ ∈ lw_all := sl1 (by decide) rfl q557
theorem js_203 : ∀ c r, pok 13 c = true → sCl c = some r → Cond.selects r.1 ⟨"BalloonStall$RuleReader", "comeOut", "()V"⟩ ⟨"BalloonStall$Reader", "comeOut", "()V"⟩ ∈ lw_all := sl1 (by decide) rfl q574
theorem js_204 : ∀ c r, pok 13 c = true → sCl c = some r → Cond.selects r.1 ⟨"BalloonStall$RuleReader", "goOut", "(I)V"⟩ ⟨"BalloonStall$Reader", "goOut", "(I)V"⟩ ∈ lw_all := sl1 (by decide) rfl q579
theorem js_205 : ∀ c r, pok 13 c = true → sCl c = some r → Cond.selects r.1 ⟨"BalloonStall$RuleReader", "term", "()LBalloonStall$Sum;"⟩ ⟨"BalloonStall$RuleReader", "term", "()LBalloonStall$Sum;"⟩ ∈ lw_all := sl1 (by decide) rfl qs12
theorem js_206 : ∀ c r, pok 13 c = true → sCl c = some r → Cond.selects r.1 ⟨"BalloonStall$RuleReader", "atom", "()LBalloonStall$Sum;"⟩ ⟨"BalloonStall$RuleReader", "atom", "()LBalloonStall$Sum;"⟩ ∈ lw_all := sl1 (by decide) rfl qs13
theorem js_207 : ∀ c r, pok 13 c = true → sCl c = some r → Cond.selects r.1 ⟨"BalloonStall$RuleReader", "isDigit", "()Z"⟩ ⟨"BalloonStall$Reader", "isDigit", "()Z"⟩ ∈ lw_all := sl1 (by decide) rfl q607
theorem js_208 : ∀ c r, pok 23 c = true → sCl c = some r → Cond.selects r.1 ⟨"BalloonStall$Hand", "held", "()I"⟩ ⟨"BalloonStall$Hand", "held", "()I"⟩ ∈ lw_all := sl1 (by decide) rfl qs16
theorem js_209 : ∀ c r, pok 23 c = true → sCl c = some r → Cond.selects r.1 ⟨"BalloonStall$Hand", "root", "(I)I"⟩ ⟨"BalloonStall$Hand", "root", "(I)I"⟩ ∈ lw_all := sl1 (by decide) rfl q787
theorem js_210 : ∀ c r, pok 23 c = true → sCl c = some r → Cond.selects r.1 ⟨"BalloonStall$Hand", "ends", "(I)I"⟩ ⟨"BalloonStall$Hand", "ends", "(I)I"⟩ ∈ lw_all := sl1 (by decide) rfl qs17
theorem js_211 : ∀ c r, pok 24 c = true → sCl c = some r → Cond.selects r.1 ⟨"BalloonStall$Figure", "hang", "(II)I"⟩ ⟨"BalloonStall$Figure", "hang", "(II)I"⟩ ∈ lw_all := sl1 (by decide) rfl qs24
theorem js_212 : ∀ c r, pok 24 c = true → sCl c = some r → Cond.selects r.1 ⟨"BalloonStall$Figure", "meets", "(II)Z"⟩ ⟨"BalloonStall$Figure", "meets", "(II)Z"⟩ ∈ lw_all := sl1 (by decide) rfl qs25
theorem js_213 : ∀ c r, pok 24 c = true → sCl c = some r → Cond.selects r.1 ⟨"BalloonStall$Figure", "oddOf", "(I)I"⟩ ⟨"BalloonStall$Figure", "oddOf", "(I)I"⟩ ∈ lw_all := sl1 (by decide) rfl q1068
theorem jC_0 : sCode 0 = cX0_bubble := rfl
theorem jY_0 : (sY 0).cls = "BalloonStallLaw" := rfl
theorem jC_1 : sCode 1 = cX0_guest := rfl
theorem jY_1 : (sY 1).cls = "BalloonStallLaw" := rfl
theorem jC_2 : sCode 2 = cX0_worth := rfl
theorem jY_2 : (sY 2).cls = "BalloonStallLaw" := rfl
theorem jC_3 : sCode 3 = cL_law := rfl
theorem jY_3 : (sY 3).cls = "BalloonStallLaw" := rfl
theorem jC_4 : sCode 4 = cX1_init := rfl
theorem jY_4 : (sY 4).cls = "BalloonStall" := rfl
theorem jC_5 : sCode 5 = cX1_sort := rfl
theorem jY_5 : (sY 5).cls = "BalloonStall" := rfl
theorem jC_6 : sCode 6 = cX1_isIn := rfl
theorem jY_6 : (sY 6).cls = "BalloonStall" := rfl
theorem jC_7 : sCode 7 = cX1_feed := rfl
theorem jY_7 : (sY 7).cls = "BalloonStall" := rfl
theorem jC_8 : sCode 8 = cX1_bytes := rfl
theorem jY_8 : (sY 8).cls = "BalloonStall" := rfl
theorem jC_9 : sCode 9 = cX1_bring := rfl
theorem jY_9 : (sY 9).cls = "BalloonStall" := rfl
theorem jC_10 : sCode 10 = cX1_end := rfl
theorem jY_10 : (sY 10).cls = "BalloonStall" := rfl
theorem jC_11 : sCode 11 = cX1_fault := rfl
theorem jY_11 : (sY 11).cls = "BalloonStall" := rfl
theorem jC_12 : sCode 12 = cX1_figure := rfl
theorem jY_12 : (sY 12).cls = "BalloonStall" := rfl
theorem jC_13 : sCode 13 = cX1_keep := rfl
theorem jY_13 : (sY 13).cls = "BalloonStall" := rfl
theorem jC_14 : sCode 14 = cX1_many := rfl
theorem jY_14 : (sY 14).cls = "BalloonStall" := rfl
theorem jC_15 : sCode 15 = cX1_isFigure := rfl
theorem jY_15 : (sY 15).cls = "BalloonStall" := rfl
theorem jC_16 : sCode 16 = cX1_ends := rfl
theorem jY_16 : (sY 16).cls = "BalloonStall" := rfl
theorem jC_17 : sCode 17 = cX1_isPoint := rfl
theorem jY_17 : (sY 17).cls = "BalloonStall" := rfl
theorem jC_18 : sCode 18 = cX1_bursts := rfl
theorem jY_18 : (sY 18).cls = "BalloonStall" := rfl
theorem jC_19 : sCode 19 = cX1_isBalloon := rfl
theorem jY_19 : (sY 19).cls = "BalloonStall" := rfl
theorem jC_20 : sCode 20 = cX1_rest := rfl
theorem jY_20 : (sY 20).cls = "BalloonStall" := rfl
theorem jC_21 : sCode 21 = cX1_hands := rfl
theorem jY_21 : (sY 21).cls = "BalloonStall" := rfl
theorem jC_22 : sCode 22 = cX1_holds := rfl
theorem jY_22 : (sY 22).cls = "BalloonStall" := rfl
theorem jC_23 : sCode 23 = cX1_isBubble := rfl
theorem jY_23 : (sY 23).cls = "BalloonStall" := rfl
theorem jC_24 : sCode 24 = cX1_plain := rfl
theorem jY_24 : (sY 24).cls = "BalloonStall" := rfl
theorem jC_25 : sCode 25 = cX1_pop := rfl
theorem jY_25 : (sY 25).cls = "BalloonStall" := rfl
theorem jC_26 : sCode 26 = cX1_weakest := rfl
theorem jY_26 : (sY 26).cls = "BalloonStall" := rfl
theorem jC_27 : sCode 27 = cX1_add := rfl
theorem jY_27 : (sY 27).cls = "BalloonStall" := rfl
theorem jC_28 : sCode 28 = cX1_alike := rfl
theorem jY_28 : (sY 28).cls = "BalloonStall" := rfl
theorem jC_29 : sCode 29 = cX1_isMatched := rfl
theorem jY_29 : (sY 29).cls = "BalloonStall" := rfl
theorem jC_30 : sCode 30 = cX1_areAlike := rfl
theorem jY_30 : (sY 30).cls = "BalloonStall" := rfl
theorem jC_31 : sCode 31 = cX1_matches := rfl
theorem jY_31 : (sY 31).cls = "BalloonStall" := rfl
theorem jC_32 : sCode 32 = cX1_fits := rfl
theorem jY_32 : (sY 32).cls = "BalloonStall" := rfl
theorem jC_33 : sCode 33 = cX1_match := rfl
theorem jY_33 : (sY 33).cls = "BalloonStall" := rfl
theorem jC_34 : sCode 34 = cX1_far := rfl
theorem jY_34 : (sY 34).cls = "BalloonStall" := rfl
theorem jC_35 : sCode 35 = cX1_layFars := rfl
theorem jY_35 : (sY 35).cls = "BalloonStall" := rfl
theorem jC_36 : sCode 36 = cX1_span := rfl
theorem jY_36 : (sY 36).cls = "BalloonStall" := rfl
theorem jC_37 : sCode 37 = cX1_strokes := rfl
theorem jY_37 : (sY 37).cls = "BalloonStall" := rfl
theorem jC_38 : sCode 38 = cX1_made := rfl
theorem jY_38 : (sY 38).cls = "BalloonStall" := rfl
theorem jC_39 : sCode 39 = cX1_isMaking := rfl
theorem jY_39 : (sY 39).cls = "BalloonStall" := rfl
theorem jC_40 : sCode 40 = cX1_isSort := rfl
theorem jY_40 : (sY 40).cls = "BalloonStall" := rfl
theorem jC_41 : sCode 41 = cX1_layMade := rfl
theorem jY_41 : (sY 41).cls = "BalloonStall" := rfl
theorem jC_42 : sCode 42 = cX1_set := rfl
theorem jY_42 : (sY 42).cls = "BalloonStall" := rfl
theorem jC_43 : sCode 43 = cX1_firstOf := rfl
theorem jY_43 : (sY 43).cls = "BalloonStall" := rfl
theorem jC_44 : sCode 44 = cX1_twice := rfl
theorem jY_44 : (sY 44).cls = "BalloonStall" := rfl
theorem jC_45 : sCode 45 = cX1_paired := rfl
theorem jY_45 : (sY 45).cls = "BalloonStall" := rfl
theorem jC_46 : sCode 46 = cX1_stock := rfl
theorem jY_46 : (sY 46).cls = "BalloonStall" := rfl
theorem jC_47 : sCode 47 = cX1_pace := rfl
theorem jY_47 : (sY 47).cls = "BalloonStall" := rfl
theorem jC_48 : sCode 48 = cX1_comes := rfl
theorem jY_48 : (sY 48).cls = "BalloonStall" := rfl
theorem jC_49 : sCode 49 = cX1_close := rfl
theorem jY_49 : (sY 49).cls = "BalloonStall" := rfl
theorem jC_50 : sCode 50 = cX1_run := rfl
theorem jY_50 : (sY 50).cls = "BalloonStall" := rfl
theorem jC_51 : sCode 51 = cX1_serves := rfl
theorem jY_51 : (sY 51).cls = "BalloonStall" := rfl
theorem jC_52 : sCode 52 = cX1_hasFor := rfl
theorem jY_52 : (sY 52).cls = "BalloonStall" := rfl
theorem jC_53 : sCode 53 = cX1_makes := rfl
theorem jY_53 : (sY 53).cls = "BalloonStall" := rfl
theorem jC_54 : sCode 54 = cX1_rule := rfl
theorem jY_54 : (sY 54).cls = "BalloonStall" := rfl
theorem jC_55 : sCode 55 = cX1_aged := rfl
theorem jY_55 : (sY 55).cls = "BalloonStall" := rfl
theorem jC_56 : sCode 56 = cX1_isRule := rfl
theorem jY_56 : (sY 56).cls = "BalloonStall" := rfl
theorem jC_57 : sCode 57 = cX1_fresh := rfl
theorem jY_57 : (sY 57).cls = "BalloonStall" := rfl
theorem jC_58 : sCode 58 = cX1_hour := rfl
theorem jY_58 : (sY 58).cls = "BalloonStall" := rfl
theorem jC_59 : sCode 59 = cX1_worthOf := rfl
theorem jY_59 : (sY 59).cls = "BalloonStall" := rfl
theorem jC_60 : sCode 60 = cX1_falls := rfl
theorem jY_60 : (sY 60).cls = "BalloonStall" := rfl
theorem jC_61 : sCode 61 = cX1_count := rfl
theorem jY_61 : (sY 61).cls = "BalloonStall" := rfl
theorem jC_62 : sCode 62 = cX1_bubble := rfl
theorem jY_62 : (sY 62).cls = "BalloonStall" := rfl
theorem jC_63 : sCode 63 = cX1_guest := rfl
theorem jY_63 : (sY 63).cls = "BalloonStall" := rfl
theorem jC_64 : sCode 64 = cX1_worth := rfl
theorem jY_64 : (sY 64).cls = "BalloonStall" := rfl
theorem jC_65 : sCode 65 = cX2_init := rfl
theorem jY_65 : (sY 65).cls = "BalloonStall$Letters" := rfl
theorem jC_66 : sCode 66 = cX3_init := rfl
theorem jY_66 : (sY 66).cls = "BalloonStallModel" := rfl
theorem jC_67 : sCode 67 = cX3_thrown := rfl
theorem jY_67 : (sY 67).cls = "BalloonStallModel" := rfl
theorem jC_68 : sCode 68 = cX3_sort := rfl
theorem jY_68 : (sY 68).cls = "BalloonStallModel" := rfl
theorem jC_69 : sCode 69 = cX3_in := rfl
theorem jY_69 : (sY 69).cls = "BalloonStallModel" := rfl
theorem jC_70 : sCode 70 = cX3_feed := rfl
theorem jY_70 : (sY 70).cls = "BalloonStallModel" := rfl
theorem jC_71 : sCode 71 = cX3_byteOf := rfl
theorem jY_71 : (sY 71).cls = "BalloonStallModel" := rfl
theorem jC_72 : sCode 72 = cX3_end := rfl
theorem jY_72 : (sY 72).cls = "BalloonStallModel" := rfl
theorem jC_73 : sCode 73 = cX3_fault := rfl
theorem jY_73 : (sY 73).cls = "BalloonStallModel" := rfl
theorem jC_74 : sCode 74 = cX3_readFigure := rfl
theorem jY_74 : (sY 74).cls = "BalloonStallModel" := rfl
theorem jC_75 : sCode 75 = cX3_balloon := rfl
theorem jY_75 : (sY 75).cls = "BalloonStallModel" := rfl
theorem jC_76 : sCode 76 = cX3_look := rfl
theorem jY_76 : (sY 76).cls = "BalloonStallModel" := rfl
theorem jC_77 : sCode 77 = cX3_here := rfl
theorem jY_77 : (sY 77).cls = "BalloonStallModel" := rfl
theorem jC_78 : sCode 78 = cX3_bad := rfl
theorem jY_78 : (sY 78).cls = "BalloonStallModel" := rfl
theorem jC_79 : sCode 79 = cX3_isDigit := rfl
theorem jY_79 : (sY 79).cls = "BalloonStallModel" := rfl
theorem jC_80 : sCode 80 = cX3_newPoint := rfl
theorem jY_80 : (sY 80).cls = "BalloonStallModel" := rfl
theorem jC_81 : sCode 81 = cX3_moves := rfl
theorem jY_81 : (sY 81).cls = "BalloonStallModel" := rfl
theorem jC_82 : sCode 82 = cX3_bubble := rfl
theorem jY_82 : (sY 82).cls = "BalloonStallModel" := rfl
theorem jC_83 : sCode 83 = cX3_held := rfl
theorem jY_83 : (sY 83).cls = "BalloonStallModel" := rfl
theorem jC_84 : sCode 84 = cX3_find := rfl
theorem jY_84 : (sY 84).cls = "BalloonStallModel" := rfl
theorem jC_85 : sCode 85 = cX3_joinTo := rfl
theorem jY_85 : (sY 85).cls = "BalloonStallModel" := rfl
theorem jC_86 : sCode 86 = cX3_nested := rfl
theorem jY_86 : (sY 86).cls = "BalloonStallModel" := rfl
theorem jC_87 : sCode 87 = cX3_numberPoints := rfl
theorem jY_87 : (sY 87).cls = "BalloonStallModel" := rfl
theorem jC_88 : sCode 88 = cX3_readRule := rfl
theorem jY_88 : (sY 88).cls = "BalloonStallModel" := rfl
theorem jC_89 : sCode 89 = cX3_clause := rfl
theorem jY_89 : (sY 89).cls = "BalloonStallModel" := rfl
theorem jC_90 : sCode 90 = cX3_condition := rfl
theorem jY_90 : (sY 90).cls = "BalloonStallModel" := rfl
theorem jC_91 : sCode 91 = cX3_truth := rfl
theorem jY_91 : (sY 91).cls = "BalloonStallModel" := rfl
theorem jC_92 : sCode 92 = cX3_unit := rfl
theorem jY_92 : (sY 92).cls = "BalloonStallModel" := rfl
theorem jC_93 : sCode 93 = cX3_opens := rfl
theorem jY_93 : (sY 93).cls = "BalloonStallModel" := rfl
theorem jC_94 : sCode 94 = cX3_say := rfl
theorem jY_94 : (sY 94).cls = "BalloonStallModel" := rfl
theorem jC_95 : sCode 95 = cX3_sign := rfl
theorem jY_95 : (sY 95).cls = "BalloonStallModel" := rfl
theorem jC_96 : sCode 96 = cX3_sum := rfl
theorem jY_96 : (sY 96).cls = "BalloonStallModel" := rfl
theorem jC_97 : sCode 97 = cX3_term := rfl
theorem jY_97 : (sY 97).cls = "BalloonStallModel" := rfl
theorem jC_98 : sCode 98 = cX3_atom := rfl
theorem jY_98 : (sY 98).cls = "BalloonStallModel" := rfl
theorem jC_99 : sCode 99 = cX3_isLetter := rfl
theorem jY_99 : (sY 99).cls = "BalloonStallModel" := rfl
theorem jC_100 : sCode 100 = cX3_figure := rfl
theorem jY_100 : (sY 100).cls = "BalloonStallModel" := rfl
theorem jC_101 : sCode 101 = cX3_rule := rfl
theorem jY_101 : (sY 101).cls = "BalloonStallModel" := rfl
theorem jC_102 : sCode 102 = cX3_worth := rfl
theorem jY_102 : (sY 102).cls = "BalloonStallModel" := rfl
theorem jC_103 : sCode 103 = cX3_worthOf := rfl
theorem jY_103 : (sY 103).cls = "BalloonStallModel" := rfl
theorem jC_104 : sCode 104 = cX3_work := rfl
theorem jY_104 : (sY 104).cls = "BalloonStallModel" := rfl
theorem jC_105 : sCode 105 = cX3_both := rfl
theorem jY_105 : (sY 105).cls = "BalloonStallModel" := rfl
theorem jC_106 : sCode 106 = cX3_within := rfl
theorem jY_106 : (sY 106).cls = "BalloonStallModel" := rfl
theorem jC_107 : sCode 107 = cX3_many := rfl
theorem jY_107 : (sY 107).cls = "BalloonStallModel" := rfl
theorem jC_108 : sCode 108 = cX3_isFigure := rfl
theorem jY_108 : (sY 108).cls = "BalloonStallModel" := rfl
theorem jC_109 : sCode 109 = cX3_isTwist := rfl
theorem jY_109 : (sY 109).cls = "BalloonStallModel" := rfl
theorem jC_110 : sCode 110 = cX3_isSlack := rfl
theorem jY_110 : (sY 110).cls = "BalloonStallModel" := rfl
theorem jC_111 : sCode 111 = cX3_all := rfl
theorem jY_111 : (sY 111).cls = "BalloonStallModel" := rfl
theorem jC_112 : sCode 112 = cX3_endsIn := rfl
theorem jY_112 : (sY 112).cls = "BalloonStallModel" := rfl
theorem jC_113 : sCode 113 = cX3_odd := rfl
theorem jY_113 : (sY 113).cls = "BalloonStallModel" := rfl
theorem jC_114 : sCode 114 = cX3_bubble_2 := rfl
theorem jY_114 : (sY 114).cls = "BalloonStallModel" := rfl
theorem jC_115 : sCode 115 = cX3_isBubble := rfl
theorem jY_115 : (sY 115).cls = "BalloonStallModel" := rfl
theorem jC_116 : sCode 116 = cX3_ends := rfl
theorem jY_116 : (sY 116).cls = "BalloonStallModel" := rfl
theorem jC_117 : sCode 117 = cX3_isPoint := rfl
theorem jY_117 : (sY 117).cls = "BalloonStallModel" := rfl
theorem jC_118 : sCode 118 = cX3_bursts := rfl
theorem jY_118 : (sY 118).cls = "BalloonStallModel" := rfl
theorem jC_119 : sCode 119 = cX3_isBalloon := rfl
theorem jY_119 : (sY 119).cls = "BalloonStallModel" := rfl
theorem jC_120 : sCode 120 = cX3_rest := rfl
theorem jY_120 : (sY 120).cls = "BalloonStallModel" := rfl
theorem jC_121 : sCode 121 = cX3_hands := rfl
theorem jY_121 : (sY 121).cls = "BalloonStallModel" := rfl
theorem jC_122 : sCode 122 = cX3_holds := rfl
theorem jY_122 : (sY 122).cls = "BalloonStallModel" := rfl
theorem jC_123 : sCode 123 = cX3_plain := rfl
theorem jY_123 : (sY 123).cls = "BalloonStallModel" := rfl
theorem jC_124 : sCode 124 = cX3_startFigure := rfl
theorem jY_124 : (sY 124).cls = "BalloonStallModel" := rfl
theorem jC_125 : sCode 125 = cX3_put := rfl
theorem jY_125 : (sY 125).cls = "BalloonStallModel" := rfl
theorem jC_126 : sCode 126 = cX3_endFigure := rfl
theorem jY_126 : (sY 126).cls = "BalloonStallModel" := rfl
theorem jC_127 : sCode 127 = cX3_handsOf := rfl
theorem jY_127 : (sY 127).cls = "BalloonStallModel" := rfl
theorem jC_128 : sCode 128 = cX3_add := rfl
theorem jY_128 : (sY 128).cls = "BalloonStallModel" := rfl
theorem jC_129 : sCode 129 = cX3_addAll := rfl
theorem jY_129 : (sY 129).cls = "BalloonStallModel" := rfl
theorem jC_130 : sCode 130 = cX3_pop := rfl
theorem jY_130 : (sY 130).cls = "BalloonStallModel" := rfl
theorem jC_131 : sCode 131 = cX3_leftOf := rfl
theorem jY_131 : (sY 131).cls = "BalloonStallModel" := rfl
theorem jC_132 : sCode 132 = cX3_partsOf := rfl
theorem jY_132 : (sY 132).cls = "BalloonStallModel" := rfl
theorem jC_133 : sCode 133 = cX3_meets := rfl
theorem jY_133 : (sY 133).cls = "BalloonStallModel" := rfl
theorem jC_134 : sCode 134 = cX3_weakest := rfl
theorem jY_134 : (sY 134).cls = "BalloonStallModel" := rfl
theorem jC_135 : sCode 135 = cX3_alike := rfl
theorem jY_135 : (sY 135).cls = "BalloonStallModel" := rfl
theorem jC_136 : sCode 136 = cX3_mayMatch := rfl
theorem jY_136 : (sY 136).cls = "BalloonStallModel" := rfl
theorem jC_137 : sCode 137 = cX3_areAlike := rfl
theorem jY_137 : (sY 137).cls = "BalloonStallModel" := rfl
theorem jC_138 : sCode 138 = cX3_pairs := rfl
theorem jY_138 : (sY 138).cls = "BalloonStallModel" := rfl
theorem jC_139 : sCode 139 = cX3_isSame := rfl
theorem jY_139 : (sY 139).cls = "BalloonStallModel" := rfl
theorem jC_140 : sCode 140 = cX3_between := rfl
theorem jY_140 : (sY 140).cls = "BalloonStallModel" := rfl
theorem jC_141 : sCode 141 = cX3_match := rfl
theorem jY_141 : (sY 141).cls = "BalloonStallModel" := rfl
theorem jC_142 : sCode 142 = cX3_far := rfl
theorem jY_142 : (sY 142).cls = "BalloonStallModel" := rfl
theorem jC_143 : sCode 143 = cX3_findFars := rfl
theorem jY_143 : (sY 143).cls = "BalloonStallModel" := rfl
theorem jC_144 : sCode 144 = cX3_span := rfl
theorem jY_144 : (sY 144).cls = "BalloonStallModel" := rfl
theorem jC_145 : sCode 145 = cX3_strokes := rfl
theorem jY_145 : (sY 145).cls = "BalloonStallModel" := rfl
theorem jC_146 : sCode 146 = cX3_firstPart := rfl
theorem jY_146 : (sY 146).cls = "BalloonStallModel" := rfl
theorem jC_147 : sCode 147 = cX3_made := rfl
theorem jY_147 : (sY 147).cls = "BalloonStallModel" := rfl
theorem jC_148 : sCode 148 = cX3_mayBeMade := rfl
theorem jY_148 : (sY 148).cls = "BalloonStallModel" := rfl
theorem jC_149 : sCode 149 = cX3_isSort := rfl
theorem jY_149 : (sY 149).cls = "BalloonStallModel" := rfl
theorem jC_150 : sCode 150 = cX3_findFewest := rfl
theorem jY_150 : (sY 150).cls = "BalloonStallModel" := rfl
theorem jC_151 : sCode 151 = cX3_isOneWay := rfl
theorem jY_151 : (sY 151).cls = "BalloonStallModel" := rfl
theorem jC_152 : sCode 152 = cX3_set := rfl
theorem jY_152 : (sY 152).cls = "BalloonStallModel" := rfl
theorem jC_153 : sCode 153 = cX3_twice := rfl
theorem jY_153 : (sY 153).cls = "BalloonStallModel" := rfl
theorem jC_154 : sCode 154 = cX3_pairing := rfl
theorem jY_154 : (sY 154).cls = "BalloonStallModel" := rfl
theorem jC_155 : sCode 155 = cX3_stock := rfl
theorem jY_155 : (sY 155).cls = "BalloonStallModel" := rfl
theorem jC_156 : sCode 156 = cX3_pace := rfl
theorem jY_156 : (sY 156).cls = "BalloonStallModel" := rfl
theorem jC_157 : sCode 157 = cX3_comes := rfl
theorem jY_157 : (sY 157).cls = "BalloonStallModel" := rfl
theorem jC_158 : sCode 158 = cX3_close := rfl
theorem jY_158 : (sY 158).cls = "BalloonStallModel" := rfl
theorem jC_159 : sCode 159 = cX3_run := rfl
theorem jY_159 : (sY 159).cls = "BalloonStallModel" := rfl
theorem jC_160 : sCode 160 = cX3_isThere := rfl
theorem jY_160 : (sY 160).cls = "BalloonStallModel" := rfl
theorem jC_161 : sCode 161 = cX3_inBalloon := rfl
theorem jY_161 : (sY 161).cls = "BalloonStallModel" := rfl
theorem jC_162 : sCode 162 = cX3_guest := rfl
theorem jY_162 : (sY 162).cls = "BalloonStallModel" := rfl
theorem jC_163 : sCode 163 = cX3_aged := rfl
theorem jY_163 : (sY 163).cls = "BalloonStallModel" := rfl
theorem jC_164 : sCode 164 = cX3_startAging := rfl
theorem jY_164 : (sY 164).cls = "BalloonStallModel" := rfl
theorem jC_165 : sCode 165 = cX3_age := rfl
theorem jY_165 : (sY 165).cls = "BalloonStallModel" := rfl
theorem jC_166 : sCode 166 = cX3_falls := rfl
theorem jY_166 : (sY 166).cls = "BalloonStallModel" := rfl
theorem jC_167 : sCode 167 = cX3_count := rfl
theorem jY_167 : (sY 167).cls = "BalloonStallModel" := rfl
theorem jC_168 : sCode 168 = cX4_init := rfl
theorem jY_168 : (sY 168).cls = "BalloonStall$Sort" := rfl
theorem jC_169 : sCode 169 = cX4_strains := rfl
theorem jY_169 : (sY 169).cls = "BalloonStall$Sort" := rfl
theorem jC_170 : sCode 170 = cX5_look := rfl
theorem jY_170 : (sY 170).cls = "BalloonStall$Reader" := rfl
theorem jC_171 : sCode 171 = cX5_here := rfl
theorem jY_171 : (sY 171).cls = "BalloonStall$Reader" := rfl
theorem jC_172 : sCode 172 = cX5_take := rfl
theorem jY_172 : (sY 172).cls = "BalloonStall$Reader" := rfl
theorem jC_173 : sCode 173 = cX5_isDigit := rfl
theorem jY_173 : (sY 173).cls = "BalloonStall$Reader" := rfl
theorem jC_174 : sCode 174 = cX5_goIn := rfl
theorem jY_174 : (sY 174).cls = "BalloonStall$Reader" := rfl
theorem jC_175 : sCode 175 = cX5_goOut := rfl
theorem jY_175 : (sY 175).cls = "BalloonStall$Reader" := rfl
theorem jC_176 : sCode 176 = cX5_comeOut := rfl
theorem jY_176 : (sY 176).cls = "BalloonStall$Reader" := rfl
theorem jC_177 : sCode 177 = cX6_whole := rfl
theorem jY_177 : (sY 177).cls = "BalloonStall$FigureReader" := rfl
theorem jC_178 : sCode 178 = cX6_balloon := rfl
theorem jY_178 : (sY 178).cls = "BalloonStall$FigureReader" := rfl
theorem jC_179 : sCode 179 = cX6_moves := rfl
theorem jY_179 : (sY 179).cls = "BalloonStall$FigureReader" := rfl
theorem jC_180 : sCode 180 = cX6_move := rfl
theorem jY_180 : (sY 180).cls = "BalloonStall$FigureReader" := rfl
theorem jC_181 : sCode 181 = cX6_isMove := rfl
theorem jY_181 : (sY 181).cls = "BalloonStall$FigureReader" := rfl
theorem jC_182 : sCode 182 = cX6_bubble := rfl
theorem jY_182 : (sY 182).cls = "BalloonStall$FigureReader" := rfl
theorem jC_183 : sCode 183 = cX8_init := rfl
theorem jY_183 : (sY 183).cls = "BalloonStall$Move" := rfl
theorem jC_184 : sCode 184 = cX8_all := rfl
theorem jY_184 : (sY 184).cls = "BalloonStall$Move" := rfl
theorem jC_185 : sCode 185 = cX9_init := rfl
theorem jY_185 : (sY 185).cls = "BalloonStall$Fresh" := rfl
theorem jC_186 : sCode 186 = cX9_made := rfl
theorem jY_186 : (sY 186).cls = "BalloonStall$Fresh" := rfl
theorem jC_187 : sCode 187 = cX10_init := rfl
theorem jY_187 : (sY 187).cls = "BalloonStall$Name" := rfl
theorem jC_188 : sCode 188 = cX10_made := rfl
theorem jY_188 : (sY 188).cls = "BalloonStall$Name" := rfl
theorem jC_189 : sCode 189 = cX11_init := rfl
theorem jY_189 : (sY 189).cls = "BalloonStall$Blow" := rfl
theorem jC_190 : sCode 190 = cX11_made := rfl
theorem jY_190 : (sY 190).cls = "BalloonStall$Blow" := rfl
theorem jC_191 : sCode 191 = cX12_init := rfl
theorem jY_191 : (sY 191).cls = "BalloonStall$Ring" := rfl
theorem jC_192 : sCode 192 = cX12_made := rfl
theorem jY_192 : (sY 192).cls = "BalloonStall$Ring" := rfl
theorem jC_193 : sCode 193 = cX13_whole := rfl
theorem jY_193 : (sY 193).cls = "BalloonStall$RuleReader" := rfl
theorem jC_194 : sCode 194 = cX13_clause := rfl
theorem jY_194 : (sY 194).cls = "BalloonStall$RuleReader" := rfl
theorem jC_195 : sCode 195 = cX13_condition := rfl
theorem jY_195 : (sY 195).cls = "BalloonStall$RuleReader" := rfl
theorem jC_196 : sCode 196 = cX13_truth := rfl
theorem jY_196 : (sY 196).cls = "BalloonStall$RuleReader" := rfl
theorem jC_197 : sCode 197 = cX13_unit := rfl
theorem jY_197 : (sY 197).cls = "BalloonStall$RuleReader" := rfl
theorem jC_198 : sCode 198 = cX13_sum := rfl
theorem jY_198 : (sY 198).cls = "BalloonStall$RuleReader" := rfl
theorem jC_199 : sCode 199 = cX13_term := rfl
theorem jY_199 : (sY 199).cls = "BalloonStall$RuleReader" := rfl
theorem jC_200 : sCode 200 = cX13_atom := rfl
theorem jY_200 : (sY 200).cls = "BalloonStall$RuleReader" := rfl
theorem jC_201 : sCode 201 = cX13_compares := rfl
theorem jY_201 : (sY 201).cls = "BalloonStall$RuleReader" := rfl
theorem jC_202 : sCode 202 = cX13_asked := rfl
theorem jY_202 : (sY 202).cls = "BalloonStall$RuleReader" := rfl
theorem jC_203 : sCode 203 = cX14_init := rfl
theorem jY_203 : (sY 203).cls = "BalloonStall$Test" := rfl
theorem jC_204 : sCode 204 = cX15_init := rfl
theorem jY_204 : (sY 204).cls = "BalloonStall$Not" := rfl
theorem jC_205 : sCode 205 = cX15_holds := rfl
theorem jY_205 : (sY 205).cls = "BalloonStall$Not" := rfl
theorem jC_206 : sCode 206 = cX16_init := rfl
theorem jY_206 : (sY 206).cls = "BalloonStall$Sum" := rfl
theorem jC_207 : sCode 207 = cX17_init := rfl
theorem jY_207 : (sY 207).cls = "BalloonStall$Letter" := rfl
theorem jC_208 : sCode 208 = cX17_of := rfl
theorem jY_208 : (sY 208).cls = "BalloonStall$Letter" := rfl
theorem jC_209 : sCode 209 = cX18_init := rfl
theorem jY_209 : (sY 209).cls = "BalloonStall$Plain" := rfl
theorem jC_210 : sCode 210 = cX18_of := rfl
theorem jY_210 : (sY 210).cls = "BalloonStall$Plain" := rfl
theorem jC_211 : sCode 211 = cX19_init := rfl
theorem jY_211 : (sY 211).cls = "BalloonStall$Pair" := rfl
theorem jC_212 : sCode 212 = cX19_of := rfl
theorem jY_212 : (sY 212).cls = "BalloonStall$Pair" := rfl
theorem jC_213 : sCode 213 = cX20_init := rfl
theorem jY_213 : (sY 213).cls = "BalloonStall$Compares" := rfl
theorem jC_214 : sCode 214 = cX20_holds := rfl
theorem jY_214 : (sY 214).cls = "BalloonStall$Compares" := rfl
theorem jC_215 : sCode 215 = cX21_init := rfl
theorem jY_215 : (sY 215).cls = "BalloonStall$Both" := rfl
theorem jC_216 : sCode 216 = cX21_holds := rfl
theorem jY_216 : (sY 216).cls = "BalloonStall$Both" := rfl
theorem jC_217 : sCode 217 = cX22_init := rfl
theorem jY_217 : (sY 217).cls = "BalloonStall$Clause" := rfl
theorem jC_218 : sCode 218 = cX22_holds := rfl
theorem jY_218 : (sY 218).cls = "BalloonStall$Clause" := rfl
theorem jC_219 : sCode 219 = cX23_init := rfl
theorem jY_219 : (sY 219).cls = "BalloonStall$Hand" := rfl
theorem jC_220 : sCode 220 = cX23_blows := rfl
theorem jY_220 : (sY 220).cls = "BalloonStall$Hand" := rfl
theorem jC_221 : sCode 221 = cX23_point := rfl
theorem jY_221 : (sY 221).cls = "BalloonStall$Hand" := rfl
theorem jC_222 : sCode 222 = cX23_adds := rfl
theorem jY_222 : (sY 222).cls = "BalloonStall$Hand" := rfl
theorem jC_223 : sCode 223 = cX23_held := rfl
theorem jY_223 : (sY 223).cls = "BalloonStall$Hand" := rfl
theorem jC_224 : sCode 224 = cX23_root := rfl
theorem jY_224 : (sY 224).cls = "BalloonStall$Hand" := rfl
theorem jC_225 : sCode 225 = cX23_ends := rfl
theorem jY_225 : (sY 225).cls = "BalloonStall$Hand" := rfl
theorem jC_226 : sCode 226 = cX23_begins := rfl
theorem jY_226 : (sY 226).cls = "BalloonStall$Hand" := rfl
theorem jC_227 : sCode 227 = cX23_joins := rfl
theorem jY_227 : (sY 227).cls = "BalloonStall$Hand" := rfl
theorem jC_228 : sCode 228 = cX23_takes := rfl
theorem jY_228 : (sY 228).cls = "BalloonStall$Hand" := rfl
theorem jC_229 : sCode 229 = cX24_init := rfl
theorem jY_229 : (sY 229).cls = "BalloonStall$Figure" := rfl
theorem jC_230 : sCode 230 = cX24_twists := rfl
theorem jY_230 : (sY 230).cls = "BalloonStall$Figure" := rfl
theorem jC_231 : sCode 231 = cX24_isTwist := rfl
theorem jY_231 : (sY 231).cls = "BalloonStall$Figure" := rfl
theorem jC_232 : sCode 232 = cX24_slack := rfl
theorem jY_232 : (sY 232).cls = "BalloonStall$Figure" := rfl
theorem jC_233 : sCode 233 = cX24_holds := rfl
theorem jY_233 : (sY 233).cls = "BalloonStall$Figure" := rfl
theorem jC_234 : sCode 234 = cX24_odd := rfl
theorem jY_234 : (sY 234).cls = "BalloonStall$Figure" := rfl
theorem jC_235 : sCode 235 = cX24_needs := rfl
theorem jY_235 : (sY 235).cls = "BalloonStall$Figure" := rfl
theorem jC_236 : sCode 236 = cX24_lost := rfl
theorem jY_236 : (sY 236).cls = "BalloonStall$Figure" := rfl
theorem jC_237 : sCode 237 = cX24_lostWith := rfl
theorem jY_237 : (sY 237).cls = "BalloonStall$Figure" := rfl
theorem jC_238 : sCode 238 = cX24_left := rfl
theorem jY_238 : (sY 238).cls = "BalloonStall$Figure" := rfl
theorem jC_239 : sCode 239 = cX24_every := rfl
theorem jY_239 : (sY 239).cls = "BalloonStall$Figure" := rfl
theorem jC_240 : sCode 240 = cX24_parts := rfl
theorem jY_240 : (sY 240).cls = "BalloonStall$Figure" := rfl
theorem jC_241 : sCode 241 = cX24_hang := rfl
theorem jY_241 : (sY 241).cls = "BalloonStall$Figure" := rfl
theorem jC_242 : sCode 242 = cX24_meets := rfl
theorem jY_242 : (sY 242).cls = "BalloonStall$Figure" := rfl
theorem jC_243 : sCode 243 = cX24_between := rfl
theorem jY_243 : (sY 243).cls = "BalloonStall$Figure" := rfl
theorem jC_244 : sCode 244 = cX24_strokes := rfl
theorem jY_244 : (sY 244).cls = "BalloonStall$Figure" := rfl
theorem jC_245 : sCode 245 = cX24_oddOf := rfl
theorem jY_245 : (sY 245).cls = "BalloonStall$Figure" := rfl
theorem jC_246 : sCode 246 = cX24_lengthOf := rfl
theorem jY_246 : (sY 246).cls = "BalloonStall$Figure" := rfl
theorem jC_247 : sCode 247 = cX24_isWay := rfl
theorem jY_247 : (sY 247).cls = "BalloonStall$Figure" := rfl
theorem jC_248 : sCode 248 = cX24_bubblesOf := rfl
theorem jY_248 : (sY 248).cls = "BalloonStall$Figure" := rfl
theorem jC_249 : sCode 249 = cX25_init := rfl
theorem jY_249 : (sY 249).cls = "BalloonStall$Guest" := rfl
theorem jC_250 : sCode 250 = cJ3_max := rfl
theorem jY_250 : (sY 250).cls = "java/lang/Math" := rfl
theorem jC_251 : sCode 251 = cJ3_min := rfl
theorem jY_251 : (sY 251).cls = "java/lang/Math" := rfl
theorem jC_252 : sCode 252 = cJ3_min_2 := rfl
theorem jY_252 : (sY 252).cls = "java/lang/Math" := rfl
theorem jC_253 : sCode 253 = cJ3_max_2 := rfl
theorem jY_253 : (sY 253).cls = "java/lang/Math" := rfl
theorem jC_254 : sCode 254 = cJ5_bitCount := rfl
theorem jY_254 : (sY 254).cls = "java/lang/Integer" := rfl
theorem jC_255 : sCode 255 = cJ5_numberOfTrailingZeros := rfl
theorem jY_255 : (sY 255).cls = "java/lang/Integer" := rfl
theorem jC_256 : sCode 256 = cX7_init := rfl
theorem jY_256 : (sY 256).cls = "BalloonStall$Wrong" := rfl
theorem jC_257 : sCode 257 = cJ2_init := rfl
theorem jY_257 : (sY 257).cls = "java/lang/RuntimeException" := rfl
theorem jC_258 : sCode 258 = cJ1_init := rfl
theorem jY_258 : (sY 258).cls = "java/lang/Exception" := rfl
theorem jC_259 : sCode 259 = cJ0_init_2 := rfl
theorem jY_259 : (sY 259).cls = "java/lang/Throwable" := rfl
theorem jC_260 : sCode 260 = cX6_init := rfl
theorem jY_260 : (sY 260).cls = "BalloonStall$FigureReader" := rfl
theorem jC_261 : sCode 261 = cX13_init := rfl
theorem jY_261 : (sY 261).cls = "BalloonStall$RuleReader" := rfl
theorem jC_262 : sCode 262 = cX5_init := rfl
theorem jY_262 : (sY 262).cls = "BalloonStall$Reader" := rfl
