/-! SOUNDNESS 5: methods by number (printed), contracts, the call -/
set_option maxRecDepth 100000
def sIL : List (MethodName × ByteArray × Option FieldType × List (Nat × Nat × Nat × Nat)) := [
  (yX0_bubble, cX0_bubble, (Option.some FieldType.int), [(0, 12, 15, 13)]),
  (yX0_guest, cX0_guest, (Option.some FieldType.int), [(0, 10, 13, 13)]),
  (yX0_worth, cX0_worth, (Option.some FieldType.int), [(0, 18, 21, 13)]),
  (x, code, (Option.some FieldType.boolean), []),
  (yX1_init, cX1_init, (Option.none : Option FieldType), []),
  (yX1_sort, cX1_sort, (Option.some FieldType.int), []),
  (yX1_isIn, cX1_isIn, (Option.some FieldType.boolean), []),
  (yX1_feed, cX1_feed, (Option.some FieldType.int), []),
  (yX1_bytes, cX1_bytes, (Option.some FieldType.int), []),
  (yX1_bring, cX1_bring, (Option.none : Option FieldType), []),
  (yX1_end, cX1_end, (Option.some FieldType.boolean), []),
  (yX1_fault, cX1_fault, (Option.some FieldType.int), [(13, 45, 46, 111)]),
  (yX1_figure, cX1_figure, (Option.some FieldType.int), [(19, 34, 37, 111)]),
  (yX1_keep, cX1_keep, (Option.some FieldType.int), []),
  (yX1_many, cX1_many, (Option.some FieldType.int), []),
  (yX1_isFigure, cX1_isFigure, (Option.some FieldType.boolean), []),
  (yX1_ends, cX1_ends, (Option.some FieldType.int), []),
  (yX1_isPoint, cX1_isPoint, (Option.some FieldType.boolean), []),
  (yX1_bursts, cX1_bursts, (Option.some FieldType.int), []),
  (yX1_isBalloon, cX1_isBalloon, (Option.some FieldType.boolean), []),
  (yX1_rest, cX1_rest, (Option.some FieldType.int), []),
  (yX1_hands, cX1_hands, (Option.some FieldType.int), []),
  (yX1_holds, cX1_holds, (Option.some FieldType.int), []),
  (yX1_isBubble, cX1_isBubble, (Option.some FieldType.boolean), []),
  (yX1_plain, cX1_plain, (Option.some FieldType.int), []),
  (yX1_pop, cX1_pop, (Option.some FieldType.int), []),
  (yX1_weakest, cX1_weakest, (Option.some FieldType.int), []),
  (yX1_add, cX1_add, (Option.some FieldType.int), []),
  (yX1_alike, cX1_alike, (Option.some FieldType.int), []),
  (yX1_isMatched, cX1_isMatched, (Option.some FieldType.boolean), []),
  (yX1_areAlike, cX1_areAlike, (Option.some FieldType.boolean), []),
  (yX1_matches, cX1_matches, (Option.some FieldType.boolean), []),
  (yX1_fits, cX1_fits, (Option.some FieldType.boolean), []),
  (yX1_match, cX1_match, (Option.some FieldType.int), []),
  (yX1_far, cX1_far, (Option.some FieldType.int), []),
  (yX1_layFars, cX1_layFars, (Option.none : Option FieldType), []),
  (yX1_span, cX1_span, (Option.some FieldType.int), []),
  (yX1_strokes, cX1_strokes, (Option.some FieldType.int), []),
  (yX1_made, cX1_made, (Option.some FieldType.int), []),
  (yX1_isMaking, cX1_isMaking, (Option.some FieldType.boolean), []),
  (yX1_isSort, cX1_isSort, (Option.some FieldType.boolean), []),
  (yX1_layMade, cX1_layMade, (Option.none : Option FieldType), []),
  (yX1_set, cX1_set, (Option.some FieldType.int), []),
  (yX1_firstOf, cX1_firstOf, (Option.some FieldType.int), []),
  (yX1_twice, cX1_twice, (Option.some FieldType.int), []),
  (yX1_paired, cX1_paired, (Option.some FieldType.int), []),
  (yX1_stock, cX1_stock, (Option.some FieldType.boolean), []),
  (yX1_pace, cX1_pace, (Option.some FieldType.boolean), []),
  (yX1_comes, cX1_comes, (Option.some FieldType.int), []),
  (yX1_close, cX1_close, (Option.some FieldType.int), []),
  (yX1_run, cX1_run, (Option.some FieldType.int), []),
  (yX1_serves, cX1_serves, (Option.none : Option FieldType), []),
  (yX1_hasFor, cX1_hasFor, (Option.some FieldType.boolean), []),
  (yX1_makes, cX1_makes, (Option.some FieldType.boolean), []),
  (yX1_rule, cX1_rule, (Option.some FieldType.int), [(11, 31, 34, 111)]),
  (yX1_aged, cX1_aged, (Option.some FieldType.int), []),
  (yX1_isRule, cX1_isRule, (Option.some FieldType.boolean), []),
  (yX1_fresh, cX1_fresh, (Option.none : Option FieldType), []),
  (yX1_hour, cX1_hour, (Option.none : Option FieldType), []),
  (yX1_worthOf, cX1_worthOf, (Option.some FieldType.int), []),
  (yX1_falls, cX1_falls, (Option.some FieldType.int), []),
  (yX1_count, cX1_count, (Option.some FieldType.int), []),
  (yX1_bubble, cX1_bubble, (Option.some FieldType.int), []),
  (yX1_guest, cX1_guest, (Option.some FieldType.int), []),
  (yX1_worth, cX1_worth, (Option.some FieldType.int), []),
  (yX2_init, cX2_init, (Option.none : Option FieldType), []),
  (yX3_init, cX3_init, (Option.none : Option FieldType), []),
  (yX3_thrown, cX3_thrown, (Option.some FieldType.int), []),
  (yX3_sort, cX3_sort, (Option.some FieldType.int), []),
  (yX3_in, cX3_in, (Option.some FieldType.boolean), []),
  (yX3_feed, cX3_feed, (Option.some FieldType.int), []),
  (yX3_byteOf, cX3_byteOf, (Option.some FieldType.int), []),
  (yX3_end, cX3_end, (Option.some FieldType.boolean), []),
  (yX3_fault, cX3_fault, (Option.some FieldType.int), []),
  (yX3_readFigure, cX3_readFigure, (Option.some FieldType.int), []),
  (yX3_balloon, cX3_balloon, (Option.none : Option FieldType), []),
  (yX3_look, cX3_look, (Option.some FieldType.int), []),
  (yX3_here, cX3_here, (Option.some FieldType.int), []),
  (yX3_bad, cX3_bad, (Option.none : Option FieldType), []),
  (yX3_isDigit, cX3_isDigit, (Option.some FieldType.boolean), []),
  (yX3_newPoint, cX3_newPoint, (Option.some FieldType.int), []),
  (yX3_moves, cX3_moves, (Option.none : Option FieldType), []),
  (yX3_bubble, cX3_bubble, (Option.none : Option FieldType), []),
  (yX3_held, cX3_held, (Option.some FieldType.int), []),
  (yX3_find, cX3_find, (Option.some FieldType.int), []),
  (yX3_joinTo, cX3_joinTo, (Option.none : Option FieldType), []),
  (yX3_nested, cX3_nested, (Option.none : Option FieldType), []),
  (yX3_numberPoints, cX3_numberPoints, (Option.none : Option FieldType), []),
  (yX3_readRule, cX3_readRule, (Option.some FieldType.int), []),
  (yX3_clause, cX3_clause, (Option.none : Option FieldType), []),
  (yX3_condition, cX3_condition, (Option.none : Option FieldType), []),
  (yX3_truth, cX3_truth, (Option.none : Option FieldType), []),
  (yX3_unit, cX3_unit, (Option.none : Option FieldType), []),
  (yX3_opens, cX3_opens, (Option.none : Option FieldType), []),
  (yX3_say, cX3_say, (Option.none : Option FieldType), []),
  (yX3_sign, cX3_sign, (Option.none : Option FieldType), []),
  (yX3_sum, cX3_sum, (Option.none : Option FieldType), []),
  (yX3_term, cX3_term, (Option.none : Option FieldType), []),
  (yX3_atom, cX3_atom, (Option.none : Option FieldType), []),
  (yX3_isLetter, cX3_isLetter, (Option.some FieldType.boolean), []),
  (yX3_figure, cX3_figure, (Option.some FieldType.int), []),
  (yX3_rule, cX3_rule, (Option.some FieldType.int), []),
  (yX3_worth, cX3_worth, (Option.some FieldType.int), []),
  (yX3_worthOf, cX3_worthOf, (Option.some FieldType.int), []),
  (yX3_work, cX3_work, (Option.some FieldType.long), []),
  (yX3_both, cX3_both, (Option.some FieldType.long), []),
  (yX3_within, cX3_within, (Option.some FieldType.long), []),
  (yX3_many, cX3_many, (Option.some FieldType.int), []),
  (yX3_isFigure, cX3_isFigure, (Option.some FieldType.boolean), []),
  (yX3_isTwist, cX3_isTwist, (Option.some FieldType.boolean), []),
  (yX3_isSlack, cX3_isSlack, (Option.some FieldType.boolean), []),
  (yX3_all, cX3_all, (Option.some FieldType.int), []),
  (yX3_endsIn, cX3_endsIn, (Option.some FieldType.int), []),
  (yX3_odd, cX3_odd, (Option.some FieldType.int), []),
  (yX3_bubble_2, cX3_bubble_2, (Option.some FieldType.int), []),
  (yX3_isBubble, cX3_isBubble, (Option.some FieldType.boolean), []),
  (yX3_ends, cX3_ends, (Option.some FieldType.int), []),
  (yX3_isPoint, cX3_isPoint, (Option.some FieldType.boolean), []),
  (yX3_bursts, cX3_bursts, (Option.some FieldType.int), []),
  (yX3_isBalloon, cX3_isBalloon, (Option.some FieldType.boolean), []),
  (yX3_rest, cX3_rest, (Option.some FieldType.int), []),
  (yX3_hands, cX3_hands, (Option.some FieldType.int), []),
  (yX3_holds, cX3_holds, (Option.some FieldType.int), []),
  (yX3_plain, cX3_plain, (Option.some FieldType.int), []),
  (yX3_startFigure, cX3_startFigure, (Option.none : Option FieldType), []),
  (yX3_put, cX3_put, (Option.none : Option FieldType), []),
  (yX3_endFigure, cX3_endFigure, (Option.none : Option FieldType), []),
  (yX3_handsOf, cX3_handsOf, (Option.some FieldType.int), []),
  (yX3_add, cX3_add, (Option.some FieldType.int), []),
  (yX3_addAll, cX3_addAll, (Option.none : Option FieldType), []),
  (yX3_pop, cX3_pop, (Option.some FieldType.int), []),
  (yX3_leftOf, cX3_leftOf, (Option.some FieldType.int), []),
  (yX3_partsOf, cX3_partsOf, (Option.some FieldType.int), []),
  (yX3_meets, cX3_meets, (Option.some FieldType.boolean), []),
  (yX3_weakest, cX3_weakest, (Option.some FieldType.int), []),
  (yX3_alike, cX3_alike, (Option.some FieldType.int), []),
  (yX3_mayMatch, cX3_mayMatch, (Option.some FieldType.boolean), []),
  (yX3_areAlike, cX3_areAlike, (Option.some FieldType.boolean), []),
  (yX3_pairs, cX3_pairs, (Option.some FieldType.boolean), []),
  (yX3_isSame, cX3_isSame, (Option.some FieldType.boolean), []),
  (yX3_between, cX3_between, (Option.some FieldType.int), []),
  (yX3_match, cX3_match, (Option.some FieldType.int), []),
  (yX3_far, cX3_far, (Option.some FieldType.int), []),
  (yX3_findFars, cX3_findFars, (Option.none : Option FieldType), []),
  (yX3_span, cX3_span, (Option.some FieldType.int), []),
  (yX3_strokes, cX3_strokes, (Option.some FieldType.int), []),
  (yX3_firstPart, cX3_firstPart, (Option.some FieldType.int), []),
  (yX3_made, cX3_made, (Option.some FieldType.int), []),
  (yX3_mayBeMade, cX3_mayBeMade, (Option.some FieldType.boolean), []),
  (yX3_isSort, cX3_isSort, (Option.some FieldType.boolean), []),
  (yX3_findFewest, cX3_findFewest, (Option.none : Option FieldType), []),
  (yX3_isOneWay, cX3_isOneWay, (Option.some FieldType.boolean), []),
  (yX3_set, cX3_set, (Option.some FieldType.int), []),
  (yX3_twice, cX3_twice, (Option.some FieldType.int), []),
  (yX3_pairing, cX3_pairing, (Option.some FieldType.int), []),
  (yX3_stock, cX3_stock, (Option.some FieldType.boolean), []),
  (yX3_pace, cX3_pace, (Option.some FieldType.boolean), []),
  (yX3_comes, cX3_comes, (Option.some FieldType.int), []),
  (yX3_close, cX3_close, (Option.some FieldType.int), []),
  (yX3_run, cX3_run, (Option.some FieldType.int), []),
  (yX3_isThere, cX3_isThere, (Option.some FieldType.boolean), []),
  (yX3_inBalloon, cX3_inBalloon, (Option.some FieldType.int), []),
  (yX3_guest, cX3_guest, (Option.some FieldType.int), []),
  (yX3_aged, cX3_aged, (Option.some FieldType.int), []),
  (yX3_startAging, cX3_startAging, (Option.none : Option FieldType), []),
  (yX3_age, cX3_age, (Option.none : Option FieldType), []),
  (yX3_falls, cX3_falls, (Option.some FieldType.int), []),
  (yX3_count, cX3_count, (Option.some FieldType.int), []),
  (yX4_init, cX4_init, (Option.none : Option FieldType), []),
  (yX4_strains, cX4_strains, (Option.some FieldType.int), []),
  (yX5_look, cX5_look, (Option.some FieldType.int), []),
  (yX5_here, cX5_here, (Option.some FieldType.int), []),
  (yX5_take, cX5_take, (Option.some FieldType.int), []),
  (yX5_isDigit, cX5_isDigit, (Option.some FieldType.boolean), []),
  (yX5_goIn, cX5_goIn, (Option.none : Option FieldType), []),
  (yX5_goOut, cX5_goOut, (Option.none : Option FieldType), []),
  (yX5_comeOut, cX5_comeOut, (Option.none : Option FieldType), []),
  (yX6_whole, cX6_whole, (Option.some (FieldType.object "BalloonStall$Move")), []),
  (yX6_balloon, cX6_balloon, (Option.some (FieldType.object "BalloonStall$Move")), []),
  (yX6_moves, cX6_moves, (Option.some (FieldType.object "BalloonStall$Move")), []),
  (yX6_move, cX6_move, (Option.some (FieldType.object "BalloonStall$Move")), []),
  (yX6_isMove, cX6_isMove, (Option.some FieldType.boolean), []),
  (yX6_bubble, cX6_bubble, (Option.some FieldType.int), []),
  (yX8_init, cX8_init, (Option.none : Option FieldType), []),
  (yX8_all, cX8_all, (Option.none : Option FieldType), []),
  (yX9_init, cX9_init, (Option.none : Option FieldType), []),
  (yX9_made, cX9_made, (Option.none : Option FieldType), []),
  (yX10_init, cX10_init, (Option.none : Option FieldType), []),
  (yX10_made, cX10_made, (Option.none : Option FieldType), []),
  (yX11_init, cX11_init, (Option.none : Option FieldType), []),
  (yX11_made, cX11_made, (Option.none : Option FieldType), []),
  (yX12_init, cX12_init, (Option.none : Option FieldType), []),
  (yX12_made, cX12_made, (Option.none : Option FieldType), []),
  (yX13_whole, cX13_whole, (Option.some (FieldType.object "BalloonStall$Clause")), []),
  (yX13_clause, cX13_clause, (Option.some (FieldType.object "BalloonStall$Clause")), []),
  (yX13_condition, cX13_condition, (Option.some (FieldType.object "BalloonStall$Test")), []),
  (yX13_truth, cX13_truth, (Option.some (FieldType.object "BalloonStall$Test")), []),
  (yX13_unit, cX13_unit, (Option.some (FieldType.object "BalloonStall$Test")), []),
  (yX13_sum, cX13_sum, (Option.some (FieldType.object "BalloonStall$Sum")), []),
  (yX13_term, cX13_term, (Option.some (FieldType.object "BalloonStall$Sum")), []),
  (yX13_atom, cX13_atom, (Option.some (FieldType.object "BalloonStall$Sum")), []),
  (yX13_compares, cX13_compares, (Option.some (FieldType.object "BalloonStall$Test")), []),
  (yX13_asked, cX13_asked, (Option.some (FieldType.object "BalloonStall$Clause")), []),
  (yX14_init, cX14_init, (Option.none : Option FieldType), []),
  (yX15_init, cX15_init, (Option.none : Option FieldType), []),
  (yX15_holds, cX15_holds, (Option.some FieldType.boolean), []),
  (yX16_init, cX16_init, (Option.none : Option FieldType), []),
  (yX17_init, cX17_init, (Option.none : Option FieldType), []),
  (yX17_of, cX17_of, (Option.some FieldType.int), []),
  (yX18_init, cX18_init, (Option.none : Option FieldType), []),
  (yX18_of, cX18_of, (Option.some FieldType.int), []),
  (yX19_init, cX19_init, (Option.none : Option FieldType), []),
  (yX19_of, cX19_of, (Option.some FieldType.int), []),
  (yX20_init, cX20_init, (Option.none : Option FieldType), []),
  (yX20_holds, cX20_holds, (Option.some FieldType.boolean), []),
  (yX21_init, cX21_init, (Option.none : Option FieldType), []),
  (yX21_holds, cX21_holds, (Option.some FieldType.boolean), []),
  (yX22_init, cX22_init, (Option.none : Option FieldType), []),
  (yX22_holds, cX22_holds, (Option.some FieldType.boolean), []),
  (yX23_init, cX23_init, (Option.none : Option FieldType), []),
  (yX23_blows, cX23_blows, (Option.none : Option FieldType), []),
  (yX23_point, cX23_point, (Option.some FieldType.int), []),
  (yX23_adds, cX23_adds, (Option.none : Option FieldType), []),
  (yX23_held, cX23_held, (Option.some FieldType.int), []),
  (yX23_root, cX23_root, (Option.some FieldType.int), []),
  (yX23_ends, cX23_ends, (Option.some FieldType.int), []),
  (yX23_begins, cX23_begins, (Option.none : Option FieldType), []),
  (yX23_joins, cX23_joins, (Option.none : Option FieldType), []),
  (yX23_takes, cX23_takes, (Option.none : Option FieldType), []),
  (yX24_init, cX24_init, (Option.none : Option FieldType), []),
  (yX24_twists, cX24_twists, (Option.some FieldType.int), []),
  (yX24_isTwist, cX24_isTwist, (Option.some FieldType.boolean), []),
  (yX24_slack, cX24_slack, (Option.some FieldType.int), []),
  (yX24_holds, cX24_holds, (Option.some FieldType.boolean), []),
  (yX24_odd, cX24_odd, (Option.some FieldType.int), []),
  (yX24_needs, cX24_needs, (Option.some FieldType.int), []),
  (yX24_lost, cX24_lost, (Option.some FieldType.int), []),
  (yX24_lostWith, cX24_lostWith, (Option.some FieldType.int), []),
  (yX24_left, cX24_left, (Option.some FieldType.int), []),
  (yX24_every, cX24_every, (Option.some FieldType.int), []),
  (yX24_parts, cX24_parts, (Option.some FieldType.int), []),
  (yX24_hang, cX24_hang, (Option.some FieldType.int), []),
  (yX24_meets, cX24_meets, (Option.some FieldType.boolean), []),
  (yX24_between, cX24_between, (Option.some FieldType.int), []),
  (yX24_strokes, cX24_strokes, (Option.some FieldType.int), []),
  (yX24_oddOf, cX24_oddOf, (Option.some FieldType.int), []),
  (yX24_lengthOf, cX24_lengthOf, (Option.some FieldType.int), []),
  (yX24_isWay, cX24_isWay, (Option.some FieldType.boolean), []),
  (yX24_bubblesOf, cX24_bubblesOf, (Option.some FieldType.int), []),
  (yX25_init, cX25_init, (Option.none : Option FieldType), []),
  (yJ3_max, cJ3_max, (Option.some FieldType.int), []),
  (yJ3_min, cJ3_min, (Option.some FieldType.int), []),
  (yJ3_min_2, cJ3_min_2, (Option.some FieldType.long), []),
  (yJ3_max_2, cJ3_max_2, (Option.some FieldType.long), []),
  (yJ5_bitCount, cJ5_bitCount, (Option.some FieldType.int), []),
  (yJ5_numberOfTrailingZeros, cJ5_numberOfTrailingZeros, (Option.some FieldType.int), []),
  (yX7_init, cX7_init, (Option.none : Option FieldType), []),
  (yJ2_init, cJ2_init, (Option.none : Option FieldType), []),
  (yJ1_init, cJ1_init, (Option.none : Option FieldType), []),
  (yJ0_init_2, cJ0_init_2, (Option.none : Option FieldType), []),
  (yX6_init, cX6_init, (Option.none : Option FieldType), []),
  (yX13_init, cX13_init, (Option.none : Option FieldType), []),
  (yX5_init, cX5_init, (Option.none : Option FieldType), [])]
def sI (M : Nat) : MethodName × ByteArray × Option FieldType × List (Nat × Nat × Nat × Nat) := sIL.getD M (yX1_init, cX1_init, none, [])
abbrev sY (M : Nat) : MethodName := (sI M).1
abbrev sCode (M : Nat) : ByteArray := (sI M).2.1
abbrev sRt (M : Nat) : Option FieldType := (sI M).2.2.1
abbrev sHH (M : Nat) : List (Nat × Nat × Nat × Nat) := (sI M).2.2.2
def sWord (M : Nat) : Cond := match sHH M with
  | [] => Cond.code (sY M) (sCode M) (pml M) (sRt M)
  | hh => Cond.codeWith (sY M) (sCode M) (pml M) (sRt M) hh
abbrev sWs (M : Nat) : List Cond := sWord M :: lw_all
theorem sWord_spec {M : Nat} {a : Array Value} {U : State} {mk : MethodId} (hn : U.methodNamed? (sY M) = some mk) (h : (sWord M).before a U = true) : ∃ meth c, U.vm.method? mk = some meth ∧ meth.code = some c ∧ c.code = sCode M ∧ c.maxLocals = pml M ∧ meth.sig.returnType = sRt M ∧ meth.locks = false ∧ c.exceptionTable.toList = tableOf (sHH M) ∧ parseMethodDescriptor (sY M).desc = some meth.sig := by
  unfold sWord at h
  split at h
  · rename_i hh
    obtain ⟨meth, c, h1, h2, h3, h4, h5, h6, h7, h8⟩ := Cond.code_spec hn h
    refine ⟨meth, c, h1, h2, h3, h4, h5, h6, ?_, h8⟩
    rw [hh]
    have h0 : c.exceptionTable.size = 0 := by simpa [Array.isEmpty] using h7
    exact List.eq_nil_of_length_eq_zero (by simpa using h0)
  · obtain ⟨m', meth, c, hn', h1, h2, h3, h4, h5, h6, h7, h8⟩ := Cond.codeWith_spec h
    cases hn.symm.trans hn'
    exact ⟨meth, c, h1, h2, h3, h4, h6, h7, by rw [← h5, table_eq], h8⟩
/-- kinds of words that don't ride in lw_all -/
def sNk (w : Cond) : Prop := (∃ a i b n d h, w = .fieldLinkNest a i b n d h) ∨ (∃ a i x h, w = .methodLinkNest a i x h) ∨ (∃ x, w = .declares x) ∨ ∃ C T, w = .castable C T
theorem sKn.warm {D : sD} {nw : List Cond} {ao : List String} {s U : State} (hnw : ∀ w ∈ nw, sNk w) (hW : s.WarmedH U.vm) (hK : sKn D nw ao s) : sKn D nw ao U := by
  refine ⟨fun c r hr => u_Kn_moved hW.alike (hK.1 c r hr), fun k ty hk => ⟨arrOfT_moved hW.alike (hK.2.1 k ty hk).1, (hK.2.1 k ty hk).2.moved hW.alike⟩, fun w hw => ?_, fun C hC => va_AO.moved hW.alike (hK.2.2.2 C hC)⟩
  have h1 := hK.2.2.1 w hw
  rcases hnw w hw with ⟨a, i, b, n, d, h, rfl⟩ | ⟨a, i, x, h, rfl⟩ | ⟨x, rfl⟩ | ⟨C, T, rfl⟩
  · exact va_Nw.warmF hW h1
  · exact va_Nw.warmM hW h1
  · exact va_Nw.warmD hW h1
  · exact va_Nw.warmC hW h1
def sFE (st t : State) (L : List Loc) (k n : Nat) : Prop := st.WarmedH t.vm ∧ st.sameButNew ({ t with vm := st.vm } : State) L k n
def sOut (o : Option Value ⊕ Nat) (oc : Outcome) : Prop := match o with
  | .inl v => oc = .returned v
  | .inr a => oc = .threw a
def sW (D : sD) (nw : List Cond) (ao : List String) (base : Nat) (h : pH) (U : State) : Prop := sKn D nw ao U ∧ sRep D base h U U.heap
def sQ (D : sD) (nw : List Cond) (ao : List String) (base : Nat) (h : pH) (o : pO) (st : State) (oc : Outcome) (t : State) : Prop := sOut o.1 oc ∧ sW D nw ao base o.2 t ∧ ∃ L, sFE st t L (o.2.2.1 - h.2.1) (o.2.2.2 - h.2.2) ∧ ∀ q ∈ L, base ≤ q.base
def sRoom (d : Nat) (h : pH) (o : pO) : Room := { frames := d, cells := o.2.2.1 - h.2.1, slots := o.2.2.2 - h.2.2, locals := 41 * d }
def sMt (l : Launch) (D : sD) (nw : List Cond) (ao : List String) (base M d : Nat) (as : List Value) (h : pH) (o : pO) : Prop :=
  MetFree l (sY M) (headSpec (sWs M) (sRoom d h o)) (fun v U => v = as.toArray ∧ sW D nw ao base h U) (fun _ _ _ _ _ => True) (fun _ st oc t => sQ D nw ao base h o st oc t)
section
variable {p : Program} {l : Launch} {e : Env} {R : Room} {s : State} {m : MethodId} {args : Array Value} {below : List Frame} {meth : Method} {c : Code} {U : State} {locs : List Loc} {cells slots : Nat}
variable {D : sD} {base : Nat} {h : pH} {nw : List Cond} {ao : List String}
/-- behind a call of a method whose contract is known: it has come back, or it throws -/
theorem sBack {M' d' n : Nat} {as : List Value} {o : pO} {g : JFrame} {ig : Instr} {mk : MethodId} (hnw : ∀ w ∈ nw, sNk w) (hM : sMt l D nw ao base M' d' as h o) (X : Stand p l e R s m args below meth c U locs cells slots) (hg : g.method = m) (hsize : g.locals.size = c.maxLocals) (hdg : decode c.code g.pc = .ok (ig, n)) (hWd : 2 * g.monitorRoom + (g.stack.map fun v => v.category).sum ≤ 8)
    (hn : U.methodNamed? (sY M') = some mk) (hws : ∀ w ∈ sWs M', w.before as.toArray U = true) (hini : (Cond.initialized (sY M').cls).before as.toArray U = true) (hmaxL : pml M' ≤ 22) (hfr : d' + 1 ≤ R.frames) (hlo : 41 * (d' + 1) ≤ R.locals) (hce : cells + (o.2.2.1 - h.2.1) ≤ R.cells) (hsl : slots + (o.2.2.2 - h.2.2) ≤ R.slots) (hw : sW D nw ao base h U) :
    ∃ (T' : State) (L : List Loc), Stand p l e R s m args below meth c T' (locs ++ L) (cells + (o.2.2.1 - h.2.1)) (slots + (o.2.2.2 - h.2.2)) ∧ (∀ q ∈ L, base ≤ q.base) ∧ sW D nw ao base o.2 T' ∧
      (∀ v, o.1 = .inl v → Steps p.tables e below (doInvoke e (U.setTop g) [] mk as.toArray).1 (T'.setTop { g with pc := g.pc + n, stack := v.toList ++ g.stack })) ∧
      (∀ x, o.1 = .inr x → Steps p.tables e below (doInvoke e (U.setTop g) [] mk as.toArray).1 ((T'.setTop g).pushFrame (.throwing x))) := by
  obtain ⟨methY, cY, hmY, hcY, -, hlY, -, -, -, -⟩ := sWord_spec hn (hws _ List.mem_cons_self)
  obtain ⟨kY, hkY, -⟩ := className_of_methodNamed hn
  have hinitY : kY.init = .initialized := Cond.initialized_spec (findClass_of_methodNamed hn) hkY hini
  have h' : At U g.method c below := by rw [hg]; exact X.here
  have happ : (headSpec (sWs M') (sRoom d' h o)).appliesLoose (sY M') e.platform (U.calling g mk as.toArray) = true :=
    Spec.appliesLoose_calling (g := g) h' hdg hn hkY hinitY
      (X.room_calling (g := g) (R' := sRoom d' h o) hsize hmY hcY (by show d' + 1 ≤ _; exact hfr) (by rw [hlY]; show _ + 41 * d' ≤ _; omega) hce hsl) (atoms_intro hws)
  obtain ⟨mid, hmid⟩ := h'.above
  have hfrm : (U.setTop g).frames = (.java g :: mid) ++ below := by rw [State.frames_setTop' g h'.top, hmid]; rfl
  have hcall : sW D nw ao base h (U.calling g mk as.toArray) := ⟨hw.1.warm hnw (State.WarmedH.refl U), hw.2.moved (U' := U.calling g mk as.toArray) (Vm.Alike.refl U.vm)⟩
  obtain ⟨oc, s₂, hsteps, -, hend, hq⟩ := Steps.callFree hM p X.admits X.cas X.clock (acts := []) hfrm happ ⟨rfl, hcall⟩ trivial
  have hq' : sQ D nw ao base h o (U.calling g mk as.toArray) oc s₂ := hq
  rw [State.frames_setTop' g h'.top] at hend
  obtain ⟨hout, hw2, L, ⟨hW₂, e2, q2, q3, q4, q5, q6⟩, hL⟩ := hq'
  have e3 : s₂ = ({ (U.calling g mk as.toArray).setFrames s₂.frames with heap := s₂.heap, slotsUsed := s₂.slotsUsed } : State).setVm s₂.vm := by
    have : s₂ = ({ s₂ with vm := (U.calling g mk as.toArray).vm } : State).setVm s₂.vm := rfl
    rw [e2] at this
    exact this
  have hW' : U.WarmedH s₂.vm := hW₂
  obtain ⟨g₀, hg0⟩ := Option.isSome_iff_exists.mp h'.top
  obtain ⟨r, hr⟩ := State.topJava?_eq_some.mp hg0
  have hr' : (({ U with heap := s₂.heap, slotsUsed := s₂.slotsUsed } : State).setVm s₂.vm).frames = .java g₀ :: r := hr
  have hsame : U.sameButNew ({ U with heap := s₂.heap, slotsUsed := s₂.slotsUsed } : State) L (o.2.2.1 - h.2.1) (o.2.2.2 - h.2.2) := by
    refine ⟨?_, q2, q3, q4, q5, q6⟩
    obtain ⟨t, ht, -⟩ := State.frames_cons hr
    show ({ U with heap := s₂.heap, slotsUsed := s₂.slotsUsed } : State) = { U.setFrames U.frames with heap := s₂.heap, slotsUsed := s₂.slotsUsed }
    rw [State.setFrames_self ht]
  subst hg
  have hst : Stand p l e R s g.method args below meth c (({ U with heap := s₂.heap, slotsUsed := s₂.slotsUsed } : State).setVm s₂.vm) (locs ++ L) (cells + (o.2.2.1 - h.2.1)) (slots + (o.2.2.2 - h.2.2)) :=
    ⟨X.admits, X.cas, X.clock, X.frames, X.room, X.hears, X.method, X.code, (X.here.setHeapUsed s₂.heap s₂.slotsUsed).setVm hW'.alike, X.tail, State.WarmedH.trans X.warmed hW', X.limits, X.bytes, X.same.trans (hsame.setVm s.vm)⟩
  have hwT : sW D nw ao base o.2 (({ U with heap := s₂.heap, slotsUsed := s₂.slotsUsed } : State).setVm s₂.vm) := ⟨hw2.1.warm hnw (State.WarmedH.refl s₂), hw2.2.moved (U' := (({ U with heap := s₂.heap, slotsUsed := s₂.slotsUsed } : State).setVm s₂.vm)) (Vm.Alike.refl s₂.vm)⟩
  refine ⟨_, L, hst, hL, hwT, fun v hv => ?_, fun x hx => ?_⟩
  · rw [hv] at hout
    have hout : oc = .returned v := hout
    subst hout
    obtain ⟨c₂, i₂, len₂, hc₂, hd₂, hf₂⟩ := hend
    have hcc : c₂ = c := by
      have h1 : s₂.code? g.method = U.code? g.method := by
        rw [State.code?_eq, State.code?_eq, hW'.alike.method?]
      exact Option.some.inj (hc₂.symm.trans (h1.trans h'.code))
    subst hcc
    have hlen : len₂ = n := by rw [hdg] at hd₂; cases hd₂; rfl
    subst hlen
    have hs₂ : s₂ = (({ U with heap := s₂.heap, slotsUsed := s₂.slotsUsed } : State).setVm s₂.vm).setTop { g with pc := g.pc + len₂, stack := v.toList ++ g.stack } := by
      refine e3.trans ?_
      rw [hf₂, State.calling_eq h'.top, State.setFrames_setFrames, State.setTop_of_frames _ hr', hr]
      rfl
    rw [← hs₂]
    exact hsteps
  · rw [hx] at hout
    have hout : oc = .threw x := hout
    subst hout
    have hf₂ : s₂.frames = .throwing x :: .java g :: U.frames.tail := hend
    have hs₂ : s₂ = ((({ U with heap := s₂.heap, slotsUsed := s₂.slotsUsed } : State).setVm s₂.vm).setTop g).pushFrame (.throwing x) := by
      refine e3.trans ?_
      rw [hf₂, State.calling_eq h'.top, State.setFrames_setFrames, State.pushFrame, State.frames_setTop _ hr', State.setTop_of_frames _ hr', State.setFrames_setFrames, hr]
      rfl
    rw [← hs₂]
    exact hsteps
end
