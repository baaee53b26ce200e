/-! TABLE FACTS 4 (printed by gentab.py) -/
set_option maxRecDepth 100000
theorem jt_110_0 : ∀ q ∈ tcX3_isSlack_0, sJ jnw jao 110 q.1 q.2.1 q.2.2 :=
  jcons (jL jC_110 dX3_isSlack_0 rfl) <|
  jcons (jL jC_110 dX3_isSlack_1 rfl) <|
  jcons (jL jC_110 dX3_isSlack_2 rfl) <|
  jcons (jG jC_110 jY_110 dX3_isSlack_3 fk_3_17_X3 (Or.inl q1329)) <|
  jcons (jL jC_110 dX3_isSlack_6 rfl) <|
  jcons (jL jC_110 dX3_isSlack_8 rfl) <|
  jcons (jL jC_110 dX3_isSlack_9 rfl) <|
  jcons (jL jC_110 dX3_isSlack_10 rfl) <|
  jcons (jL jC_110 dX3_isSlack_11 rfl) <|
  jcons (jL jC_110 dX3_isSlack_12 rfl) <|
  jcons (jL jC_110 dX3_isSlack_13 rfl) <|
  jcons (jL jC_110 dX3_isSlack_14 rfl) <|
  jcons (j4V jC_110 jY_110 dX3_isSlack_15 (jc_111 _) q1650 pd_111 (Or.inl q1648) (fun c r h1 h2 => js_148 c r h1 h2)) <|
  jcons (j4V jC_110 jY_110 dX3_isSlack_18 (jc_112 _) q1654 pd_112 (Or.inl q1652) (fun c r h1 h2 => js_150 c r h1 h2)) <|
  jcons (jL jC_110 dX3_isSlack_21 rfl) <|
  jcons (jL jC_110 dX3_isSlack_22 rfl) <|
  jcons (jL jC_110 dX3_isSlack_25 rfl) <|
  jcons (jL jC_110 dX3_isSlack_26 rfl) <|
  jcons (jL jC_110 dX3_isSlack_29 rfl) <|
  jcons (jL jC_110 dX3_isSlack_30 rfl) <|
  jnil
theorem jm_110 : ∀ l ∈ tbX3_isSlack, ∀ q ∈ l, sJ jnw jao 110 q.1 q.2.1 q.2.2 := jmc jt_110_0 <| jmn
theorem jt_111_0 : ∀ q ∈ tcX3_all_0, sJ jnw jao 111 q.1 q.2.1 q.2.2 :=
  jcons (jL jC_111 dX3_all_0 rfl) <|
  jcons (jL jC_111 dX3_all_1 rfl) <|
  jcons (jG jC_111 jY_111 dX3_all_2 fk_3_13_X3 (Or.inl q1325)) <|
  jcons (jL jC_111 dX3_all_5 rfl) <|
  jcons (jL jC_111 dX3_all_6 rfl) <|
  jcons (jL jC_111 dX3_all_7 rfl) <|
  jcons (jL jC_111 dX3_all_8 rfl) <|
  jcons (jL jC_111 dX3_all_9 rfl) <|
  jcons (jL jC_111 dX3_all_10 rfl) <|
  jnil
theorem jm_111 : ∀ l ∈ tbX3_all, ∀ q ∈ l, sJ jnw jao 111 q.1 q.2.1 q.2.2 := jmc jt_111_0 <| jmn
theorem jt_112_0 : ∀ q ∈ tcX3_endsIn_0, sJ jnw jao 112 q.1 q.2.1 q.2.2 :=
  jcons (jL jC_112 dX3_endsIn_0 rfl) <|
  jcons (jL jC_112 dX3_endsIn_1 rfl) <|
  jcons (jL jC_112 dX3_endsIn_3 rfl) <|
  jcons (jL jC_112 dX3_endsIn_4 rfl) <|
  jcons (jL jC_112 dX3_endsIn_6 rfl) <|
  jcons (jL jC_112 dX3_endsIn_8 rfl) <|
  jcons (jG jC_112 jY_112 dX3_endsIn_9 fk_3_13_X3 (Or.inl q1325)) <|
  jcons (jL jC_112 dX3_endsIn_12 rfl) <|
  jcons (jL jC_112 dX3_endsIn_13 rfl) <|
  jcons (jL jC_112 dX3_endsIn_14 rfl) <|
  jcons (jL jC_112 dX3_endsIn_17 rfl) <|
  jcons (jL jC_112 dX3_endsIn_18 rfl) <|
  jcons (jL jC_112 dX3_endsIn_20 rfl) <|
  jcons (jL jC_112 dX3_endsIn_21 rfl) <|
  jcons (jL jC_112 dX3_endsIn_22 rfl) <|
  jcons (jL jC_112 dX3_endsIn_23 rfl) <|
  jcons (jL jC_112 dX3_endsIn_24 rfl) <|
  jcons (jL jC_112 dX3_endsIn_27 rfl) <|
  jcons (jL jC_112 dX3_endsIn_29 rfl) <|
  jcons (jG jC_112 jY_112 dX3_endsIn_30 fk_3_16_X3 (Or.inl q1328)) <|
  jcons (jL jC_112 dX3_endsIn_33 rfl) <|
  jcons (jL jC_112 dX3_endsIn_35 rfl) <|
  jcons (jL jC_112 dX3_endsIn_36 rfl) <|
  jcons (jL jC_112 dX3_endsIn_37 rfl) <|
  jcons (jL jC_112 dX3_endsIn_39 rfl) <|
  jcons (jL jC_112 dX3_endsIn_40 rfl) <|
  jcons (jL jC_112 dX3_endsIn_41 rfl) <|
  jcons (jL jC_112 dX3_endsIn_42 rfl) <|
  jcons (jL jC_112 dX3_endsIn_45 rfl) <|
  jcons (jL jC_112 dX3_endsIn_46 rfl) <|
  jcons (jL jC_112 dX3_endsIn_49 rfl) <|
  jcons (jL jC_112 dX3_endsIn_50 rfl) <|
  jcons (jL jC_112 dX3_endsIn_51 rfl) <|
  jcons (jL jC_112 dX3_endsIn_53 rfl) <|
  jcons (jL jC_112 dX3_endsIn_55 rfl) <|
  jcons (jG jC_112 jY_112 dX3_endsIn_56 fk_3_17_X3 (Or.inl q1329)) <|
  jcons (jL jC_112 dX3_endsIn_59 rfl) <|
  jcons (jL jC_112 dX3_endsIn_61 rfl) <|
  jcons (jL jC_112 dX3_endsIn_62 rfl) <|
  jcons (jL jC_112 dX3_endsIn_63 rfl) <|
  jnil
theorem jt_112_1 : ∀ q ∈ tcX3_endsIn_1, sJ jnw jao 112 q.1 q.2.1 q.2.2 :=
  jcons (jL jC_112 dX3_endsIn_65 rfl) <|
  jcons (jL jC_112 dX3_endsIn_66 rfl) <|
  jcons (jL jC_112 dX3_endsIn_67 rfl) <|
  jcons (jL jC_112 dX3_endsIn_68 rfl) <|
  jcons (jL jC_112 dX3_endsIn_71 rfl) <|
  jcons (jL jC_112 dX3_endsIn_72 rfl) <|
  jcons (jL jC_112 dX3_endsIn_75 rfl) <|
  jcons (jL jC_112 dX3_endsIn_76 rfl) <|
  jcons (jL jC_112 dX3_endsIn_77 rfl) <|
  jcons (jL jC_112 dX3_endsIn_79 rfl) <|
  jcons (jL jC_112 dX3_endsIn_82 rfl) <|
  jcons (jL jC_112 dX3_endsIn_85 rfl) <|
  jcons (jL jC_112 dX3_endsIn_87 rfl) <|
  jnil
theorem jm_112 : ∀ l ∈ tbX3_endsIn, ∀ q ∈ l, sJ jnw jao 112 q.1 q.2.1 q.2.2 := jmc jt_112_0 <| jmc jt_112_1 <| jmn
theorem jt_113_0 : ∀ q ∈ tcX3_odd_0, sJ jnw jao 113 q.1 q.2.1 q.2.2 :=
  jcons (jL jC_113 dX3_odd_0 rfl) <|
  jcons (jL jC_113 dX3_odd_1 rfl) <|
  jcons (jL jC_113 dX3_odd_2 rfl) <|
  jcons (jL jC_113 dX3_odd_3 rfl) <|
  jcons (jL jC_113 dX3_odd_5 rfl) <|
  jcons (jL jC_113 dX3_odd_7 rfl) <|
  jcons (jG jC_113 jY_113 dX3_odd_8 fk_3_14_X3 (Or.inl q1326)) <|
  jcons (jL jC_113 dX3_odd_11 rfl) <|
  jcons (jL jC_113 dX3_odd_12 rfl) <|
  jcons (jL jC_113 dX3_odd_13 rfl) <|
  jcons (jL jC_113 dX3_odd_16 rfl) <|
  jcons (jL jC_113 dX3_odd_17 rfl) <|
  jcons (jL jC_113 dX3_odd_18 rfl) <|
  jcons (jL jC_113 dX3_odd_19 rfl) <|
  jcons (jL jC_113 dX3_odd_21 rfl) <|
  jcons (j4V jC_113 jY_113 dX3_odd_22 (jc_112 _) q1654 pd_112 (Or.inl q1652) (fun c r h1 h2 => js_150 c r h1 h2)) <|
  jcons (jL jC_113 dX3_odd_25 rfl) <|
  jcons (jL jC_113 dX3_odd_26 rfl) <|
  jcons (jL jC_113 dX3_odd_27 rfl) <|
  jcons (jL jC_113 dX3_odd_28 rfl) <|
  jcons (jL jC_113 dX3_odd_29 rfl) <|
  jcons (jL jC_113 dX3_odd_32 rfl) <|
  jcons (jL jC_113 dX3_odd_35 rfl) <|
  jcons (jL jC_113 dX3_odd_36 rfl) <|
  jnil
theorem jm_113 : ∀ l ∈ tbX3_odd, ∀ q ∈ l, sJ jnw jao 113 q.1 q.2.1 q.2.2 := jmc jt_113_0 <| jmn
theorem jt_114_0 : ∀ q ∈ tcX3_bubble_2_0, sJ jnw jao 114 q.1 q.2.1 q.2.2 :=
  jcons (jL jC_114 dX3_bubble_2_0 rfl) <|
  jcons (jL jC_114 dX3_bubble_2_1 rfl) <|
  jcons (jL jC_114 dX3_bubble_2_2 rfl) <|
  jcons (jL jC_114 dX3_bubble_2_3 rfl) <|
  jcons (j4V jC_114 jY_114 dX3_bubble_2_4 (jc_115 _) q1666 pd_115 (Or.inl q1664) (fun c r h1 h2 => js_151 c r h1 h2)) <|
  jcons (jL jC_114 dX3_bubble_2_7 rfl) <|
  jcons (jL jC_114 dX3_bubble_2_10 rfl) <|
  jcons (jL jC_114 dX3_bubble_2_11 rfl) <|
  jcons (jL jC_114 dX3_bubble_2_12 rfl) <|
  jcons (j4S jC_114 jY_114 dX3_bubble_2_13 (jc_69 _) q1480 pd_69 (Or.inl q1479)) <|
  jcons (jL jC_114 dX3_bubble_2_16 rfl) <|
  jcons (jL jC_114 dX3_bubble_2_19 rfl) <|
  jcons (jL jC_114 dX3_bubble_2_20 rfl) <|
  jcons (jL jC_114 dX3_bubble_2_23 rfl) <|
  jcons (jPu jC_114 jY_114 dX3_bubble_2_24 fk_3_0_X3 ap_3_0 (fn_3_0 _) (Or.inl q1312) (tyX3_ok 0 (by decide)) (Or.inl ⟨rfl, rfl⟩)) <|
  jcons (jL jC_114 dX3_bubble_2_27 rfl) <|
  jcons (jG jC_114 jY_114 dX3_bubble_2_28 fk_3_0_X3 (Or.inl q1312)) <|
  jcons (jL jC_114 dX3_bubble_2_31 rfl) <|
  jcons (jL jC_114 dX3_bubble_2_32 rfl) <|
  jcons (jL jC_114 dX3_bubble_2_35 rfl) <|
  jcons (jL jC_114 dX3_bubble_2_36 rfl) <|
  jcons (jL jC_114 dX3_bubble_2_37 rfl) <|
  jcons (jL jC_114 dX3_bubble_2_39 rfl) <|
  jcons (jL jC_114 dX3_bubble_2_40 rfl) <|
  jcons (jL jC_114 dX3_bubble_2_41 rfl) <|
  jcons (jL jC_114 dX3_bubble_2_42 rfl) <|
  jcons (jL jC_114 dX3_bubble_2_43 rfl) <|
  jcons (jL jC_114 dX3_bubble_2_45 rfl) <|
  jcons (jL jC_114 dX3_bubble_2_46 rfl) <|
  jcons (jL jC_114 dX3_bubble_2_49 rfl) <|
  jcons (jG jC_114 jY_114 dX3_bubble_2_50 fk_3_15_X3 (Or.inl q1327)) <|
  jcons (jL jC_114 dX3_bubble_2_53 rfl) <|
  jcons (jL jC_114 dX3_bubble_2_55 rfl) <|
  jcons (jL jC_114 dX3_bubble_2_56 rfl) <|
  jcons (jL jC_114 dX3_bubble_2_59 rfl) <|
  jcons (jL jC_114 dX3_bubble_2_60 rfl) <|
  jcons (jL jC_114 dX3_bubble_2_61 rfl) <|
  jnil
theorem jt_114_1 : ∀ q ∈ tcX3_bubble_2_1, sJ jnw jao 114 q.1 q.2.1 q.2.2 :=
  jcons (jL jC_114 dX3_bubble_2_64 rfl) <|
  jcons (jG jC_114 jY_114 dX3_bubble_2_65 fk_3_16_X3 (Or.inl q1328)) <|
  jcons (jL jC_114 dX3_bubble_2_68 rfl) <|
  jcons (jL jC_114 dX3_bubble_2_70 rfl) <|
  jcons (jL jC_114 dX3_bubble_2_71 rfl) <|
  jcons (jL jC_114 dX3_bubble_2_74 rfl) <|
  jcons (jL jC_114 dX3_bubble_2_75 rfl) <|
  jcons (jL jC_114 dX3_bubble_2_76 rfl) <|
  jcons (jL jC_114 dX3_bubble_2_79 rfl) <|
  jcons (jG jC_114 jY_114 dX3_bubble_2_80 fk_3_17_X3 (Or.inl q1329)) <|
  jcons (jL jC_114 dX3_bubble_2_83 rfl) <|
  jcons (jL jC_114 dX3_bubble_2_85 rfl) <|
  jcons (jL jC_114 dX3_bubble_2_86 rfl) <|
  jcons (jL jC_114 dX3_bubble_2_89 rfl) <|
  jcons (jL jC_114 dX3_bubble_2_90 rfl) <|
  jcons (jL jC_114 dX3_bubble_2_91 rfl) <|
  jcons (jL jC_114 dX3_bubble_2_94 rfl) <|
  jcons (jG jC_114 jY_114 dX3_bubble_2_95 fk_3_18_X3 (Or.inl q1330)) <|
  jcons (jL jC_114 dX3_bubble_2_98 rfl) <|
  jcons (jL jC_114 dX3_bubble_2_100 rfl) <|
  jcons (jL jC_114 dX3_bubble_2_101 rfl) <|
  jcons (jL jC_114 dX3_bubble_2_104 rfl) <|
  jcons (jG jC_114 jY_114 dX3_bubble_2_105 fk_3_12_X3 (Or.inl q1324)) <|
  jcons (jL jC_114 dX3_bubble_2_108 rfl) <|
  jcons (jL jC_114 dX3_bubble_2_110 rfl) <|
  jcons (jL jC_114 dX3_bubble_2_111 rfl) <|
  jcons (jL jC_114 dX3_bubble_2_112 rfl) <|
  jcons (jG jC_114 jY_114 dX3_bubble_2_113 fk_3_18_X3 (Or.inl q1330)) <|
  jcons (jL jC_114 dX3_bubble_2_116 rfl) <|
  jcons (jL jC_114 dX3_bubble_2_118 rfl) <|
  jcons (jL jC_114 dX3_bubble_2_119 rfl) <|
  jcons (jL jC_114 dX3_bubble_2_120 rfl) <|
  jcons (jL jC_114 dX3_bubble_2_121 rfl) <|
  jnil
theorem jm_114 : ∀ l ∈ tbX3_bubble_2, ∀ q ∈ l, sJ jnw jao 114 q.1 q.2.1 q.2.2 := jmc jt_114_0 <| jmc jt_114_1 <| jmn
theorem jt_115_0 : ∀ q ∈ tcX3_isBubble_0, sJ jnw jao 115 q.1 q.2.1 q.2.2 :=
  jcons (jL jC_115 dX3_isBubble_0 rfl) <|
  jcons (jL jC_115 dX3_isBubble_1 rfl) <|
  jcons (j4V jC_115 jY_115 dX3_isBubble_2 (jc_108 _) q1638 pd_108 (Or.inl q1636) (fun c r h1 h2 => js_145 c r h1 h2)) <|
  jcons (jL jC_115 dX3_isBubble_5 rfl) <|
  jcons (jL jC_115 dX3_isBubble_8 rfl) <|
  jcons (jL jC_115 dX3_isBubble_9 rfl) <|
  jcons (jL jC_115 dX3_isBubble_10 rfl) <|
  jcons (jG jC_115 jY_115 dX3_isBubble_11 fk_3_13_X3 (Or.inl q1325)) <|
  jcons (jL jC_115 dX3_isBubble_14 rfl) <|
  jcons (jL jC_115 dX3_isBubble_15 rfl) <|
  jcons (jL jC_115 dX3_isBubble_16 rfl) <|
  jcons (jL jC_115 dX3_isBubble_17 rfl) <|
  jcons (j4S jC_115 jY_115 dX3_isBubble_18 (jc_69 _) q1480 pd_69 (Or.inl q1479)) <|
  jcons (jL jC_115 dX3_isBubble_21 rfl) <|
  jcons (jL jC_115 dX3_isBubble_24 rfl) <|
  jcons (jL jC_115 dX3_isBubble_25 rfl) <|
  jcons (jL jC_115 dX3_isBubble_28 rfl) <|
  jcons (jL jC_115 dX3_isBubble_29 rfl) <|
  jnil
theorem jm_115 : ∀ l ∈ tbX3_isBubble, ∀ q ∈ l, sJ jnw jao 115 q.1 q.2.1 q.2.2 := jmc jt_115_0 <| jmn
theorem jt_116_0 : ∀ q ∈ tcX3_ends_0, sJ jnw jao 116 q.1 q.2.1 q.2.2 :=
  jcons (jL jC_116 dX3_ends_0 rfl) <|
  jcons (jL jC_116 dX3_ends_1 rfl) <|
  jcons (jL jC_116 dX3_ends_2 rfl) <|
  jcons (j4V jC_116 jY_116 dX3_ends_3 (jc_117 _) q1674 pd_117 (Or.inl q1672) (fun c r h1 h2 => js_152 c r h1 h2)) <|
  jcons (jL jC_116 dX3_ends_6 rfl) <|
  jcons (jL jC_116 dX3_ends_9 rfl) <|
  jcons (jL jC_116 dX3_ends_10 rfl) <|
  jcons (jL jC_116 dX3_ends_11 rfl) <|
  jcons (jL jC_116 dX3_ends_12 rfl) <|
  jcons (jL jC_116 dX3_ends_13 rfl) <|
  jcons (j4V jC_116 jY_116 dX3_ends_14 (jc_111 _) q1650 pd_111 (Or.inl q1648) (fun c r h1 h2 => js_148 c r h1 h2)) <|
  jcons (j4V jC_116 jY_116 dX3_ends_17 (jc_112 _) q1654 pd_112 (Or.inl q1652) (fun c r h1 h2 => js_150 c r h1 h2)) <|
  jcons (jL jC_116 dX3_ends_20 rfl) <|
  jcons (jL jC_116 dX3_ends_23 rfl) <|
  jcons (jL jC_116 dX3_ends_24 rfl) <|
  jnil
theorem jm_116 : ∀ l ∈ tbX3_ends, ∀ q ∈ l, sJ jnw jao 116 q.1 q.2.1 q.2.2 := jmc jt_116_0 <| jmn
theorem jt_117_0 : ∀ q ∈ tcX3_isPoint_0, sJ jnw jao 117 q.1 q.2.1 q.2.2 :=
  jcons (jL jC_117 dX3_isPoint_0 rfl) <|
  jcons (jL jC_117 dX3_isPoint_1 rfl) <|
  jcons (j4V jC_117 jY_117 dX3_isPoint_2 (jc_108 _) q1638 pd_108 (Or.inl q1636) (fun c r h1 h2 => js_145 c r h1 h2)) <|
  jcons (jL jC_117 dX3_isPoint_5 rfl) <|
  jcons (jL jC_117 dX3_isPoint_8 rfl) <|
  jcons (jL jC_117 dX3_isPoint_9 rfl) <|
  jcons (jL jC_117 dX3_isPoint_10 rfl) <|
  jcons (jG jC_117 jY_117 dX3_isPoint_11 fk_3_14_X3 (Or.inl q1326)) <|
  jcons (jL jC_117 dX3_isPoint_14 rfl) <|
  jcons (jL jC_117 dX3_isPoint_15 rfl) <|
  jcons (jL jC_117 dX3_isPoint_16 rfl) <|
  jcons (jL jC_117 dX3_isPoint_17 rfl) <|
  jcons (j4S jC_117 jY_117 dX3_isPoint_18 (jc_69 _) q1480 pd_69 (Or.inl q1479)) <|
  jcons (jL jC_117 dX3_isPoint_21 rfl) <|
  jcons (jL jC_117 dX3_isPoint_24 rfl) <|
  jcons (jL jC_117 dX3_isPoint_25 rfl) <|
  jcons (jL jC_117 dX3_isPoint_28 rfl) <|
  jcons (jL jC_117 dX3_isPoint_29 rfl) <|
  jnil
theorem jm_117 : ∀ l ∈ tbX3_isPoint, ∀ q ∈ l, sJ jnw jao 117 q.1 q.2.1 q.2.2 := jmc jt_117_0 <| jmn
theorem jt_118_0 : ∀ q ∈ tcX3_bursts_0, sJ jnw jao 118 q.1 q.2.1 q.2.2 :=
  jcons (jL jC_118 dX3_bursts_0 rfl) <|
  jcons (jL jC_118 dX3_bursts_1 rfl) <|
  jcons (jL jC_118 dX3_bursts_2 rfl) <|
  jcons (j4V jC_118 jY_118 dX3_bursts_3 (jc_119 _) q1682 pd_119 (Or.inl q1680) (fun c r h1 h2 => js_153 c r h1 h2)) <|
  jcons (jL jC_118 dX3_bursts_6 rfl) <|
  jcons (jL jC_118 dX3_bursts_9 rfl) <|
  jcons (jL jC_118 dX3_bursts_10 rfl) <|
  jcons (jL jC_118 dX3_bursts_11 rfl) <|
  jcons (jG jC_118 jY_118 dX3_bursts_12 fk_3_12_X3 (Or.inl q1324)) <|
  jcons (jL jC_118 dX3_bursts_15 rfl) <|
  jcons (jL jC_118 dX3_bursts_17 rfl) <|
  jcons (jL jC_118 dX3_bursts_18 rfl) <|
  jcons (jL jC_118 dX3_bursts_19 rfl) <|
  jcons (jL jC_118 dX3_bursts_20 rfl) <|
  jcons (jL jC_118 dX3_bursts_21 rfl) <|
  jcons (jL jC_118 dX3_bursts_22 rfl) <|
  jcons (jL jC_118 dX3_bursts_23 rfl) <|
  jcons (jG jC_118 jY_118 dX3_bursts_24 fk_3_2_X3 (Or.inl q1314)) <|
  jcons (jL jC_118 dX3_bursts_27 rfl) <|
  jcons (jL jC_118 dX3_bursts_28 rfl) <|
  jcons (jL jC_118 dX3_bursts_29 rfl) <|
  jcons (jL jC_118 dX3_bursts_30 rfl) <|
  jcons (jL jC_118 dX3_bursts_32 rfl) <|
  jcons (jL jC_118 dX3_bursts_33 rfl) <|
  jcons (jL jC_118 dX3_bursts_35 rfl) <|
  jcons (jL jC_118 dX3_bursts_37 rfl) <|
  jcons (jG jC_118 jY_118 dX3_bursts_38 fk_3_13_X3 (Or.inl q1325)) <|
  jcons (jL jC_118 dX3_bursts_41 rfl) <|
  jcons (jL jC_118 dX3_bursts_42 rfl) <|
  jcons (jL jC_118 dX3_bursts_43 rfl) <|
  jcons (jL jC_118 dX3_bursts_46 rfl) <|
  jcons (jG jC_118 jY_118 dX3_bursts_47 fk_3_18_X3 (Or.inl q1330)) <|
  jcons (jL jC_118 dX3_bursts_50 rfl) <|
  jcons (jL jC_118 dX3_bursts_52 rfl) <|
  jcons (jL jC_118 dX3_bursts_53 rfl) <|
  jcons (jL jC_118 dX3_bursts_54 rfl) <|
  jcons (jL jC_118 dX3_bursts_56 rfl) <|
  jcons (jL jC_118 dX3_bursts_57 rfl) <|
  jcons (jL jC_118 dX3_bursts_58 rfl) <|
  jcons (jL jC_118 dX3_bursts_59 rfl) <|
  jcons (jL jC_118 dX3_bursts_62 rfl) <|
  jnil
theorem jt_118_1 : ∀ q ∈ tcX3_bursts_1, sJ jnw jao 118 q.1 q.2.1 q.2.2 :=
  jcons (jL jC_118 dX3_bursts_64 rfl) <|
  jcons (jG jC_118 jY_118 dX3_bursts_65 fk_3_2_X3 (Or.inl q1314)) <|
  jcons (jL jC_118 dX3_bursts_68 rfl) <|
  jcons (jL jC_118 dX3_bursts_69 rfl) <|
  jcons (jL jC_118 dX3_bursts_70 rfl) <|
  jcons (jG jC_118 jY_118 dX3_bursts_71 fk_3_15_X3 (Or.inl q1327)) <|
  jcons (jL jC_118 dX3_bursts_74 rfl) <|
  jcons (jL jC_118 dX3_bursts_76 rfl) <|
  jcons (jL jC_118 dX3_bursts_77 rfl) <|
  jcons (jL jC_118 dX3_bursts_78 rfl) <|
  jcons (jL jC_118 dX3_bursts_80 rfl) <|
  jcons (jL jC_118 dX3_bursts_81 rfl) <|
  jcons (jL jC_118 dX3_bursts_82 rfl) <|
  jcons (jL jC_118 dX3_bursts_83 rfl) <|
  jcons (jL jC_118 dX3_bursts_84 rfl) <|
  jcons (jL jC_118 dX3_bursts_86 rfl) <|
  jcons (jL jC_118 dX3_bursts_88 rfl) <|
  jcons (jG jC_118 jY_118 dX3_bursts_89 fk_3_1_X3 (Or.inl q1313)) <|
  jcons (jL jC_118 dX3_bursts_92 rfl) <|
  jcons (jL jC_118 dX3_bursts_93 rfl) <|
  jcons (jL jC_118 dX3_bursts_94 rfl) <|
  jcons (jL jC_118 dX3_bursts_97 rfl) <|
  jcons (jL jC_118 dX3_bursts_99 rfl) <|
  jcons (jL jC_118 dX3_bursts_100 rfl) <|
  jcons (jL jC_118 dX3_bursts_103 rfl) <|
  jcons (jL jC_118 dX3_bursts_106 rfl) <|
  jcons (jL jC_118 dX3_bursts_107 rfl) <|
  jnil
theorem jm_118 : ∀ l ∈ tbX3_bursts, ∀ q ∈ l, sJ jnw jao 118 q.1 q.2.1 q.2.2 := jmc jt_118_0 <| jmc jt_118_1 <| jmn
theorem jt_119_0 : ∀ q ∈ tcX3_isBalloon_0, sJ jnw jao 119 q.1 q.2.1 q.2.2 :=
  jcons (jL jC_119 dX3_isBalloon_0 rfl) <|
  jcons (jL jC_119 dX3_isBalloon_1 rfl) <|
  jcons (j4V jC_119 jY_119 dX3_isBalloon_2 (jc_108 _) q1638 pd_108 (Or.inl q1636) (fun c r h1 h2 => js_145 c r h1 h2)) <|
  jcons (jL jC_119 dX3_isBalloon_5 rfl) <|
  jcons (jL jC_119 dX3_isBalloon_8 rfl) <|
  jcons (jL jC_119 dX3_isBalloon_9 rfl) <|
  jcons (jL jC_119 dX3_isBalloon_10 rfl) <|
  jcons (jG jC_119 jY_119 dX3_isBalloon_11 fk_3_11_X3 (Or.inl q1323)) <|
  jcons (jL jC_119 dX3_isBalloon_14 rfl) <|
  jcons (jL jC_119 dX3_isBalloon_15 rfl) <|
  jcons (jL jC_119 dX3_isBalloon_16 rfl) <|
  jcons (jL jC_119 dX3_isBalloon_17 rfl) <|
  jcons (j4S jC_119 jY_119 dX3_isBalloon_18 (jc_69 _) q1480 pd_69 (Or.inl q1479)) <|
  jcons (jL jC_119 dX3_isBalloon_21 rfl) <|
  jcons (jL jC_119 dX3_isBalloon_24 rfl) <|
  jcons (jL jC_119 dX3_isBalloon_25 rfl) <|
  jcons (jL jC_119 dX3_isBalloon_28 rfl) <|
  jcons (jL jC_119 dX3_isBalloon_29 rfl) <|
  jnil
theorem jm_119 : ∀ l ∈ tbX3_isBalloon, ∀ q ∈ l, sJ jnw jao 119 q.1 q.2.1 q.2.2 := jmc jt_119_0 <| jmn
theorem jt_120_0 : ∀ q ∈ tcX3_rest_0, sJ jnw jao 120 q.1 q.2.1 q.2.2 :=
  jcons (jL jC_120 dX3_rest_0 rfl) <|
  jcons (jL jC_120 dX3_rest_1 rfl) <|
  jcons (jL jC_120 dX3_rest_2 rfl) <|
  jcons (j4V jC_120 jY_120 dX3_rest_3 (jc_119 _) q1682 pd_119 (Or.inl q1680) (fun c r h1 h2 => js_153 c r h1 h2)) <|
  jcons (jL jC_120 dX3_rest_6 rfl) <|
  jcons (jL jC_120 dX3_rest_9 rfl) <|
  jcons (jL jC_120 dX3_rest_10 rfl) <|
  jcons (jL jC_120 dX3_rest_11 rfl) <|
  jcons (jG jC_120 jY_120 dX3_rest_12 fk_3_12_X3 (Or.inl q1324)) <|
  jcons (jL jC_120 dX3_rest_15 rfl) <|
  jcons (jL jC_120 dX3_rest_17 rfl) <|
  jcons (jL jC_120 dX3_rest_18 rfl) <|
  jcons (jL jC_120 dX3_rest_19 rfl) <|
  jcons (jL jC_120 dX3_rest_20 rfl) <|
  jcons (jL jC_120 dX3_rest_21 rfl) <|
  jcons (jL jC_120 dX3_rest_22 rfl) <|
  jcons (jL jC_120 dX3_rest_23 rfl) <|
  jcons (jL jC_120 dX3_rest_24 rfl) <|
  jcons (jL jC_120 dX3_rest_26 rfl) <|
  jcons (jL jC_120 dX3_rest_27 rfl) <|
  jcons (jL jC_120 dX3_rest_29 rfl) <|
  jcons (jL jC_120 dX3_rest_30 rfl) <|
  jcons (jL jC_120 dX3_rest_32 rfl) <|
  jcons (jL jC_120 dX3_rest_34 rfl) <|
  jcons (jG jC_120 jY_120 dX3_rest_35 fk_3_13_X3 (Or.inl q1325)) <|
  jcons (jL jC_120 dX3_rest_38 rfl) <|
  jcons (jL jC_120 dX3_rest_39 rfl) <|
  jcons (jL jC_120 dX3_rest_40 rfl) <|
  jcons (jL jC_120 dX3_rest_43 rfl) <|
  jcons (jG jC_120 jY_120 dX3_rest_44 fk_3_18_X3 (Or.inl q1330)) <|
  jcons (jL jC_120 dX3_rest_47 rfl) <|
  jcons (jL jC_120 dX3_rest_49 rfl) <|
  jcons (jL jC_120 dX3_rest_50 rfl) <|
  jcons (jL jC_120 dX3_rest_51 rfl) <|
  jcons (jL jC_120 dX3_rest_53 rfl) <|
  jcons (jL jC_120 dX3_rest_54 rfl) <|
  jcons (jL jC_120 dX3_rest_55 rfl) <|
  jcons (jL jC_120 dX3_rest_56 rfl) <|
  jcons (jL jC_120 dX3_rest_59 rfl) <|
  jcons (jL jC_120 dX3_rest_61 rfl) <|
  jcons (jG jC_120 jY_120 dX3_rest_62 fk_3_15_X3 (Or.inl q1327)) <|
  jnil
theorem jt_120_1 : ∀ q ∈ tcX3_rest_1, sJ jnw jao 120 q.1 q.2.1 q.2.2 :=
  jcons (jL jC_120 dX3_rest_65 rfl) <|
  jcons (jL jC_120 dX3_rest_67 rfl) <|
  jcons (jL jC_120 dX3_rest_68 rfl) <|
  jcons (jL jC_120 dX3_rest_69 rfl) <|
  jcons (jL jC_120 dX3_rest_71 rfl) <|
  jcons (jL jC_120 dX3_rest_72 rfl) <|
  jcons (jL jC_120 dX3_rest_73 rfl) <|
  jcons (jL jC_120 dX3_rest_74 rfl) <|
  jcons (jL jC_120 dX3_rest_76 rfl) <|
  jcons (jL jC_120 dX3_rest_79 rfl) <|
  jcons (jL jC_120 dX3_rest_82 rfl) <|
  jcons (jL jC_120 dX3_rest_85 rfl) <|
  jcons (jL jC_120 dX3_rest_86 rfl) <|
  jcons (jG jC_120 jY_120 dX3_rest_87 fk_3_1_X3 (Or.inl q1313)) <|
  jcons (jL jC_120 dX3_rest_90 rfl) <|
  jcons (jL jC_120 dX3_rest_91 rfl) <|
  jcons (jL jC_120 dX3_rest_92 rfl) <|
  jcons (jL jC_120 dX3_rest_94 rfl) <|
  jcons (jL jC_120 dX3_rest_95 rfl) <|
  jcons (jG jC_120 jY_120 dX3_rest_96 fk_3_2_X3 (Or.inl q1314)) <|
  jcons (jL jC_120 dX3_rest_99 rfl) <|
  jcons (jL jC_120 dX3_rest_100 rfl) <|
  jcons (jL jC_120 dX3_rest_101 rfl) <|
  jcons (jL jC_120 dX3_rest_102 rfl) <|
  jcons (jL jC_120 dX3_rest_104 rfl) <|
  jcons (jL jC_120 dX3_rest_105 rfl) <|
  jcons (j14 jC_120 jY_120 dX3_rest_106 q1540) <|
  jcons (jL jC_120 dX3_rest_109 rfl) <|
  jcons (jL jC_120 dX3_rest_110 rfl) <|
  jcons (j14 jC_120 jY_120 dX3_rest_111 q1540) <|
  jcons (jL jC_120 dX3_rest_114 rfl) <|
  jnil
theorem jm_120 : ∀ l ∈ tbX3_rest, ∀ q ∈ l, sJ jnw jao 120 q.1 q.2.1 q.2.2 := jmc jt_120_0 <| jmc jt_120_1 <| jmn
theorem jt_121_0 : ∀ q ∈ tcX3_hands_0, sJ jnw jao 121 q.1 q.2.1 q.2.2 :=
  jcons (jL jC_121 dX3_hands_0 rfl) <|
  jcons (jL jC_121 dX3_hands_1 rfl) <|
  jcons (j4V jC_121 jY_121 dX3_hands_2 (jc_108 _) q1638 pd_108 (Or.inl q1636) (fun c r h1 h2 => js_145 c r h1 h2)) <|
  jcons (jL jC_121 dX3_hands_5 rfl) <|
  jcons (jL jC_121 dX3_hands_8 rfl) <|
  jcons (jG jC_121 jY_121 dX3_hands_9 fk_3_19_X3 (Or.inl q1331)) <|
  jcons (jL jC_121 dX3_hands_12 rfl) <|
  jcons (jL jC_121 dX3_hands_13 rfl) <|
  jcons (jL jC_121 dX3_hands_14 rfl) <|
  jcons (jL jC_121 dX3_hands_17 rfl) <|
  jcons (jL jC_121 dX3_hands_18 rfl) <|
  jnil
theorem jm_121 : ∀ l ∈ tbX3_hands, ∀ q ∈ l, sJ jnw jao 121 q.1 q.2.1 q.2.2 := jmc jt_121_0 <| jmn
theorem jt_122_0 : ∀ q ∈ tcX3_holds_0, sJ jnw jao 122 q.1 q.2.1 q.2.2 :=
  jcons (jL jC_122 dX3_holds_0 rfl) <|
  jcons (jL jC_122 dX3_holds_1 rfl) <|
  jcons (jL jC_122 dX3_holds_2 rfl) <|
  jcons (j4V jC_122 jY_122 dX3_holds_3 (jc_115 _) q1666 pd_115 (Or.inl q1664) (fun c r h1 h2 => js_151 c r h1 h2)) <|
  jcons (jL jC_122 dX3_holds_6 rfl) <|
  jcons (jL jC_122 dX3_holds_9 rfl) <|
  jcons (jL jC_122 dX3_holds_10 rfl) <|
  jcons (jL jC_122 dX3_holds_11 rfl) <|
  jcons (j4V jC_122 jY_122 dX3_holds_12 (jc_109 _) q1642 pd_109 (Or.inl q1640) (fun c r h1 h2 => js_146 c r h1 h2)) <|
  jcons (jL jC_122 dX3_holds_15 rfl) <|
  jcons (jL jC_122 dX3_holds_18 rfl) <|
  jcons (jL jC_122 dX3_holds_19 rfl) <|
  jcons (jL jC_122 dX3_holds_20 rfl) <|
  jcons (j4V jC_122 jY_122 dX3_holds_21 (jc_110 _) q1646 pd_110 (Or.inl q1644) (fun c r h1 h2 => js_147 c r h1 h2)) <|
  jcons (jL jC_122 dX3_holds_24 rfl) <|
  jcons (jL jC_122 dX3_holds_27 rfl) <|
  jcons (jL jC_122 dX3_holds_28 rfl) <|
  jcons (jL jC_122 dX3_holds_31 rfl) <|
  jcons (jL jC_122 dX3_holds_32 rfl) <|
  jcons (jL jC_122 dX3_holds_35 rfl) <|
  jcons (jL jC_122 dX3_holds_36 rfl) <|
  jnil
theorem jm_122 : ∀ l ∈ tbX3_holds, ∀ q ∈ l, sJ jnw jao 122 q.1 q.2.1 q.2.2 := jmc jt_122_0 <| jmn
theorem jt_123_0 : ∀ q ∈ tcX3_plain_0, sJ jnw jao 123 q.1 q.2.1 q.2.2 :=
  jcons (jL jC_123 dX3_plain_0 rfl) <|
  jcons (jL jC_123 dX3_plain_1 rfl) <|
  jcons (j4V jC_123 jY_123 dX3_plain_2 (jc_108 _) q1638 pd_108 (Or.inl q1636) (fun c r h1 h2 => js_145 c r h1 h2)) <|
  jcons (jL jC_123 dX3_plain_5 rfl) <|
  jcons (jL jC_123 dX3_plain_8 rfl) <|
  jcons (jG jC_123 jY_123 dX3_plain_9 fk_3_20_X3 (Or.inl q1332)) <|
  jcons (jL jC_123 dX3_plain_12 rfl) <|
  jcons (jL jC_123 dX3_plain_14 rfl) <|
  jcons (jL jC_123 dX3_plain_17 rfl) <|
  jcons (jL jC_123 dX3_plain_18 rfl) <|
  jcons (jL jC_123 dX3_plain_19 rfl) <|
  jcons (j4V jC_123 jY_123 dX3_plain_20 (jc_124 _) q1702 pd_124 (Or.inl q1700) (fun c r h1 h2 => js_154 c r h1 h2)) <|
  jcons (jL jC_123 dX3_plain_23 rfl) <|
  jcons (jL jC_123 dX3_plain_24 rfl) <|
  jcons (jL jC_123 dX3_plain_25 rfl) <|
  jcons (jL jC_123 dX3_plain_26 rfl) <|
  jcons (jG jC_123 jY_123 dX3_plain_27 fk_3_11_X3 (Or.inl q1323)) <|
  jcons (jL jC_123 dX3_plain_30 rfl) <|
  jcons (jL jC_123 dX3_plain_31 rfl) <|
  jcons (jL jC_123 dX3_plain_32 rfl) <|
  jcons (jL jC_123 dX3_plain_35 rfl) <|
  jcons (jG jC_123 jY_123 dX3_plain_36 fk_3_12_X3 (Or.inl q1324)) <|
  jcons (jL jC_123 dX3_plain_39 rfl) <|
  jcons (jL jC_123 dX3_plain_41 rfl) <|
  jcons (jG jC_123 jY_123 dX3_plain_42 fk_3_20_X3 (Or.inl q1332)) <|
  jcons (jL jC_123 dX3_plain_45 rfl) <|
  jcons (jL jC_123 dX3_plain_46 rfl) <|
  jcons (jL jC_123 dX3_plain_47 rfl) <|
  jcons (jL jC_123 dX3_plain_48 rfl) <|
  jcons (jG jC_123 jY_123 dX3_plain_49 fk_3_12_X3 (Or.inl q1324)) <|
  jcons (jL jC_123 dX3_plain_52 rfl) <|
  jcons (jL jC_123 dX3_plain_54 rfl) <|
  jcons (jL jC_123 dX3_plain_55 rfl) <|
  jcons (jL jC_123 dX3_plain_56 rfl) <|
  jcons (jL jC_123 dX3_plain_57 rfl) <|
  jcons (jL jC_123 dX3_plain_58 rfl) <|
  jcons (jL jC_123 dX3_plain_59 rfl) <|
  jcons (jL jC_123 dX3_plain_60 rfl) <|
  jcons (jL jC_123 dX3_plain_63 rfl) <|
  jnil
theorem jt_123_1 : ∀ q ∈ tcX3_plain_1, sJ jnw jao 123 q.1 q.2.1 q.2.2 :=
  jcons (jL jC_123 dX3_plain_66 rfl) <|
  jcons (jG jC_123 jY_123 dX3_plain_67 fk_3_11_X3 (Or.inl q1323)) <|
  jcons (jL jC_123 dX3_plain_70 rfl) <|
  jcons (jG jC_123 jY_123 dX3_plain_71 fk_3_20_X3 (Or.inl q1332)) <|
  jcons (jL jC_123 dX3_plain_74 rfl) <|
  jcons (jG jC_123 jY_123 dX3_plain_75 fk_3_11_X3 (Or.inl q1323)) <|
  jcons (jL jC_123 dX3_plain_78 rfl) <|
  jcons (jL jC_123 dX3_plain_79 rfl) <|
  jcons (jL jC_123 dX3_plain_80 rfl) <|
  jcons (jL jC_123 dX3_plain_81 rfl) <|
  jcons (jL jC_123 dX3_plain_82 rfl) <|
  jcons (jL jC_123 dX3_plain_83 rfl) <|
  jcons (jL jC_123 dX3_plain_84 rfl) <|
  jcons (jG jC_123 jY_123 dX3_plain_85 fk_3_14_X3 (Or.inl q1326)) <|
  jcons (jL jC_123 dX3_plain_88 rfl) <|
  jcons (jL jC_123 dX3_plain_89 rfl) <|
  jcons (jL jC_123 dX3_plain_90 rfl) <|
  jcons (jL jC_123 dX3_plain_93 rfl) <|
  jcons (jG jC_123 jY_123 dX3_plain_94 fk_3_21_X3 (Or.inl q1333)) <|
  jcons (jL jC_123 dX3_plain_97 rfl) <|
  jcons (jL jC_123 dX3_plain_98 rfl) <|
  jcons (jL jC_123 dX3_plain_99 rfl) <|
  jcons (jL jC_123 dX3_plain_100 rfl) <|
  jcons (jL jC_123 dX3_plain_103 rfl) <|
  jcons (jL jC_123 dX3_plain_106 rfl) <|
  jcons (jL jC_123 dX3_plain_107 rfl) <|
  jcons (jL jC_123 dX3_plain_108 rfl) <|
  jcons (jL jC_123 dX3_plain_109 rfl) <|
  jcons (jL jC_123 dX3_plain_110 rfl) <|
  jcons (jL jC_123 dX3_plain_111 rfl) <|
  jcons (jG jC_123 jY_123 dX3_plain_112 fk_3_13_X3 (Or.inl q1325)) <|
  jcons (jL jC_123 dX3_plain_115 rfl) <|
  jcons (jL jC_123 dX3_plain_116 rfl) <|
  jcons (jL jC_123 dX3_plain_117 rfl) <|
  jcons (jL jC_123 dX3_plain_120 rfl) <|
  jcons (jL jC_123 dX3_plain_122 rfl) <|
  jcons (jL jC_123 dX3_plain_123 rfl) <|
  jcons (jL jC_123 dX3_plain_124 rfl) <|
  jcons (jL jC_123 dX3_plain_125 rfl) <|
  jcons (jL jC_123 dX3_plain_126 rfl) <|
  jnil
theorem jt_123_2 : ∀ q ∈ tcX3_plain_2, sJ jnw jao 123 q.1 q.2.1 q.2.2 :=
  jcons (jL jC_123 dX3_plain_128 rfl) <|
  jcons (jL jC_123 dX3_plain_129 rfl) <|
  jcons (jL jC_123 dX3_plain_130 rfl) <|
  jcons (j4V jC_123 jY_123 dX3_plain_131 (jc_109 _) q1642 pd_109 (Or.inl q1640) (fun c r h1 h2 => js_146 c r h1 h2)) <|
  jcons (jL jC_123 dX3_plain_134 rfl) <|
  jcons (jL jC_123 dX3_plain_137 rfl) <|
  jcons (jL jC_123 dX3_plain_138 rfl) <|
  jcons (jL jC_123 dX3_plain_139 rfl) <|
  jcons (j4V jC_123 jY_123 dX3_plain_140 (jc_110 _) q1646 pd_110 (Or.inl q1644) (fun c r h1 h2 => js_147 c r h1 h2)) <|
  jcons (jL jC_123 dX3_plain_143 rfl) <|
  jcons (jL jC_123 dX3_plain_146 rfl) <|
  jcons (jG jC_123 jY_123 dX3_plain_147 fk_3_21_X3 (Or.inl q1333)) <|
  jcons (jL jC_123 dX3_plain_150 rfl) <|
  jcons (jG jC_123 jY_123 dX3_plain_151 fk_3_17_X3 (Or.inl q1329)) <|
  jcons (jL jC_123 dX3_plain_154 rfl) <|
  jcons (jL jC_123 dX3_plain_156 rfl) <|
  jcons (jL jC_123 dX3_plain_157 rfl) <|
  jcons (jL jC_123 dX3_plain_158 rfl) <|
  jcons (jL jC_123 dX3_plain_159 rfl) <|
  jcons (jL jC_123 dX3_plain_162 rfl) <|
  jcons (jL jC_123 dX3_plain_163 rfl) <|
  jcons (jL jC_123 dX3_plain_165 rfl) <|
  jcons (jL jC_123 dX3_plain_166 rfl) <|
  jcons (jL jC_123 dX3_plain_168 rfl) <|
  jcons (jL jC_123 dX3_plain_170 rfl) <|
  jcons (jL jC_123 dX3_plain_171 rfl) <|
  jcons (jL jC_123 dX3_plain_174 rfl) <|
  jcons (jL jC_123 dX3_plain_176 rfl) <|
  jcons (jG jC_123 jY_123 dX3_plain_177 fk_3_15_X3 (Or.inl q1327)) <|
  jcons (jL jC_123 dX3_plain_180 rfl) <|
  jcons (jL jC_123 dX3_plain_182 rfl) <|
  jcons (jL jC_123 dX3_plain_183 rfl) <|
  jcons (jL jC_123 dX3_plain_184 rfl) <|
  jcons (jL jC_123 dX3_plain_186 rfl) <|
  jcons (jL jC_123 dX3_plain_187 rfl) <|
  jcons (jL jC_123 dX3_plain_188 rfl) <|
  jcons (jL jC_123 dX3_plain_189 rfl) <|
  jcons (jL jC_123 dX3_plain_191 rfl) <|
  jnil
theorem jt_123_3 : ∀ q ∈ tcX3_plain_3, sJ jnw jao 123 q.1 q.2.1 q.2.2 :=
  jcons (jL jC_123 dX3_plain_194 rfl) <|
  jcons (jL jC_123 dX3_plain_197 rfl) <|
  jcons (jL jC_123 dX3_plain_198 rfl) <|
  jcons (jL jC_123 dX3_plain_200 rfl) <|
  jcons (jG jC_123 jY_123 dX3_plain_201 fk_3_18_X3 (Or.inl q1330)) <|
  jcons (jL jC_123 dX3_plain_204 rfl) <|
  jcons (jL jC_123 dX3_plain_206 rfl) <|
  jcons (jL jC_123 dX3_plain_207 rfl) <|
  jcons (jG jC_123 jY_123 dX3_plain_208 fk_3_16_X3 (Or.inl q1328)) <|
  jcons (jL jC_123 dX3_plain_211 rfl) <|
  jcons (jL jC_123 dX3_plain_213 rfl) <|
  jcons (jL jC_123 dX3_plain_214 rfl) <|
  jcons (jL jC_123 dX3_plain_215 rfl) <|
  jcons (jL jC_123 dX3_plain_216 rfl) <|
  jcons (jL jC_123 dX3_plain_217 rfl) <|
  jcons (jL jC_123 dX3_plain_218 rfl) <|
  jcons (jG jC_123 jY_123 dX3_plain_219 fk_3_17_X3 (Or.inl q1329)) <|
  jcons (jL jC_123 dX3_plain_222 rfl) <|
  jcons (jL jC_123 dX3_plain_224 rfl) <|
  jcons (j4V jC_123 jY_123 dX3_plain_225 (jc_125 _) q1706 pd_125 (Or.inl q1704) (fun c r h1 h2 => js_155 c r h1 h2)) <|
  jcons (jL jC_123 dX3_plain_228 rfl) <|
  jcons (jL jC_123 dX3_plain_229 rfl) <|
  jcons (jL jC_123 dX3_plain_230 rfl) <|
  jcons (jL jC_123 dX3_plain_231 rfl) <|
  jcons (jL jC_123 dX3_plain_232 rfl) <|
  jcons (jL jC_123 dX3_plain_235 rfl) <|
  jcons (jL jC_123 dX3_plain_238 rfl) <|
  jcons (jL jC_123 dX3_plain_239 rfl) <|
  jcons (jG jC_123 jY_123 dX3_plain_240 fk_3_14_X3 (Or.inl q1326)) <|
  jcons (jL jC_123 dX3_plain_243 rfl) <|
  jcons (jL jC_123 dX3_plain_244 rfl) <|
  jcons (j4V jC_123 jY_123 dX3_plain_245 (jc_126 _) q1710 pd_126 (Or.inl q1708) (fun c r h1 h2 => js_156 c r h1 h2)) <|
  jcons (jL jC_123 dX3_plain_248 rfl) <|
  jcons (jG jC_123 jY_123 dX3_plain_249 fk_3_20_X3 (Or.inl q1332)) <|
  jcons (jL jC_123 dX3_plain_252 rfl) <|
  jcons (jL jC_123 dX3_plain_253 rfl) <|
  jcons (jL jC_123 dX3_plain_254 rfl) <|
  jnil
theorem jm_123 : ∀ l ∈ tbX3_plain, ∀ q ∈ l, sJ jnw jao 123 q.1 q.2.1 q.2.2 := jmc jt_123_0 <| jmc jt_123_1 <| jmc jt_123_2 <| jmc jt_123_3 <| jmn
theorem jt_124_0 : ∀ q ∈ tcX3_startFigure_0, sJ jnw jao 124 q.1 q.2.1 q.2.2 :=
  jcons (jL jC_124 dX3_startFigure_0 rfl) <|
  jcons (jG jC_124 jY_124 dX3_startFigure_1 fk_3_13_X3 (Or.inl q1325)) <|
  jcons (jL jC_124 dX3_startFigure_4 rfl) <|
  jcons (jG jC_124 jY_124 dX3_startFigure_5 fk_3_20_X3 (Or.inl q1332)) <|
  jcons (jL jC_124 dX3_startFigure_8 rfl) <|
  jcons (jL jC_124 dX3_startFigure_9 rfl) <|
  jcons (jL jC_124 dX3_startFigure_10 rfl) <|
  jcons (jG jC_124 jY_124 dX3_startFigure_11 fk_3_11_X3 (Or.inl q1323)) <|
  jcons (jL jC_124 dX3_startFigure_14 rfl) <|
  jcons (jG jC_124 jY_124 dX3_startFigure_15 fk_3_20_X3 (Or.inl q1332)) <|
  jcons (jL jC_124 dX3_startFigure_18 rfl) <|
  jcons (jL jC_124 dX3_startFigure_19 rfl) <|
  jcons (jL jC_124 dX3_startFigure_20 rfl) <|
  jnil
theorem jm_124 : ∀ l ∈ tbX3_startFigure, ∀ q ∈ l, sJ jnw jao 124 q.1 q.2.1 q.2.2 := jmc jt_124_0 <| jmn
theorem jt_125_0 : ∀ q ∈ tcX3_put_0, sJ jnw jao 125 q.1 q.2.1 q.2.2 :=
  jcons (jL jC_125 dX3_put_0 rfl) <|
  jcons (jL jC_125 dX3_put_2 rfl) <|
  jcons (jG jC_125 jY_125 dX3_put_3 fk_3_20_X3 (Or.inl q1332)) <|
  jcons (jL jC_125 dX3_put_6 rfl) <|
  jcons (jL jC_125 dX3_put_7 rfl) <|
  jcons (jG jC_125 jY_125 dX3_put_8 fk_3_13_X3 (Or.inl q1325)) <|
  jcons (jL jC_125 dX3_put_11 rfl) <|
  jcons (jG jC_125 jY_125 dX3_put_12 fk_3_20_X3 (Or.inl q1332)) <|
  jcons (jL jC_125 dX3_put_15 rfl) <|
  jcons (jL jC_125 dX3_put_16 rfl) <|
  jcons (jL jC_125 dX3_put_17 rfl) <|
  jcons (jL jC_125 dX3_put_19 rfl) <|
  jcons (jG jC_125 jY_125 dX3_put_20 fk_3_15_X3 (Or.inl q1327)) <|
  jcons (jL jC_125 dX3_put_23 rfl) <|
  jcons (jL jC_125 dX3_put_25 rfl) <|
  jcons (jL jC_125 dX3_put_26 rfl) <|
  jcons (jL jC_125 dX3_put_27 rfl) <|
  jcons (jG jC_125 jY_125 dX3_put_28 fk_3_18_X3 (Or.inl q1330)) <|
  jcons (jL jC_125 dX3_put_31 rfl) <|
  jcons (jL jC_125 dX3_put_33 rfl) <|
  jcons (jL jC_125 dX3_put_34 rfl) <|
  jcons (jL jC_125 dX3_put_35 rfl) <|
  jcons (jG jC_125 jY_125 dX3_put_36 fk_3_16_X3 (Or.inl q1328)) <|
  jcons (jL jC_125 dX3_put_39 rfl) <|
  jcons (jL jC_125 dX3_put_41 rfl) <|
  jcons (jL jC_125 dX3_put_42 rfl) <|
  jcons (jL jC_125 dX3_put_43 rfl) <|
  jcons (jG jC_125 jY_125 dX3_put_44 fk_3_17_X3 (Or.inl q1329)) <|
  jcons (jL jC_125 dX3_put_47 rfl) <|
  jcons (jL jC_125 dX3_put_49 rfl) <|
  jcons (jL jC_125 dX3_put_51 rfl) <|
  jcons (jL jC_125 dX3_put_52 rfl) <|
  jcons (jG jC_125 jY_125 dX3_put_53 fk_3_13_X3 (Or.inl q1325)) <|
  jcons (jL jC_125 dX3_put_56 rfl) <|
  jcons (jG jC_125 jY_125 dX3_put_57 fk_3_20_X3 (Or.inl q1332)) <|
  jcons (jL jC_125 dX3_put_60 rfl) <|
  jcons (jL jC_125 dX3_put_61 rfl) <|
  jcons (jL jC_125 dX3_put_62 rfl) <|
  jcons (jL jC_125 dX3_put_63 rfl) <|
  jnil
theorem jt_125_1 : ∀ q ∈ tcX3_put_1, sJ jnw jao 125 q.1 q.2.1 q.2.2 :=
  jcons (jL jC_125 dX3_put_64 rfl) <|
  jcons (jL jC_125 dX3_put_65 rfl) <|
  jnil
theorem jm_125 : ∀ l ∈ tbX3_put, ∀ q ∈ l, sJ jnw jao 125 q.1 q.2.1 q.2.2 := jmc jt_125_0 <| jmc jt_125_1 <| jmn
theorem jt_126_0 : ∀ q ∈ tcX3_endFigure_0, sJ jnw jao 126 q.1 q.2.1 q.2.2 :=
  jcons (jL jC_126 dX3_endFigure_0 rfl) <|
  jcons (jL jC_126 dX3_endFigure_1 rfl) <|
  jcons (jL jC_126 dX3_endFigure_2 rfl) <|
  jcons (jL jC_126 dX3_endFigure_3 rfl) <|
  jcons (jL jC_126 dX3_endFigure_4 rfl) <|
  jcons (jL jC_126 dX3_endFigure_5 rfl) <|
  jcons (jL jC_126 dX3_endFigure_6 rfl) <|
  jcons (jL jC_126 dX3_endFigure_9 rfl) <|
  jcons (jG jC_126 jY_126 dX3_endFigure_10 fk_3_26_X3 (Or.inl q1338)) <|
  jcons (jL jC_126 dX3_endFigure_13 rfl) <|
  jcons (jL jC_126 dX3_endFigure_14 rfl) <|
  jcons (jG jC_126 jY_126 dX3_endFigure_15 fk_3_21_X3 (Or.inl q1333)) <|
  jcons (jL jC_126 dX3_endFigure_18 rfl) <|
  jcons (jL jC_126 dX3_endFigure_19 rfl) <|
  jcons (jL jC_126 dX3_endFigure_20 rfl) <|
  jcons (jL jC_126 dX3_endFigure_21 rfl) <|
  jcons (jL jC_126 dX3_endFigure_24 rfl) <|
  jcons (jL jC_126 dX3_endFigure_25 rfl) <|
  jcons (jL jC_126 dX3_endFigure_28 rfl) <|
  jcons (jL jC_126 dX3_endFigure_29 rfl) <|
  jcons (jL jC_126 dX3_endFigure_30 rfl) <|
  jcons (jL jC_126 dX3_endFigure_31 rfl) <|
  jcons (jG jC_126 jY_126 dX3_endFigure_32 fk_3_21_X3 (Or.inl q1333)) <|
  jcons (jL jC_126 dX3_endFigure_35 rfl) <|
  jcons (jL jC_126 dX3_endFigure_36 rfl) <|
  jcons (jL jC_126 dX3_endFigure_37 rfl) <|
  jcons (jL jC_126 dX3_endFigure_38 rfl) <|
  jcons (jL jC_126 dX3_endFigure_41 rfl) <|
  jcons (jL jC_126 dX3_endFigure_42 rfl) <|
  jcons (jL jC_126 dX3_endFigure_45 rfl) <|
  jcons (jL jC_126 dX3_endFigure_46 rfl) <|
  jcons (jL jC_126 dX3_endFigure_47 rfl) <|
  jcons (jL jC_126 dX3_endFigure_48 rfl) <|
  jcons (jL jC_126 dX3_endFigure_51 rfl) <|
  jcons (jL jC_126 dX3_endFigure_54 rfl) <|
  jcons (jL jC_126 dX3_endFigure_56 rfl) <|
  jcons (jG jC_126 jY_126 dX3_endFigure_57 fk_3_20_X3 (Or.inl q1332)) <|
  jcons (jL jC_126 dX3_endFigure_60 rfl) <|
  jcons (jL jC_126 dX3_endFigure_61 rfl) <|
  jcons (jL jC_126 dX3_endFigure_62 rfl) <|
  jcons (jL jC_126 dX3_endFigure_63 rfl) <|
  jnil
theorem jt_126_1 : ∀ q ∈ tcX3_endFigure_1, sJ jnw jao 126 q.1 q.2.1 q.2.2 :=
  jcons (jL jC_126 dX3_endFigure_65 rfl) <|
  jcons (jG jC_126 jY_126 dX3_endFigure_66 fk_3_20_X3 (Or.inl q1332)) <|
  jcons (jL jC_126 dX3_endFigure_69 rfl) <|
  jcons (jL jC_126 dX3_endFigure_70 rfl) <|
  jcons (jG jC_126 jY_126 dX3_endFigure_71 fk_3_13_X3 (Or.inl q1325)) <|
  jcons (jL jC_126 dX3_endFigure_74 rfl) <|
  jcons (jG jC_126 jY_126 dX3_endFigure_75 fk_3_20_X3 (Or.inl q1332)) <|
  jcons (jL jC_126 dX3_endFigure_78 rfl) <|
  jcons (jL jC_126 dX3_endFigure_79 rfl) <|
  jcons (jL jC_126 dX3_endFigure_80 rfl) <|
  jcons (jL jC_126 dX3_endFigure_83 rfl) <|
  jcons (jG jC_126 jY_126 dX3_endFigure_84 fk_3_16_X3 (Or.inl q1328)) <|
  jcons (jL jC_126 dX3_endFigure_87 rfl) <|
  jcons (jL jC_126 dX3_endFigure_88 rfl) <|
  jcons (jG jC_126 jY_126 dX3_endFigure_89 fk_3_26_X3 (Or.inl q1338)) <|
  jcons (jL jC_126 dX3_endFigure_92 rfl) <|
  jcons (jL jC_126 dX3_endFigure_93 rfl) <|
  jcons (jG jC_126 jY_126 dX3_endFigure_94 fk_3_16_X3 (Or.inl q1328)) <|
  jcons (jL jC_126 dX3_endFigure_97 rfl) <|
  jcons (jL jC_126 dX3_endFigure_98 rfl) <|
  jcons (j4V jC_126 jY_126 dX3_endFigure_99 (jc_84 _) q1538 pd_84 (Or.inl q1536) (fun c r h1 h2 => js_132 c r h1 h2)) <|
  jcons (jL jC_126 dX3_endFigure_102 rfl) <|
  jcons (jL jC_126 dX3_endFigure_103 rfl) <|
  jcons (jL jC_126 dX3_endFigure_104 rfl) <|
  jcons (jG jC_126 jY_126 dX3_endFigure_105 fk_3_17_X3 (Or.inl q1329)) <|
  jcons (jL jC_126 dX3_endFigure_108 rfl) <|
  jcons (jL jC_126 dX3_endFigure_109 rfl) <|
  jcons (jG jC_126 jY_126 dX3_endFigure_110 fk_3_26_X3 (Or.inl q1338)) <|
  jcons (jL jC_126 dX3_endFigure_113 rfl) <|
  jcons (jL jC_126 dX3_endFigure_114 rfl) <|
  jcons (jG jC_126 jY_126 dX3_endFigure_115 fk_3_17_X3 (Or.inl q1329)) <|
  jcons (jL jC_126 dX3_endFigure_118 rfl) <|
  jcons (jL jC_126 dX3_endFigure_119 rfl) <|
  jcons (j4V jC_126 jY_126 dX3_endFigure_120 (jc_84 _) q1538 pd_84 (Or.inl q1536) (fun c r h1 h2 => js_132 c r h1 h2)) <|
  jcons (jL jC_126 dX3_endFigure_123 rfl) <|
  jcons (jL jC_126 dX3_endFigure_124 rfl) <|
  jcons (jL jC_126 dX3_endFigure_125 rfl) <|
  jnil
theorem jt_126_2 : ∀ q ∈ tcX3_endFigure_2, sJ jnw jao 126 q.1 q.2.1 q.2.2 :=
  jcons (jL jC_126 dX3_endFigure_128 rfl) <|
  jcons (jL jC_126 dX3_endFigure_131 rfl) <|
  jcons (jG jC_126 jY_126 dX3_endFigure_132 fk_3_14_X3 (Or.inl q1326)) <|
  jcons (jL jC_126 dX3_endFigure_135 rfl) <|
  jcons (jG jC_126 jY_126 dX3_endFigure_136 fk_3_20_X3 (Or.inl q1332)) <|
  jcons (jL jC_126 dX3_endFigure_139 rfl) <|
  jcons (jL jC_126 dX3_endFigure_140 rfl) <|
  jcons (jL jC_126 dX3_endFigure_141 rfl) <|
  jcons (jG jC_126 jY_126 dX3_endFigure_142 fk_3_19_X3 (Or.inl q1331)) <|
  jcons (jL jC_126 dX3_endFigure_145 rfl) <|
  jcons (jG jC_126 jY_126 dX3_endFigure_146 fk_3_20_X3 (Or.inl q1332)) <|
  jcons (jL jC_126 dX3_endFigure_149 rfl) <|
  jcons (jL jC_126 dX3_endFigure_150 rfl) <|
  jcons (jG jC_126 jY_126 dX3_endFigure_151 fk_3_20_X3 (Or.inl q1332)) <|
  jcons (j4V jC_126 jY_126 dX3_endFigure_154 (jc_127 _) q1714 pd_127 (Or.inl q1712) (fun c r h1 h2 => js_157 c r h1 h2)) <|
  jcons (jL jC_126 dX3_endFigure_157 rfl) <|
  jcons (jL jC_126 dX3_endFigure_158 rfl) <|
  jcons (jL jC_126 dX3_endFigure_159 rfl) <|
  jcons (jG jC_126 jY_126 dX3_endFigure_160 fk_3_20_X3 (Or.inl q1332)) <|
  jcons (jL jC_126 dX3_endFigure_163 rfl) <|
  jcons (jL jC_126 dX3_endFigure_164 rfl) <|
  jcons (jPu jC_126 jY_126 dX3_endFigure_165 fk_3_20_X3 ap_3_20 (fn_3_20 _) (Or.inl q1332) (tyX3_ok 20 (by decide)) (Or.inl ⟨rfl, rfl⟩)) <|
  jcons (jL jC_126 dX3_endFigure_168 rfl) <|
  jnil
theorem jm_126 : ∀ l ∈ tbX3_endFigure, ∀ q ∈ l, sJ jnw jao 126 q.1 q.2.1 q.2.2 := jmc jt_126_0 <| jmc jt_126_1 <| jmc jt_126_2 <| jmn
theorem jt_127_0 : ∀ q ∈ tcX3_handsOf_0, sJ jnw jao 127 q.1 q.2.1 q.2.2 :=
  jcons (jL jC_127 dX3_handsOf_0 rfl) <|
  jcons (jL jC_127 dX3_handsOf_1 rfl) <|
  jcons (jL jC_127 dX3_handsOf_2 rfl) <|
  jcons (jL jC_127 dX3_handsOf_3 rfl) <|
  jcons (jL jC_127 dX3_handsOf_4 rfl) <|
  jcons (jL jC_127 dX3_handsOf_5 rfl) <|
  jcons (jG jC_127 jY_127 dX3_handsOf_6 fk_3_13_X3 (Or.inl q1325)) <|
  jcons (jL jC_127 dX3_handsOf_9 rfl) <|
  jcons (jL jC_127 dX3_handsOf_10 rfl) <|
  jcons (jL jC_127 dX3_handsOf_11 rfl) <|
  jcons (jL jC_127 dX3_handsOf_14 rfl) <|
  jcons (jL jC_127 dX3_handsOf_15 rfl) <|
  jcons (jL jC_127 dX3_handsOf_16 rfl) <|
  jcons (jL jC_127 dX3_handsOf_17 rfl) <|
  jcons (jL jC_127 dX3_handsOf_18 rfl) <|
  jcons (jL jC_127 dX3_handsOf_19 rfl) <|
  jcons (jL jC_127 dX3_handsOf_20 rfl) <|
  jcons (jL jC_127 dX3_handsOf_21 rfl) <|
  jcons (jL jC_127 dX3_handsOf_23 rfl) <|
  jcons (jL jC_127 dX3_handsOf_24 rfl) <|
  jcons (jL jC_127 dX3_handsOf_26 rfl) <|
  jcons (jL jC_127 dX3_handsOf_27 rfl) <|
  jcons (jL jC_127 dX3_handsOf_29 rfl) <|
  jcons (jL jC_127 dX3_handsOf_31 rfl) <|
  jcons (jL jC_127 dX3_handsOf_32 rfl) <|
  jcons (jL jC_127 dX3_handsOf_35 rfl) <|
  jcons (jL jC_127 dX3_handsOf_37 rfl) <|
  jcons (jL jC_127 dX3_handsOf_38 rfl) <|
  jcons (jL jC_127 dX3_handsOf_39 rfl) <|
  jcons (j4V jC_127 jY_127 dX3_handsOf_41 (jc_109 _) q1642 pd_109 (Or.inl q1640) (fun c r h1 h2 => js_146 c r h1 h2)) <|
  jcons (jL jC_127 dX3_handsOf_44 rfl) <|
  jcons (jL jC_127 dX3_handsOf_47 rfl) <|
  jcons (jL jC_127 dX3_handsOf_48 rfl) <|
  jcons (jL jC_127 dX3_handsOf_49 rfl) <|
  jcons (jG jC_127 jY_127 dX3_handsOf_50 fk_3_17_X3 (Or.inl q1329)) <|
  jcons (jL jC_127 dX3_handsOf_53 rfl) <|
  jcons (jL jC_127 dX3_handsOf_55 rfl) <|
  jcons (jL jC_127 dX3_handsOf_56 rfl) <|
  jcons (jL jC_127 dX3_handsOf_57 rfl) <|
  jcons (jL jC_127 dX3_handsOf_59 rfl) <|
  jcons (jL jC_127 dX3_handsOf_60 rfl) <|
  jcons (jL jC_127 dX3_handsOf_61 rfl) <|
  jcons (j4V jC_127 jY_127 dX3_handsOf_63 (jc_112 _) q1654 pd_112 (Or.inl q1652) (fun c r h1 h2 => js_150 c r h1 h2)) <|
  jnil
theorem jt_127_1 : ∀ q ∈ tcX3_handsOf_1, sJ jnw jao 127 q.1 q.2.1 q.2.2 :=
  jcons (jL jC_127 dX3_handsOf_66 rfl) <|
  jcons (jL jC_127 dX3_handsOf_67 rfl) <|
  jcons (jL jC_127 dX3_handsOf_70 rfl) <|
  jcons (jL jC_127 dX3_handsOf_71 rfl) <|
  jcons (jL jC_127 dX3_handsOf_74 rfl) <|
  jcons (jL jC_127 dX3_handsOf_75 rfl) <|
  jcons (jL jC_127 dX3_handsOf_76 rfl) <|
  jcons (jL jC_127 dX3_handsOf_78 rfl) <|
  jcons (jL jC_127 dX3_handsOf_81 rfl) <|
  jcons (jL jC_127 dX3_handsOf_84 rfl) <|
  jcons (jL jC_127 dX3_handsOf_85 rfl) <|
  jcons (j14 jC_127 jY_127 dX3_handsOf_87 q1540) <|
  jcons (jL jC_127 dX3_handsOf_90 rfl) <|
  jcons (jL jC_127 dX3_handsOf_91 rfl) <|
  jcons (jL jC_127 dX3_handsOf_94 rfl) <|
  jcons (jL jC_127 dX3_handsOf_97 rfl) <|
  jcons (jL jC_127 dX3_handsOf_98 rfl) <|
  jnil
theorem jm_127 : ∀ l ∈ tbX3_handsOf, ∀ q ∈ l, sJ jnw jao 127 q.1 q.2.1 q.2.2 := jmc jt_127_0 <| jmc jt_127_1 <| jmn
theorem jt_128_0 : ∀ q ∈ tcX3_add_0, sJ jnw jao 128 q.1 q.2.1 q.2.2 :=
  jcons (jL jC_128 dX3_add_0 rfl) <|
  jcons (jL jC_128 dX3_add_1 rfl) <|
  jcons (jL jC_128 dX3_add_2 rfl) <|
  jcons (j4V jC_128 jY_128 dX3_add_3 (jc_117 _) q1674 pd_117 (Or.inl q1672) (fun c r h1 h2 => js_152 c r h1 h2)) <|
  jcons (jL jC_128 dX3_add_6 rfl) <|
  jcons (jL jC_128 dX3_add_9 rfl) <|
  jcons (jL jC_128 dX3_add_10 rfl) <|
  jcons (jL jC_128 dX3_add_11 rfl) <|
  jcons (j4V jC_128 jY_128 dX3_add_13 (jc_117 _) q1674 pd_117 (Or.inl q1672) (fun c r h1 h2 => js_152 c r h1 h2)) <|
  jcons (jL jC_128 dX3_add_16 rfl) <|
  jcons (jL jC_128 dX3_add_19 rfl) <|
  jcons (jG jC_128 jY_128 dX3_add_20 fk_3_13_X3 (Or.inl q1325)) <|
  jcons (jL jC_128 dX3_add_23 rfl) <|
  jcons (jL jC_128 dX3_add_24 rfl) <|
  jcons (jL jC_128 dX3_add_25 rfl) <|
  jcons (jG jC_128 jY_128 dX3_add_26 fk_3_13_X3 (Or.inl q1325)) <|
  jcons (jL jC_128 dX3_add_29 rfl) <|
  jcons (jL jC_128 dX3_add_30 rfl) <|
  jcons (jL jC_128 dX3_add_31 rfl) <|
  jcons (jL jC_128 dX3_add_32 rfl) <|
  jcons (jL jC_128 dX3_add_34 rfl) <|
  jcons (jL jC_128 dX3_add_37 rfl) <|
  jcons (jG jC_128 jY_128 dX3_add_38 fk_3_11_X3 (Or.inl q1323)) <|
  jcons (jL jC_128 dX3_add_41 rfl) <|
  jcons (jL jC_128 dX3_add_42 rfl) <|
  jcons (jL jC_128 dX3_add_43 rfl) <|
  jcons (jG jC_128 jY_128 dX3_add_44 fk_3_11_X3 (Or.inl q1323)) <|
  jcons (jL jC_128 dX3_add_47 rfl) <|
  jcons (jL jC_128 dX3_add_48 rfl) <|
  jcons (jL jC_128 dX3_add_49 rfl) <|
  jcons (jL jC_128 dX3_add_50 rfl) <|
  jcons (jL jC_128 dX3_add_52 rfl) <|
  jcons (jL jC_128 dX3_add_55 rfl) <|
  jcons (jG jC_128 jY_128 dX3_add_56 fk_3_20_X3 (Or.inl q1332)) <|
  jcons (jL jC_128 dX3_add_59 rfl) <|
  jcons (jL jC_128 dX3_add_61 rfl) <|
  jnil
theorem jt_128_1 : ∀ q ∈ tcX3_add_1, sJ jnw jao 128 q.1 q.2.1 q.2.2 :=
  jcons (jL jC_128 dX3_add_64 rfl) <|
  jcons (jL jC_128 dX3_add_65 rfl) <|
  jcons (jL jC_128 dX3_add_66 rfl) <|
  jcons (j4V jC_128 jY_128 dX3_add_67 (jc_124 _) q1702 pd_124 (Or.inl q1700) (fun c r h1 h2 => js_154 c r h1 h2)) <|
  jcons (jL jC_128 dX3_add_70 rfl) <|
  jcons (jL jC_128 dX3_add_71 rfl) <|
  jcons (jL jC_128 dX3_add_73 rfl) <|
  jcons (jL jC_128 dX3_add_75 rfl) <|
  jcons (jG jC_128 jY_128 dX3_add_76 fk_3_14_X3 (Or.inl q1326)) <|
  jcons (jL jC_128 dX3_add_79 rfl) <|
  jcons (jL jC_128 dX3_add_80 rfl) <|
  jcons (jL jC_128 dX3_add_81 rfl) <|
  jcons (jG jC_128 jY_128 dX3_add_82 fk_3_14_X3 (Or.inl q1326)) <|
  jcons (jL jC_128 dX3_add_85 rfl) <|
  jcons (jL jC_128 dX3_add_86 rfl) <|
  jcons (jL jC_128 dX3_add_87 rfl) <|
  jcons (jL jC_128 dX3_add_88 rfl) <|
  jcons (jL jC_128 dX3_add_91 rfl) <|
  jcons (jG jC_128 jY_128 dX3_add_92 fk_3_21_X3 (Or.inl q1333)) <|
  jcons (jL jC_128 dX3_add_95 rfl) <|
  jcons (jL jC_128 dX3_add_97 rfl) <|
  jcons (jL jC_128 dX3_add_99 rfl) <|
  jcons (jL jC_128 dX3_add_100 rfl) <|
  jcons (jL jC_128 dX3_add_103 rfl) <|
  jcons (jL jC_128 dX3_add_106 rfl) <|
  jcons (jG jC_128 jY_128 dX3_add_107 fk_3_21_X3 (Or.inl q1333)) <|
  jcons (jL jC_128 dX3_add_110 rfl) <|
  jcons (jG jC_128 jY_128 dX3_add_111 fk_3_14_X3 (Or.inl q1326)) <|
  jcons (jL jC_128 dX3_add_114 rfl) <|
  jcons (jL jC_128 dX3_add_115 rfl) <|
  jcons (jL jC_128 dX3_add_116 rfl) <|
  jcons (jL jC_128 dX3_add_118 rfl) <|
  jcons (jL jC_128 dX3_add_119 rfl) <|
  jcons (jL jC_128 dX3_add_120 rfl) <|
  jcons (jL jC_128 dX3_add_121 rfl) <|
  jcons (jL jC_128 dX3_add_122 rfl) <|
  jcons (jL jC_128 dX3_add_123 rfl) <|
  jcons (jL jC_128 dX3_add_124 rfl) <|
  jcons (j4V jC_128 jY_128 dX3_add_125 (jc_129 _) q1722 pd_129 (Or.inl q1720) (fun c r h1 h2 => js_158 c r h1 h2)) <|
  jnil
theorem jt_128_2 : ∀ q ∈ tcX3_add_2, sJ jnw jao 128 q.1 q.2.1 q.2.2 :=
  jcons (jL jC_128 dX3_add_128 rfl) <|
  jcons (jL jC_128 dX3_add_129 rfl) <|
  jcons (jL jC_128 dX3_add_130 rfl) <|
  jcons (jG jC_128 jY_128 dX3_add_131 fk_3_11_X3 (Or.inl q1323)) <|
  jcons (jL jC_128 dX3_add_134 rfl) <|
  jcons (jL jC_128 dX3_add_135 rfl) <|
  jcons (jL jC_128 dX3_add_136 rfl) <|
  jcons (jG jC_128 jY_128 dX3_add_137 fk_3_14_X3 (Or.inl q1326)) <|
  jcons (jL jC_128 dX3_add_140 rfl) <|
  jcons (jL jC_128 dX3_add_141 rfl) <|
  jcons (j4V jC_128 jY_128 dX3_add_142 (jc_129 _) q1722 pd_129 (Or.inl q1720) (fun c r h1 h2 => js_158 c r h1 h2)) <|
  jcons (jL jC_128 dX3_add_145 rfl) <|
  jcons (jG jC_128 jY_128 dX3_add_146 fk_3_11_X3 (Or.inl q1323)) <|
  jcons (jL jC_128 dX3_add_149 rfl) <|
  jcons (jG jC_128 jY_128 dX3_add_150 fk_3_20_X3 (Or.inl q1332)) <|
  jcons (jL jC_128 dX3_add_153 rfl) <|
  jcons (jG jC_128 jY_128 dX3_add_154 fk_3_11_X3 (Or.inl q1323)) <|
  jcons (jL jC_128 dX3_add_157 rfl) <|
  jcons (jL jC_128 dX3_add_158 rfl) <|
  jcons (jL jC_128 dX3_add_159 rfl) <|
  jcons (jG jC_128 jY_128 dX3_add_160 fk_3_11_X3 (Or.inl q1323)) <|
  jcons (jL jC_128 dX3_add_163 rfl) <|
  jcons (jL jC_128 dX3_add_164 rfl) <|
  jcons (jL jC_128 dX3_add_165 rfl) <|
  jcons (jL jC_128 dX3_add_166 rfl) <|
  jcons (jL jC_128 dX3_add_167 rfl) <|
  jcons (jL jC_128 dX3_add_168 rfl) <|
  jcons (jG jC_128 jY_128 dX3_add_169 fk_3_14_X3 (Or.inl q1326)) <|
  jcons (jL jC_128 dX3_add_172 rfl) <|
  jcons (jL jC_128 dX3_add_173 rfl) <|
  jcons (jL jC_128 dX3_add_174 rfl) <|
  jcons (jG jC_128 jY_128 dX3_add_175 fk_3_14_X3 (Or.inl q1326)) <|
  jcons (jL jC_128 dX3_add_178 rfl) <|
  jcons (jL jC_128 dX3_add_179 rfl) <|
  jcons (jL jC_128 dX3_add_180 rfl) <|
  jcons (j4V jC_128 jY_128 dX3_add_181 (jc_126 _) q1710 pd_126 (Or.inl q1708) (fun c r h1 h2 => js_156 c r h1 h2)) <|
  jcons (jL jC_128 dX3_add_184 rfl) <|
  jcons (jG jC_128 jY_128 dX3_add_185 fk_3_20_X3 (Or.inl q1332)) <|
  jcons (jL jC_128 dX3_add_188 rfl) <|
  jcons (jL jC_128 dX3_add_189 rfl) <|
  jcons (jL jC_128 dX3_add_190 rfl) <|
  jnil
theorem jm_128 : ∀ l ∈ tbX3_add, ∀ q ∈ l, sJ jnw jao 128 q.1 q.2.1 q.2.2 := jmc jt_128_0 <| jmc jt_128_1 <| jmc jt_128_2 <| jmn
theorem jt_129_0 : ∀ q ∈ tcX3_addAll_0, sJ jnw jao 129 q.1 q.2.1 q.2.2 :=
  jcons (jL jC_129 dX3_addAll_0 rfl) <|
  jcons (jL jC_129 dX3_addAll_1 rfl) <|
  jcons (jL jC_129 dX3_addAll_3 rfl) <|
  jcons (jL jC_129 dX3_addAll_5 rfl) <|
  jcons (jG jC_129 jY_129 dX3_addAll_6 fk_3_11_X3 (Or.inl q1323)) <|
  jcons (jL jC_129 dX3_addAll_9 rfl) <|
  jcons (jL jC_129 dX3_addAll_10 rfl) <|
  jcons (jL jC_129 dX3_addAll_11 rfl) <|
  jcons (jL jC_129 dX3_addAll_14 rfl) <|
  jcons (jG jC_129 jY_129 dX3_addAll_15 fk_3_12_X3 (Or.inl q1324)) <|
  jcons (jL jC_129 dX3_addAll_18 rfl) <|
  jcons (jL jC_129 dX3_addAll_20 rfl) <|
  jcons (jG jC_129 jY_129 dX3_addAll_21 fk_3_20_X3 (Or.inl q1332)) <|
  jcons (jL jC_129 dX3_addAll_24 rfl) <|
  jcons (jL jC_129 dX3_addAll_25 rfl) <|
  jcons (jL jC_129 dX3_addAll_26 rfl) <|
  jcons (jL jC_129 dX3_addAll_27 rfl) <|
  jcons (jL jC_129 dX3_addAll_29 rfl) <|
  jcons (jL jC_129 dX3_addAll_30 rfl) <|
  jcons (jG jC_129 jY_129 dX3_addAll_31 fk_3_12_X3 (Or.inl q1324)) <|
  jcons (jL jC_129 dX3_addAll_34 rfl) <|
  jcons (jL jC_129 dX3_addAll_36 rfl) <|
  jcons (jL jC_129 dX3_addAll_37 rfl) <|
  jcons (jL jC_129 dX3_addAll_38 rfl) <|
  jcons (jL jC_129 dX3_addAll_40 rfl) <|
  jcons (jL jC_129 dX3_addAll_41 rfl) <|
  jcons (jL jC_129 dX3_addAll_42 rfl) <|
  jcons (jL jC_129 dX3_addAll_43 rfl) <|
  jcons (jL jC_129 dX3_addAll_46 rfl) <|
  jcons (jL jC_129 dX3_addAll_49 rfl) <|
  jcons (jL jC_129 dX3_addAll_50 rfl) <|
  jcons (jL jC_129 dX3_addAll_52 rfl) <|
  jcons (jL jC_129 dX3_addAll_54 rfl) <|
  jcons (jG jC_129 jY_129 dX3_addAll_55 fk_3_13_X3 (Or.inl q1325)) <|
  jcons (jL jC_129 dX3_addAll_58 rfl) <|
  jcons (jL jC_129 dX3_addAll_59 rfl) <|
  jcons (jL jC_129 dX3_addAll_60 rfl) <|
  jcons (jL jC_129 dX3_addAll_63 rfl) <|
  jnil
theorem jt_129_1 : ∀ q ∈ tcX3_addAll_1, sJ jnw jao 129 q.1 q.2.1 q.2.2 :=
  jcons (jL jC_129 dX3_addAll_65 rfl) <|
  jcons (jL jC_129 dX3_addAll_66 rfl) <|
  jcons (jL jC_129 dX3_addAll_67 rfl) <|
  jcons (jL jC_129 dX3_addAll_69 rfl) <|
  jcons (jL jC_129 dX3_addAll_70 rfl) <|
  jcons (jL jC_129 dX3_addAll_72 rfl) <|
  jcons (jL jC_129 dX3_addAll_73 rfl) <|
  jcons (jG jC_129 jY_129 dX3_addAll_74 fk_3_15_X3 (Or.inl q1327)) <|
  jcons (jL jC_129 dX3_addAll_77 rfl) <|
  jcons (jL jC_129 dX3_addAll_79 rfl) <|
  jcons (jL jC_129 dX3_addAll_80 rfl) <|
  jcons (jL jC_129 dX3_addAll_81 rfl) <|
  jcons (jG jC_129 jY_129 dX3_addAll_82 fk_3_18_X3 (Or.inl q1330)) <|
  jcons (jL jC_129 dX3_addAll_85 rfl) <|
  jcons (jL jC_129 dX3_addAll_87 rfl) <|
  jcons (jL jC_129 dX3_addAll_88 rfl) <|
  jcons (jL jC_129 dX3_addAll_89 rfl) <|
  jcons (jL jC_129 dX3_addAll_90 rfl) <|
  jcons (jG jC_129 jY_129 dX3_addAll_91 fk_3_16_X3 (Or.inl q1328)) <|
  jcons (jL jC_129 dX3_addAll_94 rfl) <|
  jcons (jL jC_129 dX3_addAll_96 rfl) <|
  jcons (jL jC_129 dX3_addAll_97 rfl) <|
  jcons (jL jC_129 dX3_addAll_98 rfl) <|
  jcons (jL jC_129 dX3_addAll_99 rfl) <|
  jcons (jG jC_129 jY_129 dX3_addAll_100 fk_3_17_X3 (Or.inl q1329)) <|
  jcons (jL jC_129 dX3_addAll_103 rfl) <|
  jcons (jL jC_129 dX3_addAll_105 rfl) <|
  jcons (jL jC_129 dX3_addAll_106 rfl) <|
  jcons (j4V jC_129 jY_129 dX3_addAll_107 (jc_125 _) q1706 pd_125 (Or.inl q1704) (fun c r h1 h2 => js_155 c r h1 h2)) <|
  jcons (jL jC_129 dX3_addAll_110 rfl) <|
  jcons (jL jC_129 dX3_addAll_113 rfl) <|
  jcons (jL jC_129 dX3_addAll_116 rfl) <|
  jnil
theorem jm_129 : ∀ l ∈ tbX3_addAll, ∀ q ∈ l, sJ jnw jao 129 q.1 q.2.1 q.2.2 := jmc jt_129_0 <| jmc jt_129_1 <| jmn
theorem jt_130_0 : ∀ q ∈ tcX3_pop_0, sJ jnw jao 130 q.1 q.2.1 q.2.2 :=
  jcons (jL jC_130 dX3_pop_0 rfl) <|
  jcons (jL jC_130 dX3_pop_1 rfl) <|
  jcons (jL jC_130 dX3_pop_2 rfl) <|
  jcons (j4V jC_130 jY_130 dX3_pop_3 (jc_115 _) q1666 pd_115 (Or.inl q1664) (fun c r h1 h2 => js_151 c r h1 h2)) <|
  jcons (jL jC_130 dX3_pop_6 rfl) <|
  jcons (jL jC_130 dX3_pop_9 rfl) <|
  jcons (jL jC_130 dX3_pop_10 rfl) <|
  jcons (jL jC_130 dX3_pop_11 rfl) <|
  jcons (j4S jC_130 jY_130 dX3_pop_12 (jc_69 _) q1480 pd_69 (Or.inl q1479)) <|
  jcons (jL jC_130 dX3_pop_15 rfl) <|
  jcons (jL jC_130 dX3_pop_18 rfl) <|
  jcons (jL jC_130 dX3_pop_19 rfl) <|
  jcons (jL jC_130 dX3_pop_20 rfl) <|
  jcons (jL jC_130 dX3_pop_21 rfl) <|
  jcons (jL jC_130 dX3_pop_22 rfl) <|
  jcons (jL jC_130 dX3_pop_23 rfl) <|
  jcons (j4V jC_130 jY_130 dX3_pop_24 (jc_111 _) q1650 pd_111 (Or.inl q1648) (fun c r h1 h2 => js_148 c r h1 h2)) <|
  jcons (jL jC_130 dX3_pop_27 rfl) <|
  jcons (jL jC_130 dX3_pop_28 rfl) <|
  jcons (jL jC_130 dX3_pop_29 rfl) <|
  jcons (jL jC_130 dX3_pop_30 rfl) <|
  jcons (jL jC_130 dX3_pop_31 rfl) <|
  jcons (jL jC_130 dX3_pop_32 rfl) <|
  jcons (j4V jC_130 jY_130 dX3_pop_33 (jc_131 _) q1730 pd_131 (Or.inl q1728) (fun c r h1 h2 => js_159 c r h1 h2)) <|
  jcons (jL jC_130 dX3_pop_36 rfl) <|
  jcons (jL jC_130 dX3_pop_38 rfl) <|
  jcons (jL jC_130 dX3_pop_39 rfl) <|
  jcons (j4V jC_130 jY_130 dX3_pop_40 (jc_111 _) q1650 pd_111 (Or.inl q1648) (fun c r h1 h2 => js_148 c r h1 h2)) <|
  jcons (jL jC_130 dX3_pop_43 rfl) <|
  jcons (jL jC_130 dX3_pop_45 rfl) <|
  jcons (jL jC_130 dX3_pop_46 rfl) <|
  jcons (jL jC_130 dX3_pop_47 rfl) <|
  jcons (jL jC_130 dX3_pop_48 rfl) <|
  jcons (jL jC_130 dX3_pop_50 rfl) <|
  jcons (jL jC_130 dX3_pop_51 rfl) <|
  jcons (jL jC_130 dX3_pop_54 rfl) <|
  jcons (jL jC_130 dX3_pop_56 rfl) <|
  jcons (jL jC_130 dX3_pop_59 rfl) <|
  jcons (jL jC_130 dX3_pop_60 rfl) <|
  jcons (jL jC_130 dX3_pop_61 rfl) <|
  jnil
theorem jt_130_1 : ∀ q ∈ tcX3_pop_1, sJ jnw jao 130 q.1 q.2.1 q.2.2 :=
  jcons (jL jC_130 dX3_pop_64 rfl) <|
  jcons (j4S jC_130 jY_130 dX3_pop_66 (jc_254 _) q976 pd_254 (Or.inl q1732)) <|
  jcons (jL jC_130 dX3_pop_69 rfl) <|
  jcons (jL jC_130 dX3_pop_72 rfl) <|
  jcons (jL jC_130 dX3_pop_73 rfl) <|
  jcons (jL jC_130 dX3_pop_74 rfl) <|
  jcons (j4V jC_130 jY_130 dX3_pop_76 (jc_132 _) q1735 pd_132 (Or.inl q1733) (fun c r h1 h2 => js_160 c r h1 h2)) <|
  jcons (jL jC_130 dX3_pop_79 rfl) <|
  jnil
theorem jm_130 : ∀ l ∈ tbX3_pop, ∀ q ∈ l, sJ jnw jao 130 q.1 q.2.1 q.2.2 := jmc jt_130_0 <| jmc jt_130_1 <| jmn
theorem jt_131_0 : ∀ q ∈ tcX3_leftOf_0, sJ jnw jao 131 q.1 q.2.1 q.2.2 :=
  jcons (jL jC_131 dX3_leftOf_0 rfl) <|
  jcons (jL jC_131 dX3_leftOf_1 rfl) <|
  jcons (jL jC_131 dX3_leftOf_2 rfl) <|
  jcons (jL jC_131 dX3_leftOf_3 rfl) <|
  jcons (jL jC_131 dX3_leftOf_5 rfl) <|
  jcons (jL jC_131 dX3_leftOf_7 rfl) <|
  jcons (jL jC_131 dX3_leftOf_10 rfl) <|
  jcons (jL jC_131 dX3_leftOf_11 rfl) <|
  jcons (jL jC_131 dX3_leftOf_13 rfl) <|
  jcons (jL jC_131 dX3_leftOf_14 rfl) <|
  jcons (jL jC_131 dX3_leftOf_16 rfl) <|
  jcons (jL jC_131 dX3_leftOf_18 rfl) <|
  jcons (jG jC_131 jY_131 dX3_leftOf_19 fk_3_13_X3 (Or.inl q1325)) <|
  jcons (jL jC_131 dX3_leftOf_22 rfl) <|
  jcons (jL jC_131 dX3_leftOf_23 rfl) <|
  jcons (jL jC_131 dX3_leftOf_24 rfl) <|
  jcons (jL jC_131 dX3_leftOf_27 rfl) <|
  jcons (jL jC_131 dX3_leftOf_28 rfl) <|
  jcons (jL jC_131 dX3_leftOf_29 rfl) <|
  jcons (j4V jC_131 jY_131 dX3_leftOf_31 (jc_109 _) q1642 pd_109 (Or.inl q1640) (fun c r h1 h2 => js_146 c r h1 h2)) <|
  jcons (jL jC_131 dX3_leftOf_34 rfl) <|
  jcons (jL jC_131 dX3_leftOf_37 rfl) <|
  jcons (jL jC_131 dX3_leftOf_40 rfl) <|
  jcons (jL jC_131 dX3_leftOf_41 rfl) <|
  jcons (jL jC_131 dX3_leftOf_43 rfl) <|
  jcons (jL jC_131 dX3_leftOf_44 rfl) <|
  jcons (jL jC_131 dX3_leftOf_45 rfl) <|
  jcons (jL jC_131 dX3_leftOf_46 rfl) <|
  jcons (jL jC_131 dX3_leftOf_47 rfl) <|
  jcons (jL jC_131 dX3_leftOf_50 rfl) <|
  jcons (jL jC_131 dX3_leftOf_51 rfl) <|
  jcons (jL jC_131 dX3_leftOf_54 rfl) <|
  jcons (jL jC_131 dX3_leftOf_55 rfl) <|
  jcons (jL jC_131 dX3_leftOf_57 rfl) <|
  jcons (jL jC_131 dX3_leftOf_58 rfl) <|
  jcons (jL jC_131 dX3_leftOf_60 rfl) <|
  jcons (jL jC_131 dX3_leftOf_61 rfl) <|
  jcons (jL jC_131 dX3_leftOf_62 rfl) <|
  jcons (jL jC_131 dX3_leftOf_63 rfl) <|
  jnil
theorem jt_131_1 : ∀ q ∈ tcX3_leftOf_1, sJ jnw jao 131 q.1 q.2.1 q.2.2 :=
  jcons (jL jC_131 dX3_leftOf_64 rfl) <|
  jcons (jL jC_131 dX3_leftOf_65 rfl) <|
  jcons (jL jC_131 dX3_leftOf_66 rfl) <|
  jcons (jL jC_131 dX3_leftOf_69 rfl) <|
  jcons (jL jC_131 dX3_leftOf_70 rfl) <|
  jcons (jL jC_131 dX3_leftOf_73 rfl) <|
  jcons (jL jC_131 dX3_leftOf_74 rfl) <|
  jcons (jL jC_131 dX3_leftOf_76 rfl) <|
  jcons (jL jC_131 dX3_leftOf_78 rfl) <|
  jcons (jL jC_131 dX3_leftOf_80 rfl) <|
  jcons (jL jC_131 dX3_leftOf_83 rfl) <|
  jcons (jL jC_131 dX3_leftOf_84 rfl) <|
  jcons (jL jC_131 dX3_leftOf_85 rfl) <|
  jcons (jG jC_131 jY_131 dX3_leftOf_86 fk_3_17_X3 (Or.inl q1329)) <|
  jcons (jL jC_131 dX3_leftOf_89 rfl) <|
  jcons (jL jC_131 dX3_leftOf_91 rfl) <|
  jcons (jL jC_131 dX3_leftOf_92 rfl) <|
  jcons (jL jC_131 dX3_leftOf_93 rfl) <|
  jcons (jL jC_131 dX3_leftOf_95 rfl) <|
  jcons (jL jC_131 dX3_leftOf_96 rfl) <|
  jcons (jL jC_131 dX3_leftOf_97 rfl) <|
  jcons (j4V jC_131 jY_131 dX3_leftOf_98 (jc_112 _) q1654 pd_112 (Or.inl q1652) (fun c r h1 h2 => js_150 c r h1 h2)) <|
  jcons (jL jC_131 dX3_leftOf_101 rfl) <|
  jcons (jL jC_131 dX3_leftOf_102 rfl) <|
  jcons (jL jC_131 dX3_leftOf_105 rfl) <|
  jcons (jL jC_131 dX3_leftOf_106 rfl) <|
  jcons (jL jC_131 dX3_leftOf_107 rfl) <|
  jcons (jL jC_131 dX3_leftOf_109 rfl) <|
  jcons (jL jC_131 dX3_leftOf_110 rfl) <|
  jcons (jL jC_131 dX3_leftOf_111 rfl) <|
  jcons (jL jC_131 dX3_leftOf_112 rfl) <|
  jcons (jL jC_131 dX3_leftOf_113 rfl) <|
  jcons (jL jC_131 dX3_leftOf_114 rfl) <|
  jcons (jL jC_131 dX3_leftOf_115 rfl) <|
  jcons (jL jC_131 dX3_leftOf_117 rfl) <|
  jcons (jL jC_131 dX3_leftOf_120 rfl) <|
  jcons (jL jC_131 dX3_leftOf_123 rfl) <|
  jcons (jL jC_131 dX3_leftOf_126 rfl) <|
  jcons (jL jC_131 dX3_leftOf_127 rfl) <|
  jnil
theorem jm_131 : ∀ l ∈ tbX3_leftOf, ∀ q ∈ l, sJ jnw jao 131 q.1 q.2.1 q.2.2 := jmc jt_131_0 <| jmc jt_131_1 <| jmn
theorem jt_132_0 : ∀ q ∈ tcX3_partsOf_0, sJ jnw jao 132 q.1 q.2.1 q.2.2 :=
  jcons (jL jC_132 dX3_partsOf_0 rfl) <|
  jcons (jL jC_132 dX3_partsOf_1 rfl) <|
  jcons (jL jC_132 dX3_partsOf_2 rfl) <|
  jcons (jL jC_132 dX3_partsOf_3 rfl) <|
  jcons (jL jC_132 dX3_partsOf_5 rfl) <|
  jcons (jL jC_132 dX3_partsOf_6 rfl) <|
  jcons (jL jC_132 dX3_partsOf_9 rfl) <|
  jcons (jL jC_132 dX3_partsOf_10 rfl) <|
  jcons (jL jC_132 dX3_partsOf_11 rfl) <|
  jcons (jL jC_132 dX3_partsOf_12 rfl) <|
  jcons (jL jC_132 dX3_partsOf_13 rfl) <|
  jcons (jL jC_132 dX3_partsOf_15 rfl) <|
  jcons (jL jC_132 dX3_partsOf_16 rfl) <|
  jcons (jL jC_132 dX3_partsOf_18 rfl) <|
  jcons (jL jC_132 dX3_partsOf_20 rfl) <|
  jcons (jL jC_132 dX3_partsOf_22 rfl) <|
  jcons (jL jC_132 dX3_partsOf_25 rfl) <|
  jcons (jL jC_132 dX3_partsOf_27 rfl) <|
  jcons (jL jC_132 dX3_partsOf_29 rfl) <|
  jcons (jL jC_132 dX3_partsOf_30 rfl) <|
  jcons (jL jC_132 dX3_partsOf_32 rfl) <|
  jcons (jL jC_132 dX3_partsOf_34 rfl) <|
  jcons (jG jC_132 jY_132 dX3_partsOf_35 fk_3_13_X3 (Or.inl q1325)) <|
  jcons (jL jC_132 dX3_partsOf_38 rfl) <|
  jcons (jL jC_132 dX3_partsOf_39 rfl) <|
  jcons (jL jC_132 dX3_partsOf_40 rfl) <|
  jcons (jL jC_132 dX3_partsOf_43 rfl) <|
  jcons (jL jC_132 dX3_partsOf_45 rfl) <|
  jcons (jL jC_132 dX3_partsOf_46 rfl) <|
  jcons (jL jC_132 dX3_partsOf_48 rfl) <|
  jcons (jL jC_132 dX3_partsOf_49 rfl) <|
  jcons (jL jC_132 dX3_partsOf_50 rfl) <|
  jcons (jL jC_132 dX3_partsOf_51 rfl) <|
  jcons (jL jC_132 dX3_partsOf_52 rfl) <|
  jcons (jL jC_132 dX3_partsOf_55 rfl) <|
  jcons (jL jC_132 dX3_partsOf_56 rfl) <|
  jcons (jL jC_132 dX3_partsOf_57 rfl) <|
  jcons (jL jC_132 dX3_partsOf_59 rfl) <|
  jcons (j4V jC_132 jY_132 dX3_partsOf_61 (jc_133 _) q1739 pd_133 (Or.inl q1737) (fun c r h1 h2 => js_161 c r h1 h2)) <|
  jnil
theorem jt_132_1 : ∀ q ∈ tcX3_partsOf_1, sJ jnw jao 132 q.1 q.2.1 q.2.2 :=
  jcons (jL jC_132 dX3_partsOf_64 rfl) <|
  jcons (jL jC_132 dX3_partsOf_67 rfl) <|
  jcons (jL jC_132 dX3_partsOf_68 rfl) <|
  jcons (jL jC_132 dX3_partsOf_70 rfl) <|
  jcons (jL jC_132 dX3_partsOf_71 rfl) <|
  jcons (jL jC_132 dX3_partsOf_74 rfl) <|
  jcons (jL jC_132 dX3_partsOf_75 rfl) <|
  jcons (jL jC_132 dX3_partsOf_76 rfl) <|
  jcons (jL jC_132 dX3_partsOf_78 rfl) <|
  jcons (jL jC_132 dX3_partsOf_81 rfl) <|
  jcons (jL jC_132 dX3_partsOf_84 rfl) <|
  jcons (jL jC_132 dX3_partsOf_87 rfl) <|
  jcons (jL jC_132 dX3_partsOf_88 rfl) <|
  jcons (jL jC_132 dX3_partsOf_90 rfl) <|
  jcons (jL jC_132 dX3_partsOf_91 rfl) <|
  jcons (jL jC_132 dX3_partsOf_92 rfl) <|
  jcons (jL jC_132 dX3_partsOf_93 rfl) <|
  jcons (jL jC_132 dX3_partsOf_94 rfl) <|
  jcons (jL jC_132 dX3_partsOf_97 rfl) <|
  jcons (jL jC_132 dX3_partsOf_100 rfl) <|
  jcons (jL jC_132 dX3_partsOf_102 rfl) <|
  jnil
theorem jm_132 : ∀ l ∈ tbX3_partsOf, ∀ q ∈ l, sJ jnw jao 132 q.1 q.2.1 q.2.2 := jmc jt_132_0 <| jmc jt_132_1 <| jmn
theorem jt_133_0 : ∀ q ∈ tcX3_meets_0, sJ jnw jao 133 q.1 q.2.1 q.2.2 :=
  jcons (jL jC_133 dX3_meets_0 rfl) <|
  jcons (jL jC_133 dX3_meets_1 rfl) <|
  jcons (jL jC_133 dX3_meets_3 rfl) <|
  jcons (jL jC_133 dX3_meets_5 rfl) <|
  jcons (jG jC_133 jY_133 dX3_meets_6 fk_3_13_X3 (Or.inl q1325)) <|
  jcons (jL jC_133 dX3_meets_9 rfl) <|
  jcons (jL jC_133 dX3_meets_10 rfl) <|
  jcons (jL jC_133 dX3_meets_11 rfl) <|
  jcons (jL jC_133 dX3_meets_14 rfl) <|
  jcons (jL jC_133 dX3_meets_15 rfl) <|
  jcons (jL jC_133 dX3_meets_17 rfl) <|
  jcons (jL jC_133 dX3_meets_18 rfl) <|
  jcons (jL jC_133 dX3_meets_19 rfl) <|
  jcons (jL jC_133 dX3_meets_20 rfl) <|
  jcons (jL jC_133 dX3_meets_21 rfl) <|
  jcons (jL jC_133 dX3_meets_24 rfl) <|
  jcons (jL jC_133 dX3_meets_26 rfl) <|
  jcons (jL jC_133 dX3_meets_27 rfl) <|
  jcons (jL jC_133 dX3_meets_28 rfl) <|
  jcons (jL jC_133 dX3_meets_30 rfl) <|
  jcons (jL jC_133 dX3_meets_31 rfl) <|
  jcons (jL jC_133 dX3_meets_33 rfl) <|
  jcons (jL jC_133 dX3_meets_35 rfl) <|
  jcons (jL jC_133 dX3_meets_36 rfl) <|
  jcons (jL jC_133 dX3_meets_37 rfl) <|
  jcons (jL jC_133 dX3_meets_38 rfl) <|
  jcons (jL jC_133 dX3_meets_39 rfl) <|
  jcons (jL jC_133 dX3_meets_41 rfl) <|
  jcons (jG jC_133 jY_133 dX3_meets_42 fk_3_16_X3 (Or.inl q1328)) <|
  jcons (jL jC_133 dX3_meets_45 rfl) <|
  jcons (jL jC_133 dX3_meets_47 rfl) <|
  jcons (jL jC_133 dX3_meets_48 rfl) <|
  jcons (jG jC_133 jY_133 dX3_meets_49 fk_3_16_X3 (Or.inl q1328)) <|
  jcons (jL jC_133 dX3_meets_52 rfl) <|
  jcons (jL jC_133 dX3_meets_54 rfl) <|
  jcons (jL jC_133 dX3_meets_55 rfl) <|
  jcons (jL jC_133 dX3_meets_58 rfl) <|
  jcons (jG jC_133 jY_133 dX3_meets_59 fk_3_16_X3 (Or.inl q1328)) <|
  jcons (jL jC_133 dX3_meets_62 rfl) <|
  jnil
theorem jt_133_1 : ∀ q ∈ tcX3_meets_1, sJ jnw jao 133 q.1 q.2.1 q.2.2 :=
  jcons (jL jC_133 dX3_meets_64 rfl) <|
  jcons (jL jC_133 dX3_meets_65 rfl) <|
  jcons (jG jC_133 jY_133 dX3_meets_66 fk_3_17_X3 (Or.inl q1329)) <|
  jcons (jL jC_133 dX3_meets_69 rfl) <|
  jcons (jL jC_133 dX3_meets_71 rfl) <|
  jcons (jL jC_133 dX3_meets_72 rfl) <|
  jcons (jL jC_133 dX3_meets_75 rfl) <|
  jcons (jG jC_133 jY_133 dX3_meets_76 fk_3_17_X3 (Or.inl q1329)) <|
  jcons (jL jC_133 dX3_meets_79 rfl) <|
  jcons (jL jC_133 dX3_meets_81 rfl) <|
  jcons (jL jC_133 dX3_meets_82 rfl) <|
  jcons (jG jC_133 jY_133 dX3_meets_83 fk_3_16_X3 (Or.inl q1328)) <|
  jcons (jL jC_133 dX3_meets_86 rfl) <|
  jcons (jL jC_133 dX3_meets_88 rfl) <|
  jcons (jL jC_133 dX3_meets_89 rfl) <|
  jcons (jL jC_133 dX3_meets_92 rfl) <|
  jcons (jG jC_133 jY_133 dX3_meets_93 fk_3_17_X3 (Or.inl q1329)) <|
  jcons (jL jC_133 dX3_meets_96 rfl) <|
  jcons (jL jC_133 dX3_meets_98 rfl) <|
  jcons (jL jC_133 dX3_meets_99 rfl) <|
  jcons (jG jC_133 jY_133 dX3_meets_100 fk_3_17_X3 (Or.inl q1329)) <|
  jcons (jL jC_133 dX3_meets_103 rfl) <|
  jcons (jL jC_133 dX3_meets_105 rfl) <|
  jcons (jL jC_133 dX3_meets_106 rfl) <|
  jcons (jL jC_133 dX3_meets_109 rfl) <|
  jcons (jL jC_133 dX3_meets_110 rfl) <|
  jcons (jL jC_133 dX3_meets_111 rfl) <|
  jcons (jL jC_133 dX3_meets_114 rfl) <|
  jcons (jL jC_133 dX3_meets_117 rfl) <|
  jcons (jL jC_133 dX3_meets_118 rfl) <|
  jnil
theorem jm_133 : ∀ l ∈ tbX3_meets, ∀ q ∈ l, sJ jnw jao 133 q.1 q.2.1 q.2.2 := jmc jt_133_0 <| jmc jt_133_1 <| jmn
theorem jt_134_0 : ∀ q ∈ tcX3_weakest_0, sJ jnw jao 134 q.1 q.2.1 q.2.2 :=
  jcons (jL jC_134 dX3_weakest_0 rfl) <|
  jcons (jL jC_134 dX3_weakest_1 rfl) <|
  jcons (j4V jC_134 jY_134 dX3_weakest_2 (jc_108 _) q1638 pd_108 (Or.inl q1636) (fun c r h1 h2 => js_145 c r h1 h2)) <|
  jcons (jL jC_134 dX3_weakest_5 rfl) <|
  jcons (jL jC_134 dX3_weakest_8 rfl) <|
  jcons (jL jC_134 dX3_weakest_9 rfl) <|
  jcons (jL jC_134 dX3_weakest_10 rfl) <|
  jcons (jL jC_134 dX3_weakest_11 rfl) <|
  jcons (jL jC_134 dX3_weakest_12 rfl) <|
  jcons (jL jC_134 dX3_weakest_13 rfl) <|
  jcons (jL jC_134 dX3_weakest_14 rfl) <|
  jcons (jL jC_134 dX3_weakest_15 rfl) <|
  jcons (jG jC_134 jY_134 dX3_weakest_16 fk_3_13_X3 (Or.inl q1325)) <|
  jcons (jL jC_134 dX3_weakest_19 rfl) <|
  jcons (jL jC_134 dX3_weakest_20 rfl) <|
  jcons (jL jC_134 dX3_weakest_21 rfl) <|
  jcons (jL jC_134 dX3_weakest_24 rfl) <|
  jcons (jL jC_134 dX3_weakest_25 rfl) <|
  jcons (jL jC_134 dX3_weakest_26 rfl) <|
  jcons (jL jC_134 dX3_weakest_29 rfl) <|
  jcons (jL jC_134 dX3_weakest_30 rfl) <|
  jcons (jL jC_134 dX3_weakest_31 rfl) <|
  jcons (jL jC_134 dX3_weakest_32 rfl) <|
  jcons (j4V jC_134 jY_134 dX3_weakest_33 (jc_130 _) q1725 pd_130 (Or.inl q1745) (fun c r h1 h2 => js_32 c r h1 h2)) <|
  jcons (jL jC_134 dX3_weakest_36 rfl) <|
  jcons (jL jC_134 dX3_weakest_37 rfl) <|
  jcons (jL jC_134 dX3_weakest_38 rfl) <|
  jcons (jL jC_134 dX3_weakest_39 rfl) <|
  jcons (j4V jC_134 jY_134 dX3_weakest_40 (jc_130 _) q1725 pd_130 (Or.inl q1745) (fun c r h1 h2 => js_32 c r h1 h2)) <|
  jcons (jL jC_134 dX3_weakest_43 rfl) <|
  jcons (jL jC_134 dX3_weakest_46 rfl) <|
  jcons (jL jC_134 dX3_weakest_47 rfl) <|
  jcons (jL jC_134 dX3_weakest_50 rfl) <|
  jcons (jL jC_134 dX3_weakest_51 rfl) <|
  jcons (jL jC_134 dX3_weakest_52 rfl) <|
  jcons (jL jC_134 dX3_weakest_55 rfl) <|
  jcons (jL jC_134 dX3_weakest_58 rfl) <|
  jcons (jL jC_134 dX3_weakest_59 rfl) <|
  jnil
theorem jm_134 : ∀ l ∈ tbX3_weakest, ∀ q ∈ l, sJ jnw jao 134 q.1 q.2.1 q.2.2 := jmc jt_134_0 <| jmn
theorem jt_135_0 : ∀ q ∈ tcX3_alike_0, sJ jnw jao 135 q.1 q.2.1 q.2.2 :=
  jcons (jL jC_135 dX3_alike_0 rfl) <|
  jcons (jL jC_135 dX3_alike_1 rfl) <|
  jcons (jL jC_135 dX3_alike_2 rfl) <|
  jcons (j4V jC_135 jY_135 dX3_alike_3 (jc_136 _) q1752 pd_136 (Or.inl q1750) (fun c r h1 h2 => js_162 c r h1 h2)) <|
  jcons (jL jC_135 dX3_alike_6 rfl) <|
  jcons (jL jC_135 dX3_alike_9 rfl) <|
  jcons (jL jC_135 dX3_alike_10 rfl) <|
  jcons (jL jC_135 dX3_alike_11 rfl) <|
  jcons (j4V jC_135 jY_135 dX3_alike_12 (jc_137 _) q1756 pd_137 (Or.inl q1754) (fun c r h1 h2 => js_163 c r h1 h2)) <|
  jcons (jL jC_135 dX3_alike_15 rfl) <|
  jcons (jL jC_135 dX3_alike_18 rfl) <|
  jcons (jL jC_135 dX3_alike_19 rfl) <|
  jcons (jL jC_135 dX3_alike_22 rfl) <|
  jcons (jL jC_135 dX3_alike_23 rfl) <|
  jcons (jL jC_135 dX3_alike_26 rfl) <|
  jcons (jL jC_135 dX3_alike_27 rfl) <|
  jnil
theorem jm_135 : ∀ l ∈ tbX3_alike, ∀ q ∈ l, sJ jnw jao 135 q.1 q.2.1 q.2.2 := jmc jt_135_0 <| jmn
theorem jt_136_0 : ∀ q ∈ tcX3_mayMatch_0, sJ jnw jao 136 q.1 q.2.1 q.2.2 :=
  jcons (jL jC_136 dX3_mayMatch_0 rfl) <|
  jcons (jL jC_136 dX3_mayMatch_1 rfl) <|
  jcons (j4V jC_136 jY_136 dX3_mayMatch_2 (jc_108 _) q1638 pd_108 (Or.inl q1636) (fun c r h1 h2 => js_145 c r h1 h2)) <|
  jcons (jL jC_136 dX3_mayMatch_5 rfl) <|
  jcons (jL jC_136 dX3_mayMatch_8 rfl) <|
  jcons (jL jC_136 dX3_mayMatch_9 rfl) <|
  jcons (j4V jC_136 jY_136 dX3_mayMatch_10 (jc_108 _) q1638 pd_108 (Or.inl q1636) (fun c r h1 h2 => js_145 c r h1 h2)) <|
  jcons (jL jC_136 dX3_mayMatch_13 rfl) <|
  jcons (jL jC_136 dX3_mayMatch_16 rfl) <|
  jcons (jG jC_136 jY_136 dX3_mayMatch_17 fk_3_14_X3 (Or.inl q1326)) <|
  jcons (jL jC_136 dX3_mayMatch_20 rfl) <|
  jcons (jL jC_136 dX3_mayMatch_21 rfl) <|
  jcons (jL jC_136 dX3_mayMatch_22 rfl) <|
  jcons (jL jC_136 dX3_mayMatch_24 rfl) <|
  jcons (jL jC_136 dX3_mayMatch_27 rfl) <|
  jcons (jG jC_136 jY_136 dX3_mayMatch_28 fk_3_14_X3 (Or.inl q1326)) <|
  jcons (jL jC_136 dX3_mayMatch_31 rfl) <|
  jcons (jL jC_136 dX3_mayMatch_32 rfl) <|
  jcons (jL jC_136 dX3_mayMatch_33 rfl) <|
  jcons (jL jC_136 dX3_mayMatch_35 rfl) <|
  jcons (jL jC_136 dX3_mayMatch_38 rfl) <|
  jcons (jL jC_136 dX3_mayMatch_39 rfl) <|
  jcons (jL jC_136 dX3_mayMatch_42 rfl) <|
  jcons (jL jC_136 dX3_mayMatch_43 rfl) <|
  jnil
theorem jm_136 : ∀ l ∈ tbX3_mayMatch, ∀ q ∈ l, sJ jnw jao 136 q.1 q.2.1 q.2.2 := jmc jt_136_0 <| jmn
theorem jt_137_0 : ∀ q ∈ tcX3_areAlike_0, sJ jnw jao 137 q.1 q.2.1 q.2.2 :=
  jcons (jL jC_137 dX3_areAlike_0 rfl) <|
  jcons (jG jC_137 jY_137 dX3_areAlike_1 fk_3_14_X3 (Or.inl q1326)) <|
  jcons (jL jC_137 dX3_areAlike_4 rfl) <|
  jcons (jL jC_137 dX3_areAlike_5 rfl) <|
  jcons (jL jC_137 dX3_areAlike_6 rfl) <|
  jcons (jG jC_137 jY_137 dX3_areAlike_7 fk_3_14_X3 (Or.inl q1326)) <|
  jcons (jL jC_137 dX3_areAlike_10 rfl) <|
  jcons (jL jC_137 dX3_areAlike_11 rfl) <|
  jcons (jL jC_137 dX3_areAlike_12 rfl) <|
  jcons (jL jC_137 dX3_areAlike_15 rfl) <|
  jcons (jG jC_137 jY_137 dX3_areAlike_16 fk_3_13_X3 (Or.inl q1325)) <|
  jcons (jL jC_137 dX3_areAlike_19 rfl) <|
  jcons (jL jC_137 dX3_areAlike_20 rfl) <|
  jcons (jL jC_137 dX3_areAlike_21 rfl) <|
  jcons (jG jC_137 jY_137 dX3_areAlike_22 fk_3_13_X3 (Or.inl q1325)) <|
  jcons (jL jC_137 dX3_areAlike_25 rfl) <|
  jcons (jL jC_137 dX3_areAlike_26 rfl) <|
  jcons (jL jC_137 dX3_areAlike_27 rfl) <|
  jcons (jL jC_137 dX3_areAlike_30 rfl) <|
  jcons (jL jC_137 dX3_areAlike_31 rfl) <|
  jcons (jL jC_137 dX3_areAlike_32 rfl) <|
  jcons (jL jC_137 dX3_areAlike_33 rfl) <|
  jcons (jL jC_137 dX3_areAlike_34 rfl) <|
  jcons (j4V jC_137 jY_137 dX3_areAlike_35 (jc_138 _) q1760 pd_138 (Or.inl q1758) (fun c r h1 h2 => js_164 c r h1 h2)) <|
  jcons (jL jC_137 dX3_areAlike_38 rfl) <|
  jcons (jL jC_137 dX3_areAlike_41 rfl) <|
  jcons (jL jC_137 dX3_areAlike_42 rfl) <|
  jcons (jL jC_137 dX3_areAlike_45 rfl) <|
  jcons (jL jC_137 dX3_areAlike_46 rfl) <|
  jnil
theorem jm_137 : ∀ l ∈ tbX3_areAlike, ∀ q ∈ l, sJ jnw jao 137 q.1 q.2.1 q.2.2 := jmc jt_137_0 <| jmn
theorem jt_138_0 : ∀ q ∈ tcX3_pairs_0, sJ jnw jao 138 q.1 q.2.1 q.2.2 :=
  jcons (jL jC_138 dX3_pairs_0 rfl) <|
  jcons (jL jC_138 dX3_pairs_1 rfl) <|
  jcons (jG jC_138 jY_138 dX3_pairs_2 fk_3_14_X3 (Or.inl q1326)) <|
  jcons (jL jC_138 dX3_pairs_5 rfl) <|
  jcons (jL jC_138 dX3_pairs_6 rfl) <|
  jcons (jL jC_138 dX3_pairs_7 rfl) <|
  jcons (jL jC_138 dX3_pairs_10 rfl) <|
  jcons (jL jC_138 dX3_pairs_11 rfl) <|
  jcons (jL jC_138 dX3_pairs_12 rfl) <|
  jcons (jL jC_138 dX3_pairs_13 rfl) <|
  jcons (jL jC_138 dX3_pairs_15 rfl) <|
  jcons (jL jC_138 dX3_pairs_17 rfl) <|
  jcons (jG jC_138 jY_138 dX3_pairs_18 fk_3_14_X3 (Or.inl q1326)) <|
  jcons (jL jC_138 dX3_pairs_21 rfl) <|
  jcons (jL jC_138 dX3_pairs_22 rfl) <|
  jcons (jL jC_138 dX3_pairs_23 rfl) <|
  jcons (jL jC_138 dX3_pairs_26 rfl) <|
  jcons (jL jC_138 dX3_pairs_28 rfl) <|
  jcons (jL jC_138 dX3_pairs_30 rfl) <|
  jcons (jL jC_138 dX3_pairs_31 rfl) <|
  jcons (jL jC_138 dX3_pairs_32 rfl) <|
  jcons (jL jC_138 dX3_pairs_33 rfl) <|
  jcons (jL jC_138 dX3_pairs_34 rfl) <|
  jcons (jL jC_138 dX3_pairs_37 rfl) <|
  jcons (jL jC_138 dX3_pairs_40 rfl) <|
  jcons (jG jC_138 jY_138 dX3_pairs_41 fk_3_35_X3 (Or.inl q1347)) <|
  jcons (jL jC_138 dX3_pairs_44 rfl) <|
  jcons (jL jC_138 dX3_pairs_45 rfl) <|
  jcons (jL jC_138 dX3_pairs_47 rfl) <|
  jcons (jL jC_138 dX3_pairs_48 rfl) <|
  jcons (jL jC_138 dX3_pairs_49 rfl) <|
  jcons (jL jC_138 dX3_pairs_51 rfl) <|
  jcons (jL jC_138 dX3_pairs_52 rfl) <|
  jcons (jL jC_138 dX3_pairs_54 rfl) <|
  jcons (jL jC_138 dX3_pairs_56 rfl) <|
  jcons (jL jC_138 dX3_pairs_57 rfl) <|
  jcons (jL jC_138 dX3_pairs_60 rfl) <|
  jcons (jL jC_138 dX3_pairs_62 rfl) <|
  jnil
theorem jt_138_1 : ∀ q ∈ tcX3_pairs_1, sJ jnw jao 138 q.1 q.2.1 q.2.2 :=
  jcons (jL jC_138 dX3_pairs_65 rfl) <|
  jcons (jL jC_138 dX3_pairs_66 rfl) <|
  jcons (jL jC_138 dX3_pairs_67 rfl) <|
  jcons (jL jC_138 dX3_pairs_68 rfl) <|
  jcons (jL jC_138 dX3_pairs_70 rfl) <|
  jcons (jL jC_138 dX3_pairs_71 rfl) <|
  jcons (jL jC_138 dX3_pairs_73 rfl) <|
  jcons (jG jC_138 jY_138 dX3_pairs_74 fk_3_35_X3 (Or.inl q1347)) <|
  jcons (jL jC_138 dX3_pairs_77 rfl) <|
  jcons (jL jC_138 dX3_pairs_79 rfl) <|
  jcons (j4V jC_138 jY_138 dX3_pairs_80 (jc_139 _) q1764 pd_139 (Or.inl q1762) (fun c r h1 h2 => js_165 c r h1 h2)) <|
  jcons (jL jC_138 dX3_pairs_83 rfl) <|
  jcons (jL jC_138 dX3_pairs_85 rfl) <|
  jcons (jL jC_138 dX3_pairs_88 rfl) <|
  jcons (jL jC_138 dX3_pairs_91 rfl) <|
  jcons (jL jC_138 dX3_pairs_93 rfl) <|
  jcons (jL jC_138 dX3_pairs_96 rfl) <|
  jcons (jL jC_138 dX3_pairs_97 rfl) <|
  jcons (jL jC_138 dX3_pairs_98 rfl) <|
  jcons (jL jC_138 dX3_pairs_99 rfl) <|
  jcons (jL jC_138 dX3_pairs_100 rfl) <|
  jcons (jL jC_138 dX3_pairs_101 rfl) <|
  jcons (jL jC_138 dX3_pairs_102 rfl) <|
  jcons (jL jC_138 dX3_pairs_104 rfl) <|
  jcons (jL jC_138 dX3_pairs_105 rfl) <|
  jcons (jL jC_138 dX3_pairs_107 rfl) <|
  jcons (jL jC_138 dX3_pairs_108 rfl) <|
  jcons (j4V jC_138 jY_138 dX3_pairs_109 (jc_138 _) q1760 pd_138 (Or.inl q1758) (fun c r h1 h2 => js_164 c r h1 h2)) <|
  jcons (jL jC_138 dX3_pairs_112 rfl) <|
  jcons (jL jC_138 dX3_pairs_115 rfl) <|
  jcons (jL jC_138 dX3_pairs_116 rfl) <|
  jcons (jL jC_138 dX3_pairs_117 rfl) <|
  jcons (jL jC_138 dX3_pairs_120 rfl) <|
  jcons (jL jC_138 dX3_pairs_123 rfl) <|
  jcons (jL jC_138 dX3_pairs_124 rfl) <|
  jnil
theorem jm_138 : ∀ l ∈ tbX3_pairs, ∀ q ∈ l, sJ jnw jao 138 q.1 q.2.1 q.2.2 := jmc jt_138_0 <| jmc jt_138_1 <| jmn
theorem jt_139_0 : ∀ q ∈ tcX3_isSame_0, sJ jnw jao 139 q.1 q.2.1 q.2.2 :=
  jcons (jL jC_139 dX3_isSame_0 rfl) <|
  jcons (jL jC_139 dX3_isSame_2 rfl) <|
  jcons (jL jC_139 dX3_isSame_3 rfl) <|
  jcons (jL jC_139 dX3_isSame_4 rfl) <|
  jcons (jL jC_139 dX3_isSame_6 rfl) <|
  jcons (jL jC_139 dX3_isSame_8 rfl) <|
  jcons (jL jC_139 dX3_isSame_10 rfl) <|
  jcons (jL jC_139 dX3_isSame_11 rfl) <|
  jcons (jL jC_139 dX3_isSame_12 rfl) <|
  jcons (jG jC_139 jY_139 dX3_isSame_13 fk_3_13_X3 (Or.inl q1325)) <|
  jcons (jL jC_139 dX3_isSame_16 rfl) <|
  jcons (jL jC_139 dX3_isSame_17 rfl) <|
  jcons (jL jC_139 dX3_isSame_18 rfl) <|
  jcons (jL jC_139 dX3_isSame_19 rfl) <|
  jcons (jL jC_139 dX3_isSame_22 rfl) <|
  jcons (jL jC_139 dX3_isSame_23 rfl) <|
  jcons (jL jC_139 dX3_isSame_24 rfl) <|
  jcons (jL jC_139 dX3_isSame_25 rfl) <|
  jcons (jL jC_139 dX3_isSame_26 rfl) <|
  jcons (jG jC_139 jY_139 dX3_isSame_27 fk_3_15_X3 (Or.inl q1327)) <|
  jcons (jL jC_139 dX3_isSame_30 rfl) <|
  jcons (jL jC_139 dX3_isSame_32 rfl) <|
  jcons (j4V jC_139 jY_139 dX3_isSame_33 (jc_140 _) q1768 pd_140 (Or.inl q1766) (fun c r h1 h2 => js_166 c r h1 h2)) <|
  jcons (jL jC_139 dX3_isSame_36 rfl) <|
  jcons (jL jC_139 dX3_isSame_37 rfl) <|
  jcons (jL jC_139 dX3_isSame_39 rfl) <|
  jcons (jL jC_139 dX3_isSame_41 rfl) <|
  jcons (jL jC_139 dX3_isSame_43 rfl) <|
  jcons (jG jC_139 jY_139 dX3_isSame_44 fk_3_15_X3 (Or.inl q1327)) <|
  jcons (jL jC_139 dX3_isSame_47 rfl) <|
  jcons (jL jC_139 dX3_isSame_49 rfl) <|
  jcons (j4V jC_139 jY_139 dX3_isSame_50 (jc_140 _) q1768 pd_140 (Or.inl q1766) (fun c r h1 h2 => js_166 c r h1 h2)) <|
  jcons (jL jC_139 dX3_isSame_53 rfl) <|
  jcons (jL jC_139 dX3_isSame_56 rfl) <|
  jcons (jL jC_139 dX3_isSame_57 rfl) <|
  jcons (jL jC_139 dX3_isSame_58 rfl) <|
  jcons (jL jC_139 dX3_isSame_61 rfl) <|
  jnil
theorem jt_139_1 : ∀ q ∈ tcX3_isSame_1, sJ jnw jao 139 q.1 q.2.1 q.2.2 :=
  jcons (jL jC_139 dX3_isSame_64 rfl) <|
  jcons (jL jC_139 dX3_isSame_66 rfl) <|
  jcons (jL jC_139 dX3_isSame_68 rfl) <|
  jcons (jL jC_139 dX3_isSame_69 rfl) <|
  jcons (jL jC_139 dX3_isSame_71 rfl) <|
  jcons (jL jC_139 dX3_isSame_73 rfl) <|
  jcons (jL jC_139 dX3_isSame_75 rfl) <|
  jcons (jL jC_139 dX3_isSame_77 rfl) <|
  jcons (jL jC_139 dX3_isSame_78 rfl) <|
  jcons (jG jC_139 jY_139 dX3_isSame_79 fk_3_13_X3 (Or.inl q1325)) <|
  jcons (jL jC_139 dX3_isSame_82 rfl) <|
  jcons (jL jC_139 dX3_isSame_84 rfl) <|
  jcons (jL jC_139 dX3_isSame_85 rfl) <|
  jcons (jL jC_139 dX3_isSame_86 rfl) <|
  jcons (jL jC_139 dX3_isSame_89 rfl) <|
  jcons (jL jC_139 dX3_isSame_90 rfl) <|
  jcons (jL jC_139 dX3_isSame_91 rfl) <|
  jcons (jL jC_139 dX3_isSame_92 rfl) <|
  jcons (jL jC_139 dX3_isSame_93 rfl) <|
  jcons (jG jC_139 jY_139 dX3_isSame_94 fk_3_15_X3 (Or.inl q1327)) <|
  jcons (jL jC_139 dX3_isSame_97 rfl) <|
  jcons (jL jC_139 dX3_isSame_99 rfl) <|
  jcons (j4V jC_139 jY_139 dX3_isSame_100 (jc_140 _) q1768 pd_140 (Or.inl q1766) (fun c r h1 h2 => js_166 c r h1 h2)) <|
  jcons (jL jC_139 dX3_isSame_103 rfl) <|
  jcons (jL jC_139 dX3_isSame_104 rfl) <|
  jcons (jL jC_139 dX3_isSame_106 rfl) <|
  jcons (jL jC_139 dX3_isSame_108 rfl) <|
  jcons (jL jC_139 dX3_isSame_110 rfl) <|
  jcons (jG jC_139 jY_139 dX3_isSame_111 fk_3_15_X3 (Or.inl q1327)) <|
  jcons (jL jC_139 dX3_isSame_114 rfl) <|
  jcons (jL jC_139 dX3_isSame_116 rfl) <|
  jcons (j4V jC_139 jY_139 dX3_isSame_117 (jc_140 _) q1768 pd_140 (Or.inl q1766) (fun c r h1 h2 => js_166 c r h1 h2)) <|
  jcons (jL jC_139 dX3_isSame_120 rfl) <|
  jcons (jL jC_139 dX3_isSame_123 rfl) <|
  jcons (jL jC_139 dX3_isSame_124 rfl) <|
  jcons (jL jC_139 dX3_isSame_125 rfl) <|
  jnil
theorem jt_139_2 : ∀ q ∈ tcX3_isSame_2, sJ jnw jao 139 q.1 q.2.1 q.2.2 :=
  jcons (jL jC_139 dX3_isSame_128 rfl) <|
  jcons (jL jC_139 dX3_isSame_131 rfl) <|
  jcons (jL jC_139 dX3_isSame_132 rfl) <|
  jnil
theorem jm_139 : ∀ l ∈ tbX3_isSame, ∀ q ∈ l, sJ jnw jao 139 q.1 q.2.1 q.2.2 := jmc jt_139_0 <| jmc jt_139_1 <| jmc jt_139_2 <| jmn
theorem jt_140_0 : ∀ q ∈ tcX3_between_0, sJ jnw jao 140 q.1 q.2.1 q.2.2 :=
  jcons (jL jC_140 dX3_between_0 rfl) <|
  jcons (jL jC_140 dX3_between_1 rfl) <|
  jcons (jL jC_140 dX3_between_3 rfl) <|
  jcons (jL jC_140 dX3_between_5 rfl) <|
  jcons (jL jC_140 dX3_between_6 rfl) <|
  jcons (jL jC_140 dX3_between_7 rfl) <|
  jcons (jL jC_140 dX3_between_9 rfl) <|
  jcons (jL jC_140 dX3_between_11 rfl) <|
  jcons (jL jC_140 dX3_between_13 rfl) <|
  jcons (jL jC_140 dX3_between_14 rfl) <|
  jcons (jL jC_140 dX3_between_15 rfl) <|
  jcons (jG jC_140 jY_140 dX3_between_16 fk_3_13_X3 (Or.inl q1325)) <|
  jcons (jL jC_140 dX3_between_19 rfl) <|
  jcons (jL jC_140 dX3_between_20 rfl) <|
  jcons (jL jC_140 dX3_between_21 rfl) <|
  jcons (jL jC_140 dX3_between_22 rfl) <|
  jcons (jL jC_140 dX3_between_25 rfl) <|
  jcons (jG jC_140 jY_140 dX3_between_26 fk_3_16_X3 (Or.inl q1328)) <|
  jcons (jL jC_140 dX3_between_29 rfl) <|
  jcons (jL jC_140 dX3_between_31 rfl) <|
  jcons (jL jC_140 dX3_between_32 rfl) <|
  jcons (jL jC_140 dX3_between_33 rfl) <|
  jcons (jL jC_140 dX3_between_36 rfl) <|
  jcons (jG jC_140 jY_140 dX3_between_37 fk_3_17_X3 (Or.inl q1329)) <|
  jcons (jL jC_140 dX3_between_40 rfl) <|
  jcons (jL jC_140 dX3_between_42 rfl) <|
  jcons (jL jC_140 dX3_between_43 rfl) <|
  jcons (jL jC_140 dX3_between_44 rfl) <|
  jcons (jL jC_140 dX3_between_47 rfl) <|
  jcons (jG jC_140 jY_140 dX3_between_48 fk_3_16_X3 (Or.inl q1328)) <|
  jcons (jL jC_140 dX3_between_51 rfl) <|
  jcons (jL jC_140 dX3_between_53 rfl) <|
  jcons (jL jC_140 dX3_between_54 rfl) <|
  jcons (jL jC_140 dX3_between_55 rfl) <|
  jcons (jL jC_140 dX3_between_58 rfl) <|
  jcons (jG jC_140 jY_140 dX3_between_59 fk_3_17_X3 (Or.inl q1329)) <|
  jcons (jL jC_140 dX3_between_62 rfl) <|
  jnil
theorem jt_140_1 : ∀ q ∈ tcX3_between_1, sJ jnw jao 140 q.1 q.2.1 q.2.2 :=
  jcons (jL jC_140 dX3_between_64 rfl) <|
  jcons (jL jC_140 dX3_between_65 rfl) <|
  jcons (jL jC_140 dX3_between_66 rfl) <|
  jcons (jL jC_140 dX3_between_69 rfl) <|
  jcons (jL jC_140 dX3_between_70 rfl) <|
  jcons (jL jC_140 dX3_between_73 rfl) <|
  jcons (jL jC_140 dX3_between_74 rfl) <|
  jcons (jL jC_140 dX3_between_76 rfl) <|
  jcons (jL jC_140 dX3_between_78 rfl) <|
  jcons (jL jC_140 dX3_between_80 rfl) <|
  jcons (jL jC_140 dX3_between_83 rfl) <|
  jcons (jG jC_140 jY_140 dX3_between_84 fk_3_15_X3 (Or.inl q1327)) <|
  jcons (jL jC_140 dX3_between_87 rfl) <|
  jcons (jL jC_140 dX3_between_89 rfl) <|
  jcons (jL jC_140 dX3_between_90 rfl) <|
  jcons (jL jC_140 dX3_between_92 rfl) <|
  jcons (jL jC_140 dX3_between_95 rfl) <|
  jcons (jL jC_140 dX3_between_96 rfl) <|
  jcons (jL jC_140 dX3_between_99 rfl) <|
  jcons (jL jC_140 dX3_between_100 rfl) <|
  jcons (jL jC_140 dX3_between_101 rfl) <|
  jcons (jL jC_140 dX3_between_103 rfl) <|
  jcons (jL jC_140 dX3_between_106 rfl) <|
  jcons (jL jC_140 dX3_between_109 rfl) <|
  jcons (jL jC_140 dX3_between_111 rfl) <|
  jnil
theorem jm_140 : ∀ l ∈ tbX3_between, ∀ q ∈ l, sJ jnw jao 140 q.1 q.2.1 q.2.2 := jmc jt_140_0 <| jmc jt_140_1 <| jmn
theorem jt_141_0 : ∀ q ∈ tcX3_match_0, sJ jnw jao 141 q.1 q.2.1 q.2.2 :=
  jcons (jL jC_141 dX3_match_0 rfl) <|
  jcons (jL jC_141 dX3_match_1 rfl) <|
  jcons (jL jC_141 dX3_match_2 rfl) <|
  jcons (j4V jC_141 jY_141 dX3_match_3 (jc_136 _) q1752 pd_136 (Or.inl q1750) (fun c r h1 h2 => js_162 c r h1 h2)) <|
  jcons (jL jC_141 dX3_match_6 rfl) <|
  jcons (jL jC_141 dX3_match_9 rfl) <|
  jcons (jL jC_141 dX3_match_10 rfl) <|
  jcons (jL jC_141 dX3_match_11 rfl) <|
  jcons (j4V jC_141 jY_141 dX3_match_12 (jc_117 _) q1674 pd_117 (Or.inl q1672) (fun c r h1 h2 => js_152 c r h1 h2)) <|
  jcons (jL jC_141 dX3_match_15 rfl) <|
  jcons (jL jC_141 dX3_match_18 rfl) <|
  jcons (jL jC_141 dX3_match_19 rfl) <|
  jcons (jL jC_141 dX3_match_20 rfl) <|
  jcons (j4V jC_141 jY_141 dX3_match_21 (jc_137 _) q1756 pd_137 (Or.inl q1754) (fun c r h1 h2 => js_163 c r h1 h2)) <|
  jcons (jL jC_141 dX3_match_24 rfl) <|
  jcons (jL jC_141 dX3_match_27 rfl) <|
  jcons (jG jC_141 jY_141 dX3_match_28 fk_3_35_X3 (Or.inl q1347)) <|
  jcons (jL jC_141 dX3_match_31 rfl) <|
  jcons (jL jC_141 dX3_match_32 rfl) <|
  jcons (jL jC_141 dX3_match_33 rfl) <|
  jcons (jL jC_141 dX3_match_36 rfl) <|
  jcons (jL jC_141 dX3_match_37 rfl) <|
  jnil
theorem jm_141 : ∀ l ∈ tbX3_match, ∀ q ∈ l, sJ jnw jao 141 q.1 q.2.1 q.2.2 := jmc jt_141_0 <| jmn
theorem jt_142_0 : ∀ q ∈ tcX3_far_0, sJ jnw jao 142 q.1 q.2.1 q.2.2 :=
  jcons (jL jC_142 dX3_far_0 rfl) <|
  jcons (jL jC_142 dX3_far_1 rfl) <|
  jcons (jL jC_142 dX3_far_2 rfl) <|
  jcons (j4V jC_142 jY_142 dX3_far_3 (jc_117 _) q1674 pd_117 (Or.inl q1672) (fun c r h1 h2 => js_152 c r h1 h2)) <|
  jcons (jL jC_142 dX3_far_6 rfl) <|
  jcons (jL jC_142 dX3_far_9 rfl) <|
  jcons (jL jC_142 dX3_far_10 rfl) <|
  jcons (jL jC_142 dX3_far_11 rfl) <|
  jcons (j4V jC_142 jY_142 dX3_far_12 (jc_117 _) q1674 pd_117 (Or.inl q1672) (fun c r h1 h2 => js_152 c r h1 h2)) <|
  jcons (jL jC_142 dX3_far_15 rfl) <|
  jcons (jL jC_142 dX3_far_18 rfl) <|
  jcons (jL jC_142 dX3_far_19 rfl) <|
  jcons (jL jC_142 dX3_far_20 rfl) <|
  jcons (jL jC_142 dX3_far_21 rfl) <|
  jcons (j4V jC_142 jY_142 dX3_far_22 (jc_143 _) q1780 pd_143 (Or.inl q1778) (fun c r h1 h2 => js_167 c r h1 h2)) <|
  jcons (jL jC_142 dX3_far_25 rfl) <|
  jcons (jG jC_142 jY_142 dX3_far_26 fk_3_36_X3 (Or.inl q1348)) <|
  jcons (jL jC_142 dX3_far_29 rfl) <|
  jcons (jL jC_142 dX3_far_31 rfl) <|
  jcons (jL jC_142 dX3_far_32 rfl) <|
  jcons (jL jC_142 dX3_far_33 rfl) <|
  jcons (jL jC_142 dX3_far_34 rfl) <|
  jcons (jL jC_142 dX3_far_35 rfl) <|
  jcons (jL jC_142 dX3_far_36 rfl) <|
  jcons (jL jC_142 dX3_far_38 rfl) <|
  jcons (j2 jC_142 jY_142 dX3_far_40 q1782) <|
  jcons (jL jC_142 dX3_far_43 rfl) <|
  jcons (jL jC_142 dX3_far_46 rfl) <|
  jcons (jL jC_142 dX3_far_48 rfl) <|
  jcons (jL jC_142 dX3_far_51 rfl) <|
  jcons (jL jC_142 dX3_far_52 rfl) <|
  jnil
theorem jm_142 : ∀ l ∈ tbX3_far, ∀ q ∈ l, sJ jnw jao 142 q.1 q.2.1 q.2.2 := jmc jt_142_0 <| jmn
theorem jt_143_0 : ∀ q ∈ tcX3_findFars_0, sJ jnw jao 143 q.1 q.2.1 q.2.2 :=
  jcons (jL jC_143 dX3_findFars_0 rfl) <|
  jcons (jG jC_143 jY_143 dX3_findFars_1 fk_3_14_X3 (Or.inl q1326)) <|
  jcons (jL jC_143 dX3_findFars_4 rfl) <|
  jcons (jL jC_143 dX3_findFars_5 rfl) <|
  jcons (jL jC_143 dX3_findFars_6 rfl) <|
  jcons (jL jC_143 dX3_findFars_7 rfl) <|
  jcons (jL jC_143 dX3_findFars_8 rfl) <|
  jcons (jL jC_143 dX3_findFars_9 rfl) <|
  jcons (jL jC_143 dX3_findFars_10 rfl) <|
  jcons (jL jC_143 dX3_findFars_11 rfl) <|
  jcons (jL jC_143 dX3_findFars_14 rfl) <|
  jcons (jL jC_143 dX3_findFars_15 rfl) <|
  jcons (jL jC_143 dX3_findFars_17 rfl) <|
  jcons (jL jC_143 dX3_findFars_19 rfl) <|
  jcons (jL jC_143 dX3_findFars_20 rfl) <|
  jcons (jL jC_143 dX3_findFars_23 rfl) <|
  jcons (jG jC_143 jY_143 dX3_findFars_24 fk_3_36_X3 (Or.inl q1348)) <|
  jcons (jL jC_143 dX3_findFars_27 rfl) <|
  jcons (jL jC_143 dX3_findFars_29 rfl) <|
  jcons (jL jC_143 dX3_findFars_30 rfl) <|
  jcons (jL jC_143 dX3_findFars_31 rfl) <|
  jcons (jL jC_143 dX3_findFars_33 rfl) <|
  jcons (jL jC_143 dX3_findFars_34 rfl) <|
  jcons (jL jC_143 dX3_findFars_35 rfl) <|
  jcons (jL jC_143 dX3_findFars_37 rfl) <|
  jcons (jL jC_143 dX3_findFars_40 rfl) <|
  jcons (jL jC_143 dX3_findFars_41 rfl) <|
  jcons (j2 jC_143 jY_143 dX3_findFars_44 q1782) <|
  jcons (jL jC_143 dX3_findFars_47 rfl) <|
  jcons (jL jC_143 dX3_findFars_48 rfl) <|
  jcons (jL jC_143 dX3_findFars_51 rfl) <|
  jcons (jL jC_143 dX3_findFars_54 rfl) <|
  jcons (jL jC_143 dX3_findFars_57 rfl) <|
  jcons (jL jC_143 dX3_findFars_60 rfl) <|
  jcons (jL jC_143 dX3_findFars_62 rfl) <|
  jcons (jL jC_143 dX3_findFars_63 rfl) <|
  jnil
theorem jt_143_1 : ∀ q ∈ tcX3_findFars_1, sJ jnw jao 143 q.1 q.2.1 q.2.2 :=
  jcons (jL jC_143 dX3_findFars_64 rfl) <|
  jcons (jL jC_143 dX3_findFars_65 rfl) <|
  jcons (jL jC_143 dX3_findFars_66 rfl) <|
  jcons (jL jC_143 dX3_findFars_68 rfl) <|
  jcons (jL jC_143 dX3_findFars_69 rfl) <|
  jcons (jL jC_143 dX3_findFars_70 rfl) <|
  jcons (jG jC_143 jY_143 dX3_findFars_71 fk_3_13_X3 (Or.inl q1325)) <|
  jcons (jL jC_143 dX3_findFars_74 rfl) <|
  jcons (jL jC_143 dX3_findFars_75 rfl) <|
  jcons (jL jC_143 dX3_findFars_76 rfl) <|
  jcons (jL jC_143 dX3_findFars_77 rfl) <|
  jcons (jL jC_143 dX3_findFars_80 rfl) <|
  jcons (jG jC_143 jY_143 dX3_findFars_81 fk_3_15_X3 (Or.inl q1327)) <|
  jcons (jL jC_143 dX3_findFars_84 rfl) <|
  jcons (jL jC_143 dX3_findFars_85 rfl) <|
  jcons (jL jC_143 dX3_findFars_86 rfl) <|
  jcons (jG jC_143 jY_143 dX3_findFars_87 fk_3_36_X3 (Or.inl q1348)) <|
  jcons (jL jC_143 dX3_findFars_90 rfl) <|
  jcons (jL jC_143 dX3_findFars_92 rfl) <|
  jcons (jG jC_143 jY_143 dX3_findFars_93 fk_3_16_X3 (Or.inl q1328)) <|
  jcons (jL jC_143 dX3_findFars_96 rfl) <|
  jcons (jL jC_143 dX3_findFars_97 rfl) <|
  jcons (jL jC_143 dX3_findFars_98 rfl) <|
  jcons (jL jC_143 dX3_findFars_99 rfl) <|
  jcons (jG jC_143 jY_143 dX3_findFars_100 fk_3_17_X3 (Or.inl q1329)) <|
  jcons (jL jC_143 dX3_findFars_103 rfl) <|
  jcons (jL jC_143 dX3_findFars_104 rfl) <|
  jcons (jL jC_143 dX3_findFars_105 rfl) <|
  jcons (jL jC_143 dX3_findFars_106 rfl) <|
  jcons (j14 jC_143 jY_143 dX3_findFars_107 q1545) <|
  jcons (jL jC_143 dX3_findFars_110 rfl) <|
  jcons (jL jC_143 dX3_findFars_112 rfl) <|
  jcons (jG jC_143 jY_143 dX3_findFars_113 fk_3_36_X3 (Or.inl q1348)) <|
  jcons (jL jC_143 dX3_findFars_116 rfl) <|
  jcons (jL jC_143 dX3_findFars_118 rfl) <|
  jcons (jG jC_143 jY_143 dX3_findFars_119 fk_3_16_X3 (Or.inl q1328)) <|
  jcons (jL jC_143 dX3_findFars_122 rfl) <|
  jcons (jL jC_143 dX3_findFars_123 rfl) <|
  jcons (jL jC_143 dX3_findFars_124 rfl) <|
  jcons (jL jC_143 dX3_findFars_125 rfl) <|
  jcons (jG jC_143 jY_143 dX3_findFars_126 fk_3_17_X3 (Or.inl q1329)) <|
  jnil
theorem jt_143_2 : ∀ q ∈ tcX3_findFars_2, sJ jnw jao 143 q.1 q.2.1 q.2.2 :=
  jcons (jL jC_143 dX3_findFars_129 rfl) <|
  jcons (jL jC_143 dX3_findFars_130 rfl) <|
  jcons (jL jC_143 dX3_findFars_131 rfl) <|
  jcons (jL jC_143 dX3_findFars_132 rfl) <|
  jcons (jL jC_143 dX3_findFars_134 rfl) <|
  jcons (jL jC_143 dX3_findFars_135 rfl) <|
  jcons (jG jC_143 jY_143 dX3_findFars_136 fk_3_36_X3 (Or.inl q1348)) <|
  jcons (jL jC_143 dX3_findFars_139 rfl) <|
  jcons (jL jC_143 dX3_findFars_141 rfl) <|
  jcons (jG jC_143 jY_143 dX3_findFars_142 fk_3_17_X3 (Or.inl q1329)) <|
  jcons (jL jC_143 dX3_findFars_145 rfl) <|
  jcons (jL jC_143 dX3_findFars_146 rfl) <|
  jcons (jL jC_143 dX3_findFars_147 rfl) <|
  jcons (jL jC_143 dX3_findFars_148 rfl) <|
  jcons (jG jC_143 jY_143 dX3_findFars_149 fk_3_16_X3 (Or.inl q1328)) <|
  jcons (jL jC_143 dX3_findFars_152 rfl) <|
  jcons (jL jC_143 dX3_findFars_153 rfl) <|
  jcons (jL jC_143 dX3_findFars_154 rfl) <|
  jcons (jL jC_143 dX3_findFars_155 rfl) <|
  jcons (jL jC_143 dX3_findFars_157 rfl) <|
  jcons (jL jC_143 dX3_findFars_158 rfl) <|
  jcons (jL jC_143 dX3_findFars_161 rfl) <|
  jcons (jL jC_143 dX3_findFars_164 rfl) <|
  jcons (jL jC_143 dX3_findFars_165 rfl) <|
  jcons (jL jC_143 dX3_findFars_166 rfl) <|
  jcons (jL jC_143 dX3_findFars_167 rfl) <|
  jcons (jL jC_143 dX3_findFars_168 rfl) <|
  jcons (jL jC_143 dX3_findFars_171 rfl) <|
  jcons (jL jC_143 dX3_findFars_172 rfl) <|
  jcons (jL jC_143 dX3_findFars_174 rfl) <|
  jcons (jL jC_143 dX3_findFars_176 rfl) <|
  jcons (jL jC_143 dX3_findFars_177 rfl) <|
  jcons (jL jC_143 dX3_findFars_180 rfl) <|
  jcons (jL jC_143 dX3_findFars_181 rfl) <|
  jcons (jL jC_143 dX3_findFars_183 rfl) <|
  jcons (jL jC_143 dX3_findFars_185 rfl) <|
  jcons (jL jC_143 dX3_findFars_186 rfl) <|
  jcons (jL jC_143 dX3_findFars_189 rfl) <|
  jcons (jG jC_143 jY_143 dX3_findFars_190 fk_3_36_X3 (Or.inl q1348)) <|
  jnil
theorem jt_143_3 : ∀ q ∈ tcX3_findFars_3, sJ jnw jao 143 q.1 q.2.1 q.2.2 :=
  jcons (jL jC_143 dX3_findFars_193 rfl) <|
  jcons (jL jC_143 dX3_findFars_195 rfl) <|
  jcons (jL jC_143 dX3_findFars_197 rfl) <|
  jcons (jL jC_143 dX3_findFars_198 rfl) <|
  jcons (jL jC_143 dX3_findFars_200 rfl) <|
  jcons (jL jC_143 dX3_findFars_201 rfl) <|
  jcons (jG jC_143 jY_143 dX3_findFars_202 fk_3_36_X3 (Or.inl q1348)) <|
  jcons (jL jC_143 dX3_findFars_205 rfl) <|
  jcons (jL jC_143 dX3_findFars_207 rfl) <|
  jcons (jL jC_143 dX3_findFars_209 rfl) <|
  jcons (jL jC_143 dX3_findFars_210 rfl) <|
  jcons (jL jC_143 dX3_findFars_212 rfl) <|
  jcons (jL jC_143 dX3_findFars_213 rfl) <|
  jcons (jL jC_143 dX3_findFars_214 rfl) <|
  jcons (jG jC_143 jY_143 dX3_findFars_215 fk_3_36_X3 (Or.inl q1348)) <|
  jcons (jL jC_143 dX3_findFars_218 rfl) <|
  jcons (jL jC_143 dX3_findFars_220 rfl) <|
  jcons (jL jC_143 dX3_findFars_222 rfl) <|
  jcons (jL jC_143 dX3_findFars_223 rfl) <|
  jcons (jL jC_143 dX3_findFars_224 rfl) <|
  jcons (jL jC_143 dX3_findFars_225 rfl) <|
  jcons (jL jC_143 dX3_findFars_226 rfl) <|
  jcons (jG jC_143 jY_143 dX3_findFars_227 fk_3_36_X3 (Or.inl q1348)) <|
  jcons (jL jC_143 dX3_findFars_230 rfl) <|
  jcons (jL jC_143 dX3_findFars_232 rfl) <|
  jcons (jL jC_143 dX3_findFars_233 rfl) <|
  jcons (jL jC_143 dX3_findFars_234 rfl) <|
  jcons (jL jC_143 dX3_findFars_236 rfl) <|
  jcons (jL jC_143 dX3_findFars_237 rfl) <|
  jcons (jL jC_143 dX3_findFars_238 rfl) <|
  jcons (j14 jC_143 jY_143 dX3_findFars_239 q1545) <|
  jcons (jL jC_143 dX3_findFars_242 rfl) <|
  jcons (jL jC_143 dX3_findFars_243 rfl) <|
  jcons (jL jC_143 dX3_findFars_246 rfl) <|
  jcons (jL jC_143 dX3_findFars_249 rfl) <|
  jcons (jL jC_143 dX3_findFars_252 rfl) <|
  jcons (jL jC_143 dX3_findFars_255 rfl) <|
  jnil
theorem jt_143_4 : ∀ q ∈ tcX3_findFars_4, sJ jnw jao 143 q.1 q.2.1 q.2.2 :=
  jcons (jL jC_143 dX3_findFars_258 rfl) <|
  jcons (jL jC_143 dX3_findFars_261 rfl) <|
  jnil
theorem jm_143 : ∀ l ∈ tbX3_findFars, ∀ q ∈ l, sJ jnw jao 143 q.1 q.2.1 q.2.2 := jmc jt_143_0 <| jmc jt_143_1 <| jmc jt_143_2 <| jmc jt_143_3 <| jmc jt_143_4 <| jmn
theorem jt_144_0 : ∀ q ∈ tcX3_span_0, sJ jnw jao 144 q.1 q.2.1 q.2.2 :=
  jcons (jL jC_144 dX3_span_0 rfl) <|
  jcons (jL jC_144 dX3_span_1 rfl) <|
  jcons (j4V jC_144 jY_144 dX3_span_2 (jc_108 _) q1638 pd_108 (Or.inl q1636) (fun c r h1 h2 => js_145 c r h1 h2)) <|
  jcons (jL jC_144 dX3_span_5 rfl) <|
  jcons (jL jC_144 dX3_span_8 rfl) <|
  jcons (jL jC_144 dX3_span_9 rfl) <|
  jcons (jL jC_144 dX3_span_10 rfl) <|
  jcons (jL jC_144 dX3_span_11 rfl) <|
  jcons (j4V jC_144 jY_144 dX3_span_12 (jc_143 _) q1780 pd_143 (Or.inl q1778) (fun c r h1 h2 => js_167 c r h1 h2)) <|
  jcons (jL jC_144 dX3_span_15 rfl) <|
  jcons (jL jC_144 dX3_span_16 rfl) <|
  jcons (jL jC_144 dX3_span_17 rfl) <|
  jcons (jL jC_144 dX3_span_18 rfl) <|
  jcons (jL jC_144 dX3_span_19 rfl) <|
  jcons (jL jC_144 dX3_span_20 rfl) <|
  jcons (jG jC_144 jY_144 dX3_span_21 fk_3_14_X3 (Or.inl q1326)) <|
  jcons (jL jC_144 dX3_span_24 rfl) <|
  jcons (jL jC_144 dX3_span_25 rfl) <|
  jcons (jL jC_144 dX3_span_26 rfl) <|
  jcons (jL jC_144 dX3_span_29 rfl) <|
  jcons (jL jC_144 dX3_span_30 rfl) <|
  jcons (jL jC_144 dX3_span_32 rfl) <|
  jcons (jL jC_144 dX3_span_34 rfl) <|
  jcons (jG jC_144 jY_144 dX3_span_35 fk_3_14_X3 (Or.inl q1326)) <|
  jcons (jL jC_144 dX3_span_38 rfl) <|
  jcons (jL jC_144 dX3_span_39 rfl) <|
  jcons (jL jC_144 dX3_span_40 rfl) <|
  jcons (jL jC_144 dX3_span_43 rfl) <|
  jcons (jG jC_144 jY_144 dX3_span_44 fk_3_36_X3 (Or.inl q1348)) <|
  jcons (jL jC_144 dX3_span_47 rfl) <|
  jcons (jL jC_144 dX3_span_49 rfl) <|
  jcons (jL jC_144 dX3_span_50 rfl) <|
  jcons (jL jC_144 dX3_span_51 rfl) <|
  jcons (jL jC_144 dX3_span_53 rfl) <|
  jcons (jL jC_144 dX3_span_54 rfl) <|
  jcons (j2 jC_144 jY_144 dX3_span_55 q1782) <|
  jcons (jL jC_144 dX3_span_58 rfl) <|
  jcons (jL jC_144 dX3_span_61 rfl) <|
  jcons (jL jC_144 dX3_span_62 rfl) <|
  jcons (jG jC_144 jY_144 dX3_span_63 fk_3_36_X3 (Or.inl q1348)) <|
  jnil
theorem jt_144_1 : ∀ q ∈ tcX3_span_1, sJ jnw jao 144 q.1 q.2.1 q.2.2 :=
  jcons (jL jC_144 dX3_span_66 rfl) <|
  jcons (jL jC_144 dX3_span_68 rfl) <|
  jcons (jL jC_144 dX3_span_69 rfl) <|
  jcons (jL jC_144 dX3_span_70 rfl) <|
  jcons (jL jC_144 dX3_span_72 rfl) <|
  jcons (jL jC_144 dX3_span_73 rfl) <|
  jcons (j14 jC_144 jY_144 dX3_span_74 q1540) <|
  jcons (jL jC_144 dX3_span_77 rfl) <|
  jcons (jL jC_144 dX3_span_80 rfl) <|
  jcons (jL jC_144 dX3_span_81 rfl) <|
  jcons (jL jC_144 dX3_span_82 rfl) <|
  jcons (jL jC_144 dX3_span_85 rfl) <|
  jcons (jL jC_144 dX3_span_88 rfl) <|
  jcons (jL jC_144 dX3_span_91 rfl) <|
  jcons (jL jC_144 dX3_span_94 rfl) <|
  jcons (jL jC_144 dX3_span_95 rfl) <|
  jnil
theorem jm_144 : ∀ l ∈ tbX3_span, ∀ q ∈ l, sJ jnw jao 144 q.1 q.2.1 q.2.2 := jmc jt_144_0 <| jmc jt_144_1 <| jmn
theorem jt_145_0 : ∀ q ∈ tcX3_strokes_0, sJ jnw jao 145 q.1 q.2.1 q.2.2 :=
  jcons (jL jC_145 dX3_strokes_0 rfl) <|
  jcons (jL jC_145 dX3_strokes_1 rfl) <|
  jcons (j4V jC_145 jY_145 dX3_strokes_2 (jc_108 _) q1638 pd_108 (Or.inl q1636) (fun c r h1 h2 => js_145 c r h1 h2)) <|
  jcons (jL jC_145 dX3_strokes_5 rfl) <|
  jcons (jL jC_145 dX3_strokes_8 rfl) <|
  jcons (jL jC_145 dX3_strokes_9 rfl) <|
  jcons (jL jC_145 dX3_strokes_10 rfl) <|
  jcons (jL jC_145 dX3_strokes_11 rfl) <|
  jcons (j4V jC_145 jY_145 dX3_strokes_12 (jc_111 _) q1650 pd_111 (Or.inl q1648) (fun c r h1 h2 => js_148 c r h1 h2)) <|
  jcons (jL jC_145 dX3_strokes_15 rfl) <|
  jcons (jL jC_145 dX3_strokes_16 rfl) <|
  jcons (jL jC_145 dX3_strokes_17 rfl) <|
  jcons (jL jC_145 dX3_strokes_18 rfl) <|
  jcons (jL jC_145 dX3_strokes_19 rfl) <|
  jcons (jL jC_145 dX3_strokes_22 rfl) <|
  jcons (jL jC_145 dX3_strokes_23 rfl) <|
  jcons (jL jC_145 dX3_strokes_24 rfl) <|
  jcons (j4V jC_145 jY_145 dX3_strokes_25 (jc_146 _) q1793 pd_146 (Or.inl q1791) (fun c r h1 h2 => js_168 c r h1 h2)) <|
  jcons (jL jC_145 dX3_strokes_28 rfl) <|
  jcons (jL jC_145 dX3_strokes_30 rfl) <|
  jcons (jL jC_145 dX3_strokes_31 rfl) <|
  jcons (jL jC_145 dX3_strokes_32 rfl) <|
  jcons (jL jC_145 dX3_strokes_33 rfl) <|
  jcons (jL jC_145 dX3_strokes_34 rfl) <|
  jcons (j4V jC_145 jY_145 dX3_strokes_36 (jc_113 _) q1658 pd_113 (Or.inl q1656) (fun c r h1 h2 => js_149 c r h1 h2)) <|
  jcons (jL jC_145 dX3_strokes_39 rfl) <|
  jcons (jL jC_145 dX3_strokes_40 rfl) <|
  jcons (j14 jC_145 jY_145 dX3_strokes_41 q1540) <|
  jcons (jL jC_145 dX3_strokes_44 rfl) <|
  jcons (jL jC_145 dX3_strokes_45 rfl) <|
  jcons (jL jC_145 dX3_strokes_46 rfl) <|
  jcons (jL jC_145 dX3_strokes_47 rfl) <|
  jcons (jL jC_145 dX3_strokes_49 rfl) <|
  jcons (jL jC_145 dX3_strokes_50 rfl) <|
  jcons (jL jC_145 dX3_strokes_51 rfl) <|
  jcons (jL jC_145 dX3_strokes_52 rfl) <|
  jcons (jL jC_145 dX3_strokes_53 rfl) <|
  jcons (jL jC_145 dX3_strokes_56 rfl) <|
  jcons (jL jC_145 dX3_strokes_57 rfl) <|
  jnil
theorem jm_145 : ∀ l ∈ tbX3_strokes, ∀ q ∈ l, sJ jnw jao 145 q.1 q.2.1 q.2.2 := jmc jt_145_0 <| jmn
theorem jt_146_0 : ∀ q ∈ tcX3_firstPart_0, sJ jnw jao 146 q.1 q.2.1 q.2.2 :=
  jcons (jL jC_146 dX3_firstPart_0 rfl) <|
  jcons (jL jC_146 dX3_firstPart_1 rfl) <|
  jcons (jL jC_146 dX3_firstPart_2 rfl) <|
  jcons (jL jC_146 dX3_firstPart_3 rfl) <|
  jcons (jL jC_146 dX3_firstPart_4 rfl) <|
  jcons (jL jC_146 dX3_firstPart_5 rfl) <|
  jcons (jL jC_146 dX3_firstPart_6 rfl) <|
  jcons (jL jC_146 dX3_firstPart_8 rfl) <|
  jcons (jL jC_146 dX3_firstPart_10 rfl) <|
  jcons (jL jC_146 dX3_firstPart_11 rfl) <|
  jcons (jL jC_146 dX3_firstPart_14 rfl) <|
  jcons (jL jC_146 dX3_firstPart_15 rfl) <|
  jcons (jL jC_146 dX3_firstPart_17 rfl) <|
  jcons (jL jC_146 dX3_firstPart_18 rfl) <|
  jcons (jL jC_146 dX3_firstPart_20 rfl) <|
  jcons (jL jC_146 dX3_firstPart_22 rfl) <|
  jcons (jG jC_146 jY_146 dX3_firstPart_23 fk_3_13_X3 (Or.inl q1325)) <|
  jcons (jL jC_146 dX3_firstPart_26 rfl) <|
  jcons (jL jC_146 dX3_firstPart_27 rfl) <|
  jcons (jL jC_146 dX3_firstPart_28 rfl) <|
  jcons (jL jC_146 dX3_firstPart_31 rfl) <|
  jcons (jL jC_146 dX3_firstPart_32 rfl) <|
  jcons (jL jC_146 dX3_firstPart_33 rfl) <|
  jcons (jL jC_146 dX3_firstPart_35 rfl) <|
  jcons (jL jC_146 dX3_firstPart_36 rfl) <|
  jcons (jL jC_146 dX3_firstPart_37 rfl) <|
  jcons (jL jC_146 dX3_firstPart_38 rfl) <|
  jcons (jL jC_146 dX3_firstPart_39 rfl) <|
  jcons (jL jC_146 dX3_firstPart_42 rfl) <|
  jcons (jL jC_146 dX3_firstPart_43 rfl) <|
  jcons (jL jC_146 dX3_firstPart_44 rfl) <|
  jcons (jL jC_146 dX3_firstPart_46 rfl) <|
  jcons (j4V jC_146 jY_146 dX3_firstPart_47 (jc_133 _) q1739 pd_133 (Or.inl q1737) (fun c r h1 h2 => js_161 c r h1 h2)) <|
  jcons (jL jC_146 dX3_firstPart_50 rfl) <|
  jcons (jL jC_146 dX3_firstPart_53 rfl) <|
  jcons (jL jC_146 dX3_firstPart_54 rfl) <|
  jcons (jL jC_146 dX3_firstPart_56 rfl) <|
  jcons (jL jC_146 dX3_firstPart_57 rfl) <|
  jcons (jL jC_146 dX3_firstPart_60 rfl) <|
  jcons (jL jC_146 dX3_firstPart_61 rfl) <|
  jcons (jL jC_146 dX3_firstPart_62 rfl) <|
  jcons (jL jC_146 dX3_firstPart_63 rfl) <|
  jnil
theorem jt_146_1 : ∀ q ∈ tcX3_firstPart_1, sJ jnw jao 146 q.1 q.2.1 q.2.2 :=
  jcons (jL jC_146 dX3_firstPart_66 rfl) <|
  jcons (jL jC_146 dX3_firstPart_69 rfl) <|
  jcons (jL jC_146 dX3_firstPart_72 rfl) <|
  jcons (jL jC_146 dX3_firstPart_73 rfl) <|
  jnil
theorem jm_146 : ∀ l ∈ tbX3_firstPart, ∀ q ∈ l, sJ jnw jao 146 q.1 q.2.1 q.2.2 := jmc jt_146_0 <| jmc jt_146_1 <| jmn
theorem jt_147_0 : ∀ q ∈ tcX3_made_0, sJ jnw jao 147 q.1 q.2.1 q.2.2 :=
  jcons (jL jC_147 dX3_made_0 rfl) <|
  jcons (jL jC_147 dX3_made_1 rfl) <|
  jcons (jL jC_147 dX3_made_2 rfl) <|
  jcons (j4V jC_147 jY_147 dX3_made_3 (jc_148 _) q1801 pd_148 (Or.inl q1799) (fun c r h1 h2 => js_169 c r h1 h2)) <|
  jcons (jL jC_147 dX3_made_6 rfl) <|
  jcons (jL jC_147 dX3_made_9 rfl) <|
  jcons (jG jC_147 jY_147 dX3_made_10 fk_3_37_X3 (Or.inl q1349)) <|
  jcons (jL jC_147 dX3_made_13 rfl) <|
  jcons (jL jC_147 dX3_made_14 rfl) <|
  jcons (j4V jC_147 jY_147 dX3_made_15 (jc_111 _) q1650 pd_111 (Or.inl q1648) (fun c r h1 h2 => js_148 c r h1 h2)) <|
  jcons (jL jC_147 dX3_made_18 rfl) <|
  jcons (jL jC_147 dX3_made_19 rfl) <|
  jcons (jL jC_147 dX3_made_22 rfl) <|
  jcons (jL jC_147 dX3_made_23 rfl) <|
  jnil
theorem jm_147 : ∀ l ∈ tbX3_made, ∀ q ∈ l, sJ jnw jao 147 q.1 q.2.1 q.2.2 := jmc jt_147_0 <| jmn
theorem jt_148_0 : ∀ q ∈ tcX3_mayBeMade_0, sJ jnw jao 148 q.1 q.2.1 q.2.2 :=
  jcons (jL jC_148 dX3_mayBeMade_0 rfl) <|
  jcons (jL jC_148 dX3_mayBeMade_1 rfl) <|
  jcons (j4V jC_148 jY_148 dX3_mayBeMade_2 (jc_108 _) q1638 pd_108 (Or.inl q1636) (fun c r h1 h2 => js_145 c r h1 h2)) <|
  jcons (jL jC_148 dX3_mayBeMade_5 rfl) <|
  jcons (jL jC_148 dX3_mayBeMade_8 rfl) <|
  jcons (jL jC_148 dX3_mayBeMade_9 rfl) <|
  jcons (j4V jC_148 jY_148 dX3_mayBeMade_10 (jc_149 _) q1805 pd_149 (Or.inl q1803) (fun c r h1 h2 => js_170 c r h1 h2)) <|
  jcons (jL jC_148 dX3_mayBeMade_13 rfl) <|
  jcons (jL jC_148 dX3_mayBeMade_16 rfl) <|
  jcons (jG jC_148 jY_148 dX3_mayBeMade_17 fk_3_13_X3 (Or.inl q1325)) <|
  jcons (jL jC_148 dX3_mayBeMade_20 rfl) <|
  jcons (jL jC_148 dX3_mayBeMade_21 rfl) <|
  jcons (jL jC_148 dX3_mayBeMade_22 rfl) <|
  jcons (jL jC_148 dX3_mayBeMade_24 rfl) <|
  jcons (jL jC_148 dX3_mayBeMade_27 rfl) <|
  jcons (jL jC_148 dX3_mayBeMade_28 rfl) <|
  jcons (jL jC_148 dX3_mayBeMade_29 rfl) <|
  jcons (jL jC_148 dX3_mayBeMade_30 rfl) <|
  jcons (jL jC_148 dX3_mayBeMade_31 rfl) <|
  jcons (j4V jC_148 jY_148 dX3_mayBeMade_32 (jc_150 _) q1809 pd_150 (Or.inl q1807) (fun c r h1 h2 => js_171 c r h1 h2)) <|
  jcons (jL jC_148 dX3_mayBeMade_35 rfl) <|
  jcons (jG jC_148 jY_148 dX3_mayBeMade_36 fk_3_37_X3 (Or.inl q1349)) <|
  jcons (jL jC_148 dX3_mayBeMade_39 rfl) <|
  jcons (jL jC_148 dX3_mayBeMade_40 rfl) <|
  jcons (j4V jC_148 jY_148 dX3_mayBeMade_41 (jc_111 _) q1650 pd_111 (Or.inl q1648) (fun c r h1 h2 => js_148 c r h1 h2)) <|
  jcons (jL jC_148 dX3_mayBeMade_44 rfl) <|
  jcons (j2 jC_148 jY_148 dX3_mayBeMade_45 q1782) <|
  jcons (jL jC_148 dX3_mayBeMade_48 rfl) <|
  jcons (jL jC_148 dX3_mayBeMade_51 rfl) <|
  jcons (jL jC_148 dX3_mayBeMade_52 rfl) <|
  jcons (jL jC_148 dX3_mayBeMade_55 rfl) <|
  jcons (jL jC_148 dX3_mayBeMade_56 rfl) <|
  jnil
theorem jm_148 : ∀ l ∈ tbX3_mayBeMade, ∀ q ∈ l, sJ jnw jao 148 q.1 q.2.1 q.2.2 := jmc jt_148_0 <| jmn
theorem jt_149_0 : ∀ q ∈ tcX3_isSort_0, sJ jnw jao 149 q.1 q.2.1 q.2.2 :=
  jcons (jL jC_149 dX3_isSort_0 rfl) <|
  jcons (jL jC_149 dX3_isSort_1 rfl) <|
  jcons (jL jC_149 dX3_isSort_2 rfl) <|
  jcons (jG jC_149 jY_149 dX3_isSort_3 fk_3_5_X3 (Or.inl q1317)) <|
  jcons (jL jC_149 dX3_isSort_6 rfl) <|
  jcons (jL jC_149 dX3_isSort_7 rfl) <|
  jcons (j4S jC_149 jY_149 dX3_isSort_8 (jc_69 _) q1480 pd_69 (Or.inl q1479)) <|
  jcons (jL jC_149 dX3_isSort_11 rfl) <|
  jnil
theorem jm_149 : ∀ l ∈ tbX3_isSort, ∀ q ∈ l, sJ jnw jao 149 q.1 q.2.1 q.2.2 := jmc jt_149_0 <| jmn
theorem jt_150_0 : ∀ q ∈ tcX3_findFewest_0, sJ jnw jao 150 q.1 q.2.1 q.2.2 :=
  jcons (jL jC_150 dX3_findFewest_0 rfl) <|
  jcons (jL jC_150 dX3_findFewest_1 rfl) <|
  jcons (j4V jC_150 jY_150 dX3_findFewest_2 (jc_111 _) q1650 pd_111 (Or.inl q1648) (fun c r h1 h2 => js_148 c r h1 h2)) <|
  jcons (jL jC_150 dX3_findFewest_5 rfl) <|
  jcons (jL jC_150 dX3_findFewest_6 rfl) <|
  jcons (jG jC_150 jY_150 dX3_findFewest_7 fk_3_37_X3 (Or.inl q1349)) <|
  jcons (jL jC_150 dX3_findFewest_10 rfl) <|
  jcons (jL jC_150 dX3_findFewest_11 rfl) <|
  jcons (jL jC_150 dX3_findFewest_12 rfl) <|
  jcons (jL jC_150 dX3_findFewest_13 rfl) <|
  jcons (jL jC_150 dX3_findFewest_14 rfl) <|
  jcons (jL jC_150 dX3_findFewest_16 rfl) <|
  jcons (jL jC_150 dX3_findFewest_18 rfl) <|
  jcons (jL jC_150 dX3_findFewest_19 rfl) <|
  jcons (jL jC_150 dX3_findFewest_22 rfl) <|
  jcons (jG jC_150 jY_150 dX3_findFewest_23 fk_3_38_X3 (Or.inl q1350)) <|
  jcons (jL jC_150 dX3_findFewest_26 rfl) <|
  jcons (jL jC_150 dX3_findFewest_28 rfl) <|
  jcons (jL jC_150 dX3_findFewest_29 rfl) <|
  jcons (jL jC_150 dX3_findFewest_30 rfl) <|
  jcons (jL jC_150 dX3_findFewest_31 rfl) <|
  jcons (j4V jC_150 jY_150 dX3_findFewest_33 (jc_151 _) q1813 pd_151 (Or.inl q1811) (fun c r h1 h2 => js_172 c r h1 h2)) <|
  jcons (jL jC_150 dX3_findFewest_36 rfl) <|
  jcons (jL jC_150 dX3_findFewest_37 rfl) <|
  jcons (jG jC_150 jY_150 dX3_findFewest_38 fk_3_37_X3 (Or.inl q1349)) <|
  jcons (jL jC_150 dX3_findFewest_41 rfl) <|
  jcons (j2 jC_150 jY_150 dX3_findFewest_43 q1782) <|
  jcons (jL jC_150 dX3_findFewest_46 rfl) <|
  jcons (jL jC_150 dX3_findFewest_47 rfl) <|
  jcons (jL jC_150 dX3_findFewest_49 rfl) <|
  jcons (jL jC_150 dX3_findFewest_51 rfl) <|
  jcons (jL jC_150 dX3_findFewest_52 rfl) <|
  jcons (jL jC_150 dX3_findFewest_53 rfl) <|
  jcons (jL jC_150 dX3_findFewest_55 rfl) <|
  jcons (jL jC_150 dX3_findFewest_57 rfl) <|
  jcons (jL jC_150 dX3_findFewest_59 rfl) <|
  jcons (jL jC_150 dX3_findFewest_61 rfl) <|
  jnil
theorem jt_150_1 : ∀ q ∈ tcX3_findFewest_1, sJ jnw jao 150 q.1 q.2.1 q.2.2 :=
  jcons (jL jC_150 dX3_findFewest_64 rfl) <|
  jcons (jL jC_150 dX3_findFewest_66 rfl) <|
  jcons (jL jC_150 dX3_findFewest_68 rfl) <|
  jcons (jL jC_150 dX3_findFewest_69 rfl) <|
  jcons (jL jC_150 dX3_findFewest_72 rfl) <|
  jcons (jG jC_150 jY_150 dX3_findFewest_73 fk_3_38_X3 (Or.inl q1350)) <|
  jcons (jL jC_150 dX3_findFewest_76 rfl) <|
  jcons (jL jC_150 dX3_findFewest_78 rfl) <|
  jcons (jL jC_150 dX3_findFewest_79 rfl) <|
  jcons (jL jC_150 dX3_findFewest_82 rfl) <|
  jcons (jG jC_150 jY_150 dX3_findFewest_83 fk_3_37_X3 (Or.inl q1349)) <|
  jcons (jL jC_150 dX3_findFewest_86 rfl) <|
  jcons (jL jC_150 dX3_findFewest_88 rfl) <|
  jcons (jG jC_150 jY_150 dX3_findFewest_89 fk_3_37_X3 (Or.inl q1349)) <|
  jcons (jL jC_150 dX3_findFewest_92 rfl) <|
  jcons (jL jC_150 dX3_findFewest_94 rfl) <|
  jcons (jL jC_150 dX3_findFewest_95 rfl) <|
  jcons (jL jC_150 dX3_findFewest_96 rfl) <|
  jcons (jG jC_150 jY_150 dX3_findFewest_97 fk_3_37_X3 (Or.inl q1349)) <|
  jcons (jL jC_150 dX3_findFewest_100 rfl) <|
  jcons (jL jC_150 dX3_findFewest_102 rfl) <|
  jcons (jL jC_150 dX3_findFewest_104 rfl) <|
  jcons (jL jC_150 dX3_findFewest_105 rfl) <|
  jcons (jL jC_150 dX3_findFewest_106 rfl) <|
  jcons (jL jC_150 dX3_findFewest_107 rfl) <|
  jcons (jL jC_150 dX3_findFewest_108 rfl) <|
  jcons (j14 jC_150 jY_150 dX3_findFewest_109 q1545) <|
  jcons (jL jC_150 dX3_findFewest_112 rfl) <|
  jcons (jL jC_150 dX3_findFewest_113 rfl) <|
  jcons (jL jC_150 dX3_findFewest_115 rfl) <|
  jcons (jL jC_150 dX3_findFewest_116 rfl) <|
  jcons (jL jC_150 dX3_findFewest_117 rfl) <|
  jcons (jL jC_150 dX3_findFewest_119 rfl) <|
  jcons (jL jC_150 dX3_findFewest_120 rfl) <|
  jcons (jL jC_150 dX3_findFewest_122 rfl) <|
  jcons (jL jC_150 dX3_findFewest_125 rfl) <|
  jnil
theorem jt_150_2 : ∀ q ∈ tcX3_findFewest_2, sJ jnw jao 150 q.1 q.2.1 q.2.2 :=
  jcons (jL jC_150 dX3_findFewest_128 rfl) <|
  jcons (jL jC_150 dX3_findFewest_131 rfl) <|
  jnil
theorem jm_150 : ∀ l ∈ tbX3_findFewest, ∀ q ∈ l, sJ jnw jao 150 q.1 q.2.1 q.2.2 := jmc jt_150_0 <| jmc jt_150_1 <| jmc jt_150_2 <| jmn
theorem jt_151_0 : ∀ q ∈ tcX3_isOneWay_0, sJ jnw jao 151 q.1 q.2.1 q.2.2 :=
  jcons (jL jC_151 dX3_isOneWay_0 rfl) <|
  jcons (jG jC_151 jY_151 dX3_isOneWay_1 fk_3_2_X3 (Or.inl q1314)) <|
  jcons (jL jC_151 dX3_isOneWay_4 rfl) <|
  jcons (jL jC_151 dX3_isOneWay_5 rfl) <|
  jcons (jL jC_151 dX3_isOneWay_6 rfl) <|
  jcons (j4S jC_151 jY_151 dX3_isOneWay_7 (jc_254 _) q976 pd_254 (Or.inl q1732)) <|
  jcons (jL jC_151 dX3_isOneWay_10 rfl) <|
  jcons (jL jC_151 dX3_isOneWay_11 rfl) <|
  jcons (jL jC_151 dX3_isOneWay_12 rfl) <|
  jcons (jL jC_151 dX3_isOneWay_13 rfl) <|
  jcons (jL jC_151 dX3_isOneWay_15 rfl) <|
  jcons (jL jC_151 dX3_isOneWay_16 rfl) <|
  jcons (jL jC_151 dX3_isOneWay_18 rfl) <|
  jcons (jL jC_151 dX3_isOneWay_20 rfl) <|
  jcons (jG jC_151 jY_151 dX3_isOneWay_21 fk_3_13_X3 (Or.inl q1325)) <|
  jcons (jL jC_151 dX3_isOneWay_24 rfl) <|
  jcons (jL jC_151 dX3_isOneWay_25 rfl) <|
  jcons (jL jC_151 dX3_isOneWay_26 rfl) <|
  jcons (jL jC_151 dX3_isOneWay_29 rfl) <|
  jcons (jL jC_151 dX3_isOneWay_31 rfl) <|
  jcons (jL jC_151 dX3_isOneWay_32 rfl) <|
  jcons (jL jC_151 dX3_isOneWay_34 rfl) <|
  jcons (jL jC_151 dX3_isOneWay_35 rfl) <|
  jcons (jL jC_151 dX3_isOneWay_36 rfl) <|
  jcons (jL jC_151 dX3_isOneWay_37 rfl) <|
  jcons (jL jC_151 dX3_isOneWay_38 rfl) <|
  jcons (jL jC_151 dX3_isOneWay_41 rfl) <|
  jcons (jG jC_151 jY_151 dX3_isOneWay_42 fk_3_15_X3 (Or.inl q1327)) <|
  jcons (jL jC_151 dX3_isOneWay_45 rfl) <|
  jcons (jL jC_151 dX3_isOneWay_47 rfl) <|
  jcons (jL jC_151 dX3_isOneWay_48 rfl) <|
  jcons (jL jC_151 dX3_isOneWay_49 rfl) <|
  jcons (jL jC_151 dX3_isOneWay_51 rfl) <|
  jcons (jL jC_151 dX3_isOneWay_52 rfl) <|
  jcons (jL jC_151 dX3_isOneWay_53 rfl) <|
  jcons (jL jC_151 dX3_isOneWay_56 rfl) <|
  jcons (jL jC_151 dX3_isOneWay_57 rfl) <|
  jcons (jL jC_151 dX3_isOneWay_58 rfl) <|
  jcons (jL jC_151 dX3_isOneWay_60 rfl) <|
  jcons (jL jC_151 dX3_isOneWay_63 rfl) <|
  jnil
theorem jt_151_1 : ∀ q ∈ tcX3_isOneWay_1, sJ jnw jao 151 q.1 q.2.1 q.2.2 :=
  jcons (jL jC_151 dX3_isOneWay_66 rfl) <|
  jcons (jL jC_151 dX3_isOneWay_68 rfl) <|
  jcons (jG jC_151 jY_151 dX3_isOneWay_69 fk_3_1_X3 (Or.inl q1313)) <|
  jcons (jL jC_151 dX3_isOneWay_72 rfl) <|
  jcons (jL jC_151 dX3_isOneWay_73 rfl) <|
  jcons (jL jC_151 dX3_isOneWay_74 rfl) <|
  jcons (jL jC_151 dX3_isOneWay_77 rfl) <|
  jcons (jL jC_151 dX3_isOneWay_78 rfl) <|
  jcons (jL jC_151 dX3_isOneWay_79 rfl) <|
  jcons (j4V jC_151 jY_151 dX3_isOneWay_80 (jc_146 _) q1793 pd_146 (Or.inl q1791) (fun c r h1 h2 => js_168 c r h1 h2)) <|
  jcons (jL jC_151 dX3_isOneWay_83 rfl) <|
  jcons (jL jC_151 dX3_isOneWay_84 rfl) <|
  jcons (jL jC_151 dX3_isOneWay_87 rfl) <|
  jcons (jL jC_151 dX3_isOneWay_88 rfl) <|
  jcons (jL jC_151 dX3_isOneWay_89 rfl) <|
  jcons (j4V jC_151 jY_151 dX3_isOneWay_90 (jc_113 _) q1658 pd_113 (Or.inl q1656) (fun c r h1 h2 => js_149 c r h1 h2)) <|
  jcons (jL jC_151 dX3_isOneWay_93 rfl) <|
  jcons (jL jC_151 dX3_isOneWay_94 rfl) <|
  jcons (jL jC_151 dX3_isOneWay_97 rfl) <|
  jcons (jL jC_151 dX3_isOneWay_98 rfl) <|
  jcons (jL jC_151 dX3_isOneWay_101 rfl) <|
  jcons (jL jC_151 dX3_isOneWay_102 rfl) <|
  jnil
theorem jm_151 : ∀ l ∈ tbX3_isOneWay, ∀ q ∈ l, sJ jnw jao 151 q.1 q.2.1 q.2.2 := jmc jt_151_0 <| jmc jt_151_1 <| jmn
theorem jt_152_0 : ∀ q ∈ tcX3_set_0, sJ jnw jao 152 q.1 q.2.1 q.2.2 :=
  jcons (jL jC_152 dX3_set_0 rfl) <|
  jcons (jL jC_152 dX3_set_1 rfl) <|
  jcons (jL jC_152 dX3_set_2 rfl) <|
  jcons (j4V jC_152 jY_152 dX3_set_3 (jc_148 _) q1801 pd_148 (Or.inl q1799) (fun c r h1 h2 => js_169 c r h1 h2)) <|
  jcons (jL jC_152 dX3_set_6 rfl) <|
  jcons (jL jC_152 dX3_set_9 rfl) <|
  jcons (jL jC_152 dX3_set_10 rfl) <|
  jcons (jL jC_152 dX3_set_11 rfl) <|
  jcons (jG jC_152 jY_152 dX3_set_12 fk_3_37_X3 (Or.inl q1349)) <|
  jcons (jL jC_152 dX3_set_15 rfl) <|
  jcons (jL jC_152 dX3_set_16 rfl) <|
  jcons (j4V jC_152 jY_152 dX3_set_17 (jc_111 _) q1650 pd_111 (Or.inl q1648) (fun c r h1 h2 => js_148 c r h1 h2)) <|
  jcons (jL jC_152 dX3_set_20 rfl) <|
  jcons (jL jC_152 dX3_set_21 rfl) <|
  jcons (jL jC_152 dX3_set_22 rfl) <|
  jcons (j4S jC_152 jY_152 dX3_set_23 (jc_69 _) q1480 pd_69 (Or.inl q1479)) <|
  jcons (jL jC_152 dX3_set_26 rfl) <|
  jcons (jL jC_152 dX3_set_29 rfl) <|
  jcons (jL jC_152 dX3_set_30 rfl) <|
  jcons (jL jC_152 dX3_set_31 rfl) <|
  jcons (jL jC_152 dX3_set_32 rfl) <|
  jcons (j4V jC_152 jY_152 dX3_set_33 (jc_111 _) q1650 pd_111 (Or.inl q1648) (fun c r h1 h2 => js_148 c r h1 h2)) <|
  jcons (jL jC_152 dX3_set_36 rfl) <|
  jcons (jL jC_152 dX3_set_38 rfl) <|
  jcons (jL jC_152 dX3_set_39 rfl) <|
  jcons (jL jC_152 dX3_set_41 rfl) <|
  jcons (jL jC_152 dX3_set_43 rfl) <|
  jcons (jL jC_152 dX3_set_44 rfl) <|
  jcons (jL jC_152 dX3_set_47 rfl) <|
  jcons (jL jC_152 dX3_set_49 rfl) <|
  jcons (jL jC_152 dX3_set_51 rfl) <|
  jcons (jL jC_152 dX3_set_52 rfl) <|
  jcons (jL jC_152 dX3_set_53 rfl) <|
  jcons (jL jC_152 dX3_set_55 rfl) <|
  jcons (jL jC_152 dX3_set_57 rfl) <|
  jcons (jL jC_152 dX3_set_59 rfl) <|
  jcons (jL jC_152 dX3_set_61 rfl) <|
  jcons (jL jC_152 dX3_set_63 rfl) <|
  jnil
theorem jt_152_1 : ∀ q ∈ tcX3_set_1, sJ jnw jao 152 q.1 q.2.1 q.2.2 :=
  jcons (jL jC_152 dX3_set_64 rfl) <|
  jcons (jL jC_152 dX3_set_65 rfl) <|
  jcons (jL jC_152 dX3_set_66 rfl) <|
  jcons (jL jC_152 dX3_set_69 rfl) <|
  jcons (jL jC_152 dX3_set_71 rfl) <|
  jcons (jL jC_152 dX3_set_73 rfl) <|
  jcons (jL jC_152 dX3_set_74 rfl) <|
  jcons (jL jC_152 dX3_set_77 rfl) <|
  jcons (jG jC_152 jY_152 dX3_set_78 fk_3_38_X3 (Or.inl q1350)) <|
  jcons (jL jC_152 dX3_set_81 rfl) <|
  jcons (jL jC_152 dX3_set_83 rfl) <|
  jcons (jL jC_152 dX3_set_84 rfl) <|
  jcons (jL jC_152 dX3_set_87 rfl) <|
  jcons (jL jC_152 dX3_set_88 rfl) <|
  jcons (jG jC_152 jY_152 dX3_set_89 fk_3_37_X3 (Or.inl q1349)) <|
  jcons (jL jC_152 dX3_set_92 rfl) <|
  jcons (jL jC_152 dX3_set_94 rfl) <|
  jcons (jL jC_152 dX3_set_96 rfl) <|
  jcons (jL jC_152 dX3_set_97 rfl) <|
  jcons (jL jC_152 dX3_set_98 rfl) <|
  jcons (jL jC_152 dX3_set_99 rfl) <|
  jcons (jL jC_152 dX3_set_100 rfl) <|
  jcons (jL jC_152 dX3_set_101 rfl) <|
  jcons (jG jC_152 jY_152 dX3_set_102 fk_3_37_X3 (Or.inl q1349)) <|
  jcons (jL jC_152 dX3_set_105 rfl) <|
  jcons (jL jC_152 dX3_set_107 rfl) <|
  jcons (jL jC_152 dX3_set_108 rfl) <|
  jcons (jL jC_152 dX3_set_111 rfl) <|
  jcons (jL jC_152 dX3_set_114 rfl) <|
  jcons (jL jC_152 dX3_set_117 rfl) <|
  jcons (jL jC_152 dX3_set_119 rfl) <|
  jcons (jL jC_152 dX3_set_120 rfl) <|
  jcons (jL jC_152 dX3_set_123 rfl) <|
  jcons (jL jC_152 dX3_set_125 rfl) <|
  jcons (jL jC_152 dX3_set_126 rfl) <|
  jnil
theorem jt_152_2 : ∀ q ∈ tcX3_set_2, sJ jnw jao 152 q.1 q.2.1 q.2.2 :=
  jcons (jL jC_152 dX3_set_128 rfl) <|
  jcons (jL jC_152 dX3_set_130 rfl) <|
  jcons (jL jC_152 dX3_set_131 rfl) <|
  jcons (jL jC_152 dX3_set_132 rfl) <|
  jcons (jL jC_152 dX3_set_133 rfl) <|
  jcons (jL jC_152 dX3_set_135 rfl) <|
  jcons (jL jC_152 dX3_set_138 rfl) <|
  jcons (jL jC_152 dX3_set_141 rfl) <|
  jcons (jL jC_152 dX3_set_142 rfl) <|
  jnil
theorem jm_152 : ∀ l ∈ tbX3_set, ∀ q ∈ l, sJ jnw jao 152 q.1 q.2.1 q.2.2 := jmc jt_152_0 <| jmc jt_152_1 <| jmc jt_152_2 <| jmn
theorem jt_153_0 : ∀ q ∈ tcX3_twice_0, sJ jnw jao 153 q.1 q.2.1 q.2.2 :=
  jcons (jL jC_153 dX3_twice_0 rfl) <|
  jcons (jL jC_153 dX3_twice_1 rfl) <|
  jcons (j4V jC_153 jY_153 dX3_twice_2 (jc_108 _) q1638 pd_108 (Or.inl q1636) (fun c r h1 h2 => js_145 c r h1 h2)) <|
  jcons (jL jC_153 dX3_twice_5 rfl) <|
  jcons (jL jC_153 dX3_twice_8 rfl) <|
  jcons (jG jC_153 jY_153 dX3_twice_9 fk_3_13_X3 (Or.inl q1325)) <|
  jcons (jL jC_153 dX3_twice_12 rfl) <|
  jcons (jL jC_153 dX3_twice_13 rfl) <|
  jcons (jL jC_153 dX3_twice_14 rfl) <|
  jcons (jL jC_153 dX3_twice_16 rfl) <|
  jcons (jL jC_153 dX3_twice_19 rfl) <|
  jcons (jL jC_153 dX3_twice_20 rfl) <|
  jcons (jL jC_153 dX3_twice_21 rfl) <|
  jcons (jL jC_153 dX3_twice_22 rfl) <|
  jcons (j4V jC_153 jY_153 dX3_twice_23 (jc_111 _) q1650 pd_111 (Or.inl q1648) (fun c r h1 h2 => js_148 c r h1 h2)) <|
  jcons (j4V jC_153 jY_153 dX3_twice_26 (jc_132 _) q1735 pd_132 (Or.inl q1733) (fun c r h1 h2 => js_160 c r h1 h2)) <|
  jcons (jL jC_153 dX3_twice_29 rfl) <|
  jcons (jL jC_153 dX3_twice_30 rfl) <|
  jcons (jL jC_153 dX3_twice_33 rfl) <|
  jcons (jL jC_153 dX3_twice_34 rfl) <|
  jcons (jL jC_153 dX3_twice_35 rfl) <|
  jcons (jL jC_153 dX3_twice_36 rfl) <|
  jcons (jL jC_153 dX3_twice_37 rfl) <|
  jcons (jL jC_153 dX3_twice_38 rfl) <|
  jcons (jL jC_153 dX3_twice_39 rfl) <|
  jcons (jL jC_153 dX3_twice_40 rfl) <|
  jcons (jG jC_153 jY_153 dX3_twice_41 fk_3_14_X3 (Or.inl q1326)) <|
  jcons (jL jC_153 dX3_twice_44 rfl) <|
  jcons (jL jC_153 dX3_twice_45 rfl) <|
  jcons (jL jC_153 dX3_twice_46 rfl) <|
  jcons (jL jC_153 dX3_twice_49 rfl) <|
  jcons (jL jC_153 dX3_twice_50 rfl) <|
  jcons (jL jC_153 dX3_twice_51 rfl) <|
  jcons (jL jC_153 dX3_twice_52 rfl) <|
  jcons (jL jC_153 dX3_twice_53 rfl) <|
  jcons (j4V jC_153 jY_153 dX3_twice_54 (jc_111 _) q1650 pd_111 (Or.inl q1648) (fun c r h1 h2 => js_148 c r h1 h2)) <|
  jcons (j4V jC_153 jY_153 dX3_twice_57 (jc_112 _) q1654 pd_112 (Or.inl q1652) (fun c r h1 h2 => js_150 c r h1 h2)) <|
  jcons (jL jC_153 dX3_twice_60 rfl) <|
  jcons (jL jC_153 dX3_twice_61 rfl) <|
  jcons (jL jC_153 dX3_twice_62 rfl) <|
  jcons (jL jC_153 dX3_twice_63 rfl) <|
  jnil
theorem jt_153_1 : ∀ q ∈ tcX3_twice_1, sJ jnw jao 153 q.1 q.2.1 q.2.2 :=
  jcons (jL jC_153 dX3_twice_66 rfl) <|
  jcons (jG jC_153 jY_153 dX3_twice_67 fk_3_39_X3 (Or.inl q1351)) <|
  jcons (jL jC_153 dX3_twice_70 rfl) <|
  jcons (jL jC_153 dX3_twice_71 rfl) <|
  jcons (jL jC_153 dX3_twice_72 rfl) <|
  jcons (jL jC_153 dX3_twice_73 rfl) <|
  jcons (jL jC_153 dX3_twice_76 rfl) <|
  jcons (jL jC_153 dX3_twice_79 rfl) <|
  jcons (jL jC_153 dX3_twice_82 rfl) <|
  jcons (jL jC_153 dX3_twice_83 rfl) <|
  jcons (j4V jC_153 jY_153 dX3_twice_84 (jc_143 _) q1780 pd_143 (Or.inl q1778) (fun c r h1 h2 => js_167 c r h1 h2)) <|
  jcons (jL jC_153 dX3_twice_87 rfl) <|
  jcons (jL jC_153 dX3_twice_88 rfl) <|
  jcons (jL jC_153 dX3_twice_91 rfl) <|
  jcons (jL jC_153 dX3_twice_92 rfl) <|
  jcons (jL jC_153 dX3_twice_95 rfl) <|
  jcons (jL jC_153 dX3_twice_96 rfl) <|
  jcons (jL jC_153 dX3_twice_97 rfl) <|
  jcons (jL jC_153 dX3_twice_98 rfl) <|
  jcons (jL jC_153 dX3_twice_99 rfl) <|
  jcons (jL jC_153 dX3_twice_100 rfl) <|
  jcons (jL jC_153 dX3_twice_101 rfl) <|
  jcons (jL jC_153 dX3_twice_102 rfl) <|
  jcons (j4V jC_153 jY_153 dX3_twice_103 (jc_154 _) q1825 pd_154 (Or.inl q1823) (fun c r h1 h2 => js_173 c r h1 h2)) <|
  jcons (jL jC_153 dX3_twice_106 rfl) <|
  jnil
theorem jm_153 : ∀ l ∈ tbX3_twice, ∀ q ∈ l, sJ jnw jao 153 q.1 q.2.1 q.2.2 := jmc jt_153_0 <| jmc jt_153_1 <| jmn
theorem jt_154_0 : ∀ q ∈ tcX3_pairing_0, sJ jnw jao 154 q.1 q.2.1 q.2.2 :=
  jcons (jL jC_154 dX3_pairing_0 rfl) <|
  jcons (jL jC_154 dX3_pairing_1 rfl) <|
  jcons (jL jC_154 dX3_pairing_4 rfl) <|
  jcons (jL jC_154 dX3_pairing_5 rfl) <|
  jcons (jL jC_154 dX3_pairing_6 rfl) <|
  jcons (j4S jC_154 jY_154 dX3_pairing_7 (jc_255 _) q990 pd_255 (Or.inl q1827)) <|
  jcons (jL jC_154 dX3_pairing_10 rfl) <|
  jcons (jL jC_154 dX3_pairing_12 rfl) <|
  jcons (jL jC_154 dX3_pairing_13 rfl) <|
  jcons (jL jC_154 dX3_pairing_14 rfl) <|
  jcons (jL jC_154 dX3_pairing_16 rfl) <|
  jcons (jL jC_154 dX3_pairing_17 rfl) <|
  jcons (jL jC_154 dX3_pairing_18 rfl) <|
  jcons (jL jC_154 dX3_pairing_19 rfl) <|
  jcons (jL jC_154 dX3_pairing_20 rfl) <|
  jcons (jL jC_154 dX3_pairing_22 rfl) <|
  jcons (jL jC_154 dX3_pairing_23 rfl) <|
  jcons (jL jC_154 dX3_pairing_26 rfl) <|
  jcons (jL jC_154 dX3_pairing_27 rfl) <|
  jcons (jL jC_154 dX3_pairing_29 rfl) <|
  jcons (jL jC_154 dX3_pairing_30 rfl) <|
  jcons (jL jC_154 dX3_pairing_31 rfl) <|
  jcons (jL jC_154 dX3_pairing_32 rfl) <|
  jcons (j4V jC_154 jY_154 dX3_pairing_33 (jc_154 _) q1825 pd_154 (Or.inl q1823) (fun c r h1 h2 => js_173 c r h1 h2)) <|
  jcons (jL jC_154 dX3_pairing_36 rfl) <|
  jcons (j2 jC_154 jY_154 dX3_pairing_39 q1782) <|
  jcons (jL jC_154 dX3_pairing_42 rfl) <|
  jcons (jL jC_154 dX3_pairing_44 rfl) <|
  jcons (jL jC_154 dX3_pairing_46 rfl) <|
  jcons (jL jC_154 dX3_pairing_47 rfl) <|
  jcons (jL jC_154 dX3_pairing_48 rfl) <|
  jcons (jL jC_154 dX3_pairing_50 rfl) <|
  jcons (jL jC_154 dX3_pairing_52 rfl) <|
  jcons (jL jC_154 dX3_pairing_53 rfl) <|
  jcons (jL jC_154 dX3_pairing_56 rfl) <|
  jcons (jL jC_154 dX3_pairing_58 rfl) <|
  jcons (jL jC_154 dX3_pairing_60 rfl) <|
  jcons (jL jC_154 dX3_pairing_61 rfl) <|
  jcons (jL jC_154 dX3_pairing_62 rfl) <|
  jcons (jL jC_154 dX3_pairing_63 rfl) <|
  jnil
theorem jt_154_1 : ∀ q ∈ tcX3_pairing_1, sJ jnw jao 154 q.1 q.2.1 q.2.2 :=
  jcons (jL jC_154 dX3_pairing_64 rfl) <|
  jcons (jL jC_154 dX3_pairing_67 rfl) <|
  jcons (jL jC_154 dX3_pairing_69 rfl) <|
  jcons (jG jC_154 jY_154 dX3_pairing_70 fk_3_36_X3 (Or.inl q1348)) <|
  jcons (jL jC_154 dX3_pairing_73 rfl) <|
  jcons (jL jC_154 dX3_pairing_75 rfl) <|
  jcons (jG jC_154 jY_154 dX3_pairing_76 fk_3_39_X3 (Or.inl q1351)) <|
  jcons (jL jC_154 dX3_pairing_79 rfl) <|
  jcons (jL jC_154 dX3_pairing_81 rfl) <|
  jcons (jL jC_154 dX3_pairing_82 rfl) <|
  jcons (jL jC_154 dX3_pairing_83 rfl) <|
  jcons (jG jC_154 jY_154 dX3_pairing_84 fk_3_39_X3 (Or.inl q1351)) <|
  jcons (jL jC_154 dX3_pairing_87 rfl) <|
  jcons (jL jC_154 dX3_pairing_89 rfl) <|
  jcons (jL jC_154 dX3_pairing_90 rfl) <|
  jcons (jL jC_154 dX3_pairing_91 rfl) <|
  jcons (jL jC_154 dX3_pairing_92 rfl) <|
  jcons (jL jC_154 dX3_pairing_93 rfl) <|
  jcons (jL jC_154 dX3_pairing_95 rfl) <|
  jcons (jL jC_154 dX3_pairing_96 rfl) <|
  jcons (jL jC_154 dX3_pairing_98 rfl) <|
  jcons (jL jC_154 dX3_pairing_99 rfl) <|
  jcons (jL jC_154 dX3_pairing_100 rfl) <|
  jcons (jL jC_154 dX3_pairing_101 rfl) <|
  jcons (jL jC_154 dX3_pairing_102 rfl) <|
  jcons (jL jC_154 dX3_pairing_103 rfl) <|
  jcons (j4V jC_154 jY_154 dX3_pairing_104 (jc_154 _) q1825 pd_154 (Or.inl q1823) (fun c r h1 h2 => js_173 c r h1 h2)) <|
  jcons (jL jC_154 dX3_pairing_107 rfl) <|
  jcons (j14 jC_154 jY_154 dX3_pairing_108 q1545) <|
  jcons (jL jC_154 dX3_pairing_111 rfl) <|
  jcons (jL jC_154 dX3_pairing_113 rfl) <|
  jcons (jL jC_154 dX3_pairing_116 rfl) <|
  jcons (jL jC_154 dX3_pairing_119 rfl) <|
  jcons (jL jC_154 dX3_pairing_121 rfl) <|
  jnil
theorem jm_154 : ∀ l ∈ tbX3_pairing, ∀ q ∈ l, sJ jnw jao 154 q.1 q.2.1 q.2.2 := jmc jt_154_0 <| jmc jt_154_1 <| jmn
theorem jt_155_0 : ∀ q ∈ tcX3_stock_0, sJ jnw jao 155 q.1 q.2.1 q.2.2 :=
  jcons (jL jC_155 dX3_stock_0 rfl) <|
  jcons (jL jC_155 dX3_stock_1 rfl) <|
  jcons (j4V jC_155 jY_155 dX3_stock_2 (jc_149 _) q1805 pd_149 (Or.inl q1803) (fun c r h1 h2 => js_170 c r h1 h2)) <|
  jcons (jL jC_155 dX3_stock_5 rfl) <|
  jcons (jL jC_155 dX3_stock_8 rfl) <|
  jcons (jL jC_155 dX3_stock_9 rfl) <|
  jcons (jL jC_155 dX3_stock_10 rfl) <|
  jcons (j4S jC_155 jY_155 dX3_stock_12 (jc_69 _) q1480 pd_69 (Or.inl q1479)) <|
  jcons (jL jC_155 dX3_stock_15 rfl) <|
  jcons (jL jC_155 dX3_stock_18 rfl) <|
  jcons (jL jC_155 dX3_stock_19 rfl) <|
  jcons (jL jC_155 dX3_stock_20 rfl) <|
  jcons (jG jC_155 jY_155 dX3_stock_21 fk_3_4_X3 (Or.inl q1316)) <|
  jcons (jL jC_155 dX3_stock_24 rfl) <|
  jcons (jL jC_155 dX3_stock_25 rfl) <|
  jcons (jL jC_155 dX3_stock_26 rfl) <|
  jcons (jL jC_155 dX3_stock_27 rfl) <|
  jcons (jL jC_155 dX3_stock_28 rfl) <|
  jnil
theorem jm_155 : ∀ l ∈ tbX3_stock, ∀ q ∈ l, sJ jnw jao 155 q.1 q.2.1 q.2.2 := jmc jt_155_0 <| jmn
theorem jt_156_0 : ∀ q ∈ tcX3_pace_0, sJ jnw jao 156 q.1 q.2.1 q.2.2 :=
  jcons (jL jC_156 dX3_pace_0 rfl) <|
  jcons (jL jC_156 dX3_pace_1 rfl) <|
  jcons (jL jC_156 dX3_pace_2 rfl) <|
  jcons (j4S jC_156 jY_156 dX3_pace_4 (jc_69 _) q1480 pd_69 (Or.inl q1479)) <|
  jcons (jL jC_156 dX3_pace_7 rfl) <|
  jcons (jL jC_156 dX3_pace_10 rfl) <|
  jcons (jL jC_156 dX3_pace_11 rfl) <|
  jcons (jL jC_156 dX3_pace_12 rfl) <|
  jcons (j4S jC_156 jY_156 dX3_pace_14 (jc_69 _) q1480 pd_69 (Or.inl q1479)) <|
  jcons (jL jC_156 dX3_pace_17 rfl) <|
  jcons (jL jC_156 dX3_pace_20 rfl) <|
  jcons (jL jC_156 dX3_pace_21 rfl) <|
  jcons (jL jC_156 dX3_pace_22 rfl) <|
  jcons (jL jC_156 dX3_pace_23 rfl) <|
  jcons (jPu jC_156 jY_156 dX3_pace_24 fk_3_47_X3 ap_3_47 (fn_3_47 _) (Or.inl q1359) (tyX3_ok 47 (by decide)) (Or.inl ⟨rfl, rfl⟩)) <|
  jcons (jL jC_156 dX3_pace_27 rfl) <|
  jcons (jL jC_156 dX3_pace_28 rfl) <|
  jcons (jPu jC_156 jY_156 dX3_pace_29 fk_3_48_X3 ap_3_48 (fn_3_48 _) (Or.inl q1360) (tyX3_ok 48 (by decide)) (Or.inl ⟨rfl, rfl⟩)) <|
  jcons (jL jC_156 dX3_pace_32 rfl) <|
  jcons (jL jC_156 dX3_pace_33 rfl) <|
  jnil
theorem jm_156 : ∀ l ∈ tbX3_pace, ∀ q ∈ l, sJ jnw jao 156 q.1 q.2.1 q.2.2 := jmc jt_156_0 <| jmn
theorem jt_157_0 : ∀ q ∈ tcX3_comes_0, sJ jnw jao 157 q.1 q.2.1 q.2.2 :=
  jcons (jL jC_157 dX3_comes_0 rfl) <|
  jcons (jL jC_157 dX3_comes_1 rfl) <|
  jcons (j4V jC_157 jY_157 dX3_comes_2 (jc_108 _) q1638 pd_108 (Or.inl q1636) (fun c r h1 h2 => js_145 c r h1 h2)) <|
  jcons (jL jC_157 dX3_comes_5 rfl) <|
  jcons (jL jC_157 dX3_comes_8 rfl) <|
  jcons (jL jC_157 dX3_comes_9 rfl) <|
  jcons (jG jC_157 jY_157 dX3_comes_10 fk_3_45_X3 (Or.inl q1357)) <|
  jcons (jL jC_157 dX3_comes_13 rfl) <|
  jcons (jL jC_157 dX3_comes_16 rfl) <|
  jcons (jL jC_157 dX3_comes_17 rfl) <|
  jcons (jL jC_157 dX3_comes_20 rfl) <|
  jcons (jG jC_157 jY_157 dX3_comes_21 fk_3_40_X3 (Or.inl q1352)) <|
  jcons (jL jC_157 dX3_comes_24 rfl) <|
  jcons (jG jC_157 jY_157 dX3_comes_25 fk_3_45_X3 (Or.inl q1357)) <|
  jcons (jL jC_157 dX3_comes_28 rfl) <|
  jcons (jL jC_157 dX3_comes_29 rfl) <|
  jcons (jL jC_157 dX3_comes_30 rfl) <|
  jcons (jL jC_157 dX3_comes_31 rfl) <|
  jcons (j4S jC_157 jY_157 dX3_comes_34 (jc_69 _) q1480 pd_69 (Or.inl q1479)) <|
  jcons (jL jC_157 dX3_comes_37 rfl) <|
  jcons (jL jC_157 dX3_comes_40 rfl) <|
  jcons (jL jC_157 dX3_comes_41 rfl) <|
  jcons (jL jC_157 dX3_comes_42 rfl) <|
  jcons (j4S jC_157 jY_157 dX3_comes_45 (jc_69 _) q1480 pd_69 (Or.inl q1479)) <|
  jcons (jL jC_157 dX3_comes_48 rfl) <|
  jcons (jL jC_157 dX3_comes_51 rfl) <|
  jcons (jG jC_157 jY_157 dX3_comes_52 fk_3_45_X3 (Or.inl q1357)) <|
  jcons (jL jC_157 dX3_comes_55 rfl) <|
  jcons (jL jC_157 dX3_comes_57 rfl) <|
  jcons (jL jC_157 dX3_comes_60 rfl) <|
  jcons (jL jC_157 dX3_comes_61 rfl) <|
  jcons (jL jC_157 dX3_comes_62 rfl) <|
  jcons (jG jC_157 jY_157 dX3_comes_63 fk_3_40_X3 (Or.inl q1352)) <|
  jnil
theorem jt_157_1 : ∀ q ∈ tcX3_comes_1, sJ jnw jao 157 q.1 q.2.1 q.2.2 :=
  jcons (jL jC_157 dX3_comes_66 rfl) <|
  jcons (jG jC_157 jY_157 dX3_comes_67 fk_3_45_X3 (Or.inl q1357)) <|
  jcons (jL jC_157 dX3_comes_70 rfl) <|
  jcons (jL jC_157 dX3_comes_71 rfl) <|
  jcons (jL jC_157 dX3_comes_72 rfl) <|
  jcons (jG jC_157 jY_157 dX3_comes_73 fk_3_41_X3 (Or.inl q1353)) <|
  jcons (jL jC_157 dX3_comes_76 rfl) <|
  jcons (jG jC_157 jY_157 dX3_comes_77 fk_3_45_X3 (Or.inl q1357)) <|
  jcons (jL jC_157 dX3_comes_80 rfl) <|
  jcons (jL jC_157 dX3_comes_81 rfl) <|
  jcons (jL jC_157 dX3_comes_82 rfl) <|
  jcons (jG jC_157 jY_157 dX3_comes_83 fk_3_42_X3 (Or.inl q1354)) <|
  jcons (jL jC_157 dX3_comes_86 rfl) <|
  jcons (jG jC_157 jY_157 dX3_comes_87 fk_3_45_X3 (Or.inl q1357)) <|
  jcons (jL jC_157 dX3_comes_90 rfl) <|
  jcons (jL jC_157 dX3_comes_91 rfl) <|
  jcons (jL jC_157 dX3_comes_92 rfl) <|
  jcons (jL jC_157 dX3_comes_93 rfl) <|
  jcons (jG jC_157 jY_157 dX3_comes_94 fk_3_45_X3 (Or.inl q1357)) <|
  jcons (jL jC_157 dX3_comes_97 rfl) <|
  jcons (jL jC_157 dX3_comes_98 rfl) <|
  jcons (jPu jC_157 jY_157 dX3_comes_99 fk_3_45_X3 ap_3_45 (fn_3_45 _) (Or.inl q1357) (tyX3_ok 45 (by decide)) (Or.inl ⟨rfl, rfl⟩)) <|
  jcons (jL jC_157 dX3_comes_102 rfl) <|
  jcons (jG jC_157 jY_157 dX3_comes_103 fk_3_45_X3 (Or.inl q1357)) <|
  jcons (jL jC_157 dX3_comes_106 rfl) <|
  jcons (jL jC_157 dX3_comes_107 rfl) <|
  jcons (jL jC_157 dX3_comes_108 rfl) <|
  jnil
theorem jm_157 : ∀ l ∈ tbX3_comes, ∀ q ∈ l, sJ jnw jao 157 q.1 q.2.1 q.2.2 := jmc jt_157_0 <| jmc jt_157_1 <| jmn
theorem jt_158_0 : ∀ q ∈ tcX3_close_0, sJ jnw jao 158 q.1 q.2.1 q.2.2 :=
  jcons (jL jC_158 dX3_close_0 rfl) <|
  jcons (jG jC_158 jY_158 dX3_close_1 fk_3_45_X3 (Or.inl q1357)) <|
  jcons (jL jC_158 dX3_close_4 rfl) <|
  jcons (jL jC_158 dX3_close_5 rfl) <|
  jcons (jL jC_158 dX3_close_6 rfl) <|
  jcons (jPu jC_158 jY_158 dX3_close_7 fk_3_45_X3 ap_3_45 (fn_3_45 _) (Or.inl q1357) (tyX3_ok 45 (by decide)) (Or.inl ⟨rfl, rfl⟩)) <|
  jcons (jL jC_158 dX3_close_10 rfl) <|
  jcons (jL jC_158 dX3_close_11 rfl) <|
  jcons (jPu jC_158 jY_158 dX3_close_12 fk_3_46_X3 ap_3_46 (fn_3_46 _) (Or.inl q1358) (tyX3_ok 46 (by decide)) (Or.inl ⟨rfl, rfl⟩)) <|
  jcons (jL jC_158 dX3_close_15 rfl) <|
  jcons (jL jC_158 dX3_close_16 rfl) <|
  jnil
theorem jm_158 : ∀ l ∈ tbX3_close, ∀ q ∈ l, sJ jnw jao 158 q.1 q.2.1 q.2.2 := jmc jt_158_0 <| jmn
theorem jt_159_0 : ∀ q ∈ tcX3_run_0, sJ jnw jao 159 q.1 q.2.1 q.2.2 :=
  jcons (jL jC_159 dX3_run_0 rfl) <|
  jcons (jL jC_159 dX3_run_1 rfl) <|
  jcons (jL jC_159 dX3_run_2 rfl) <|
  jcons (jL jC_159 dX3_run_3 rfl) <|
  jcons (jG jC_159 jY_159 dX3_run_4 fk_3_5_X3 (Or.inl q1317)) <|
  jcons (jL jC_159 dX3_run_7 rfl) <|
  jcons (jL jC_159 dX3_run_10 rfl) <|
  jcons (jG jC_159 jY_159 dX3_run_11 fk_3_44_X3 (Or.inl q1356)) <|
  jcons (jL jC_159 dX3_run_14 rfl) <|
  jcons (jL jC_159 dX3_run_15 rfl) <|
  jcons (jG jC_159 jY_159 dX3_run_16 fk_3_4_X3 (Or.inl q1316)) <|
  jcons (jL jC_159 dX3_run_19 rfl) <|
  jcons (jL jC_159 dX3_run_20 rfl) <|
  jcons (jL jC_159 dX3_run_21 rfl) <|
  jcons (jL jC_159 dX3_run_22 rfl) <|
  jcons (jL jC_159 dX3_run_25 rfl) <|
  jcons (jL jC_159 dX3_run_28 rfl) <|
  jcons (jL jC_159 dX3_run_29 rfl) <|
  jcons (jL jC_159 dX3_run_30 rfl) <|
  jcons (jL jC_159 dX3_run_31 rfl) <|
  jcons (jL jC_159 dX3_run_33 rfl) <|
  jcons (jL jC_159 dX3_run_34 rfl) <|
  jcons (jL jC_159 dX3_run_36 rfl) <|
  jcons (jL jC_159 dX3_run_37 rfl) <|
  jcons (jL jC_159 dX3_run_39 rfl) <|
  jcons (jL jC_159 dX3_run_41 rfl) <|
  jcons (jG jC_159 jY_159 dX3_run_42 fk_3_45_X3 (Or.inl q1357)) <|
  jcons (jL jC_159 dX3_run_45 rfl) <|
  jcons (jL jC_159 dX3_run_48 rfl) <|
  jcons (jG jC_159 jY_159 dX3_run_49 fk_3_41_X3 (Or.inl q1353)) <|
  jcons (jL jC_159 dX3_run_52 rfl) <|
  jcons (jL jC_159 dX3_run_54 rfl) <|
  jcons (jL jC_159 dX3_run_55 rfl) <|
  jcons (jL jC_159 dX3_run_57 rfl) <|
  jcons (jL jC_159 dX3_run_59 rfl) <|
  jcons (jG jC_159 jY_159 dX3_run_60 fk_3_40_X3 (Or.inl q1352)) <|
  jcons (jL jC_159 dX3_run_63 rfl) <|
  jnil
theorem jt_159_1 : ∀ q ∈ tcX3_run_1, sJ jnw jao 159 q.1 q.2.1 q.2.2 :=
  jcons (jL jC_159 dX3_run_65 rfl) <|
  jcons (j14 jC_159 jY_159 dX3_run_66 q1540) <|
  jcons (jL jC_159 dX3_run_69 rfl) <|
  jcons (jL jC_159 dX3_run_71 rfl) <|
  jcons (jG jC_159 jY_159 dX3_run_72 fk_3_43_X3 (Or.inl q1355)) <|
  jcons (jL jC_159 dX3_run_75 rfl) <|
  jcons (jL jC_159 dX3_run_76 rfl) <|
  jcons (jL jC_159 dX3_run_78 rfl) <|
  jcons (jL jC_159 dX3_run_79 rfl) <|
  jcons (jL jC_159 dX3_run_80 rfl) <|
  jcons (jL jC_159 dX3_run_81 rfl) <|
  jcons (jL jC_159 dX3_run_83 rfl) <|
  jcons (jL jC_159 dX3_run_84 rfl) <|
  jcons (jL jC_159 dX3_run_86 rfl) <|
  jcons (jG jC_159 jY_159 dX3_run_87 fk_3_40_X3 (Or.inl q1352)) <|
  jcons (jL jC_159 dX3_run_90 rfl) <|
  jcons (jL jC_159 dX3_run_92 rfl) <|
  jcons (jL jC_159 dX3_run_93 rfl) <|
  jcons (jL jC_159 dX3_run_94 rfl) <|
  jcons (jG jC_159 jY_159 dX3_run_95 fk_3_42_X3 (Or.inl q1354)) <|
  jcons (jL jC_159 dX3_run_98 rfl) <|
  jcons (jL jC_159 dX3_run_100 rfl) <|
  jcons (jL jC_159 dX3_run_101 rfl) <|
  jcons (jL jC_159 dX3_run_104 rfl) <|
  jcons (jL jC_159 dX3_run_105 rfl) <|
  jcons (jL jC_159 dX3_run_108 rfl) <|
  jcons (jL jC_159 dX3_run_109 rfl) <|
  jcons (j4V jC_159 jY_159 dX3_run_111 (jc_160 _) q1850 pd_160 (Or.inl q1848) (fun c r h1 h2 => js_174 c r h1 h2)) <|
  jcons (jL jC_159 dX3_run_114 rfl) <|
  jcons (jL jC_159 dX3_run_117 rfl) <|
  jcons (jL jC_159 dX3_run_118 rfl) <|
  jcons (jL jC_159 dX3_run_121 rfl) <|
  jcons (jL jC_159 dX3_run_122 rfl) <|
  jcons (jL jC_159 dX3_run_124 rfl) <|
  jcons (jL jC_159 dX3_run_125 rfl) <|
  jcons (jL jC_159 dX3_run_127 rfl) <|
  jnil
theorem jt_159_2 : ∀ q ∈ tcX3_run_2, sJ jnw jao 159 q.1 q.2.1 q.2.2 :=
  jcons (jL jC_159 dX3_run_128 rfl) <|
  jcons (jL jC_159 dX3_run_130 rfl) <|
  jcons (jL jC_159 dX3_run_132 rfl) <|
  jcons (jG jC_159 jY_159 dX3_run_133 fk_3_11_X3 (Or.inl q1323)) <|
  jcons (jL jC_159 dX3_run_136 rfl) <|
  jcons (jL jC_159 dX3_run_138 rfl) <|
  jcons (jL jC_159 dX3_run_139 rfl) <|
  jcons (jL jC_159 dX3_run_142 rfl) <|
  jcons (jL jC_159 dX3_run_144 rfl) <|
  jcons (jL jC_159 dX3_run_147 rfl) <|
  jcons (jG jC_159 jY_159 dX3_run_148 fk_3_12_X3 (Or.inl q1324)) <|
  jcons (jL jC_159 dX3_run_151 rfl) <|
  jcons (jL jC_159 dX3_run_153 rfl) <|
  jcons (jL jC_159 dX3_run_155 rfl) <|
  jcons (jL jC_159 dX3_run_156 rfl) <|
  jcons (jL jC_159 dX3_run_158 rfl) <|
  jcons (jL jC_159 dX3_run_159 rfl) <|
  jcons (jL jC_159 dX3_run_160 rfl) <|
  jcons (jL jC_159 dX3_run_162 rfl) <|
  jcons (jL jC_159 dX3_run_163 rfl) <|
  jcons (jL jC_159 dX3_run_165 rfl) <|
  jcons (jL jC_159 dX3_run_167 rfl) <|
  jcons (jL jC_159 dX3_run_170 rfl) <|
  jcons (jL jC_159 dX3_run_172 rfl) <|
  jcons (jL jC_159 dX3_run_175 rfl) <|
  jcons (jG jC_159 jY_159 dX3_run_176 fk_3_44_X3 (Or.inl q1356)) <|
  jcons (jL jC_159 dX3_run_179 rfl) <|
  jcons (jL jC_159 dX3_run_181 rfl) <|
  jcons (jL jC_159 dX3_run_182 rfl) <|
  jcons (jL jC_159 dX3_run_185 rfl) <|
  jcons (jL jC_159 dX3_run_186 rfl) <|
  jcons (jL jC_159 dX3_run_188 rfl) <|
  jcons (jL jC_159 dX3_run_191 rfl) <|
  jnil
theorem jt_159_3 : ∀ q ∈ tcX3_run_3, sJ jnw jao 159 q.1 q.2.1 q.2.2 :=
  jcons (jG jC_159 jY_159 dX3_run_192 fk_3_44_X3 (Or.inl q1356)) <|
  jcons (jL jC_159 dX3_run_195 rfl) <|
  jcons (jL jC_159 dX3_run_197 rfl) <|
  jcons (jL jC_159 dX3_run_198 rfl) <|
  jcons (jL jC_159 dX3_run_199 rfl) <|
  jcons (jL jC_159 dX3_run_200 rfl) <|
  jcons (jL jC_159 dX3_run_201 rfl) <|
  jcons (jL jC_159 dX3_run_202 rfl) <|
  jcons (jL jC_159 dX3_run_205 rfl) <|
  jcons (jL jC_159 dX3_run_207 rfl) <|
  jcons (jG jC_159 jY_159 dX3_run_208 fk_3_48_X3 (Or.inl q1360)) <|
  jcons (jL jC_159 dX3_run_211 rfl) <|
  jcons (jG jC_159 jY_159 dX3_run_212 fk_3_47_X3 (Or.inl q1359)) <|
  jcons (jL jC_159 dX3_run_215 rfl) <|
  jcons (jL jC_159 dX3_run_216 rfl) <|
  jcons (jL jC_159 dX3_run_218 rfl) <|
  jcons (j4V jC_159 jY_159 dX3_run_220 (jc_161 _) q1854 pd_161 (Or.inl q1852) (fun c r h1 h2 => js_175 c r h1 h2)) <|
  jcons (jL jC_159 dX3_run_223 rfl) <|
  jcons (jL jC_159 dX3_run_224 rfl) <|
  jcons (jL jC_159 dX3_run_225 rfl) <|
  jcons (jL jC_159 dX3_run_226 rfl) <|
  jcons (jL jC_159 dX3_run_228 rfl) <|
  jcons (j3 jC_159 jY_159 dX3_run_229 q1856) <|
  jcons (jL jC_159 dX3_run_232 rfl) <|
  jcons (j3 jC_159 jY_159 dX3_run_233 q1857) <|
  jcons (jL jC_159 dX3_run_236 rfl) <|
  jcons (jL jC_159 dX3_run_237 rfl) <|
  jcons (jL jC_159 dX3_run_238 rfl) <|
  jcons (jL jC_159 dX3_run_239 rfl) <|
  jcons (jL jC_159 dX3_run_241 rfl) <|
  jcons (j3 jC_159 jY_159 dX3_run_242 q1858) <|
  jcons (jL jC_159 dX3_run_245 rfl) <|
  jcons (jL jC_159 dX3_run_246 rfl) <|
  jcons (jG jC_159 jY_159 dX3_run_247 fk_3_3_X3 (Or.inl q1315)) <|
  jcons (jL jC_159 dX3_run_250 rfl) <|
  jcons (jL jC_159 dX3_run_252 rfl) <|
  jcons (jL jC_159 dX3_run_253 rfl) <|
  jcons (jL jC_159 dX3_run_254 rfl) <|
  jcons (jL jC_159 dX3_run_255 rfl) <|
  jnil
theorem jt_159_4 : ∀ q ∈ tcX3_run_4, sJ jnw jao 159 q.1 q.2.1 q.2.2 :=
  jcons (jL jC_159 dX3_run_258 rfl) <|
  jcons (jL jC_159 dX3_run_259 rfl) <|
  jcons (jL jC_159 dX3_run_262 rfl) <|
  jcons (jL jC_159 dX3_run_263 rfl) <|
  jcons (jL jC_159 dX3_run_265 rfl) <|
  jcons (jL jC_159 dX3_run_268 rfl) <|
  jcons (jL jC_159 dX3_run_271 rfl) <|
  jcons (jL jC_159 dX3_run_274 rfl) <|
  jcons (jG jC_159 jY_159 dX3_run_275 fk_3_43_X3 (Or.inl q1355)) <|
  jcons (jL jC_159 dX3_run_278 rfl) <|
  jcons (jL jC_159 dX3_run_279 rfl) <|
  jcons (jL jC_159 dX3_run_281 rfl) <|
  jcons (jL jC_159 dX3_run_282 rfl) <|
  jcons (jL jC_159 dX3_run_284 rfl) <|
  jcons (jL jC_159 dX3_run_285 rfl) <|
  jcons (jG jC_159 jY_159 dX3_run_286 fk_3_43_X3 (Or.inl q1355)) <|
  jcons (jL jC_159 dX3_run_289 rfl) <|
  jcons (jL jC_159 dX3_run_290 rfl) <|
  jcons (jL jC_159 dX3_run_292 rfl) <|
  jcons (jL jC_159 dX3_run_293 rfl) <|
  jcons (jL jC_159 dX3_run_294 rfl) <|
  jcons (jL jC_159 dX3_run_295 rfl) <|
  jcons (jL jC_159 dX3_run_297 rfl) <|
  jcons (jL jC_159 dX3_run_298 rfl) <|
  jcons (jG jC_159 jY_159 dX3_run_299 fk_3_43_X3 (Or.inl q1355)) <|
  jcons (jL jC_159 dX3_run_302 rfl) <|
  jcons (jL jC_159 dX3_run_303 rfl) <|
  jcons (jL jC_159 dX3_run_305 rfl) <|
  jcons (jL jC_159 dX3_run_306 rfl) <|
  jcons (jL jC_159 dX3_run_307 rfl) <|
  jcons (jL jC_159 dX3_run_308 rfl) <|
  jcons (jL jC_159 dX3_run_310 rfl) <|
  jcons (jL jC_159 dX3_run_311 rfl) <|
  jcons (jL jC_159 dX3_run_313 rfl) <|
  jcons (jL jC_159 dX3_run_315 rfl) <|
  jcons (jL jC_159 dX3_run_318 rfl) <|
  jcons (jL jC_159 dX3_run_319 rfl) <|
  jnil
theorem jt_159_5 : ∀ q ∈ tcX3_run_5, sJ jnw jao 159 q.1 q.2.1 q.2.2 :=
  jcons (jL jC_159 dX3_run_322 rfl) <|
  jcons (jL jC_159 dX3_run_323 rfl) <|
  jcons (jL jC_159 dX3_run_324 rfl) <|
  jcons (jL jC_159 dX3_run_326 rfl) <|
  jcons (jL jC_159 dX3_run_328 rfl) <|
  jcons (jL jC_159 dX3_run_330 rfl) <|
  jcons (jL jC_159 dX3_run_333 rfl) <|
  jcons (jL jC_159 dX3_run_336 rfl) <|
  jcons (jL jC_159 dX3_run_337 rfl) <|
  jcons (jG jC_159 jY_159 dX3_run_338 fk_3_45_X3 (Or.inl q1357)) <|
  jcons (jPu jC_159 jY_159 dX3_run_341 fk_3_46_X3 ap_3_46 (fn_3_46 _) (Or.inl q1358) (tyX3_ok 46 (by decide)) (Or.inl ⟨rfl, rfl⟩)) <|
  jcons (jL jC_159 dX3_run_344 rfl) <|
  jcons (jL jC_159 dX3_run_346 rfl) <|
  jnil
theorem jm_159 : ∀ l ∈ tbX3_run, ∀ q ∈ l, sJ jnw jao 159 q.1 q.2.1 q.2.2 := jmc jt_159_0 <| jmc jt_159_1 <| jmc jt_159_2 <| jmc jt_159_3 <| jmc jt_159_4 <| jmc jt_159_5 <| jmn
theorem jt_160_0 : ∀ q ∈ tcX3_isThere_0, sJ jnw jao 160 q.1 q.2.1 q.2.2 :=
  jcons (jL jC_160 dX3_isThere_0 rfl) <|
  jcons (jL jC_160 dX3_isThere_1 rfl) <|
  jcons (jL jC_160 dX3_isThere_2 rfl) <|
  jcons (jL jC_160 dX3_isThere_3 rfl) <|
  jcons (jG jC_160 jY_160 dX3_isThere_4 fk_3_5_X3 (Or.inl q1317)) <|
  jcons (jL jC_160 dX3_isThere_7 rfl) <|
  jcons (jL jC_160 dX3_isThere_10 rfl) <|
  jcons (jL jC_160 dX3_isThere_11 rfl) <|
  jcons (jL jC_160 dX3_isThere_12 rfl) <|
  jcons (jL jC_160 dX3_isThere_13 rfl) <|
  jcons (jL jC_160 dX3_isThere_15 rfl) <|
  jcons (jL jC_160 dX3_isThere_17 rfl) <|
  jcons (jG jC_160 jY_160 dX3_isThere_18 fk_3_11_X3 (Or.inl q1323)) <|
  jcons (jL jC_160 dX3_isThere_21 rfl) <|
  jcons (jL jC_160 dX3_isThere_22 rfl) <|
  jcons (jL jC_160 dX3_isThere_23 rfl) <|
  jcons (jL jC_160 dX3_isThere_26 rfl) <|
  jcons (jL jC_160 dX3_isThere_27 rfl) <|
  jcons (jG jC_160 jY_160 dX3_isThere_28 fk_3_12_X3 (Or.inl q1324)) <|
  jcons (jL jC_160 dX3_isThere_31 rfl) <|
  jcons (jL jC_160 dX3_isThere_33 rfl) <|
  jcons (jL jC_160 dX3_isThere_34 rfl) <|
  jcons (jL jC_160 dX3_isThere_35 rfl) <|
  jcons (jL jC_160 dX3_isThere_37 rfl) <|
  jcons (jL jC_160 dX3_isThere_38 rfl) <|
  jcons (jL jC_160 dX3_isThere_39 rfl) <|
  jcons (jL jC_160 dX3_isThere_40 rfl) <|
  jcons (jL jC_160 dX3_isThere_43 rfl) <|
  jcons (jL jC_160 dX3_isThere_44 rfl) <|
  jcons (jL jC_160 dX3_isThere_47 rfl) <|
  jcons (jL jC_160 dX3_isThere_48 rfl) <|
  jcons (jL jC_160 dX3_isThere_49 rfl) <|
  jcons (jL jC_160 dX3_isThere_50 rfl) <|
  jcons (jL jC_160 dX3_isThere_53 rfl) <|
  jcons (jL jC_160 dX3_isThere_56 rfl) <|
  jcons (jG jC_160 jY_160 dX3_isThere_57 fk_3_44_X3 (Or.inl q1356)) <|
  jcons (jL jC_160 dX3_isThere_60 rfl) <|
  jcons (jL jC_160 dX3_isThere_61 rfl) <|
  jcons (jL jC_160 dX3_isThere_62 rfl) <|
  jcons (jL jC_160 dX3_isThere_63 rfl) <|
  jnil
theorem jt_160_1 : ∀ q ∈ tcX3_isThere_1, sJ jnw jao 160 q.1 q.2.1 q.2.2 :=
  jcons (jL jC_160 dX3_isThere_66 rfl) <|
  jcons (jL jC_160 dX3_isThere_67 rfl) <|
  jcons (jL jC_160 dX3_isThere_68 rfl) <|
  jcons (jL jC_160 dX3_isThere_71 rfl) <|
  jcons (jL jC_160 dX3_isThere_74 rfl) <|
  jcons (jL jC_160 dX3_isThere_75 rfl) <|
  jnil
theorem jm_160 : ∀ l ∈ tbX3_isThere, ∀ q ∈ l, sJ jnw jao 160 q.1 q.2.1 q.2.2 := jmc jt_160_0 <| jmc jt_160_1 <| jmn
theorem jt_161_0 : ∀ q ∈ tcX3_inBalloon_0, sJ jnw jao 161 q.1 q.2.1 q.2.2 :=
  jcons (jL jC_161 dX3_inBalloon_0 rfl) <|
  jcons (jL jC_161 dX3_inBalloon_1 rfl) <|
  jcons (jL jC_161 dX3_inBalloon_2 rfl) <|
  jcons (jL jC_161 dX3_inBalloon_3 rfl) <|
  jcons (jL jC_161 dX3_inBalloon_5 rfl) <|
  jcons (jL jC_161 dX3_inBalloon_7 rfl) <|
  jcons (jG jC_161 jY_161 dX3_inBalloon_8 fk_3_13_X3 (Or.inl q1325)) <|
  jcons (jL jC_161 dX3_inBalloon_11 rfl) <|
  jcons (jL jC_161 dX3_inBalloon_12 rfl) <|
  jcons (jL jC_161 dX3_inBalloon_13 rfl) <|
  jcons (jL jC_161 dX3_inBalloon_16 rfl) <|
  jcons (jL jC_161 dX3_inBalloon_17 rfl) <|
  jcons (jG jC_161 jY_161 dX3_inBalloon_18 fk_3_18_X3 (Or.inl q1330)) <|
  jcons (jL jC_161 dX3_inBalloon_21 rfl) <|
  jcons (jL jC_161 dX3_inBalloon_23 rfl) <|
  jcons (jL jC_161 dX3_inBalloon_24 rfl) <|
  jcons (jL jC_161 dX3_inBalloon_25 rfl) <|
  jcons (jL jC_161 dX3_inBalloon_27 rfl) <|
  jcons (jL jC_161 dX3_inBalloon_28 rfl) <|
  jcons (jL jC_161 dX3_inBalloon_29 rfl) <|
  jcons (jL jC_161 dX3_inBalloon_30 rfl) <|
  jcons (jL jC_161 dX3_inBalloon_33 rfl) <|
  jcons (jL jC_161 dX3_inBalloon_34 rfl) <|
  jcons (jL jC_161 dX3_inBalloon_37 rfl) <|
  jcons (jL jC_161 dX3_inBalloon_38 rfl) <|
  jcons (jL jC_161 dX3_inBalloon_39 rfl) <|
  jcons (jL jC_161 dX3_inBalloon_40 rfl) <|
  jcons (jL jC_161 dX3_inBalloon_43 rfl) <|
  jcons (jL jC_161 dX3_inBalloon_46 rfl) <|
  jcons (jL jC_161 dX3_inBalloon_47 rfl) <|
  jnil
theorem jm_161 : ∀ l ∈ tbX3_inBalloon, ∀ q ∈ l, sJ jnw jao 161 q.1 q.2.1 q.2.2 := jmc jt_161_0 <| jmn
theorem jt_162_0 : ∀ q ∈ tcX3_guest_0, sJ jnw jao 162 q.1 q.2.1 q.2.2 :=
  jcons (jL jC_162 dX3_guest_0 rfl) <|
  jcons (jL jC_162 dX3_guest_1 rfl) <|
  jcons (jL jC_162 dX3_guest_2 rfl) <|
  jcons (jL jC_162 dX3_guest_3 rfl) <|
  jcons (jG jC_162 jY_162 dX3_guest_4 fk_3_46_X3 (Or.inl q1358)) <|
  jcons (jL jC_162 dX3_guest_7 rfl) <|
  jcons (jL jC_162 dX3_guest_8 rfl) <|
  jcons (j4S jC_162 jY_162 dX3_guest_9 (jc_69 _) q1480 pd_69 (Or.inl q1479)) <|
  jcons (jL jC_162 dX3_guest_12 rfl) <|
  jcons (jL jC_162 dX3_guest_15 rfl) <|
  jcons (jL jC_162 dX3_guest_16 rfl) <|
  jcons (jL jC_162 dX3_guest_17 rfl) <|
  jcons (j4S jC_162 jY_162 dX3_guest_18 (jc_69 _) q1480 pd_69 (Or.inl q1479)) <|
  jcons (jL jC_162 dX3_guest_21 rfl) <|
  jcons (jL jC_162 dX3_guest_24 rfl) <|
  jcons (jL jC_162 dX3_guest_25 rfl) <|
  jcons (jL jC_162 dX3_guest_28 rfl) <|
  jcons (jPu jC_162 jY_162 dX3_guest_29 fk_3_0_X3 ap_3_0 (fn_3_0 _) (Or.inl q1312) (tyX3_ok 0 (by decide)) (Or.inl ⟨rfl, rfl⟩)) <|
  jcons (jL jC_162 dX3_guest_32 rfl) <|
  jcons (jG jC_162 jY_162 dX3_guest_33 fk_3_0_X3 (Or.inl q1312)) <|
  jcons (jL jC_162 dX3_guest_36 rfl) <|
  jcons (jL jC_162 dX3_guest_37 rfl) <|
  jcons (jL jC_162 dX3_guest_40 rfl) <|
  jcons (jL jC_162 dX3_guest_41 rfl) <|
  jcons (jL jC_162 dX3_guest_44 rfl) <|
  jcons (jG jC_162 jY_162 dX3_guest_45 fk_3_43_X3 (Or.inl q1355)) <|
  jcons (jL jC_162 dX3_guest_48 rfl) <|
  jcons (jL jC_162 dX3_guest_49 rfl) <|
  jcons (jL jC_162 dX3_guest_50 rfl) <|
  jcons (jL jC_162 dX3_guest_51 rfl) <|
  jcons (jL jC_162 dX3_guest_52 rfl) <|
  jcons (jL jC_162 dX3_guest_53 rfl) <|
  jcons (jL jC_162 dX3_guest_54 rfl) <|
  jnil
theorem jm_162 : ∀ l ∈ tbX3_guest, ∀ q ∈ l, sJ jnw jao 162 q.1 q.2.1 q.2.2 := jmc jt_162_0 <| jmn
theorem jt_163_0 : ∀ q ∈ tcX3_aged_0, sJ jnw jao 163 q.1 q.2.1 q.2.2 :=
  jcons (jL jC_163 dX3_aged_0 rfl) <|
  jcons (jL jC_163 dX3_aged_1 rfl) <|
  jcons (jL jC_163 dX3_aged_2 rfl) <|
  jcons (j4V jC_163 jY_163 dX3_aged_4 (jc_115 _) q1666 pd_115 (Or.inl q1664) (fun c r h1 h2 => js_151 c r h1 h2)) <|
  jcons (jL jC_163 dX3_aged_7 rfl) <|
  jcons (jL jC_163 dX3_aged_10 rfl) <|
  jcons (jL jC_163 dX3_aged_11 rfl) <|
  jcons (jL jC_163 dX3_aged_12 rfl) <|
  jcons (jG jC_163 jY_163 dX3_aged_13 fk_3_31_X3 (Or.inl q1343)) <|
  jcons (jL jC_163 dX3_aged_16 rfl) <|
  jcons (jL jC_163 dX3_aged_17 rfl) <|
  jcons (j4S jC_163 jY_163 dX3_aged_18 (jc_69 _) q1480 pd_69 (Or.inl q1479)) <|
  jcons (jL jC_163 dX3_aged_21 rfl) <|
  jcons (jL jC_163 dX3_aged_24 rfl) <|
  jcons (jL jC_163 dX3_aged_25 rfl) <|
  jcons (jL jC_163 dX3_aged_26 rfl) <|
  jcons (j4S jC_163 jY_163 dX3_aged_28 (jc_69 _) q1480 pd_69 (Or.inl q1479)) <|
  jcons (jL jC_163 dX3_aged_31 rfl) <|
  jcons (jL jC_163 dX3_aged_34 rfl) <|
  jcons (jL jC_163 dX3_aged_35 rfl) <|
  jcons (jL jC_163 dX3_aged_36 rfl) <|
  jcons (jL jC_163 dX3_aged_37 rfl) <|
  jcons (j4V jC_163 jY_163 dX3_aged_38 (jc_164 _) q1869 pd_164 (Or.inl q1867) (fun c r h1 h2 => js_176 c r h1 h2)) <|
  jcons (jL jC_163 dX3_aged_41 rfl) <|
  jcons (jL jC_163 dX3_aged_42 rfl) <|
  jcons (jL jC_163 dX3_aged_44 rfl) <|
  jcons (jL jC_163 dX3_aged_46 rfl) <|
  jcons (jL jC_163 dX3_aged_47 rfl) <|
  jcons (jL jC_163 dX3_aged_50 rfl) <|
  jcons (jL jC_163 dX3_aged_51 rfl) <|
  jcons (jL jC_163 dX3_aged_52 rfl) <|
  jcons (jL jC_163 dX3_aged_53 rfl) <|
  jcons (j4V jC_163 jY_163 dX3_aged_55 (jc_165 _) q1873 pd_165 (Or.inl q1871) (fun c r h1 h2 => js_177 c r h1 h2)) <|
  jcons (jL jC_163 dX3_aged_58 rfl) <|
  jcons (jL jC_163 dX3_aged_61 rfl) <|
  jnil
theorem jt_163_1 : ∀ q ∈ tcX3_aged_1, sJ jnw jao 163 q.1 q.2.1 q.2.2 :=
  jcons (jL jC_163 dX3_aged_64 rfl) <|
  jcons (jG jC_163 jY_163 dX3_aged_65 fk_3_49_X3 (Or.inl q1361)) <|
  jcons (jL jC_163 dX3_aged_68 rfl) <|
  jcons (jL jC_163 dX3_aged_70 rfl) <|
  jcons (jL jC_163 dX3_aged_71 rfl) <|
  jnil
theorem jm_163 : ∀ l ∈ tbX3_aged, ∀ q ∈ l, sJ jnw jao 163 q.1 q.2.1 q.2.2 := jmc jt_163_0 <| jmc jt_163_1 <| jmn
theorem jt_164_0 : ∀ q ∈ tcX3_startAging_0, sJ jnw jao 164 q.1 q.2.1 q.2.2 :=
  jcons (jL jC_164 dX3_startAging_0 rfl) <|
  jcons (jL jC_164 dX3_startAging_1 rfl) <|
  jcons (jL jC_164 dX3_startAging_2 rfl) <|
  jcons (j4V jC_164 jY_164 dX3_startAging_3 (jc_111 _) q1650 pd_111 (Or.inl q1648) (fun c r h1 h2 => js_148 c r h1 h2)) <|
  jcons (jPu jC_164 jY_164 dX3_startAging_6 fk_3_51_X3 ap_3_51 (fn_3_51 _) (Or.inl q1363) (tyX3_ok 51 (by decide)) (Or.inl ⟨rfl, rfl⟩)) <|
  jcons (jL jC_164 dX3_startAging_9 rfl) <|
  jcons (jL jC_164 dX3_startAging_10 rfl) <|
  jcons (jL jC_164 dX3_startAging_11 rfl) <|
  jcons (jL jC_164 dX3_startAging_12 rfl) <|
  jcons (jG jC_164 jY_164 dX3_startAging_13 fk_3_13_X3 (Or.inl q1325)) <|
  jcons (jL jC_164 dX3_startAging_16 rfl) <|
  jcons (jL jC_164 dX3_startAging_17 rfl) <|
  jcons (jL jC_164 dX3_startAging_18 rfl) <|
  jcons (jL jC_164 dX3_startAging_21 rfl) <|
  jcons (jG jC_164 jY_164 dX3_startAging_22 fk_3_49_X3 (Or.inl q1361)) <|
  jcons (jL jC_164 dX3_startAging_25 rfl) <|
  jcons (jL jC_164 dX3_startAging_26 rfl) <|
  jcons (jG jC_164 jY_164 dX3_startAging_27 fk_3_15_X3 (Or.inl q1327)) <|
  jcons (jL jC_164 dX3_startAging_30 rfl) <|
  jcons (jL jC_164 dX3_startAging_32 rfl) <|
  jcons (jL jC_164 dX3_startAging_33 rfl) <|
  jcons (jL jC_164 dX3_startAging_34 rfl) <|
  jcons (jL jC_164 dX3_startAging_35 rfl) <|
  jcons (jL jC_164 dX3_startAging_36 rfl) <|
  jcons (jL jC_164 dX3_startAging_37 rfl) <|
  jcons (jL jC_164 dX3_startAging_38 rfl) <|
  jcons (jL jC_164 dX3_startAging_41 rfl) <|
  jcons (jL jC_164 dX3_startAging_44 rfl) <|
  jnil
theorem jm_164 : ∀ l ∈ tbX3_startAging, ∀ q ∈ l, sJ jnw jao 164 q.1 q.2.1 q.2.2 := jmc jt_164_0 <| jmn
theorem jt_165_0 : ∀ q ∈ tcX3_age_0, sJ jnw jao 165 q.1 q.2.1 q.2.2 :=
  jcons (jL jC_165 dX3_age_0 rfl) <|
  jcons (jL jC_165 dX3_age_1 rfl) <|
  jcons (jL jC_165 dX3_age_3 rfl) <|
  jcons (jL jC_165 dX3_age_5 rfl) <|
  jcons (jG jC_165 jY_165 dX3_age_6 fk_3_13_X3 (Or.inl q1325)) <|
  jcons (jL jC_165 dX3_age_9 rfl) <|
  jcons (jL jC_165 dX3_age_10 rfl) <|
  jcons (jL jC_165 dX3_age_11 rfl) <|
  jcons (jL jC_165 dX3_age_14 rfl) <|
  jcons (jG jC_165 jY_165 dX3_age_15 fk_3_51_X3 (Or.inl q1363)) <|
  jcons (jL jC_165 dX3_age_18 rfl) <|
  jcons (jL jC_165 dX3_age_20 rfl) <|
  jcons (jL jC_165 dX3_age_21 rfl) <|
  jcons (jL jC_165 dX3_age_22 rfl) <|
  jcons (jL jC_165 dX3_age_23 rfl) <|
  jcons (jL jC_165 dX3_age_24 rfl) <|
  jcons (jL jC_165 dX3_age_27 rfl) <|
  jcons (jL jC_165 dX3_age_29 rfl) <|
  jcons (jL jC_165 dX3_age_30 rfl) <|
  jcons (jL jC_165 dX3_age_31 rfl) <|
  jcons (jL jC_165 dX3_age_33 rfl) <|
  jcons (jL jC_165 dX3_age_34 rfl) <|
  jcons (jL jC_165 dX3_age_36 rfl) <|
  jcons (jG jC_165 jY_165 dX3_age_37 fk_3_12_X3 (Or.inl q1324)) <|
  jcons (jL jC_165 dX3_age_40 rfl) <|
  jcons (jL jC_165 dX3_age_42 rfl) <|
  jcons (jL jC_165 dX3_age_43 rfl) <|
  jcons (jL jC_165 dX3_age_44 rfl) <|
  jcons (jG jC_165 jY_165 dX3_age_45 fk_3_18_X3 (Or.inl q1330)) <|
  jcons (jL jC_165 dX3_age_48 rfl) <|
  jcons (jL jC_165 dX3_age_50 rfl) <|
  jcons (jL jC_165 dX3_age_51 rfl) <|
  jcons (jL jC_165 dX3_age_52 rfl) <|
  jcons (jL jC_165 dX3_age_53 rfl) <|
  jcons (jL jC_165 dX3_age_55 rfl) <|
  jcons (jL jC_165 dX3_age_56 rfl) <|
  jcons (jL jC_165 dX3_age_57 rfl) <|
  jcons (jG jC_165 jY_165 dX3_age_58 fk_3_16_X3 (Or.inl q1328)) <|
  jcons (jL jC_165 dX3_age_61 rfl) <|
  jcons (jL jC_165 dX3_age_63 rfl) <|
  jnil
theorem jt_165_1 : ∀ q ∈ tcX3_age_1, sJ jnw jao 165 q.1 q.2.1 q.2.2 :=
  jcons (jL jC_165 dX3_age_64 rfl) <|
  jcons (jG jC_165 jY_165 dX3_age_65 fk_3_51_X3 (Or.inl q1363)) <|
  jcons (j4V jC_165 jY_165 dX3_age_68 (jc_112 _) q1654 pd_112 (Or.inl q1652) (fun c r h1 h2 => js_150 c r h1 h2)) <|
  jcons (jL jC_165 dX3_age_71 rfl) <|
  jcons (jL jC_165 dX3_age_72 rfl) <|
  jcons (jL jC_165 dX3_age_73 rfl) <|
  jcons (jG jC_165 jY_165 dX3_age_74 fk_3_17_X3 (Or.inl q1329)) <|
  jcons (jL jC_165 dX3_age_77 rfl) <|
  jcons (jL jC_165 dX3_age_79 rfl) <|
  jcons (jL jC_165 dX3_age_80 rfl) <|
  jcons (jG jC_165 jY_165 dX3_age_81 fk_3_51_X3 (Or.inl q1363)) <|
  jcons (j4V jC_165 jY_165 dX3_age_84 (jc_112 _) q1654 pd_112 (Or.inl q1652) (fun c r h1 h2 => js_150 c r h1 h2)) <|
  jcons (jL jC_165 dX3_age_87 rfl) <|
  jcons (jL jC_165 dX3_age_88 rfl) <|
  jcons (jL jC_165 dX3_age_90 rfl) <|
  jcons (jG jC_165 jY_165 dX3_age_91 fk_3_50_X3 (Or.inl q1362)) <|
  jcons (jL jC_165 dX3_age_94 rfl) <|
  jcons (jL jC_165 dX3_age_96 rfl) <|
  jcons (jL jC_165 dX3_age_97 rfl) <|
  jcons (jG jC_165 jY_165 dX3_age_98 fk_3_49_X3 (Or.inl q1361)) <|
  jcons (jL jC_165 dX3_age_101 rfl) <|
  jcons (jL jC_165 dX3_age_103 rfl) <|
  jcons (jL jC_165 dX3_age_104 rfl) <|
  jcons (jL jC_165 dX3_age_105 rfl) <|
  jcons (jL jC_165 dX3_age_106 rfl) <|
  jcons (jG jC_165 jY_165 dX3_age_107 fk_3_49_X3 (Or.inl q1361)) <|
  jcons (jL jC_165 dX3_age_110 rfl) <|
  jcons (jL jC_165 dX3_age_112 rfl) <|
  jcons (jL jC_165 dX3_age_113 rfl) <|
  jcons (jL jC_165 dX3_age_114 rfl) <|
  jcons (jL jC_165 dX3_age_116 rfl) <|
  jcons (jG jC_165 jY_165 dX3_age_117 fk_3_2_X3 (Or.inl q1314)) <|
  jcons (jL jC_165 dX3_age_120 rfl) <|
  jcons (jL jC_165 dX3_age_122 rfl) <|
  jcons (jL jC_165 dX3_age_123 rfl) <|
  jcons (jG jC_165 jY_165 dX3_age_124 fk_3_1_X3 (Or.inl q1313)) <|
  jcons (jL jC_165 dX3_age_127 rfl) <|
  jnil
theorem jt_165_2 : ∀ q ∈ tcX3_age_2, sJ jnw jao 165 q.1 q.2.1 q.2.2 :=
  jcons (jL jC_165 dX3_age_129 rfl) <|
  jcons (j4V jC_165 jY_165 dX3_age_130 (jc_103 _) q1615 pd_103 (Or.inl q1613) (fun c r h1 h2 => js_143 c r h1 h2)) <|
  jcons (j14 jC_165 jY_165 dX3_age_133 q1545) <|
  jcons (j14 jC_165 jY_165 dX3_age_136 q1540) <|
  jcons (jL jC_165 dX3_age_139 rfl) <|
  jcons (jL jC_165 dX3_age_140 rfl) <|
  jcons (jL jC_165 dX3_age_143 rfl) <|
  jcons (jG jC_165 jY_165 dX3_age_144 fk_3_50_X3 (Or.inl q1362)) <|
  jcons (jL jC_165 dX3_age_147 rfl) <|
  jcons (jL jC_165 dX3_age_149 rfl) <|
  jcons (jL jC_165 dX3_age_150 rfl) <|
  jcons (jL jC_165 dX3_age_151 rfl) <|
  jcons (jL jC_165 dX3_age_154 rfl) <|
  jcons (jL jC_165 dX3_age_157 rfl) <|
  jcons (jG jC_165 jY_165 dX3_age_158 fk_3_51_X3 (Or.inl q1363)) <|
  jcons (jL jC_165 dX3_age_161 rfl) <|
  jcons (jL jC_165 dX3_age_163 rfl) <|
  jcons (jL jC_165 dX3_age_164 rfl) <|
  jcons (jL jC_165 dX3_age_166 rfl) <|
  jcons (jL jC_165 dX3_age_168 rfl) <|
  jcons (jG jC_165 jY_165 dX3_age_169 fk_3_13_X3 (Or.inl q1325)) <|
  jcons (jL jC_165 dX3_age_172 rfl) <|
  jcons (jL jC_165 dX3_age_173 rfl) <|
  jcons (jL jC_165 dX3_age_174 rfl) <|
  jcons (jL jC_165 dX3_age_177 rfl) <|
  jcons (jG jC_165 jY_165 dX3_age_178 fk_3_49_X3 (Or.inl q1361)) <|
  jcons (jL jC_165 dX3_age_181 rfl) <|
  jcons (jL jC_165 dX3_age_183 rfl) <|
  jcons (jL jC_165 dX3_age_184 rfl) <|
  jcons (jL jC_165 dX3_age_185 rfl) <|
  jcons (jG jC_165 jY_165 dX3_age_186 fk_3_50_X3 (Or.inl q1362)) <|
  jcons (jL jC_165 dX3_age_189 rfl) <|
  jcons (jL jC_165 dX3_age_191 rfl) <|
  jnil
theorem jt_165_3 : ∀ q ∈ tcX3_age_3, sJ jnw jao 165 q.1 q.2.1 q.2.2 :=
  jcons (jL jC_165 dX3_age_192 rfl) <|
  jcons (jL jC_165 dX3_age_193 rfl) <|
  jcons (jL jC_165 dX3_age_194 rfl) <|
  jcons (jL jC_165 dX3_age_196 rfl) <|
  jcons (jG jC_165 jY_165 dX3_age_197 fk_3_49_X3 (Or.inl q1361)) <|
  jcons (jL jC_165 dX3_age_200 rfl) <|
  jcons (jL jC_165 dX3_age_202 rfl) <|
  jcons (jL jC_165 dX3_age_203 rfl) <|
  jcons (jL jC_165 dX3_age_206 rfl) <|
  jcons (jL jC_165 dX3_age_207 rfl) <|
  jcons (jL jC_165 dX3_age_209 rfl) <|
  jcons (jL jC_165 dX3_age_210 rfl) <|
  jcons (jL jC_165 dX3_age_211 rfl) <|
  jcons (jL jC_165 dX3_age_212 rfl) <|
  jcons (jL jC_165 dX3_age_215 rfl) <|
  jcons (jL jC_165 dX3_age_216 rfl) <|
  jcons (jL jC_165 dX3_age_217 rfl) <|
  jcons (jL jC_165 dX3_age_219 rfl) <|
  jcons (jL jC_165 dX3_age_222 rfl) <|
  jcons (jL jC_165 dX3_age_225 rfl) <|
  jcons (jL jC_165 dX3_age_226 rfl) <|
  jcons (jL jC_165 dX3_age_227 rfl) <|
  jcons (jL jC_165 dX3_age_228 rfl) <|
  jcons (j4V jC_165 jY_165 dX3_age_230 (jc_131 _) q1730 pd_131 (Or.inl q1728) (fun c r h1 h2 => js_159 c r h1 h2)) <|
  jcons (jPu jC_165 jY_165 dX3_age_233 fk_3_51_X3 ap_3_51 (fn_3_51 _) (Or.inl q1363) (tyX3_ok 51 (by decide)) (Or.inl ⟨rfl, rfl⟩)) <|
  jcons (jL jC_165 dX3_age_236 rfl) <|
  jcons (jL jC_165 dX3_age_237 rfl) <|
  jcons (jL jC_165 dX3_age_239 rfl) <|
  jcons (jL jC_165 dX3_age_241 rfl) <|
  jcons (jG jC_165 jY_165 dX3_age_242 fk_3_13_X3 (Or.inl q1325)) <|
  jcons (jL jC_165 dX3_age_245 rfl) <|
  jcons (jL jC_165 dX3_age_246 rfl) <|
  jcons (jL jC_165 dX3_age_247 rfl) <|
  jcons (jL jC_165 dX3_age_250 rfl) <|
  jcons (jG jC_165 jY_165 dX3_age_251 fk_3_49_X3 (Or.inl q1361)) <|
  jcons (jL jC_165 dX3_age_254 rfl) <|
  jnil
theorem jt_165_4 : ∀ q ∈ tcX3_age_4, sJ jnw jao 165 q.1 q.2.1 q.2.2 :=
  jcons (jL jC_165 dX3_age_256 rfl) <|
  jcons (jG jC_165 jY_165 dX3_age_257 fk_3_51_X3 (Or.inl q1363)) <|
  jcons (jL jC_165 dX3_age_260 rfl) <|
  jcons (jL jC_165 dX3_age_262 rfl) <|
  jcons (jL jC_165 dX3_age_263 rfl) <|
  jcons (jL jC_165 dX3_age_264 rfl) <|
  jcons (jL jC_165 dX3_age_265 rfl) <|
  jcons (jL jC_165 dX3_age_266 rfl) <|
  jcons (jL jC_165 dX3_age_269 rfl) <|
  jcons (jG jC_165 jY_165 dX3_age_270 fk_3_49_X3 (Or.inl q1361)) <|
  jcons (jL jC_165 dX3_age_273 rfl) <|
  jcons (jL jC_165 dX3_age_275 rfl) <|
  jcons (jL jC_165 dX3_age_276 rfl) <|
  jcons (jL jC_165 dX3_age_279 rfl) <|
  jcons (jL jC_165 dX3_age_280 rfl) <|
  jcons (jL jC_165 dX3_age_281 rfl) <|
  jcons (jL jC_165 dX3_age_284 rfl) <|
  jcons (jL jC_165 dX3_age_287 rfl) <|
  jnil
theorem jm_165 : ∀ l ∈ tbX3_age, ∀ q ∈ l, sJ jnw jao 165 q.1 q.2.1 q.2.2 := jmc jt_165_0 <| jmc jt_165_1 <| jmc jt_165_2 <| jmc jt_165_3 <| jmc jt_165_4 <| jmn
theorem jt_166_0 : ∀ q ∈ tcX3_falls_0, sJ jnw jao 166 q.1 q.2.1 q.2.2 :=
  jcons (jL jC_166 dX3_falls_0 rfl) <|
  jcons (jL jC_166 dX3_falls_1 rfl) <|
  jcons (j4V jC_166 jY_166 dX3_falls_2 (jc_108 _) q1638 pd_108 (Or.inl q1636) (fun c r h1 h2 => js_145 c r h1 h2)) <|
  jcons (jL jC_166 dX3_falls_5 rfl) <|
  jcons (jL jC_166 dX3_falls_8 rfl) <|
  jcons (jL jC_166 dX3_falls_9 rfl) <|
  jcons (jL jC_166 dX3_falls_10 rfl) <|
  jcons (jG jC_166 jY_166 dX3_falls_11 fk_3_31_X3 (Or.inl q1343)) <|
  jcons (jL jC_166 dX3_falls_14 rfl) <|
  jcons (jL jC_166 dX3_falls_15 rfl) <|
  jcons (j4S jC_166 jY_166 dX3_falls_16 (jc_69 _) q1480 pd_69 (Or.inl q1479)) <|
  jcons (jL jC_166 dX3_falls_19 rfl) <|
  jcons (jL jC_166 dX3_falls_22 rfl) <|
  jcons (jL jC_166 dX3_falls_23 rfl) <|
  jcons (jL jC_166 dX3_falls_24 rfl) <|
  jcons (j4S jC_166 jY_166 dX3_falls_25 (jc_69 _) q1480 pd_69 (Or.inl q1479)) <|
  jcons (jL jC_166 dX3_falls_28 rfl) <|
  jcons (jL jC_166 dX3_falls_31 rfl) <|
  jcons (jG jC_166 jY_166 dX3_falls_32 fk_3_13_X3 (Or.inl q1325)) <|
  jcons (jL jC_166 dX3_falls_35 rfl) <|
  jcons (jL jC_166 dX3_falls_36 rfl) <|
  jcons (jL jC_166 dX3_falls_37 rfl) <|
  jcons (jL jC_166 dX3_falls_40 rfl) <|
  jcons (jL jC_166 dX3_falls_41 rfl) <|
  jcons (jL jC_166 dX3_falls_42 rfl) <|
  jcons (jL jC_166 dX3_falls_43 rfl) <|
  jcons (j4V jC_166 jY_166 dX3_falls_44 (jc_164 _) q1869 pd_164 (Or.inl q1867) (fun c r h1 h2 => js_176 c r h1 h2)) <|
  jcons (jL jC_166 dX3_falls_47 rfl) <|
  jcons (jL jC_166 dX3_falls_48 rfl) <|
  jcons (jL jC_166 dX3_falls_50 rfl) <|
  jcons (jL jC_166 dX3_falls_52 rfl) <|
  jcons (jL jC_166 dX3_falls_54 rfl) <|
  jcons (jL jC_166 dX3_falls_57 rfl) <|
  jcons (jL jC_166 dX3_falls_58 rfl) <|
  jcons (jL jC_166 dX3_falls_59 rfl) <|
  jcons (jL jC_166 dX3_falls_60 rfl) <|
  jcons (j4V jC_166 jY_166 dX3_falls_62 (jc_165 _) q1873 pd_165 (Or.inl q1871) (fun c r h1 h2 => js_177 c r h1 h2)) <|
  jnil
theorem jt_166_1 : ∀ q ∈ tcX3_falls_1, sJ jnw jao 166 q.1 q.2.1 q.2.2 :=
  jcons (jL jC_166 dX3_falls_65 rfl) <|
  jcons (jL jC_166 dX3_falls_66 rfl) <|
  jcons (jL jC_166 dX3_falls_69 rfl) <|
  jcons (jG jC_166 jY_166 dX3_falls_70 fk_3_51_X3 (Or.inl q1363)) <|
  jcons (jL jC_166 dX3_falls_73 rfl) <|
  jcons (jL jC_166 dX3_falls_74 rfl) <|
  jcons (j4V jC_166 jY_166 dX3_falls_75 (jc_111 _) q1650 pd_111 (Or.inl q1648) (fun c r h1 h2 => js_148 c r h1 h2)) <|
  jcons (jL jC_166 dX3_falls_78 rfl) <|
  jcons (jL jC_166 dX3_falls_81 rfl) <|
  jcons (jL jC_166 dX3_falls_84 rfl) <|
  jcons (jL jC_166 dX3_falls_85 rfl) <|
  jcons (jL jC_166 dX3_falls_86 rfl) <|
  jcons (jL jC_166 dX3_falls_89 rfl) <|
  jcons (jL jC_166 dX3_falls_90 rfl) <|
  jcons (jL jC_166 dX3_falls_91 rfl) <|
  jcons (jG jC_166 jY_166 dX3_falls_92 fk_3_51_X3 (Or.inl q1363)) <|
  jcons (j4V jC_166 jY_166 dX3_falls_95 (jc_132 _) q1735 pd_132 (Or.inl q1733) (fun c r h1 h2 => js_160 c r h1 h2)) <|
  jcons (jL jC_166 dX3_falls_98 rfl) <|
  jcons (jL jC_166 dX3_falls_99 rfl) <|
  jcons (jL jC_166 dX3_falls_102 rfl) <|
  jcons (jL jC_166 dX3_falls_105 rfl) <|
  jcons (jG jC_166 jY_166 dX3_falls_106 fk_3_51_X3 (Or.inl q1363)) <|
  jcons (jL jC_166 dX3_falls_109 rfl) <|
  jcons (jL jC_166 dX3_falls_112 rfl) <|
  jcons (jL jC_166 dX3_falls_114 rfl) <|
  jcons (jL jC_166 dX3_falls_115 rfl) <|
  jcons (jL jC_166 dX3_falls_118 rfl) <|
  jcons (jL jC_166 dX3_falls_121 rfl) <|
  jcons (jL jC_166 dX3_falls_122 rfl) <|
  jnil
theorem jm_166 : ∀ l ∈ tbX3_falls, ∀ q ∈ l, sJ jnw jao 166 q.1 q.2.1 q.2.2 := jmc jt_166_0 <| jmc jt_166_1 <| jmn
theorem jt_167_0 : ∀ q ∈ tcX3_count_0, sJ jnw jao 167 q.1 q.2.1 q.2.2 :=
  jcons (jL jC_167 dX3_count_0 rfl) <|
  jcons (jL jC_167 dX3_count_1 rfl) <|
  jcons (jL jC_167 dX3_count_36 rfl) <|
  jcons (jG jC_167 jY_167 dX3_count_37 fk_3_5_X3 (Or.inl q1317)) <|
  jcons (jL jC_167 dX3_count_40 rfl) <|
  jcons (jL jC_167 dX3_count_41 rfl) <|
  jcons (jG jC_167 jY_167 dX3_count_42 fk_3_20_X3 (Or.inl q1332)) <|
  jcons (jL jC_167 dX3_count_45 rfl) <|
  jcons (jL jC_167 dX3_count_46 rfl) <|
  jcons (jG jC_167 jY_167 dX3_count_47 fk_3_45_X3 (Or.inl q1357)) <|
  jcons (jL jC_167 dX3_count_50 rfl) <|
  jcons (jL jC_167 dX3_count_51 rfl) <|
  jcons (jG jC_167 jY_167 dX3_count_52 fk_3_7_X3 (Or.inl q1319)) <|
  jcons (jL jC_167 dX3_count_55 rfl) <|
  jcons (jL jC_167 dX3_count_56 rfl) <|
  jcons (jG jC_167 jY_167 dX3_count_57 fk_3_31_X3 (Or.inl q1343)) <|
  jcons (jL jC_167 dX3_count_60 rfl) <|
  jcons (jL jC_167 dX3_count_61 rfl) <|
  jcons (jL jC_167 dX3_count_62 rfl) <|
  jnil
theorem jm_167 : ∀ l ∈ tbX3_count, ∀ q ∈ l, sJ jnw jao 167 q.1 q.2.1 q.2.2 := jmc jt_167_0 <| jmn
theorem jt_168_0 : ∀ q ∈ tcX4_init_0, sJ jnw jao 168 q.1 q.2.1 q.2.2 :=
  jcons (jL jC_168 dX4_init_0 rfl) <|
  jcons (j10 jC_168 jY_168 dX4_init_1 q253) <|
  jcons (jL jC_168 dX4_init_4 rfl) <|
  jcons (jL jC_168 dX4_init_5 rfl) <|
  jcons (jPf jC_168 jY_168 dX4_init_6 fk_4_0_X4 ap_4_0 fn_4_0 q254 rfl (tyX4_ok 0 (by decide)) (Or.inl ⟨rfl, rfl⟩)) <|
  jcons (jL jC_168 dX4_init_9 rfl) <|
  jcons (jL jC_168 dX4_init_10 rfl) <|
  jcons (jPf jC_168 jY_168 dX4_init_11 fk_4_1_X4 ap_4_1 fn_4_1 q256 rfl (tyX4_ok 1 (by decide)) (Or.inl ⟨rfl, rfl⟩)) <|
  jcons (jL jC_168 dX4_init_14 rfl) <|
  jcons (jL jC_168 dX4_init_15 rfl) <|
  jcons (jPf jC_168 jY_168 dX4_init_16 fk_4_2_X4 ap_4_2 fn_4_2 q258 rfl (tyX4_ok 2 (by decide)) (Or.inl ⟨rfl, rfl⟩)) <|
  jcons (jL jC_168 dX4_init_19 rfl) <|
  jnil
theorem jm_168 : ∀ l ∈ tbX4_init, ∀ q ∈ l, sJ jnw jao 168 q.1 q.2.1 q.2.2 := jmc jt_168_0 <| jmn
theorem jt_169_0 : ∀ q ∈ tcX4_strains_0, sJ jnw jao 169 q.1 q.2.1 q.2.2 :=
  jcons (jL jC_169 dX4_strains_0 rfl) <|
  jcons (jL jC_169 dX4_strains_1 rfl) <|
  jcons (jL jC_169 dX4_strains_2 rfl) <|
  jcons (jL jC_169 dX4_strains_5 rfl) <|
  jcons (jG jC_169 jY_169 dX4_strains_6 fk_4_1_X4 (Or.inl q256)) <|
  jcons (jL jC_169 dX4_strains_9 rfl) <|
  jcons (jL jC_169 dX4_strains_10 rfl) <|
  jcons (jL jC_169 dX4_strains_11 rfl) <|
  jcons (jL jC_169 dX4_strains_12 rfl) <|
  jcons (jL jC_169 dX4_strains_13 rfl) <|
  jcons (jL jC_169 dX4_strains_16 rfl) <|
  jcons (jL jC_169 dX4_strains_17 rfl) <|
  jnil
theorem jm_169 : ∀ l ∈ tbX4_strains, ∀ q ∈ l, sJ jnw jao 169 q.1 q.2.1 q.2.2 := jmc jt_169_0 <| jmn
theorem jt_170_0 : ∀ q ∈ tcX5_look_0, sJ jnw jao 170 q.1 q.2.1 q.2.2 :=
  jcons (jL jC_170 dX5_look_0 rfl) <|
  jcons (j4V jC_170 jY_170 dX5_look_1 (jc_171 _) q343 pd_171 (Or.inl q342) (fun c r h1 h2 => js_178 c r h1 h2)) <|
  jcons (jL jC_170 dX5_look_4 rfl) <|
  jcons (jL jC_170 dX5_look_6 rfl) <|
  jcons (jL jC_170 dX5_look_9 rfl) <|
  jcons (jL jC_170 dX5_look_10 rfl) <|
  jcons (jG jC_170 jY_170 dX5_look_11 fk_5_0_X5 (Or.inl q308)) <|
  jcons (jL jC_170 dX5_look_14 rfl) <|
  jcons (jL jC_170 dX5_look_15 rfl) <|
  jcons (jPu jC_170 jY_170 dX5_look_16 fk_5_0_X5 ap_5_0 (fn_5_0 _) (Or.inl q308) (tyX6_ok 0 (by decide)) (Or.inl ⟨rfl, rfl⟩)) <|
  jcons (jL jC_170 dX5_look_19 rfl) <|
  jcons (jL jC_170 dX5_look_22 rfl) <|
  jcons (j4V jC_170 jY_170 dX5_look_23 (jc_171 _) q343 pd_171 (Or.inl q342) (fun c r h1 h2 => js_178 c r h1 h2)) <|
  jcons (jL jC_170 dX5_look_26 rfl) <|
  jnil
theorem jm_170 : ∀ l ∈ tbX5_look, ∀ q ∈ l, sJ jnw jao 170 q.1 q.2.1 q.2.2 := jmc jt_170_0 <| jmn
theorem jt_171_0 : ∀ q ∈ tcX5_here_0, sJ jnw jao 171 q.1 q.2.1 q.2.2 :=
  jcons (jL jC_171 dX5_here_0 rfl) <|
  jcons (jG jC_171 jY_171 dX5_here_1 fk_5_0_X5 (Or.inl q308)) <|
  jcons (jL jC_171 dX5_here_4 rfl) <|
  jcons (jG jC_171 jY_171 dX5_here_5 fk_5_2_X5 (Or.inl q314)) <|
  jcons (jG jC_171 jY_171 dX5_here_8 fk_1_3_X1 (Or.inr ⟨_, jw_q170⟩)) <|
  jcons (jL jC_171 dX5_here_11 rfl) <|
  jcons (jL jC_171 dX5_here_14 rfl) <|
  jcons (jG jC_171 jY_171 dX5_here_15 fk_5_2_X5 (Or.inl q314)) <|
  jcons (jG jC_171 jY_171 dX5_here_18 fk_1_2_X1 (Or.inr ⟨_, jw_q168⟩)) <|
  jcons (jL jC_171 dX5_here_21 rfl) <|
  jcons (jG jC_171 jY_171 dX5_here_22 fk_5_0_X5 (Or.inl q308)) <|
  jcons (jL jC_171 dX5_here_25 rfl) <|
  jcons (jL jC_171 dX5_here_26 rfl) <|
  jcons (jL jC_171 dX5_here_29 rfl) <|
  jcons (jL jC_171 dX5_here_30 rfl) <|
  jcons (jL jC_171 dX5_here_33 rfl) <|
  jcons (jL jC_171 dX5_here_34 rfl) <|
  jnil
theorem jm_171 : ∀ l ∈ tbX5_here, ∀ q ∈ l, sJ jnw jao 171 q.1 q.2.1 q.2.2 := jmc jt_171_0 <| jmn
theorem jt_172_0 : ∀ q ∈ tcX5_take_0, sJ jnw jao 172 q.1 q.2.1 q.2.2 :=
  jcons (jL jC_172 dX5_take_0 rfl) <|
  jcons (jL jC_172 dX5_take_1 rfl) <|
  jcons (j6 jC_172 jY_172 dX5_take_4 rfl q354 q355 q112) <|
  jcons (jL jC_172 dX5_take_7 rfl) <|
  jcons (jL jC_172 dX5_take_8 rfl) <|
  jcons (jG jC_172 jY_172 dX5_take_9 fk_5_0_X5 (Or.inl q308)) <|
  jcons (j4I jC_172 jY_172 dX5_take_12 (jc_256 _) rfl q395 ⟨_, _, q396⟩ pd_256 (Or.inl q394)) <|
  jcons (jL jC_172 dX5_take_15 rfl) <|
  jcons (jL jC_172 dX5_take_16 rfl) <|
  jcons (jL jC_172 dX5_take_17 rfl) <|
  jcons (jG jC_172 jY_172 dX5_take_18 fk_5_0_X5 (Or.inl q308)) <|
  jcons (jL jC_172 dX5_take_21 rfl) <|
  jcons (jL jC_172 dX5_take_22 rfl) <|
  jcons (jPu jC_172 jY_172 dX5_take_23 fk_5_0_X5 ap_5_0 (fn_5_0 _) (Or.inl q308) (tyX6_ok 0 (by decide)) (Or.inl ⟨rfl, rfl⟩)) <|
  jcons (jL jC_172 dX5_take_26 rfl) <|
  jcons (jG jC_172 jY_172 dX5_take_27 fk_5_2_X5 (Or.inl q314)) <|
  jcons (jG jC_172 jY_172 dX5_take_30 fk_1_2_X1 (Or.inr ⟨_, jw_q168⟩)) <|
  jcons (jL jC_172 dX5_take_33 rfl) <|
  jcons (jG jC_172 jY_172 dX5_take_34 fk_5_0_X5 (Or.inl q308)) <|
  jcons (jL jC_172 dX5_take_37 rfl) <|
  jcons (jL jC_172 dX5_take_38 rfl) <|
  jcons (jL jC_172 dX5_take_39 rfl) <|
  jcons (jL jC_172 dX5_take_40 rfl) <|
  jnil
theorem jm_172 : ∀ l ∈ tbX5_take, ∀ q ∈ l, sJ jnw jao 172 q.1 q.2.1 q.2.2 := jmc jt_172_0 <| jmn
theorem jt_173_0 : ∀ q ∈ tcX5_isDigit_0, sJ jnw jao 173 q.1 q.2.1 q.2.2 :=
  jcons (jL jC_173 dX5_isDigit_0 rfl) <|
  jcons (j4V jC_173 jY_173 dX5_isDigit_1 (jc_171 _) q343 pd_171 (Or.inl q342) (fun c r h1 h2 => js_178 c r h1 h2)) <|
  jcons (jL jC_173 dX5_isDigit_4 rfl) <|
  jcons (jL jC_173 dX5_isDigit_6 rfl) <|
  jcons (jL jC_173 dX5_isDigit_9 rfl) <|
  jcons (j4V jC_173 jY_173 dX5_isDigit_10 (jc_171 _) q343 pd_171 (Or.inl q342) (fun c r h1 h2 => js_178 c r h1 h2)) <|
  jcons (jL jC_173 dX5_isDigit_13 rfl) <|
  jcons (jL jC_173 dX5_isDigit_15 rfl) <|
  jcons (jL jC_173 dX5_isDigit_18 rfl) <|
  jcons (jL jC_173 dX5_isDigit_19 rfl) <|
  jcons (jL jC_173 dX5_isDigit_22 rfl) <|
  jcons (jL jC_173 dX5_isDigit_23 rfl) <|
  jnil
theorem jm_173 : ∀ l ∈ tbX5_isDigit, ∀ q ∈ l, sJ jnw jao 173 q.1 q.2.1 q.2.2 := jmc jt_173_0 <| jmn
theorem jt_174_0 : ∀ q ∈ tcX5_goIn_0, sJ jnw jao 174 q.1 q.2.1 q.2.2 :=
  jcons (jL jC_174 dX5_goIn_0 rfl) <|
  jcons (jL jC_174 dX5_goIn_1 rfl) <|
  jcons (jG jC_174 jY_174 dX5_goIn_2 fk_5_1_X5 (Or.inl q313)) <|
  jcons (jL jC_174 dX5_goIn_5 rfl) <|
  jcons (jL jC_174 dX5_goIn_7 rfl) <|
  jcons (jL jC_174 dX5_goIn_10 rfl) <|
  jcons (jL jC_174 dX5_goIn_11 rfl) <|
  jcons (jL jC_174 dX5_goIn_14 rfl) <|
  jcons (j4V jC_174 jY_174 dX5_goIn_15 (jc_172 _) q352 pd_172 (Or.inl q485) (fun c r h1 h2 => js_179 c r h1 h2)) <|
  jcons (jL jC_174 dX5_goIn_18 rfl) <|
  jcons (jL jC_174 dX5_goIn_19 rfl) <|
  jcons (jL jC_174 dX5_goIn_20 rfl) <|
  jcons (jG jC_174 jY_174 dX5_goIn_21 fk_5_1_X5 (Or.inl q313)) <|
  jcons (jL jC_174 dX5_goIn_24 rfl) <|
  jcons (jL jC_174 dX5_goIn_25 rfl) <|
  jcons (jPu jC_174 jY_174 dX5_goIn_26 fk_5_1_X5 ap_5_1 (fn_5_1 _) (Or.inl q313) (tyX6_ok 1 (by decide)) (Or.inl ⟨rfl, rfl⟩)) <|
  jcons (jL jC_174 dX5_goIn_29 rfl) <|
  jnil
theorem jm_174 : ∀ l ∈ tbX5_goIn, ∀ q ∈ l, sJ jnw jao 174 q.1 q.2.1 q.2.2 := jmc jt_174_0 <| jmn
theorem jt_175_0 : ∀ q ∈ tcX5_goOut_0, sJ jnw jao 175 q.1 q.2.1 q.2.2 :=
  jcons (jL jC_175 dX5_goOut_0 rfl) <|
  jcons (jL jC_175 dX5_goOut_1 rfl) <|
  jcons (j4V jC_175 jY_175 dX5_goOut_2 (jc_170 _) q340 pd_170 (Or.inl q492) (fun c r h1 h2 => js_180 c r h1 h2)) <|
  jcons (jL jC_175 dX5_goOut_5 rfl) <|
  jcons (jL jC_175 dX5_goOut_6 rfl) <|
  jcons (jL jC_175 dX5_goOut_9 rfl) <|
  jcons (jL jC_175 dX5_goOut_10 rfl) <|
  jcons (jL jC_175 dX5_goOut_13 rfl) <|
  jcons (j4V jC_175 jY_175 dX5_goOut_14 (jc_172 _) q352 pd_172 (Or.inl q485) (fun c r h1 h2 => js_179 c r h1 h2)) <|
  jcons (jL jC_175 dX5_goOut_17 rfl) <|
  jcons (jL jC_175 dX5_goOut_18 rfl) <|
  jcons (jL jC_175 dX5_goOut_19 rfl) <|
  jcons (jG jC_175 jY_175 dX5_goOut_20 fk_5_1_X5 (Or.inl q313)) <|
  jcons (jL jC_175 dX5_goOut_23 rfl) <|
  jcons (jL jC_175 dX5_goOut_24 rfl) <|
  jcons (jPu jC_175 jY_175 dX5_goOut_25 fk_5_1_X5 ap_5_1 (fn_5_1 _) (Or.inl q313) (tyX6_ok 1 (by decide)) (Or.inl ⟨rfl, rfl⟩)) <|
  jcons (jL jC_175 dX5_goOut_28 rfl) <|
  jnil
theorem jm_175 : ∀ l ∈ tbX5_goOut, ∀ q ∈ l, sJ jnw jao 175 q.1 q.2.1 q.2.2 := jmc jt_175_0 <| jmn
theorem jt_176_0 : ∀ q ∈ tcX5_comeOut_0, sJ jnw jao 176 q.1 q.2.1 q.2.2 :=
  jcons (jL jC_176 dX5_comeOut_0 rfl) <|
  jcons (jL jC_176 dX5_comeOut_1 rfl) <|
  jcons (jG jC_176 jY_176 dX5_comeOut_2 fk_5_1_X5 (Or.inl q313)) <|
  jcons (jL jC_176 dX5_comeOut_5 rfl) <|
  jcons (jL jC_176 dX5_comeOut_6 rfl) <|
  jcons (jPu jC_176 jY_176 dX5_comeOut_7 fk_5_1_X5 ap_5_1 (fn_5_1 _) (Or.inl q313) (tyX6_ok 1 (by decide)) (Or.inl ⟨rfl, rfl⟩)) <|
  jcons (jL jC_176 dX5_comeOut_10 rfl) <|
  jnil
theorem jm_176 : ∀ l ∈ tbX5_comeOut, ∀ q ∈ l, sJ jnw jao 176 q.1 q.2.1 q.2.2 := jmc jt_176_0 <| jmn
theorem jt_177_0 : ∀ q ∈ tcX6_whole_0, sJ jnw jao 177 q.1 q.2.1 q.2.2 :=
  jcons (jL jC_177 dX6_whole_0 rfl) <|
  jcons (j4V jC_177 jY_177 dX6_whole_1 (jc_178 _) q334 pd_178 (Or.inl q332) (fun c r h1 h2 => js_181 c r h1 h2)) <|
  jcons (jL jC_177 dX6_whole_4 rfl) <|
  jcons (jL jC_177 dX6_whole_5 rfl) <|
  jcons (jL jC_177 dX6_whole_6 rfl) <|
  jcons (jL jC_177 dX6_whole_7 rfl) <|
  jcons (j4W (x := ⟨"BalloonStall$FigureReader", "look", "()I"⟩) jC_177 jY_177 dX6_whole_8 (jc_170 _) q340 pd_170 q336 q337 jw_q338 (by decide) (fun c r h1 h2 => js_182 c r h1 h2)) <|
  jcons (jL jC_177 dX6_whole_11 rfl) <|
  jcons (jL jC_177 dX6_whole_13 rfl) <|
  jcons (jL jC_177 dX6_whole_16 rfl) <|
  jcons (jL jC_177 dX6_whole_17 rfl) <|
  jcons (jG jC_177 jY_177 dX6_whole_18 fk_6_4_X6 (Or.inl q306)) <|
  jcons (jL jC_177 dX6_whole_21 rfl) <|
  jcons (jL jC_177 dX6_whole_23 rfl) <|
  jcons (jL jC_177 dX6_whole_26 rfl) <|
  jcons (jL jC_177 dX6_whole_27 rfl) <|
  jcons (jL jC_177 dX6_whole_30 rfl) <|
  jcons (j4W (x := ⟨"BalloonStall$FigureReader", "take", "(Z)I"⟩) jC_177 jY_177 dX6_whole_31 (jc_172 _) q352 pd_172 q348 q349 jw_q350 (by decide) (fun c r h1 h2 => js_183 c r h1 h2)) <|
  jcons (jL jC_177 dX6_whole_34 rfl) <|
  jcons (jL jC_177 dX6_whole_35 rfl) <|
  jcons (jL jC_177 dX6_whole_36 rfl) <|
  jcons (j4V jC_177 jY_177 dX6_whole_37 (jc_178 _) q334 pd_178 (Or.inl q332) (fun c r h1 h2 => js_181 c r h1 h2)) <|
  jcons (jPu jC_177 jY_177 dX6_whole_40 fk_8_0_X8 ap_8_0 (fn_8_0 _) (Or.inr ⟨_, jw_q449⟩) (tyX9_ok 0 (by decide)) (Or.inr (Or.inr (Or.inr ⟨rfl, jRf rfl⟩)))) <|
  jcons (jL jC_177 dX6_whole_43 rfl) <|
  jcons (jG jC_177 jY_177 dX6_whole_44 fk_8_0_X8 (Or.inr ⟨_, jw_q449⟩)) <|
  jcons (jL jC_177 dX6_whole_47 rfl) <|
  jcons (jL jC_177 dX6_whole_48 rfl) <|
  jcons (jL jC_177 dX6_whole_51 rfl) <|
  jcons (j4W (x := ⟨"BalloonStall$FigureReader", "look", "()I"⟩) jC_177 jY_177 dX6_whole_52 (jc_170 _) q340 pd_170 q336 q337 jw_q338 (by decide) (fun c r h1 h2 => js_182 c r h1 h2)) <|
  jcons (jL jC_177 dX6_whole_55 rfl) <|
  jcons (jL jC_177 dX6_whole_56 rfl) <|
  jcons (j6 jC_177 jY_177 dX6_whole_59 rfl q437 q355 q112) <|
  jcons (jL jC_177 dX6_whole_62 rfl) <|
  jcons (jL jC_177 dX6_whole_63 rfl) <|
  jnil
theorem jt_177_1 : ∀ q ∈ tcX6_whole_1, sJ jnw jao 177 q.1 q.2.1 q.2.2 :=
  jcons (jG jC_177 jY_177 dX6_whole_64 fk_6_0_X6 (Or.inl q311)) <|
  jcons (j4I jC_177 jY_177 dX6_whole_67 (jc_256 _) rfl q395 ⟨_, _, q396⟩ pd_256 (Or.inl q438)) <|
  jcons (jL jC_177 dX6_whole_70 rfl) <|
  jcons (jL jC_177 dX6_whole_71 rfl) <|
  jcons (jL jC_177 dX6_whole_72 rfl) <|
  jnil
theorem jm_177 : ∀ l ∈ tbX6_whole, ∀ q ∈ l, sJ jnw jao 177 q.1 q.2.1 q.2.2 := jmc jt_177_0 <| jmc jt_177_1 <| jmn
theorem jt_178_0 : ∀ q ∈ tcX6_balloon_0, sJ jnw jao 178 q.1 q.2.1 q.2.2 :=
  jcons (jL jC_178 dX6_balloon_0 rfl) <|
  jcons (j4W (x := ⟨"BalloonStall$FigureReader", "look", "()I"⟩) jC_178 jY_178 dX6_balloon_1 (jc_170 _) q340 pd_170 q336 q337 jw_q338 (by decide) (fun c r h1 h2 => js_182 c r h1 h2)) <|
  jcons (jL jC_178 dX6_balloon_4 rfl) <|
  jcons (jL jC_178 dX6_balloon_5 rfl) <|
  jcons (jL jC_178 dX6_balloon_6 rfl) <|
  jcons (jL jC_178 dX6_balloon_7 rfl) <|
  jcons (jL jC_178 dX6_balloon_9 rfl) <|
  jcons (jL jC_178 dX6_balloon_12 rfl) <|
  jcons (jL jC_178 dX6_balloon_13 rfl) <|
  jcons (jL jC_178 dX6_balloon_16 rfl) <|
  jcons (j4W (x := ⟨"BalloonStall$FigureReader", "take", "(Z)I"⟩) jC_178 jY_178 dX6_balloon_17 (jc_172 _) q352 pd_172 q348 q349 jw_q350 (by decide) (fun c r h1 h2 => js_183 c r h1 h2)) <|
  jcons (jL jC_178 dX6_balloon_20 rfl) <|
  jcons (jL jC_178 dX6_balloon_21 rfl) <|
  jcons (j4W (x := ⟨"BalloonStall$FigureReader", "look", "()I"⟩) jC_178 jY_178 dX6_balloon_22 (jc_170 _) q340 pd_170 q336 q337 jw_q338 (by decide) (fun c r h1 h2 => js_182 c r h1 h2)) <|
  jcons (jL jC_178 dX6_balloon_25 rfl) <|
  jcons (jL jC_178 dX6_balloon_26 rfl) <|
  jcons (jL jC_178 dX6_balloon_27 rfl) <|
  jcons (jL jC_178 dX6_balloon_28 rfl) <|
  jcons (jL jC_178 dX6_balloon_30 rfl) <|
  jcons (jL jC_178 dX6_balloon_33 rfl) <|
  jcons (jL jC_178 dX6_balloon_34 rfl) <|
  jcons (jL jC_178 dX6_balloon_36 rfl) <|
  jcons (jG jC_178 jY_178 dX6_balloon_37 fk_6_5_X6 (Or.inl q307)) <|
  jcons (jG jC_178 jY_178 dX6_balloon_40 fk_1_1_X1 (Or.inr ⟨_, jw_q167⟩)) <|
  jcons (jL jC_178 dX6_balloon_43 rfl) <|
  jcons (jL jC_178 dX6_balloon_44 rfl) <|
  jcons (jL jC_178 dX6_balloon_47 rfl) <|
  jcons (jL jC_178 dX6_balloon_48 rfl) <|
  jcons (jL jC_178 dX6_balloon_51 rfl) <|
  jcons (j4W (x := ⟨"BalloonStall$FigureReader", "take", "(Z)I"⟩) jC_178 jY_178 dX6_balloon_52 (jc_172 _) q352 pd_172 q348 q349 jw_q350 (by decide) (fun c r h1 h2 => js_183 c r h1 h2)) <|
  jcons (jL jC_178 dX6_balloon_55 rfl) <|
  jcons (jL jC_178 dX6_balloon_57 rfl) <|
  jcons (jL jC_178 dX6_balloon_58 rfl) <|
  jcons (jL jC_178 dX6_balloon_59 rfl) <|
  jcons (jL jC_178 dX6_balloon_60 rfl) <|
  jcons (jG jC_178 jY_178 dX6_balloon_61 fk_6_4_X6 (Or.inl q306)) <|
  jnil
theorem jt_178_1 : ∀ q ∈ tcX6_balloon_1, sJ jnw jao 178 q.1 q.2.1 q.2.2 :=
  jcons (jL jC_178 dX6_balloon_64 rfl) <|
  jcons (jL jC_178 dX6_balloon_65 rfl) <|
  jcons (jPu jC_178 jY_178 dX6_balloon_66 fk_6_4_X6 ap_6_4 (fn_6_4 _) (Or.inl q306) (tyX6_ok 4 (by decide)) (Or.inl ⟨rfl, rfl⟩)) <|
  jcons (j6 jC_178 jY_178 dX6_balloon_69 rfl q423 q424 q114) <|
  jcons (jL jC_178 dX6_balloon_72 rfl) <|
  jcons (jL jC_178 dX6_balloon_73 rfl) <|
  jcons (jL jC_178 dX6_balloon_74 rfl) <|
  jcons (j4V jC_178 jY_178 dX6_balloon_75 (jc_179 _) q427 pd_179 (Or.inl q425) (fun c r h1 h2 => js_184 c r h1 h2)) <|
  jcons (j4I jC_178 jY_178 dX6_balloon_78 (jc_185 _) rfl q505 ⟨_, _, q506⟩ pd_185 (Or.inl q504)) <|
  jcons (jL jC_178 dX6_balloon_81 rfl) <|
  jnil
theorem jm_178 : ∀ l ∈ tbX6_balloon, ∀ q ∈ l, sJ jnw jao 178 q.1 q.2.1 q.2.2 := jmc jt_178_0 <| jmc jt_178_1 <| jmn
theorem jt_179_0 : ∀ q ∈ tcX6_moves_0, sJ jnw jao 179 q.1 q.2.1 q.2.2 :=
  jcons (jL jC_179 dX6_moves_0 rfl) <|
  jcons (j4V jC_179 jY_179 dX6_moves_1 (jc_180 _) q431 pd_180 (Or.inl q429) (fun c r h1 h2 => js_185 c r h1 h2)) <|
  jcons (jL jC_179 dX6_moves_4 rfl) <|
  jcons (jL jC_179 dX6_moves_5 rfl) <|
  jcons (jL jC_179 dX6_moves_6 rfl) <|
  jcons (jL jC_179 dX6_moves_7 rfl) <|
  jcons (jL jC_179 dX6_moves_8 rfl) <|
  jcons (j4W (x := ⟨"BalloonStall$FigureReader", "look", "()I"⟩) jC_179 jY_179 dX6_moves_9 (jc_170 _) q340 pd_170 q336 q337 jw_q338 (by decide) (fun c r h1 h2 => js_182 c r h1 h2)) <|
  jcons (j4V jC_179 jY_179 dX6_moves_12 (jc_181 _) q435 pd_181 (Or.inl q433) (fun c r h1 h2 => js_186 c r h1 h2)) <|
  jcons (jL jC_179 dX6_moves_15 rfl) <|
  jcons (jL jC_179 dX6_moves_18 rfl) <|
  jcons (jL jC_179 dX6_moves_19 rfl) <|
  jcons (j4V jC_179 jY_179 dX6_moves_20 (jc_180 _) q431 pd_180 (Or.inl q429) (fun c r h1 h2 => js_185 c r h1 h2)) <|
  jcons (jPu jC_179 jY_179 dX6_moves_23 fk_8_0_X8 ap_8_0 (fn_8_0 _) (Or.inr ⟨_, jw_q449⟩) (tyX9_ok 0 (by decide)) (Or.inr (Or.inr (Or.inr ⟨rfl, jRf rfl⟩)))) <|
  jcons (jL jC_179 dX6_moves_26 rfl) <|
  jcons (jG jC_179 jY_179 dX6_moves_27 fk_8_0_X8 (Or.inr ⟨_, jw_q449⟩)) <|
  jcons (jL jC_179 dX6_moves_30 rfl) <|
  jcons (jL jC_179 dX6_moves_31 rfl) <|
  jcons (jL jC_179 dX6_moves_34 rfl) <|
  jcons (jL jC_179 dX6_moves_35 rfl) <|
  jnil
theorem jm_179 : ∀ l ∈ tbX6_moves, ∀ q ∈ l, sJ jnw jao 179 q.1 q.2.1 q.2.2 := jmc jt_179_0 <| jmn
