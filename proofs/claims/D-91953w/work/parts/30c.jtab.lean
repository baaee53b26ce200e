/-! TABLE FACTS 3 (printed by gentab.py) -/
set_option maxRecDepth 100000
theorem jt_55_0 : ∀ q ∈ tcX1_aged_0, sJ jnw jao 55 q.1 q.2.1 q.2.2 :=
  jcons (jL jC_55 dX1_aged_0 rfl) <|
  jcons (jL jC_55 dX1_aged_1 rfl) <|
  jcons (jL jC_55 dX1_aged_2 rfl) <|
  jcons (j4V jC_55 jY_55 dX1_aged_4 (jc_23 _) q947 pd_23 (Or.inl q945) (fun c r h1 h2 => js_83 c r h1 h2)) <|
  jcons (jL jC_55 dX1_aged_7 rfl) <|
  jcons (jL jC_55 dX1_aged_10 rfl) <|
  jcons (jL jC_55 dX1_aged_11 rfl) <|
  jcons (j4V jC_55 jY_55 dX1_aged_12 (jc_56 _) q1196 pd_56 (Or.inl q1194) (fun c r h1 h2 => js_112 c r h1 h2)) <|
  jcons (jL jC_55 dX1_aged_15 rfl) <|
  jcons (jL jC_55 dX1_aged_18 rfl) <|
  jcons (jL jC_55 dX1_aged_19 rfl) <|
  jcons (jL jC_55 dX1_aged_20 rfl) <|
  jcons (j3 jC_55 jY_55 dX1_aged_21 q1198) <|
  jcons (j4S jC_55 jY_55 dX1_aged_24 (jc_6 _) q245 pd_6 (Or.inl q244)) <|
  jcons (jL jC_55 dX1_aged_27 rfl) <|
  jcons (jL jC_55 dX1_aged_30 rfl) <|
  jcons (jL jC_55 dX1_aged_31 rfl) <|
  jcons (jL jC_55 dX1_aged_32 rfl) <|
  jcons (jG jC_55 jY_55 dX1_aged_33 fk_1_4_X1 (Or.inl q172)) <|
  jcons (jL jC_55 dX1_aged_36 rfl) <|
  jcons (jL jC_55 dX1_aged_37 rfl) <|
  jcons (jL jC_55 dX1_aged_38 rfl) <|
  jcons (jL jC_55 dX1_aged_40 rfl) <|
  jcons (jL jC_55 dX1_aged_41 rfl) <|
  jcons (j4V jC_55 jY_55 dX1_aged_43 (jc_57 _) q1201 pd_57 (Or.inl q1199) (fun c r h1 h2 => js_113 c r h1 h2)) <|
  jcons (jL jC_55 dX1_aged_46 rfl) <|
  jcons (jL jC_55 dX1_aged_47 rfl) <|
  jcons (jL jC_55 dX1_aged_49 rfl) <|
  jcons (jL jC_55 dX1_aged_51 rfl) <|
  jcons (jL jC_55 dX1_aged_52 rfl) <|
  jcons (jL jC_55 dX1_aged_55 rfl) <|
  jcons (jL jC_55 dX1_aged_56 rfl) <|
  jcons (jL jC_55 dX1_aged_58 rfl) <|
  jcons (jG jC_55 jY_55 dX1_aged_59 fk_1_18_X1 (Or.inl q186)) <|
  jcons (jL jC_55 dX1_aged_62 rfl) <|
  jcons (jL jC_55 dX1_aged_63 rfl) <|
  jnil
theorem jt_55_1 : ∀ q ∈ tcX1_aged_1, sJ jnw jao 55 q.1 q.2.1 q.2.2 :=
  jcons (jL jC_55 dX1_aged_64 rfl) <|
  jcons (j4V jC_55 jY_55 dX1_aged_66 (jc_58 _) q1205 pd_58 (Or.inl q1203) (fun c r h1 h2 => js_114 c r h1 h2)) <|
  jcons (jL jC_55 dX1_aged_69 rfl) <|
  jcons (jL jC_55 dX1_aged_72 rfl) <|
  jcons (jL jC_55 dX1_aged_75 rfl) <|
  jcons (jG jC_55 jY_55 dX1_aged_76 fk_1_22_X1 (Or.inl q190)) <|
  jcons (jL jC_55 dX1_aged_79 rfl) <|
  jcons (jL jC_55 dX1_aged_81 rfl) <|
  jcons (jL jC_55 dX1_aged_82 rfl) <|
  jcons (jL jC_55 dX1_aged_83 rfl) <|
  jcons (jL jC_55 dX1_aged_84 rfl) <|
  jcons (jL jC_55 dX1_aged_85 rfl) <|
  jcons (jL jC_55 dX1_aged_88 rfl) <|
  jcons (jL jC_55 dX1_aged_89 rfl) <|
  jcons (jL jC_55 dX1_aged_92 rfl) <|
  jcons (jG jC_55 jY_55 dX1_aged_93 fk_1_21_X1 (Or.inl q189)) <|
  jcons (jL jC_55 dX1_aged_96 rfl) <|
  jcons (jL jC_55 dX1_aged_98 rfl) <|
  jcons (jL jC_55 dX1_aged_99 rfl) <|
  jnil
theorem jm_55 : ∀ l ∈ tbX1_aged, ∀ q ∈ l, sJ jnw jao 55 q.1 q.2.1 q.2.2 := jmc jt_55_0 <| jmc jt_55_1 <| jmn
theorem jt_56_0 : ∀ q ∈ tcX1_isRule_0, sJ jnw jao 56 q.1 q.2.1 q.2.2 :=
  jcons (jL jC_56 dX1_isRule_0 rfl) <|
  jcons (jL jC_56 dX1_isRule_1 rfl) <|
  jcons (jL jC_56 dX1_isRule_4 rfl) <|
  jcons (jL jC_56 dX1_isRule_5 rfl) <|
  jcons (jG jC_56 jY_56 dX1_isRule_6 fk_1_20_X1 (Or.inl q188)) <|
  jcons (jL jC_56 dX1_isRule_9 rfl) <|
  jcons (jL jC_56 dX1_isRule_12 rfl) <|
  jcons (jL jC_56 dX1_isRule_13 rfl) <|
  jcons (jL jC_56 dX1_isRule_16 rfl) <|
  jcons (jL jC_56 dX1_isRule_17 rfl) <|
  jnil
theorem jm_56 : ∀ l ∈ tbX1_isRule, ∀ q ∈ l, sJ jnw jao 56 q.1 q.2.1 q.2.2 := jmc jt_56_0 <| jmn
theorem jt_57_0 : ∀ q ∈ tcX1_fresh_0, sJ jnw jao 57 q.1 q.2.1 q.2.2 :=
  jcons (jL jC_57 dX1_fresh_0 rfl) <|
  jcons (jG jC_57 jY_57 dX1_fresh_1 fk_24_2_X24 (Or.inr ⟨_, jw_q836⟩)) <|
  jcons (jL jC_57 dX1_fresh_4 rfl) <|
  jcons (jL jC_57 dX1_fresh_5 rfl) <|
  jcons (jG jC_57 jY_57 dX1_fresh_6 fk_1_21_X1 (Or.inl q189)) <|
  jcons (jL jC_57 dX1_fresh_9 rfl) <|
  jcons (jL jC_57 dX1_fresh_10 rfl) <|
  jcons (jG jC_57 jY_57 dX1_fresh_11 fk_24_6_X24 (Or.inr ⟨_, jw_q847⟩)) <|
  jcons (j9 jC_57 jY_57 dX1_fresh_14 q956) <|
  jcons (jL jC_57 dX1_fresh_17 rfl) <|
  jcons (jL jC_57 dX1_fresh_18 rfl) <|
  jcons (jPu jC_57 jY_57 dX1_fresh_19 fk_1_22_X1 ap_1_22 (fn_1_22 _) (Or.inl q190) (tyX1_ok 22 (by decide)) (Or.inl ⟨rfl, rfl⟩)) <|
  jcons (jL jC_57 dX1_fresh_22 rfl) <|
  jnil
theorem jm_57 : ∀ l ∈ tbX1_fresh, ∀ q ∈ l, sJ jnw jao 57 q.1 q.2.1 q.2.2 := jmc jt_57_0 <| jmn
theorem jt_58_0 : ∀ q ∈ tcX1_hour_0, sJ jnw jao 58 q.1 q.2.1 q.2.2 :=
  jcons (jL jC_58 dX1_hour_0 rfl) <|
  jcons (jG jC_58 jY_58 dX1_hour_1 fk_1_22_X1 (Or.inl q190)) <|
  jcons (jL jC_58 dX1_hour_4 rfl) <|
  jcons (jL jC_58 dX1_hour_6 rfl) <|
  jcons (jL jC_58 dX1_hour_7 rfl) <|
  jcons (jL jC_58 dX1_hour_9 rfl) <|
  jcons (jL jC_58 dX1_hour_11 rfl) <|
  jcons (jG jC_58 jY_58 dX1_hour_12 fk_24_6_X24 (Or.inr ⟨_, jw_q847⟩)) <|
  jcons (jL jC_58 dX1_hour_15 rfl) <|
  jcons (jL jC_58 dX1_hour_18 rfl) <|
  jcons (jL jC_58 dX1_hour_20 rfl) <|
  jcons (jL jC_58 dX1_hour_22 rfl) <|
  jcons (jL jC_58 dX1_hour_23 rfl) <|
  jcons (jL jC_58 dX1_hour_24 rfl) <|
  jcons (jL jC_58 dX1_hour_25 rfl) <|
  jcons (jL jC_58 dX1_hour_26 rfl) <|
  jcons (jL jC_58 dX1_hour_29 rfl) <|
  jcons (jL jC_58 dX1_hour_32 rfl) <|
  jcons (jG jC_58 jY_58 dX1_hour_33 fk_1_0_X1 (Or.inl q165)) <|
  jcons (jL jC_58 dX1_hour_36 rfl) <|
  jcons (jG jC_58 jY_58 dX1_hour_37 fk_24_4_X24 (Or.inr ⟨_, jw_q842⟩)) <|
  jcons (jL jC_58 dX1_hour_40 rfl) <|
  jcons (jG jC_58 jY_58 dX1_hour_41 fk_24_3_X24 (Or.inr ⟨_, jw_q839⟩)) <|
  jcons (jL jC_58 dX1_hour_44 rfl) <|
  jcons (jL jC_58 dX1_hour_46 rfl) <|
  jcons (jL jC_58 dX1_hour_47 rfl) <|
  jcons (jL jC_58 dX1_hour_48 rfl) <|
  jcons (jL jC_58 dX1_hour_49 rfl) <|
  jcons (jL jC_58 dX1_hour_51 rfl) <|
  jcons (jL jC_58 dX1_hour_52 rfl) <|
  jcons (jL jC_58 dX1_hour_53 rfl) <|
  jcons (jG jC_58 jY_58 dX1_hour_54 fk_1_21_X1 (Or.inl q189)) <|
  jcons (jL jC_58 dX1_hour_57 rfl) <|
  jcons (jL jC_58 dX1_hour_59 rfl) <|
  jcons (jL jC_58 dX1_hour_60 rfl) <|
  jcons (jL jC_58 dX1_hour_61 rfl) <|
  jcons (jL jC_58 dX1_hour_62 rfl) <|
  jnil
theorem jt_58_1 : ∀ q ∈ tcX1_hour_1, sJ jnw jao 58 q.1 q.2.1 q.2.2 :=
  jcons (jL jC_58 dX1_hour_64 rfl) <|
  jcons (jG jC_58 jY_58 dX1_hour_65 fk_24_0_X24 (Or.inr ⟨_, jw_q830⟩)) <|
  jcons (jL jC_58 dX1_hour_68 rfl) <|
  jcons (jL jC_58 dX1_hour_70 rfl) <|
  jcons (j4V jC_58 jY_58 dX1_hour_71 (jc_238 _) q973 pd_238 (Or.inr ⟨_, jw_q1207⟩) (fun c r h1 h2 => js_115 c r h1 h2)) <|
  jcons (jL jC_58 dX1_hour_74 rfl) <|
  jcons (jL jC_58 dX1_hour_75 rfl) <|
  jcons (jL jC_58 dX1_hour_77 rfl) <|
  jcons (jG jC_58 jY_58 dX1_hour_78 fk_24_1_X24 (Or.inr ⟨_, jw_q833⟩)) <|
  jcons (jL jC_58 dX1_hour_81 rfl) <|
  jcons (jL jC_58 dX1_hour_83 rfl) <|
  jcons (j4V jC_58 jY_58 dX1_hour_84 (jc_238 _) q973 pd_238 (Or.inr ⟨_, jw_q1207⟩) (fun c r h1 h2 => js_115 c r h1 h2)) <|
  jcons (jL jC_58 dX1_hour_87 rfl) <|
  jcons (jL jC_58 dX1_hour_88 rfl) <|
  jcons (jG jC_58 jY_58 dX1_hour_90 fk_4_1_X4 (Or.inr ⟨_, jw_q257⟩)) <|
  jcons (jL jC_58 dX1_hour_93 rfl) <|
  jcons (jG jC_58 jY_58 dX1_hour_95 fk_4_0_X4 (Or.inr ⟨_, jw_q255⟩)) <|
  jcons (j4V jC_58 jY_58 dX1_hour_98 (jc_59 _) q1210 pd_59 (Or.inl q1208) (fun c r h1 h2 => js_116 c r h1 h2)) <|
  jcons (jL jC_58 dX1_hour_101 rfl) <|
  jcons (jL jC_58 dX1_hour_103 rfl) <|
  jcons (jG jC_58 jY_58 dX1_hour_104 fk_1_21_X1 (Or.inl q189)) <|
  jcons (jL jC_58 dX1_hour_107 rfl) <|
  jcons (jL jC_58 dX1_hour_109 rfl) <|
  jcons (jL jC_58 dX1_hour_110 rfl) <|
  jcons (jL jC_58 dX1_hour_111 rfl) <|
  jcons (jL jC_58 dX1_hour_112 rfl) <|
  jcons (jG jC_58 jY_58 dX1_hour_113 fk_1_21_X1 (Or.inl q189)) <|
  jcons (jL jC_58 dX1_hour_116 rfl) <|
  jcons (jL jC_58 dX1_hour_118 rfl) <|
  jcons (jL jC_58 dX1_hour_119 rfl) <|
  jcons (j14 jC_58 jY_58 dX1_hour_121 q1052) <|
  jcons (j14 jC_58 jY_58 dX1_hour_124 q936) <|
  jcons (jL jC_58 dX1_hour_127 rfl) <|
  jnil
theorem jt_58_2 : ∀ q ∈ tcX1_hour_2, sJ jnw jao 58 q.1 q.2.1 q.2.2 :=
  jcons (jL jC_58 dX1_hour_128 rfl) <|
  jcons (jL jC_58 dX1_hour_129 rfl) <|
  jcons (jG jC_58 jY_58 dX1_hour_130 fk_1_21_X1 (Or.inl q189)) <|
  jcons (jL jC_58 dX1_hour_133 rfl) <|
  jcons (jL jC_58 dX1_hour_135 rfl) <|
  jcons (jL jC_58 dX1_hour_136 rfl) <|
  jcons (jL jC_58 dX1_hour_139 rfl) <|
  jcons (jL jC_58 dX1_hour_140 rfl) <|
  jcons (jG jC_58 jY_58 dX1_hour_141 fk_1_22_X1 (Or.inl q190)) <|
  jcons (jL jC_58 dX1_hour_144 rfl) <|
  jcons (jL jC_58 dX1_hour_145 rfl) <|
  jcons (jL jC_58 dX1_hour_147 rfl) <|
  jcons (jL jC_58 dX1_hour_148 rfl) <|
  jcons (jPu jC_58 jY_58 dX1_hour_149 fk_1_22_X1 ap_1_22 (fn_1_22 _) (Or.inl q190) (tyX1_ok 22 (by decide)) (Or.inl ⟨rfl, rfl⟩)) <|
  jcons (jL jC_58 dX1_hour_152 rfl) <|
  jcons (jL jC_58 dX1_hour_155 rfl) <|
  jcons (jL jC_58 dX1_hour_158 rfl) <|
  jcons (jL jC_58 dX1_hour_159 rfl) <|
  jcons (jL jC_58 dX1_hour_160 rfl) <|
  jcons (jG jC_58 jY_58 dX1_hour_161 fk_1_22_X1 (Or.inl q190)) <|
  jcons (j4V jC_58 jY_58 dX1_hour_164 (jc_237 _) q968 pd_237 (Or.inl q1252) (fun c r h1 h2 => js_117 c r h1 h2)) <|
  jcons (jPu jC_58 jY_58 dX1_hour_167 fk_1_22_X1 ap_1_22 (fn_1_22 _) (Or.inl q190) (tyX1_ok 22 (by decide)) (Or.inl ⟨rfl, rfl⟩)) <|
  jcons (jL jC_58 dX1_hour_170 rfl) <|
  jnil
theorem jm_58 : ∀ l ∈ tbX1_hour, ∀ q ∈ l, sJ jnw jao 58 q.1 q.2.1 q.2.2 := jmc jt_58_0 <| jmc jt_58_1 <| jmc jt_58_2 <| jmn
theorem jt_59_0 : ∀ q ∈ tcX1_worthOf_0, sJ jnw jao 59 q.1 q.2.1 q.2.2 :=
  jcons (jL jC_59 dX1_worthOf_0 rfl) <|
  jcons (jG jC_59 jY_59 dX1_worthOf_1 fk_1_19_X1 (Or.inl q187)) <|
  jcons (jG jC_59 jY_59 dX1_worthOf_4 fk_2_0_X2 (Or.inr ⟨_, jw_q159⟩)) <|
  jcons (jL jC_59 dX1_worthOf_7 rfl) <|
  jcons (jL jC_59 dX1_worthOf_9 rfl) <|
  jcons (jL jC_59 dX1_worthOf_10 rfl) <|
  jcons (jL jC_59 dX1_worthOf_11 rfl) <|
  jcons (jG jC_59 jY_59 dX1_worthOf_12 fk_1_19_X1 (Or.inl q187)) <|
  jcons (jG jC_59 jY_59 dX1_worthOf_15 fk_2_0_X2 (Or.inr ⟨_, jw_q159⟩)) <|
  jcons (jL jC_59 dX1_worthOf_18 rfl) <|
  jcons (jL jC_59 dX1_worthOf_20 rfl) <|
  jcons (jL jC_59 dX1_worthOf_21 rfl) <|
  jcons (jL jC_59 dX1_worthOf_22 rfl) <|
  jcons (jG jC_59 jY_59 dX1_worthOf_23 fk_1_19_X1 (Or.inl q187)) <|
  jcons (jG jC_59 jY_59 dX1_worthOf_26 fk_2_0_X2 (Or.inr ⟨_, jw_q159⟩)) <|
  jcons (jL jC_59 dX1_worthOf_29 rfl) <|
  jcons (jL jC_59 dX1_worthOf_31 rfl) <|
  jcons (jL jC_59 dX1_worthOf_33 rfl) <|
  jcons (jL jC_59 dX1_worthOf_34 rfl) <|
  jcons (jG jC_59 jY_59 dX1_worthOf_35 fk_1_19_X1 (Or.inl q187)) <|
  jcons (jG jC_59 jY_59 dX1_worthOf_38 fk_2_0_X2 (Or.inr ⟨_, jw_q159⟩)) <|
  jcons (jL jC_59 dX1_worthOf_41 rfl) <|
  jcons (jL jC_59 dX1_worthOf_43 rfl) <|
  jcons (jL jC_59 dX1_worthOf_45 rfl) <|
  jcons (jL jC_59 dX1_worthOf_46 rfl) <|
  jcons (jG jC_59 jY_59 dX1_worthOf_47 fk_1_19_X1 (Or.inl q187)) <|
  jcons (jG jC_59 jY_59 dX1_worthOf_50 fk_2_0_X2 (Or.inr ⟨_, jw_q159⟩)) <|
  jcons (jL jC_59 dX1_worthOf_53 rfl) <|
  jcons (jL jC_59 dX1_worthOf_55 rfl) <|
  jcons (jL jC_59 dX1_worthOf_57 rfl) <|
  jcons (jL jC_59 dX1_worthOf_58 rfl) <|
  jcons (jL jC_59 dX1_worthOf_59 rfl) <|
  jcons (jL jC_59 dX1_worthOf_61 rfl) <|
  jcons (jL jC_59 dX1_worthOf_63 rfl) <|
  jnil
theorem jt_59_1 : ∀ q ∈ tcX1_worthOf_1, sJ jnw jao 59 q.1 q.2.1 q.2.2 :=
  jcons (jL jC_59 dX1_worthOf_66 rfl) <|
  jcons (jL jC_59 dX1_worthOf_68 rfl) <|
  jcons (jG jC_59 jY_59 dX1_worthOf_69 fk_1_19_X1 (Or.inl q187)) <|
  jcons (j4V jC_59 jY_59 dX1_worthOf_72 (jc_218 _) q1213 pd_218 (Or.inl q1212) (fun c r h1 h2 => js_118 c r h1 h2)) <|
  jcons (jL jC_59 dX1_worthOf_75 rfl) <|
  jcons (jL jC_59 dX1_worthOf_78 rfl) <|
  jcons (jG jC_59 jY_59 dX1_worthOf_80 fk_22_1_X22 (Or.inr ⟨_, jw_q682⟩)) <|
  jcons (jL jC_59 dX1_worthOf_83 rfl) <|
  jcons (jG jC_59 jY_59 dX1_worthOf_84 fk_1_19_X1 (Or.inl q187)) <|
  jcons (jA jC_59 jY_59 dX1_worthOf_87 (nb := 1) (by decide +kernel) q1251 q1227 jw_q1226 (by decide) (jvc (jvk (by decide) (by decide) (jc_208 _) q1229 rfl q1228) <| jvc (jvk (by decide) (by decide) (jc_210 _) q1235 rfl q1245) <| jvc (jvk (by decide) (by decide) (jc_212 _) q1232 rfl q1231) <| jvn)) <|
  jcons (jL jC_59 dX1_worthOf_90 rfl) <|
  jcons (jL jC_59 dX1_worthOf_91 rfl) <|
  jcons (jG jC_59 jY_59 dX1_worthOf_93 fk_22_2_X22 (Or.inr ⟨_, jw_q684⟩)) <|
  jcons (jL jC_59 dX1_worthOf_96 rfl) <|
  jcons (jL jC_59 dX1_worthOf_98 rfl) <|
  jcons (jL jC_59 dX1_worthOf_101 rfl) <|
  jcons (jL jC_59 dX1_worthOf_102 rfl) <|
  jnil
theorem jm_59 : ∀ l ∈ tbX1_worthOf, ∀ q ∈ l, sJ jnw jao 59 q.1 q.2.1 q.2.2 := jmc jt_59_0 <| jmc jt_59_1 <| jmn
theorem jt_60_0 : ∀ q ∈ tcX1_falls_0, sJ jnw jao 60 q.1 q.2.1 q.2.2 :=
  jcons (jL jC_60 dX1_falls_0 rfl) <|
  jcons (jL jC_60 dX1_falls_1 rfl) <|
  jcons (j4V jC_60 jY_60 dX1_falls_2 (jc_15 _) q886 pd_15 (Or.inl q884) (fun c r h1 h2 => js_76 c r h1 h2)) <|
  jcons (jL jC_60 dX1_falls_5 rfl) <|
  jcons (jL jC_60 dX1_falls_8 rfl) <|
  jcons (jL jC_60 dX1_falls_9 rfl) <|
  jcons (j4V jC_60 jY_60 dX1_falls_10 (jc_56 _) q1196 pd_56 (Or.inl q1194) (fun c r h1 h2 => js_112 c r h1 h2)) <|
  jcons (jL jC_60 dX1_falls_13 rfl) <|
  jcons (jL jC_60 dX1_falls_16 rfl) <|
  jcons (jL jC_60 dX1_falls_17 rfl) <|
  jcons (jL jC_60 dX1_falls_18 rfl) <|
  jcons (j3 jC_60 jY_60 dX1_falls_19 q962) <|
  jcons (j4S jC_60 jY_60 dX1_falls_22 (jc_6 _) q245 pd_6 (Or.inl q244)) <|
  jcons (jL jC_60 dX1_falls_25 rfl) <|
  jcons (jL jC_60 dX1_falls_28 rfl) <|
  jcons (jG jC_60 jY_60 dX1_falls_29 fk_1_4_X1 (Or.inl q172)) <|
  jcons (jL jC_60 dX1_falls_32 rfl) <|
  jcons (jL jC_60 dX1_falls_33 rfl) <|
  jcons (jG jC_60 jY_60 dX1_falls_34 fk_24_6_X24 (Or.inr ⟨_, jw_q847⟩)) <|
  jcons (jL jC_60 dX1_falls_37 rfl) <|
  jcons (jL jC_60 dX1_falls_40 rfl) <|
  jcons (jL jC_60 dX1_falls_41 rfl) <|
  jcons (jL jC_60 dX1_falls_42 rfl) <|
  jcons (jG jC_60 jY_60 dX1_falls_43 fk_1_4_X1 (Or.inl q172)) <|
  jcons (jL jC_60 dX1_falls_46 rfl) <|
  jcons (jL jC_60 dX1_falls_47 rfl) <|
  jcons (jL jC_60 dX1_falls_48 rfl) <|
  jcons (jL jC_60 dX1_falls_50 rfl) <|
  jcons (jL jC_60 dX1_falls_51 rfl) <|
  jcons (j4V jC_60 jY_60 dX1_falls_53 (jc_57 _) q1201 pd_57 (Or.inl q1199) (fun c r h1 h2 => js_113 c r h1 h2)) <|
  jcons (jL jC_60 dX1_falls_56 rfl) <|
  jcons (jL jC_60 dX1_falls_57 rfl) <|
  jcons (jL jC_60 dX1_falls_59 rfl) <|
  jcons (jL jC_60 dX1_falls_61 rfl) <|
  jcons (jL jC_60 dX1_falls_63 rfl) <|
  jnil
theorem jt_60_1 : ∀ q ∈ tcX1_falls_1, sJ jnw jao 60 q.1 q.2.1 q.2.2 :=
  jcons (jL jC_60 dX1_falls_66 rfl) <|
  jcons (jL jC_60 dX1_falls_67 rfl) <|
  jcons (jL jC_60 dX1_falls_69 rfl) <|
  jcons (jG jC_60 jY_60 dX1_falls_70 fk_1_18_X1 (Or.inl q186)) <|
  jcons (jL jC_60 dX1_falls_73 rfl) <|
  jcons (jL jC_60 dX1_falls_74 rfl) <|
  jcons (jL jC_60 dX1_falls_75 rfl) <|
  jcons (j4V jC_60 jY_60 dX1_falls_77 (jc_58 _) q1205 pd_58 (Or.inl q1203) (fun c r h1 h2 => js_114 c r h1 h2)) <|
  jcons (jL jC_60 dX1_falls_80 rfl) <|
  jcons (jL jC_60 dX1_falls_81 rfl) <|
  jcons (jL jC_60 dX1_falls_84 rfl) <|
  jcons (jG jC_60 jY_60 dX1_falls_85 fk_1_22_X1 (Or.inl q190)) <|
  jcons (jL jC_60 dX1_falls_88 rfl) <|
  jcons (jL jC_60 dX1_falls_91 rfl) <|
  jcons (jL jC_60 dX1_falls_92 rfl) <|
  jcons (jL jC_60 dX1_falls_95 rfl) <|
  jcons (jL jC_60 dX1_falls_96 rfl) <|
  jcons (jL jC_60 dX1_falls_99 rfl) <|
  jcons (jL jC_60 dX1_falls_100 rfl) <|
  jcons (jL jC_60 dX1_falls_101 rfl) <|
  jcons (jL jC_60 dX1_falls_104 rfl) <|
  jcons (jL jC_60 dX1_falls_106 rfl) <|
  jcons (j4V jC_60 jY_60 dX1_falls_108 (jc_239 _) q982 pd_239 (Or.inl q981) (fun c r h1 h2 => js_89 c r h1 h2)) <|
  jcons (jL jC_60 dX1_falls_111 rfl) <|
  jcons (jG jC_60 jY_60 dX1_falls_112 fk_1_22_X1 (Or.inl q190)) <|
  jcons (jL jC_60 dX1_falls_115 rfl) <|
  jcons (jL jC_60 dX1_falls_116 rfl) <|
  jcons (jL jC_60 dX1_falls_117 rfl) <|
  jcons (j4V jC_60 jY_60 dX1_falls_118 (jc_240 _) q986 pd_240 (Or.inl q985) (fun c r h1 h2 => js_90 c r h1 h2)) <|
  jcons (jL jC_60 dX1_falls_121 rfl) <|
  jcons (jL jC_60 dX1_falls_122 rfl) <|
  jcons (jL jC_60 dX1_falls_125 rfl) <|
  jcons (jL jC_60 dX1_falls_126 rfl) <|
  jnil
theorem jt_60_2 : ∀ q ∈ tcX1_falls_2, sJ jnw jao 60 q.1 q.2.1 q.2.2 :=
  jcons (jL jC_60 dX1_falls_129 rfl) <|
  jcons (jL jC_60 dX1_falls_130 rfl) <|
  jcons (jL jC_60 dX1_falls_133 rfl) <|
  jcons (jG jC_60 jY_60 dX1_falls_134 fk_1_22_X1 (Or.inl q190)) <|
  jcons (jL jC_60 dX1_falls_137 rfl) <|
  jcons (j4V jC_60 jY_60 dX1_falls_139 (jc_239 _) q982 pd_239 (Or.inl q981) (fun c r h1 h2 => js_89 c r h1 h2)) <|
  jcons (jL jC_60 dX1_falls_142 rfl) <|
  jcons (jL jC_60 dX1_falls_145 rfl) <|
  jcons (jL jC_60 dX1_falls_146 rfl) <|
  jcons (jL jC_60 dX1_falls_149 rfl) <|
  jcons (jL jC_60 dX1_falls_150 rfl) <|
  jcons (jL jC_60 dX1_falls_152 rfl) <|
  jcons (jL jC_60 dX1_falls_154 rfl) <|
  jcons (jL jC_60 dX1_falls_157 rfl) <|
  jcons (jL jC_60 dX1_falls_159 rfl) <|
  jcons (jL jC_60 dX1_falls_160 rfl) <|
  jcons (jL jC_60 dX1_falls_163 rfl) <|
  jcons (jL jC_60 dX1_falls_166 rfl) <|
  jcons (jL jC_60 dX1_falls_167 rfl) <|
  jnil
theorem jm_60 : ∀ l ∈ tbX1_falls, ∀ q ∈ l, sJ jnw jao 60 q.1 q.2.1 q.2.2 := jmc jt_60_0 <| jmc jt_60_1 <| jmc jt_60_2 <| jmn
theorem jt_61_0 : ∀ q ∈ tcX1_count_0, sJ jnw jao 61 q.1 q.2.1 q.2.2 :=
  jcons (jL jC_61 dX1_count_0 rfl) <|
  jcons (jL jC_61 dX1_count_1 rfl) <|
  jcons (jL jC_61 dX1_count_36 rfl) <|
  jcons (jG jC_61 jY_61 dX1_count_37 fk_1_1_X1 (Or.inl q166)) <|
  jcons (jL jC_61 dX1_count_40 rfl) <|
  jcons (jL jC_61 dX1_count_41 rfl) <|
  jcons (jG jC_61 jY_61 dX1_count_42 fk_1_5_X1 (Or.inl q173)) <|
  jcons (jL jC_61 dX1_count_45 rfl) <|
  jcons (jL jC_61 dX1_count_46 rfl) <|
  jcons (jG jC_61 jY_61 dX1_count_47 fk_1_12_X1 (Or.inl q180)) <|
  jcons (jL jC_61 dX1_count_50 rfl) <|
  jcons (jL jC_61 dX1_count_51 rfl) <|
  jcons (jG jC_61 jY_61 dX1_count_52 fk_1_3_X1 (Or.inl q171)) <|
  jcons (jL jC_61 dX1_count_55 rfl) <|
  jcons (jL jC_61 dX1_count_56 rfl) <|
  jcons (jG jC_61 jY_61 dX1_count_57 fk_1_20_X1 (Or.inl q188)) <|
  jcons (jL jC_61 dX1_count_60 rfl) <|
  jcons (jL jC_61 dX1_count_61 rfl) <|
  jcons (jL jC_61 dX1_count_62 rfl) <|
  jnil
theorem jm_61 : ∀ l ∈ tbX1_count, ∀ q ∈ l, sJ jnw jao 61 q.1 q.2.1 q.2.2 := jmc jt_61_0 <| jmn
theorem jt_62_0 : ∀ q ∈ tcX1_bubble_0, sJ jnw jao 62 q.1 q.2.1 q.2.2 :=
  jcons (jL jC_62 dX1_bubble_0 rfl) <|
  jcons (jL jC_62 dX1_bubble_1 rfl) <|
  jcons (jL jC_62 dX1_bubble_2 rfl) <|
  jcons (j4V jC_62 jY_62 dX1_bubble_3 (jc_23 _) q947 pd_23 (Or.inl q945) (fun c r h1 h2 => js_83 c r h1 h2)) <|
  jcons (jL jC_62 dX1_bubble_6 rfl) <|
  jcons (jL jC_62 dX1_bubble_9 rfl) <|
  jcons (jL jC_62 dX1_bubble_10 rfl) <|
  jcons (jL jC_62 dX1_bubble_11 rfl) <|
  jcons (j3 jC_62 jY_62 dX1_bubble_12 q1269) <|
  jcons (j4S jC_62 jY_62 dX1_bubble_15 (jc_6 _) q245 pd_6 (Or.inl q244)) <|
  jcons (jL jC_62 dX1_bubble_18 rfl) <|
  jcons (j13 jC_62 jY_62 dX1_bubble_21 q1270 dX1_bubble_24 dX1_bubble_25 q1279 dX1_bubble_28) <|
  jcons (jL jC_62 dX1_bubble_29 rfl) <|
  jcons (jG jC_62 jY_62 dX1_bubble_30 fk_1_4_X1 (Or.inl q172)) <|
  jcons (jL jC_62 dX1_bubble_33 rfl) <|
  jcons (jL jC_62 dX1_bubble_34 rfl) <|
  jcons (jL jC_62 dX1_bubble_35 rfl) <|
  jcons (jL jC_62 dX1_bubble_37 rfl) <|
  jcons (jL jC_62 dX1_bubble_38 rfl) <|
  jnil
theorem jt_62_1 : ∀ q ∈ tcX1_bubble_1, sJ jnw jao 62 q.1 q.2.1 q.2.2 :=
  jcons (jL jC_62 dX1_bubble_68 rfl) <|
  jcons (jG jC_62 jY_62 dX1_bubble_70 fk_24_2_X24 (Or.inr ⟨_, jw_q836⟩)) <|
  jcons (jL jC_62 dX1_bubble_73 rfl) <|
  jcons (jL jC_62 dX1_bubble_74 rfl) <|
  jcons (jL jC_62 dX1_bubble_75 rfl) <|
  jcons (jL jC_62 dX1_bubble_76 rfl) <|
  jcons (jG jC_62 jY_62 dX1_bubble_78 fk_24_0_X24 (Or.inr ⟨_, jw_q830⟩)) <|
  jcons (jL jC_62 dX1_bubble_81 rfl) <|
  jcons (jL jC_62 dX1_bubble_82 rfl) <|
  jcons (jL jC_62 dX1_bubble_83 rfl) <|
  jcons (jL jC_62 dX1_bubble_84 rfl) <|
  jcons (jG jC_62 jY_62 dX1_bubble_86 fk_24_1_X24 (Or.inr ⟨_, jw_q833⟩)) <|
  jcons (jL jC_62 dX1_bubble_89 rfl) <|
  jcons (jL jC_62 dX1_bubble_90 rfl) <|
  jcons (jL jC_62 dX1_bubble_91 rfl) <|
  jcons (jL jC_62 dX1_bubble_92 rfl) <|
  jcons (jG jC_62 jY_62 dX1_bubble_94 fk_24_3_X24 (Or.inr ⟨_, jw_q839⟩)) <|
  jcons (jL jC_62 dX1_bubble_97 rfl) <|
  jcons (jL jC_62 dX1_bubble_98 rfl) <|
  jcons (jL jC_62 dX1_bubble_99 rfl) <|
  jcons (jL jC_62 dX1_bubble_100 rfl) <|
  jcons (jG jC_62 jY_62 dX1_bubble_102 fk_24_4_X24 (Or.inr ⟨_, jw_q842⟩)) <|
  jcons (jL jC_62 dX1_bubble_105 rfl) <|
  jcons (jG jC_62 jY_62 dX1_bubble_107 fk_24_3_X24 (Or.inr ⟨_, jw_q839⟩)) <|
  jcons (jL jC_62 dX1_bubble_110 rfl) <|
  jcons (jL jC_62 dX1_bubble_111 rfl) <|
  jcons (jL jC_62 dX1_bubble_112 rfl) <|
  jcons (jL jC_62 dX1_bubble_113 rfl) <|
  jnil
theorem jm_62 : ∀ l ∈ tbX1_bubble, ∀ q ∈ l, sJ jnw jao 62 q.1 q.2.1 q.2.2 := jmc jt_62_0 <| jmc jt_62_1 <| jmn
theorem jt_63_0 : ∀ q ∈ tcX1_guest_0, sJ jnw jao 63 q.1 q.2.1 q.2.2 :=
  jcons (jL jC_63 dX1_guest_0 rfl) <|
  jcons (jL jC_63 dX1_guest_1 rfl) <|
  jcons (jL jC_63 dX1_guest_2 rfl) <|
  jcons (jL jC_63 dX1_guest_3 rfl) <|
  jcons (jG jC_63 jY_63 dX1_guest_4 fk_1_13_X1 (Or.inl q181)) <|
  jcons (jL jC_63 dX1_guest_7 rfl) <|
  jcons (jL jC_63 dX1_guest_8 rfl) <|
  jcons (jL jC_63 dX1_guest_9 rfl) <|
  jcons (j4S jC_63 jY_63 dX1_guest_10 (jc_6 _) q245 pd_6 (Or.inl q244)) <|
  jcons (jL jC_63 dX1_guest_13 rfl) <|
  jcons (jL jC_63 dX1_guest_16 rfl) <|
  jcons (jL jC_63 dX1_guest_17 rfl) <|
  jcons (jL jC_63 dX1_guest_18 rfl) <|
  jcons (j3 jC_63 jY_63 dX1_guest_19 q1298) <|
  jcons (j4S jC_63 jY_63 dX1_guest_22 (jc_6 _) q245 pd_6 (Or.inl q244)) <|
  jcons (jL jC_63 dX1_guest_25 rfl) <|
  jcons (j13 jC_63 jY_63 dX1_guest_28 q1270 dX1_guest_31 dX1_guest_32 q1279 dX1_guest_35) <|
  jcons (jL jC_63 dX1_guest_36 rfl) <|
  jcons (jG jC_63 jY_63 dX1_guest_37 fk_1_11_X1 (Or.inl q179)) <|
  jcons (jL jC_63 dX1_guest_40 rfl) <|
  jcons (jL jC_63 dX1_guest_41 rfl) <|
  jcons (jL jC_63 dX1_guest_42 rfl) <|
  jcons (jL jC_63 dX1_guest_43 rfl) <|
  jcons (jL jC_63 dX1_guest_44 rfl) <|
  jcons (jL jC_63 dX1_guest_47 rfl) <|
  jcons (jG jC_63 jY_63 dX1_guest_48 fk_25_3_X25 (Or.inr ⟨_, jw_q1140⟩)) <|
  jcons (jL jC_63 dX1_guest_51 rfl) <|
  jcons (jL jC_63 dX1_guest_54 rfl) <|
  jcons (jL jC_63 dX1_guest_55 rfl) <|
  jcons (jL jC_63 dX1_guest_56 rfl) <|
  jcons (jL jC_63 dX1_guest_59 rfl) <|
  jcons (jG jC_63 jY_63 dX1_guest_60 fk_25_4_X25 (Or.inr ⟨_, jw_q1141⟩)) <|
  jcons (jL jC_63 dX1_guest_63 rfl) <|
  jnil
theorem jt_63_1 : ∀ q ∈ tcX1_guest_1, sJ jnw jao 63 q.1 q.2.1 q.2.2 :=
  jcons (jL jC_63 dX1_guest_66 rfl) <|
  jcons (jL jC_63 dX1_guest_67 rfl) <|
  jcons (jL jC_63 dX1_guest_68 rfl) <|
  jcons (jL jC_63 dX1_guest_71 rfl) <|
  jcons (jG jC_63 jY_63 dX1_guest_72 fk_25_5_X25 (Or.inr ⟨_, jw_q1142⟩)) <|
  jcons (jL jC_63 dX1_guest_75 rfl) <|
  jcons (jL jC_63 dX1_guest_78 rfl) <|
  jcons (jG jC_63 jY_63 dX1_guest_79 fk_25_6_X25 (Or.inr ⟨_, jw_q1143⟩)) <|
  jcons (jL jC_63 dX1_guest_82 rfl) <|
  jnil
theorem jm_63 : ∀ l ∈ tbX1_guest, ∀ q ∈ l, sJ jnw jao 63 q.1 q.2.1 q.2.2 := jmc jt_63_0 <| jmc jt_63_1 <| jmn
theorem jt_64_0 : ∀ q ∈ tcX1_worth_0, sJ jnw jao 64 q.1 q.2.1 q.2.2 :=
  jcons (jL jC_64 dX1_worth_0 rfl) <|
  jcons (jL jC_64 dX1_worth_1 rfl) <|
  jcons (j4V jC_64 jY_64 dX1_worth_2 (jc_56 _) q1196 pd_56 (Or.inl q1194) (fun c r h1 h2 => js_112 c r h1 h2)) <|
  jcons (jL jC_64 dX1_worth_5 rfl) <|
  jcons (j13 jC_64 jY_64 dX1_worth_8 q1270 dX1_worth_11 dX1_worth_12 q1279 dX1_worth_15) <|
  jcons (jL jC_64 dX1_worth_16 rfl) <|
  jcons (jL jC_64 dX1_worth_17 rfl) <|
  jcons (jG jC_64 jY_64 dX1_worth_18 fk_1_18_X1 (Or.inl q186)) <|
  jcons (jL jC_64 dX1_worth_21 rfl) <|
  jcons (jL jC_64 dX1_worth_22 rfl) <|
  jcons (jL jC_64 dX1_worth_23 rfl) <|
  jcons (jL jC_64 dX1_worth_24 rfl) <|
  jcons (jL jC_64 dX1_worth_25 rfl) <|
  jcons (jL jC_64 dX1_worth_27 rfl) <|
  jcons (jL jC_64 dX1_worth_29 rfl) <|
  jcons (j4V jC_64 jY_64 dX1_worth_31 (jc_59 _) q1210 pd_59 (Or.inl q1208) (fun c r h1 h2 => js_116 c r h1 h2)) <|
  jcons (jL jC_64 dX1_worth_34 rfl) <|
  jnil
theorem jm_64 : ∀ l ∈ tbX1_worth, ∀ q ∈ l, sJ jnw jao 64 q.1 q.2.1 q.2.2 := jmc jt_64_0 <| jmn
theorem jt_65_0 : ∀ q ∈ tcX2_init_0, sJ jnw jao 65 q.1 q.2.1 q.2.2 :=
  jcons (jL jC_65 dX2_init_0 rfl) <|
  jcons (j10 jC_65 jY_65 dX2_init_1 q156) <|
  jcons (jL jC_65 dX2_init_4 rfl) <|
  jcons (jL jC_65 dX2_init_5 rfl) <|
  jcons (j7_0 jC_65 dX2_init_8) <|
  jcons (jPf jC_65 jY_65 dX2_init_10 fk_2_0_X2 ap_2_0 fn_2_0 q157 rfl (tyX2_ok 0 (by decide)) (Or.inr (Or.inr (Or.inr ⟨rfl, jRf rfl⟩)))) <|
  jcons (jL jC_65 dX2_init_13 rfl) <|
  jnil
theorem jm_65 : ∀ l ∈ tbX2_init, ∀ q ∈ l, sJ jnw jao 65 q.1 q.2.1 q.2.2 := jmc jt_65_0 <| jmn
theorem jt_66_0 : ∀ q ∈ tcX3_init_0, sJ jnw jao 66 q.1 q.2.1 q.2.2 :=
  jcons (jL jC_66 dX3_init_0 rfl) <|
  jcons (j10 jC_66 jY_66 dX3_init_1 q1311) <|
  jcons (jL jC_66 dX3_init_4 rfl) <|
  jcons (jL jC_66 dX3_init_5 rfl) <|
  jcons (j7_0 jC_66 dX3_init_7) <|
  jcons (jPf jC_66 jY_66 dX3_init_9 fk_3_1_X3 ap_3_1 fn_3_1 q1313 rfl (tyX3_ok 1 (by decide)) (Or.inr (Or.inr (Or.inr ⟨rfl, jRf rfl⟩)))) <|
  jcons (jL jC_66 dX3_init_12 rfl) <|
  jcons (jL jC_66 dX3_init_13 rfl) <|
  jcons (j7_0 jC_66 dX3_init_15) <|
  jcons (jPf jC_66 jY_66 dX3_init_17 fk_3_2_X3 ap_3_2 fn_3_2 q1314 rfl (tyX3_ok 2 (by decide)) (Or.inr (Or.inr (Or.inr ⟨rfl, jRf rfl⟩)))) <|
  jcons (jL jC_66 dX3_init_20 rfl) <|
  jcons (jL jC_66 dX3_init_21 rfl) <|
  jcons (j7_0 jC_66 dX3_init_23) <|
  jcons (jPf jC_66 jY_66 dX3_init_25 fk_3_3_X3 ap_3_3 fn_3_3 q1315 rfl (tyX3_ok 3 (by decide)) (Or.inr (Or.inr (Or.inr ⟨rfl, jRf rfl⟩)))) <|
  jcons (jL jC_66 dX3_init_28 rfl) <|
  jcons (jL jC_66 dX3_init_29 rfl) <|
  jcons (j7_0 jC_66 dX3_init_31) <|
  jcons (jPf jC_66 jY_66 dX3_init_33 fk_3_4_X3 ap_3_4 fn_3_4 q1316 rfl (tyX3_ok 4 (by decide)) (Or.inr (Or.inr (Or.inr ⟨rfl, jRf rfl⟩)))) <|
  jcons (jL jC_66 dX3_init_36 rfl) <|
  jcons (jL jC_66 dX3_init_37 rfl) <|
  jcons (j7_0 jC_66 dX3_init_40) <|
  jcons (jPf jC_66 jY_66 dX3_init_42 fk_3_6_X3 ap_3_6 fn_3_6 q1318 rfl (tyX3_ok 6 (by decide)) (Or.inr (Or.inr (Or.inr ⟨rfl, jRf rfl⟩)))) <|
  jcons (jL jC_66 dX3_init_45 rfl) <|
  jcons (jL jC_66 dX3_init_46 rfl) <|
  jcons (j7_0 jC_66 dX3_init_48) <|
  jcons (jPf jC_66 jY_66 dX3_init_50 fk_3_11_X3 ap_3_11 fn_3_11 q1323 rfl (tyX3_ok 11 (by decide)) (Or.inr (Or.inr (Or.inr ⟨rfl, jRf rfl⟩)))) <|
  jcons (jL jC_66 dX3_init_53 rfl) <|
  jcons (jL jC_66 dX3_init_54 rfl) <|
  jcons (j7_0 jC_66 dX3_init_56) <|
  jcons (jPf jC_66 jY_66 dX3_init_58 fk_3_12_X3 ap_3_12 fn_3_12 q1324 rfl (tyX3_ok 12 (by decide)) (Or.inr (Or.inr (Or.inr ⟨rfl, jRf rfl⟩)))) <|
  jcons (jL jC_66 dX3_init_61 rfl) <|
  jcons (jL jC_66 dX3_init_62 rfl) <|
  jnil
theorem jt_66_1 : ∀ q ∈ tcX3_init_1, sJ jnw jao 66 q.1 q.2.1 q.2.2 :=
  jcons (j7_0 jC_66 dX3_init_64) <|
  jcons (jPf jC_66 jY_66 dX3_init_66 fk_3_13_X3 ap_3_13 fn_3_13 q1325 rfl (tyX3_ok 13 (by decide)) (Or.inr (Or.inr (Or.inr ⟨rfl, jRf rfl⟩)))) <|
  jcons (jL jC_66 dX3_init_69 rfl) <|
  jcons (jL jC_66 dX3_init_70 rfl) <|
  jcons (j7_0 jC_66 dX3_init_72) <|
  jcons (jPf jC_66 jY_66 dX3_init_74 fk_3_14_X3 ap_3_14 fn_3_14 q1326 rfl (tyX3_ok 14 (by decide)) (Or.inr (Or.inr (Or.inr ⟨rfl, jRf rfl⟩)))) <|
  jcons (jL jC_66 dX3_init_77 rfl) <|
  jcons (jL jC_66 dX3_init_78 rfl) <|
  jcons (j7_0 jC_66 dX3_init_81) <|
  jcons (jPf jC_66 jY_66 dX3_init_83 fk_3_15_X3 ap_3_15 fn_3_15 q1327 rfl (tyX3_ok 15 (by decide)) (Or.inr (Or.inr (Or.inr ⟨rfl, jRf rfl⟩)))) <|
  jcons (jL jC_66 dX3_init_86 rfl) <|
  jcons (jL jC_66 dX3_init_87 rfl) <|
  jcons (j7_0 jC_66 dX3_init_90) <|
  jcons (jPf jC_66 jY_66 dX3_init_92 fk_3_16_X3 ap_3_16 fn_3_16 q1328 rfl (tyX3_ok 16 (by decide)) (Or.inr (Or.inr (Or.inr ⟨rfl, jRf rfl⟩)))) <|
  jcons (jL jC_66 dX3_init_95 rfl) <|
  jcons (jL jC_66 dX3_init_96 rfl) <|
  jcons (j7_0 jC_66 dX3_init_99) <|
  jcons (jPf jC_66 jY_66 dX3_init_101 fk_3_17_X3 ap_3_17 fn_3_17 q1329 rfl (tyX3_ok 17 (by decide)) (Or.inr (Or.inr (Or.inr ⟨rfl, jRf rfl⟩)))) <|
  jcons (jL jC_66 dX3_init_104 rfl) <|
  jcons (jL jC_66 dX3_init_105 rfl) <|
  jcons (j7_0 jC_66 dX3_init_108) <|
  jcons (jPf jC_66 jY_66 dX3_init_110 fk_3_18_X3 ap_3_18 fn_3_18 q1330 rfl (tyX3_ok 18 (by decide)) (Or.inr (Or.inr (Or.inr ⟨rfl, jRf rfl⟩)))) <|
  jcons (jL jC_66 dX3_init_113 rfl) <|
  jcons (jL jC_66 dX3_init_114 rfl) <|
  jcons (j7_0 jC_66 dX3_init_116) <|
  jcons (jPf jC_66 jY_66 dX3_init_118 fk_3_19_X3 ap_3_19 fn_3_19 q1331 rfl (tyX3_ok 19 (by decide)) (Or.inr (Or.inr (Or.inr ⟨rfl, jRf rfl⟩)))) <|
  jcons (jL jC_66 dX3_init_121 rfl) <|
  jcons (jL jC_66 dX3_init_122 rfl) <|
  jcons (j7_0 jC_66 dX3_init_124) <|
  jcons (jPf jC_66 jY_66 dX3_init_126 fk_3_21_X3 ap_3_21 fn_3_21 q1333 rfl (tyX3_ok 21 (by decide)) (Or.inr (Or.inr (Or.inr ⟨rfl, jRf rfl⟩)))) <|
  jnil
theorem jt_66_2 : ∀ q ∈ tcX3_init_2, sJ jnw jao 66 q.1 q.2.1 q.2.2 :=
  jcons (jL jC_66 dX3_init_129 rfl) <|
  jcons (jL jC_66 dX3_init_130 rfl) <|
  jcons (j7_0 jC_66 dX3_init_132) <|
  jcons (jPf jC_66 jY_66 dX3_init_134 fk_3_22_X3 ap_3_22 fn_3_22 q1334 rfl (tyX3_ok 22 (by decide)) (Or.inr (Or.inr (Or.inr ⟨rfl, jRf rfl⟩)))) <|
  jcons (jL jC_66 dX3_init_137 rfl) <|
  jcons (jL jC_66 dX3_init_138 rfl) <|
  jcons (j7_0 jC_66 dX3_init_140) <|
  jcons (jPf jC_66 jY_66 dX3_init_142 fk_3_26_X3 ap_3_26 fn_3_26 q1338 rfl (tyX3_ok 26 (by decide)) (Or.inr (Or.inr (Or.inr ⟨rfl, jRf rfl⟩)))) <|
  jcons (jL jC_66 dX3_init_145 rfl) <|
  jcons (jL jC_66 dX3_init_146 rfl) <|
  jcons (j7_0 jC_66 dX3_init_149) <|
  jcons (jPf jC_66 jY_66 dX3_init_151 fk_3_27_X3 ap_3_27 fn_3_27 q1339 rfl (tyX3_ok 27 (by decide)) (Or.inr (Or.inr (Or.inr ⟨rfl, jRf rfl⟩)))) <|
  jcons (jL jC_66 dX3_init_154 rfl) <|
  jcons (jL jC_66 dX3_init_155 rfl) <|
  jcons (j7_0 jC_66 dX3_init_157) <|
  jcons (jPf jC_66 jY_66 dX3_init_159 fk_3_28_X3 ap_3_28 fn_3_28 q1340 rfl (tyX3_ok 28 (by decide)) (Or.inr (Or.inr (Or.inr ⟨rfl, jRf rfl⟩)))) <|
  jcons (jL jC_66 dX3_init_162 rfl) <|
  jcons (jL jC_66 dX3_init_163 rfl) <|
  jcons (j7_0 jC_66 dX3_init_166) <|
  jcons (jPf jC_66 jY_66 dX3_init_168 fk_3_29_X3 ap_3_29 fn_3_29 q1341 rfl (tyX3_ok 29 (by decide)) (Or.inr (Or.inr (Or.inr ⟨rfl, jRf rfl⟩)))) <|
  jcons (jL jC_66 dX3_init_171 rfl) <|
  jcons (jL jC_66 dX3_init_172 rfl) <|
  jcons (j7_0 jC_66 dX3_init_175) <|
  jcons (jPf jC_66 jY_66 dX3_init_177 fk_3_30_X3 ap_3_30 fn_3_30 q1342 rfl (tyX3_ok 30 (by decide)) (Or.inr (Or.inr (Or.inr ⟨rfl, jRf rfl⟩)))) <|
  jcons (jL jC_66 dX3_init_180 rfl) <|
  jcons (jL jC_66 dX3_init_181 rfl) <|
  jcons (j7_3 jC_66 dX3_init_184) <|
  jcons (jPf jC_66 jY_66 dX3_init_186 fk_3_34_X3 ap_3_34 fn_3_34 q1346 rfl (tyX3_ok 34 (by decide)) (Or.inr (Or.inr (Or.inr ⟨rfl, jRf rfl⟩)))) <|
  jcons (jL jC_66 dX3_init_189 rfl) <|
  jcons (jL jC_66 dX3_init_190 rfl) <|
  jnil
theorem jt_66_3 : ∀ q ∈ tcX3_init_3, sJ jnw jao 66 q.1 q.2.1 q.2.2 :=
  jcons (j7_0 jC_66 dX3_init_192) <|
  jcons (jPf jC_66 jY_66 dX3_init_194 fk_3_35_X3 ap_3_35 fn_3_35 q1347 rfl (tyX3_ok 35 (by decide)) (Or.inr (Or.inr (Or.inr ⟨rfl, jRf rfl⟩)))) <|
  jcons (jL jC_66 dX3_init_197 rfl) <|
  jcons (jL jC_66 dX3_init_198 rfl) <|
  jcons (j7_0 jC_66 dX3_init_201) <|
  jcons (jPf jC_66 jY_66 dX3_init_203 fk_3_36_X3 ap_3_36 fn_3_36 q1348 rfl (tyX3_ok 36 (by decide)) (Or.inr (Or.inr (Or.inr ⟨rfl, jRf rfl⟩)))) <|
  jcons (jL jC_66 dX3_init_206 rfl) <|
  jcons (jL jC_66 dX3_init_207 rfl) <|
  jcons (j7_0 jC_66 dX3_init_210) <|
  jcons (jPf jC_66 jY_66 dX3_init_212 fk_3_37_X3 ap_3_37 fn_3_37 q1349 rfl (tyX3_ok 37 (by decide)) (Or.inr (Or.inr (Or.inr ⟨rfl, jRf rfl⟩)))) <|
  jcons (jL jC_66 dX3_init_215 rfl) <|
  jcons (jL jC_66 dX3_init_216 rfl) <|
  jcons (j7_2 jC_66 dX3_init_219) <|
  jcons (jPf jC_66 jY_66 dX3_init_221 fk_3_38_X3 ap_3_38 fn_3_38 q1350 rfl (tyX3_ok 38 (by decide)) (Or.inr (Or.inr (Or.inr ⟨rfl, jRf rfl⟩)))) <|
  jcons (jL jC_66 dX3_init_224 rfl) <|
  jcons (jL jC_66 dX3_init_225 rfl) <|
  jcons (j7_0 jC_66 dX3_init_227) <|
  jcons (jPf jC_66 jY_66 dX3_init_229 fk_3_39_X3 ap_3_39 fn_3_39 q1351 rfl (tyX3_ok 39 (by decide)) (Or.inr (Or.inr (Or.inr ⟨rfl, jRf rfl⟩)))) <|
  jcons (jL jC_66 dX3_init_232 rfl) <|
  jcons (jL jC_66 dX3_init_233 rfl) <|
  jcons (j7_0 jC_66 dX3_init_235) <|
  jcons (jPf jC_66 jY_66 dX3_init_237 fk_3_40_X3 ap_3_40 fn_3_40 q1352 rfl (tyX3_ok 40 (by decide)) (Or.inr (Or.inr (Or.inr ⟨rfl, jRf rfl⟩)))) <|
  jcons (jL jC_66 dX3_init_240 rfl) <|
  jcons (jL jC_66 dX3_init_241 rfl) <|
  jcons (j7_0 jC_66 dX3_init_243) <|
  jcons (jPf jC_66 jY_66 dX3_init_245 fk_3_41_X3 ap_3_41 fn_3_41 q1353 rfl (tyX3_ok 41 (by decide)) (Or.inr (Or.inr (Or.inr ⟨rfl, jRf rfl⟩)))) <|
  jcons (jL jC_66 dX3_init_248 rfl) <|
  jcons (jL jC_66 dX3_init_249 rfl) <|
  jcons (j7_0 jC_66 dX3_init_251) <|
  jcons (jPf jC_66 jY_66 dX3_init_253 fk_3_42_X3 ap_3_42 fn_3_42 q1354 rfl (tyX3_ok 42 (by decide)) (Or.inr (Or.inr (Or.inr ⟨rfl, jRf rfl⟩)))) <|
  jnil
theorem jt_66_4 : ∀ q ∈ tcX3_init_4, sJ jnw jao 66 q.1 q.2.1 q.2.2 :=
  jcons (jL jC_66 dX3_init_256 rfl) <|
  jcons (jL jC_66 dX3_init_257 rfl) <|
  jcons (j7_0 jC_66 dX3_init_259) <|
  jcons (jPf jC_66 jY_66 dX3_init_261 fk_3_43_X3 ap_3_43 fn_3_43 q1355 rfl (tyX3_ok 43 (by decide)) (Or.inr (Or.inr (Or.inr ⟨rfl, jRf rfl⟩)))) <|
  jcons (jL jC_66 dX3_init_264 rfl) <|
  jcons (jL jC_66 dX3_init_265 rfl) <|
  jcons (j7_0 jC_66 dX3_init_267) <|
  jcons (jPf jC_66 jY_66 dX3_init_269 fk_3_44_X3 ap_3_44 fn_3_44 q1356 rfl (tyX3_ok 44 (by decide)) (Or.inr (Or.inr (Or.inr ⟨rfl, jRf rfl⟩)))) <|
  jcons (jL jC_66 dX3_init_272 rfl) <|
  jcons (jL jC_66 dX3_init_273 rfl) <|
  jcons (jPu jC_66 jY_66 dX3_init_274 fk_3_47_X3 ap_3_47 (fn_3_47 _) (Or.inl q1359) (tyX3_ok 47 (by decide)) (Or.inl ⟨rfl, rfl⟩)) <|
  jcons (jL jC_66 dX3_init_277 rfl) <|
  jcons (jL jC_66 dX3_init_278 rfl) <|
  jcons (j7_0 jC_66 dX3_init_280) <|
  jcons (jPf jC_66 jY_66 dX3_init_282 fk_3_49_X3 ap_3_49 fn_3_49 q1361 rfl (tyX3_ok 49 (by decide)) (Or.inr (Or.inr (Or.inr ⟨rfl, jRf rfl⟩)))) <|
  jcons (jL jC_66 dX3_init_285 rfl) <|
  jcons (jL jC_66 dX3_init_286 rfl) <|
  jcons (j7_0 jC_66 dX3_init_288) <|
  jcons (jPf jC_66 jY_66 dX3_init_290 fk_3_50_X3 ap_3_50 fn_3_50 q1362 rfl (tyX3_ok 50 (by decide)) (Or.inr (Or.inr (Or.inr ⟨rfl, jRf rfl⟩)))) <|
  jcons (jL jC_66 dX3_init_293 rfl) <|
  jnil
theorem jm_66 : ∀ l ∈ tbX3_init, ∀ q ∈ l, sJ jnw jao 66 q.1 q.2.1 q.2.2 := jmc jt_66_0 <| jmc jt_66_1 <| jmc jt_66_2 <| jmc jt_66_3 <| jmc jt_66_4 <| jmn
theorem jt_67_0 : ∀ q ∈ tcX3_thrown_0, sJ jnw jao 67 q.1 q.2.1 q.2.2 :=
  jcons (jL jC_67 dX3_thrown_0 rfl) <|
  jcons (jG jC_67 jY_67 dX3_thrown_1 fk_3_0_X3 (Or.inl q1312)) <|
  jcons (jL jC_67 dX3_thrown_4 rfl) <|
  jnil
theorem jm_67 : ∀ l ∈ tbX3_thrown, ∀ q ∈ l, sJ jnw jao 67 q.1 q.2.1 q.2.2 := jmc jt_67_0 <| jmn
theorem jt_68_0 : ∀ q ∈ tcX3_sort_0, sJ jnw jao 68 q.1 q.2.1 q.2.2 :=
  jcons (jL jC_68 dX3_sort_0 rfl) <|
  jcons (jL jC_68 dX3_sort_1 rfl) <|
  jcons (jL jC_68 dX3_sort_2 rfl) <|
  jcons (j4S jC_68 jY_68 dX3_sort_5 (jc_69 _) q1480 pd_69 (Or.inl q1479)) <|
  jcons (jL jC_68 dX3_sort_8 rfl) <|
  jcons (jL jC_68 dX3_sort_11 rfl) <|
  jcons (jL jC_68 dX3_sort_12 rfl) <|
  jcons (jL jC_68 dX3_sort_13 rfl) <|
  jcons (j4S jC_68 jY_68 dX3_sort_15 (jc_69 _) q1480 pd_69 (Or.inl q1479)) <|
  jcons (jL jC_68 dX3_sort_18 rfl) <|
  jcons (jL jC_68 dX3_sort_21 rfl) <|
  jcons (jL jC_68 dX3_sort_22 rfl) <|
  jcons (jL jC_68 dX3_sort_23 rfl) <|
  jcons (j4S jC_68 jY_68 dX3_sort_25 (jc_69 _) q1480 pd_69 (Or.inl q1479)) <|
  jcons (jL jC_68 dX3_sort_28 rfl) <|
  jcons (jL jC_68 dX3_sort_31 rfl) <|
  jcons (jG jC_68 jY_68 dX3_sort_32 fk_3_5_X3 (Or.inl q1317)) <|
  jcons (jL jC_68 dX3_sort_35 rfl) <|
  jcons (jL jC_68 dX3_sort_37 rfl) <|
  jcons (jL jC_68 dX3_sort_40 rfl) <|
  jcons (jL jC_68 dX3_sort_41 rfl) <|
  jcons (jL jC_68 dX3_sort_42 rfl) <|
  jcons (jG jC_68 jY_68 dX3_sort_43 fk_3_1_X3 (Or.inl q1313)) <|
  jcons (jL jC_68 dX3_sort_46 rfl) <|
  jcons (jG jC_68 jY_68 dX3_sort_47 fk_3_5_X3 (Or.inl q1317)) <|
  jcons (jL jC_68 dX3_sort_50 rfl) <|
  jcons (jL jC_68 dX3_sort_51 rfl) <|
  jcons (jL jC_68 dX3_sort_52 rfl) <|
  jcons (jG jC_68 jY_68 dX3_sort_53 fk_3_2_X3 (Or.inl q1314)) <|
  jcons (jL jC_68 dX3_sort_56 rfl) <|
  jcons (jG jC_68 jY_68 dX3_sort_57 fk_3_5_X3 (Or.inl q1317)) <|
  jcons (jL jC_68 dX3_sort_60 rfl) <|
  jcons (jL jC_68 dX3_sort_61 rfl) <|
  jcons (jL jC_68 dX3_sort_62 rfl) <|
  jcons (jG jC_68 jY_68 dX3_sort_63 fk_3_3_X3 (Or.inl q1315)) <|
  jnil
theorem jt_68_1 : ∀ q ∈ tcX3_sort_1, sJ jnw jao 68 q.1 q.2.1 q.2.2 :=
  jcons (jL jC_68 dX3_sort_66 rfl) <|
  jcons (jG jC_68 jY_68 dX3_sort_67 fk_3_5_X3 (Or.inl q1317)) <|
  jcons (jL jC_68 dX3_sort_70 rfl) <|
  jcons (jL jC_68 dX3_sort_71 rfl) <|
  jcons (jL jC_68 dX3_sort_72 rfl) <|
  jcons (jL jC_68 dX3_sort_73 rfl) <|
  jcons (jG jC_68 jY_68 dX3_sort_74 fk_3_5_X3 (Or.inl q1317)) <|
  jcons (jL jC_68 dX3_sort_77 rfl) <|
  jcons (jL jC_68 dX3_sort_78 rfl) <|
  jcons (jPu jC_68 jY_68 dX3_sort_79 fk_3_5_X3 ap_3_5 (fn_3_5 _) (Or.inl q1317) (tyX3_ok 5 (by decide)) (Or.inl ⟨rfl, rfl⟩)) <|
  jcons (jL jC_68 dX3_sort_82 rfl) <|
  jcons (jG jC_68 jY_68 dX3_sort_83 fk_3_5_X3 (Or.inl q1317)) <|
  jcons (jL jC_68 dX3_sort_86 rfl) <|
  jcons (jL jC_68 dX3_sort_87 rfl) <|
  jcons (jL jC_68 dX3_sort_88 rfl) <|
  jnil
theorem jm_68 : ∀ l ∈ tbX3_sort, ∀ q ∈ l, sJ jnw jao 68 q.1 q.2.1 q.2.2 := jmc jt_68_0 <| jmc jt_68_1 <| jmn
theorem jt_69_0 : ∀ q ∈ tcX3_in_0, sJ jnw jao 69 q.1 q.2.1 q.2.2 :=
  jcons (jL jC_69 dX3_in_0 rfl) <|
  jcons (jL jC_69 dX3_in_1 rfl) <|
  jcons (jL jC_69 dX3_in_2 rfl) <|
  jcons (jL jC_69 dX3_in_5 rfl) <|
  jcons (jL jC_69 dX3_in_6 rfl) <|
  jcons (jL jC_69 dX3_in_7 rfl) <|
  jcons (jL jC_69 dX3_in_10 rfl) <|
  jcons (jL jC_69 dX3_in_11 rfl) <|
  jcons (jL jC_69 dX3_in_14 rfl) <|
  jcons (jL jC_69 dX3_in_15 rfl) <|
  jnil
theorem jm_69 : ∀ l ∈ tbX3_in, ∀ q ∈ l, sJ jnw jao 69 q.1 q.2.1 q.2.2 := jmc jt_69_0 <| jmn
theorem jt_70_0 : ∀ q ∈ tcX3_feed_0, sJ jnw jao 70 q.1 q.2.1 q.2.2 :=
  jcons (jL jC_70 dX3_feed_0 rfl) <|
  jcons (jL jC_70 dX3_feed_1 rfl) <|
  jcons (jL jC_70 dX3_feed_3 rfl) <|
  jcons (jL jC_70 dX3_feed_4 rfl) <|
  jcons (jL jC_70 dX3_feed_6 rfl) <|
  jcons (jL jC_70 dX3_feed_8 rfl) <|
  jcons (jL jC_70 dX3_feed_10 rfl) <|
  jcons (jL jC_70 dX3_feed_13 rfl) <|
  jcons (jL jC_70 dX3_feed_15 rfl) <|
  jcons (jL jC_70 dX3_feed_16 rfl) <|
  jcons (jL jC_70 dX3_feed_17 rfl) <|
  jcons (jL jC_70 dX3_feed_18 rfl) <|
  jcons (jL jC_70 dX3_feed_20 rfl) <|
  jcons (jL jC_70 dX3_feed_22 rfl) <|
  jcons (j4S jC_70 jY_70 dX3_feed_24 (jc_71 _) q1487 pd_71 (Or.inl q1486)) <|
  jcons (jL jC_70 dX3_feed_27 rfl) <|
  jcons (jL jC_70 dX3_feed_30 rfl) <|
  jcons (jL jC_70 dX3_feed_31 rfl) <|
  jcons (jL jC_70 dX3_feed_34 rfl) <|
  jcons (jL jC_70 dX3_feed_35 rfl) <|
  jcons (jL jC_70 dX3_feed_36 rfl) <|
  jcons (jL jC_70 dX3_feed_38 rfl) <|
  jcons (jL jC_70 dX3_feed_41 rfl) <|
  jcons (jL jC_70 dX3_feed_44 rfl) <|
  jcons (jG jC_70 jY_70 dX3_feed_45 fk_3_7_X3 (Or.inl q1319)) <|
  jcons (jL jC_70 dX3_feed_48 rfl) <|
  jcons (jL jC_70 dX3_feed_50 rfl) <|
  jcons (jL jC_70 dX3_feed_51 rfl) <|
  jcons (jL jC_70 dX3_feed_54 rfl) <|
  jcons (jL jC_70 dX3_feed_57 rfl) <|
  jcons (jL jC_70 dX3_feed_58 rfl) <|
  jcons (jL jC_70 dX3_feed_59 rfl) <|
  jcons (jL jC_70 dX3_feed_60 rfl) <|
  jcons (jL jC_70 dX3_feed_62 rfl) <|
  jnil
theorem jt_70_1 : ∀ q ∈ tcX3_feed_1, sJ jnw jao 70 q.1 q.2.1 q.2.2 :=
  jcons (jL jC_70 dX3_feed_64 rfl) <|
  jcons (jL jC_70 dX3_feed_66 rfl) <|
  jcons (jL jC_70 dX3_feed_69 rfl) <|
  jcons (jL jC_70 dX3_feed_70 rfl) <|
  jcons (jL jC_70 dX3_feed_71 rfl) <|
  jcons (jL jC_70 dX3_feed_72 rfl) <|
  jcons (jL jC_70 dX3_feed_74 rfl) <|
  jcons (jL jC_70 dX3_feed_76 rfl) <|
  jcons (j4S jC_70 jY_70 dX3_feed_78 (jc_71 _) q1487 pd_71 (Or.inl q1486)) <|
  jcons (jL jC_70 dX3_feed_81 rfl) <|
  jcons (jL jC_70 dX3_feed_83 rfl) <|
  jcons (jL jC_70 dX3_feed_85 rfl) <|
  jcons (jL jC_70 dX3_feed_88 rfl) <|
  jcons (jG jC_70 jY_70 dX3_feed_89 fk_3_6_X3 (Or.inl q1318)) <|
  jcons (jL jC_70 dX3_feed_92 rfl) <|
  jcons (jG jC_70 jY_70 dX3_feed_93 fk_3_7_X3 (Or.inl q1319)) <|
  jcons (jL jC_70 dX3_feed_96 rfl) <|
  jcons (jL jC_70 dX3_feed_98 rfl) <|
  jcons (jL jC_70 dX3_feed_99 rfl) <|
  jcons (jL jC_70 dX3_feed_100 rfl) <|
  jcons (jG jC_70 jY_70 dX3_feed_101 fk_3_7_X3 (Or.inl q1319)) <|
  jcons (jL jC_70 dX3_feed_104 rfl) <|
  jcons (jL jC_70 dX3_feed_105 rfl) <|
  jcons (jPu jC_70 jY_70 dX3_feed_106 fk_3_7_X3 ap_3_7 (fn_3_7 _) (Or.inl q1319) (tyX3_ok 7 (by decide)) (Or.inl ⟨rfl, rfl⟩)) <|
  jcons (jL jC_70 dX3_feed_109 rfl) <|
  jcons (jL jC_70 dX3_feed_112 rfl) <|
  jcons (jL jC_70 dX3_feed_115 rfl) <|
  jcons (jG jC_70 jY_70 dX3_feed_116 fk_3_7_X3 (Or.inl q1319)) <|
  jcons (jL jC_70 dX3_feed_119 rfl) <|
  jnil
theorem jm_70 : ∀ l ∈ tbX3_feed, ∀ q ∈ l, sJ jnw jao 70 q.1 q.2.1 q.2.2 := jmc jt_70_0 <| jmc jt_70_1 <| jmn
theorem jt_71_0 : ∀ q ∈ tcX3_byteOf_0, sJ jnw jao 71 q.1 q.2.1 q.2.2 :=
  jcons (jL jC_71 dX3_byteOf_0 rfl) <|
  jcons (jL jC_71 dX3_byteOf_2 rfl) <|
  jcons (jL jC_71 dX3_byteOf_3 rfl) <|
  jcons (jL jC_71 dX3_byteOf_6 rfl) <|
  jcons (jL jC_71 dX3_byteOf_7 rfl) <|
  jcons (jL jC_71 dX3_byteOf_10 rfl) <|
  jcons (jL jC_71 dX3_byteOf_12 rfl) <|
  jcons (jL jC_71 dX3_byteOf_14 rfl) <|
  jcons (jL jC_71 dX3_byteOf_17 rfl) <|
  jcons (jL jC_71 dX3_byteOf_18 rfl) <|
  jcons (jL jC_71 dX3_byteOf_21 rfl) <|
  jcons (jL jC_71 dX3_byteOf_23 rfl) <|
  jcons (jL jC_71 dX3_byteOf_25 rfl) <|
  jcons (jL jC_71 dX3_byteOf_28 rfl) <|
  jcons (jL jC_71 dX3_byteOf_29 rfl) <|
  jcons (jL jC_71 dX3_byteOf_32 rfl) <|
  jcons (jL jC_71 dX3_byteOf_34 rfl) <|
  jcons (jL jC_71 dX3_byteOf_36 rfl) <|
  jcons (jL jC_71 dX3_byteOf_39 rfl) <|
  jcons (jL jC_71 dX3_byteOf_40 rfl) <|
  jcons (jL jC_71 dX3_byteOf_43 rfl) <|
  jcons (jL jC_71 dX3_byteOf_45 rfl) <|
  jcons (jL jC_71 dX3_byteOf_47 rfl) <|
  jcons (jL jC_71 dX3_byteOf_49 rfl) <|
  jcons (jL jC_71 dX3_byteOf_51 rfl) <|
  jcons (jL jC_71 dX3_byteOf_53 rfl) <|
  jcons (jL jC_71 dX3_byteOf_55 rfl) <|
  jcons (jL jC_71 dX3_byteOf_56 rfl) <|
  jcons (jL jC_71 dX3_byteOf_57 rfl) <|
  jcons (jL jC_71 dX3_byteOf_58 rfl) <|
  jcons (jL jC_71 dX3_byteOf_59 rfl) <|
  jcons (jL jC_71 dX3_byteOf_60 rfl) <|
  jcons (jL jC_71 dX3_byteOf_63 rfl) <|
  jnil
theorem jt_71_1 : ∀ q ∈ tcX3_byteOf_1, sJ jnw jao 71 q.1 q.2.1 q.2.2 :=
  jcons (jL jC_71 dX3_byteOf_64 rfl) <|
  jnil
theorem jm_71 : ∀ l ∈ tbX3_byteOf, ∀ q ∈ l, sJ jnw jao 71 q.1 q.2.1 q.2.2 := jmc jt_71_0 <| jmc jt_71_1 <| jmn
theorem jt_72_0 : ∀ q ∈ tcX3_end_0, sJ jnw jao 72 q.1 q.2.1 q.2.2 :=
  jcons (jL jC_72 dX3_end_0 rfl) <|
  jcons (jL jC_72 dX3_end_1 rfl) <|
  jcons (jL jC_72 dX3_end_4 rfl) <|
  jcons (jL jC_72 dX3_end_5 rfl) <|
  jcons (jG jC_72 jY_72 dX3_end_6 fk_3_7_X3 (Or.inl q1319)) <|
  jcons (jL jC_72 dX3_end_9 rfl) <|
  jcons (jL jC_72 dX3_end_12 rfl) <|
  jcons (jL jC_72 dX3_end_13 rfl) <|
  jcons (jL jC_72 dX3_end_14 rfl) <|
  jcons (jL jC_72 dX3_end_15 rfl) <|
  jcons (jPu jC_72 jY_72 dX3_end_16 fk_3_7_X3 ap_3_7 (fn_3_7 _) (Or.inl q1319) (tyX3_ok 7 (by decide)) (Or.inl ⟨rfl, rfl⟩)) <|
  jcons (jL jC_72 dX3_end_19 rfl) <|
  jcons (jL jC_72 dX3_end_20 rfl) <|
  jnil
theorem jm_72 : ∀ l ∈ tbX3_end, ∀ q ∈ l, sJ jnw jao 72 q.1 q.2.1 q.2.2 := jmc jt_72_0 <| jmn
theorem jt_73_0 : ∀ q ∈ tcX3_fault_0, sJ jnw jao 73 q.1 q.2.1 q.2.2 :=
  jcons (jL jC_73 dX3_fault_0 rfl) <|
  jcons (jL jC_73 dX3_fault_1 rfl) <|
  jcons (jL jC_73 dX3_fault_4 rfl) <|
  jcons (jL jC_73 dX3_fault_5 rfl) <|
  jcons (j4V jC_73 jY_73 dX3_fault_7 (jc_74 _) q1499 pd_74 (Or.inl q1497) (fun c r h1 h2 => js_119 c r h1 h2)) <|
  jcons (jL jC_73 dX3_fault_10 rfl) <|
  jcons (jL jC_73 dX3_fault_13 rfl) <|
  jcons (jL jC_73 dX3_fault_14 rfl) <|
  jcons (jL jC_73 dX3_fault_15 rfl) <|
  jcons (jL jC_73 dX3_fault_18 rfl) <|
  jcons (jL jC_73 dX3_fault_19 rfl) <|
  jcons (j4V jC_73 jY_73 dX3_fault_21 (jc_88 _) q1556 pd_88 (Or.inl q1554) (fun c r h1 h2 => js_120 c r h1 h2)) <|
  jcons (jL jC_73 dX3_fault_24 rfl) <|
  jcons (jL jC_73 dX3_fault_27 rfl) <|
  jcons (jL jC_73 dX3_fault_29 rfl) <|
  jnil
theorem jm_73 : ∀ l ∈ tbX3_fault, ∀ q ∈ l, sJ jnw jao 73 q.1 q.2.1 q.2.2 := jmc jt_73_0 <| jmn
theorem jt_74_0 : ∀ q ∈ tcX3_readFigure_0, sJ jnw jao 74 q.1 q.2.1 q.2.2 :=
  jcons (jL jC_74 dX3_readFigure_0 rfl) <|
  jcons (jL jC_74 dX3_readFigure_1 rfl) <|
  jcons (jPu jC_74 jY_74 dX3_readFigure_2 fk_3_25_X3 ap_3_25 (fn_3_25 _) (Or.inl q1337) (tyX3_ok 25 (by decide)) (Or.inl ⟨rfl, rfl⟩)) <|
  jcons (jL jC_74 dX3_readFigure_5 rfl) <|
  jcons (jL jC_74 dX3_readFigure_6 rfl) <|
  jcons (jPu jC_74 jY_74 dX3_readFigure_7 fk_3_8_X3 ap_3_8 (fn_3_8 _) (Or.inl q1320) (tyX3_ok 8 (by decide)) (Or.inl ⟨rfl, rfl⟩)) <|
  jcons (jL jC_74 dX3_readFigure_10 rfl) <|
  jcons (jL jC_74 dX3_readFigure_11 rfl) <|
  jcons (jPu jC_74 jY_74 dX3_readFigure_12 fk_3_9_X3 ap_3_9 (fn_3_9 _) (Or.inl q1321) (tyX3_ok 9 (by decide)) (Or.inl ⟨rfl, rfl⟩)) <|
  jcons (jL jC_74 dX3_readFigure_15 rfl) <|
  jcons (jL jC_74 dX3_readFigure_16 rfl) <|
  jcons (jPu jC_74 jY_74 dX3_readFigure_17 fk_3_10_X3 ap_3_10 (fn_3_10 _) (Or.inl q1322) (tyX3_ok 10 (by decide)) (Or.inl ⟨rfl, rfl⟩)) <|
  jcons (jL jC_74 dX3_readFigure_20 rfl) <|
  jcons (jL jC_74 dX3_readFigure_21 rfl) <|
  jcons (jPu jC_74 jY_74 dX3_readFigure_22 fk_3_23_X3 ap_3_23 (fn_3_23 _) (Or.inl q1335) (tyX3_ok 23 (by decide)) (Or.inl ⟨rfl, rfl⟩)) <|
  jcons (jL jC_74 dX3_readFigure_25 rfl) <|
  jcons (jG jC_74 jY_74 dX3_readFigure_26 fk_3_11_X3 (Or.inl q1323)) <|
  jcons (jL jC_74 dX3_readFigure_29 rfl) <|
  jcons (jG jC_74 jY_74 dX3_readFigure_30 fk_3_25_X3 (Or.inl q1337)) <|
  jcons (jL jC_74 dX3_readFigure_33 rfl) <|
  jcons (jL jC_74 dX3_readFigure_34 rfl) <|
  jcons (jL jC_74 dX3_readFigure_35 rfl) <|
  jcons (jG jC_74 jY_74 dX3_readFigure_36 fk_3_13_X3 (Or.inl q1325)) <|
  jcons (jL jC_74 dX3_readFigure_39 rfl) <|
  jcons (jG jC_74 jY_74 dX3_readFigure_40 fk_3_25_X3 (Or.inl q1337)) <|
  jcons (jL jC_74 dX3_readFigure_43 rfl) <|
  jcons (jL jC_74 dX3_readFigure_44 rfl) <|
  jcons (jL jC_74 dX3_readFigure_45 rfl) <|
  jcons (jG jC_74 jY_74 dX3_readFigure_46 fk_3_19_X3 (Or.inl q1331)) <|
  jcons (jL jC_74 dX3_readFigure_49 rfl) <|
  jcons (jG jC_74 jY_74 dX3_readFigure_50 fk_3_25_X3 (Or.inl q1337)) <|
  jcons (jL jC_74 dX3_readFigure_53 rfl) <|
  jcons (jL jC_74 dX3_readFigure_54 rfl) <|
  jcons (jL jC_74 dX3_readFigure_55 rfl) <|
  jcons (jL jC_74 dX3_readFigure_56 rfl) <|
  jcons (jL jC_74 dX3_readFigure_57 rfl) <|
  jcons (jL jC_74 dX3_readFigure_58 rfl) <|
  jcons (jL jC_74 dX3_readFigure_60 rfl) <|
  jcons (jL jC_74 dX3_readFigure_63 rfl) <|
  jnil
theorem jt_74_1 : ∀ q ∈ tcX3_readFigure_1, sJ jnw jao 74 q.1 q.2.1 q.2.2 :=
  jcons (jG jC_74 jY_74 dX3_readFigure_64 fk_3_22_X3 (Or.inl q1334)) <|
  jcons (jL jC_74 dX3_readFigure_67 rfl) <|
  jcons (jL jC_74 dX3_readFigure_68 rfl) <|
  jcons (jL jC_74 dX3_readFigure_69 rfl) <|
  jcons (jL jC_74 dX3_readFigure_70 rfl) <|
  jcons (jL jC_74 dX3_readFigure_73 rfl) <|
  jcons (jL jC_74 dX3_readFigure_76 rfl) <|
  jcons (j4V jC_74 jY_74 dX3_readFigure_77 (jc_75 _) q1503 pd_75 (Or.inl q1501) (fun c r h1 h2 => js_121 c r h1 h2)) <|
  jcons (jL jC_74 dX3_readFigure_80 rfl) <|
  jcons (jG jC_74 jY_74 dX3_readFigure_81 fk_3_9_X3 (Or.inl q1321)) <|
  jcons (jL jC_74 dX3_readFigure_84 rfl) <|
  jcons (jL jC_74 dX3_readFigure_85 rfl) <|
  jcons (jL jC_74 dX3_readFigure_88 rfl) <|
  jcons (j4V jC_74 jY_74 dX3_readFigure_89 (jc_76 _) q1507 pd_76 (Or.inl q1505) (fun c r h1 h2 => js_122 c r h1 h2)) <|
  jcons (jL jC_74 dX3_readFigure_92 rfl) <|
  jcons (jL jC_74 dX3_readFigure_94 rfl) <|
  jcons (jL jC_74 dX3_readFigure_97 rfl) <|
  jcons (jG jC_74 jY_74 dX3_readFigure_98 fk_3_11_X3 (Or.inl q1323)) <|
  jcons (jL jC_74 dX3_readFigure_101 rfl) <|
  jcons (jG jC_74 jY_74 dX3_readFigure_102 fk_3_25_X3 (Or.inl q1337)) <|
  jcons (jL jC_74 dX3_readFigure_105 rfl) <|
  jcons (jL jC_74 dX3_readFigure_106 rfl) <|
  jcons (jL jC_74 dX3_readFigure_108 rfl) <|
  jcons (jL jC_74 dX3_readFigure_111 rfl) <|
  jcons (jL jC_74 dX3_readFigure_112 rfl) <|
  jcons (jG jC_74 jY_74 dX3_readFigure_113 fk_3_8_X3 (Or.inl q1320)) <|
  jcons (jL jC_74 dX3_readFigure_116 rfl) <|
  jcons (jL jC_74 dX3_readFigure_117 rfl) <|
  jcons (jPu jC_74 jY_74 dX3_readFigure_118 fk_3_8_X3 ap_3_8 (fn_3_8 _) (Or.inl q1320) (tyX3_ok 8 (by decide)) (Or.inl ⟨rfl, rfl⟩)) <|
  jcons (jL jC_74 dX3_readFigure_121 rfl) <|
  jcons (j4V jC_74 jY_74 dX3_readFigure_122 (jc_75 _) q1503 pd_75 (Or.inl q1501) (fun c r h1 h2 => js_121 c r h1 h2)) <|
  jcons (jL jC_74 dX3_readFigure_125 rfl) <|
  jnil
theorem jt_74_2 : ∀ q ∈ tcX3_readFigure_2, sJ jnw jao 74 q.1 q.2.1 q.2.2 :=
  jcons (jL jC_74 dX3_readFigure_128 rfl) <|
  jcons (jG jC_74 jY_74 dX3_readFigure_129 fk_3_9_X3 (Or.inl q1321)) <|
  jcons (jL jC_74 dX3_readFigure_132 rfl) <|
  jcons (jL jC_74 dX3_readFigure_133 rfl) <|
  jcons (jL jC_74 dX3_readFigure_136 rfl) <|
  jcons (j4V jC_74 jY_74 dX3_readFigure_137 (jc_76 _) q1507 pd_76 (Or.inl q1505) (fun c r h1 h2 => js_122 c r h1 h2)) <|
  jcons (jL jC_74 dX3_readFigure_140 rfl) <|
  jcons (jL jC_74 dX3_readFigure_141 rfl) <|
  jcons (jL jC_74 dX3_readFigure_144 rfl) <|
  jcons (j4V jC_74 jY_74 dX3_readFigure_145 (jc_78 _) q1515 pd_78 (Or.inl q1513) (fun c r h1 h2 => js_123 c r h1 h2)) <|
  jcons (jL jC_74 dX3_readFigure_148 rfl) <|
  jcons (jG jC_74 jY_74 dX3_readFigure_149 fk_3_9_X3 (Or.inl q1321)) <|
  jcons (jL jC_74 dX3_readFigure_152 rfl) <|
  jcons (jL jC_74 dX3_readFigure_153 rfl) <|
  jcons (jL jC_74 dX3_readFigure_156 rfl) <|
  jcons (j4V jC_74 jY_74 dX3_readFigure_157 (jc_87 _) q1552 pd_87 (Or.inl q1550) (fun c r h1 h2 => js_124 c r h1 h2)) <|
  jcons (jL jC_74 dX3_readFigure_160 rfl) <|
  jcons (jG jC_74 jY_74 dX3_readFigure_161 fk_3_9_X3 (Or.inl q1321)) <|
  jcons (jL jC_74 dX3_readFigure_164 rfl) <|
  jnil
theorem jm_74 : ∀ l ∈ tbX3_readFigure, ∀ q ∈ l, sJ jnw jao 74 q.1 q.2.1 q.2.2 := jmc jt_74_0 <| jmc jt_74_1 <| jmc jt_74_2 <| jmn
theorem jt_75_0 : ∀ q ∈ tcX3_balloon_0, sJ jnw jao 75 q.1 q.2.1 q.2.2 :=
  jcons (jL jC_75 dX3_balloon_0 rfl) <|
  jcons (j4V jC_75 jY_75 dX3_balloon_1 (jc_76 _) q1507 pd_76 (Or.inl q1505) (fun c r h1 h2 => js_122 c r h1 h2)) <|
  jcons (jL jC_75 dX3_balloon_4 rfl) <|
  jcons (jL jC_75 dX3_balloon_6 rfl) <|
  jcons (jL jC_75 dX3_balloon_9 rfl) <|
  jcons (j4V jC_75 jY_75 dX3_balloon_10 (jc_78 _) q1515 pd_78 (Or.inl q1513) (fun c r h1 h2 => js_123 c r h1 h2)) <|
  jcons (jL jC_75 dX3_balloon_13 rfl) <|
  jcons (jL jC_75 dX3_balloon_14 rfl) <|
  jcons (jL jC_75 dX3_balloon_15 rfl) <|
  jcons (jG jC_75 jY_75 dX3_balloon_16 fk_3_8_X3 (Or.inl q1320)) <|
  jcons (jL jC_75 dX3_balloon_19 rfl) <|
  jcons (jL jC_75 dX3_balloon_20 rfl) <|
  jcons (jPu jC_75 jY_75 dX3_balloon_21 fk_3_8_X3 ap_3_8 (fn_3_8 _) (Or.inl q1320) (tyX3_ok 8 (by decide)) (Or.inl ⟨rfl, rfl⟩)) <|
  jcons (jL jC_75 dX3_balloon_24 rfl) <|
  jcons (j4V jC_75 jY_75 dX3_balloon_25 (jc_76 _) q1507 pd_76 (Or.inl q1505) (fun c r h1 h2 => js_122 c r h1 h2)) <|
  jcons (jL jC_75 dX3_balloon_28 rfl) <|
  jcons (jL jC_75 dX3_balloon_29 rfl) <|
  jcons (j4S jC_75 jY_75 dX3_balloon_30 (jc_79 _) q1518 pd_79 (Or.inl q1517)) <|
  jcons (jL jC_75 dX3_balloon_33 rfl) <|
  jcons (jL jC_75 dX3_balloon_36 rfl) <|
  jcons (jL jC_75 dX3_balloon_37 rfl) <|
  jcons (jL jC_75 dX3_balloon_39 rfl) <|
  jcons (jL jC_75 dX3_balloon_40 rfl) <|
  jcons (jG jC_75 jY_75 dX3_balloon_41 fk_3_5_X3 (Or.inl q1317)) <|
  jcons (jL jC_75 dX3_balloon_44 rfl) <|
  jcons (jL jC_75 dX3_balloon_47 rfl) <|
  jcons (j4V jC_75 jY_75 dX3_balloon_48 (jc_78 _) q1515 pd_78 (Or.inl q1513) (fun c r h1 h2 => js_123 c r h1 h2)) <|
  jcons (jL jC_75 dX3_balloon_51 rfl) <|
  jcons (jL jC_75 dX3_balloon_52 rfl) <|
  jcons (jL jC_75 dX3_balloon_53 rfl) <|
  jcons (jG jC_75 jY_75 dX3_balloon_54 fk_3_8_X3 (Or.inl q1320)) <|
  jcons (jL jC_75 dX3_balloon_57 rfl) <|
  jcons (jL jC_75 dX3_balloon_58 rfl) <|
  jcons (jPu jC_75 jY_75 dX3_balloon_59 fk_3_8_X3 ap_3_8 (fn_3_8 _) (Or.inl q1320) (tyX3_ok 8 (by decide)) (Or.inl ⟨rfl, rfl⟩)) <|
  jcons (jL jC_75 dX3_balloon_62 rfl) <|
  jcons (jG jC_75 jY_75 dX3_balloon_63 fk_3_12_X3 (Or.inl q1324)) <|
  jnil
theorem jt_75_1 : ∀ q ∈ tcX3_balloon_1, sJ jnw jao 75 q.1 q.2.1 q.2.2 :=
  jcons (jL jC_75 dX3_balloon_66 rfl) <|
  jcons (jL jC_75 dX3_balloon_68 rfl) <|
  jcons (jG jC_75 jY_75 dX3_balloon_69 fk_3_25_X3 (Or.inl q1337)) <|
  jcons (jL jC_75 dX3_balloon_72 rfl) <|
  jcons (jL jC_75 dX3_balloon_73 rfl) <|
  jcons (jG jC_75 jY_75 dX3_balloon_74 fk_3_11_X3 (Or.inl q1323)) <|
  jcons (jL jC_75 dX3_balloon_77 rfl) <|
  jcons (jG jC_75 jY_75 dX3_balloon_78 fk_3_25_X3 (Or.inl q1337)) <|
  jcons (jL jC_75 dX3_balloon_81 rfl) <|
  jcons (jL jC_75 dX3_balloon_82 rfl) <|
  jcons (jL jC_75 dX3_balloon_83 rfl) <|
  jcons (jL jC_75 dX3_balloon_84 rfl) <|
  jcons (jL jC_75 dX3_balloon_86 rfl) <|
  jcons (jL jC_75 dX3_balloon_87 rfl) <|
  jcons (jL jC_75 dX3_balloon_88 rfl) <|
  jcons (jG jC_75 jY_75 dX3_balloon_89 fk_3_11_X3 (Or.inl q1323)) <|
  jcons (jL jC_75 dX3_balloon_92 rfl) <|
  jcons (jG jC_75 jY_75 dX3_balloon_93 fk_3_25_X3 (Or.inl q1337)) <|
  jcons (jL jC_75 dX3_balloon_96 rfl) <|
  jcons (jL jC_75 dX3_balloon_97 rfl) <|
  jcons (jL jC_75 dX3_balloon_98 rfl) <|
  jcons (jL jC_75 dX3_balloon_99 rfl) <|
  jcons (jL jC_75 dX3_balloon_100 rfl) <|
  jcons (jL jC_75 dX3_balloon_101 rfl) <|
  jcons (jL jC_75 dX3_balloon_102 rfl) <|
  jcons (j4V jC_75 jY_75 dX3_balloon_103 (jc_80 _) q1522 pd_80 (Or.inl q1520) (fun c r h1 h2 => js_125 c r h1 h2)) <|
  jcons (jPu jC_75 jY_75 dX3_balloon_106 fk_3_24_X3 ap_3_24 (fn_3_24 _) (Or.inl q1336) (tyX3_ok 24 (by decide)) (Or.inl ⟨rfl, rfl⟩)) <|
  jcons (jL jC_75 dX3_balloon_109 rfl) <|
  jcons (j4V jC_75 jY_75 dX3_balloon_110 (jc_81 _) q1526 pd_81 (Or.inl q1524) (fun c r h1 h2 => js_126 c r h1 h2)) <|
  jcons (jL jC_75 dX3_balloon_113 rfl) <|
  jnil
theorem jm_75 : ∀ l ∈ tbX3_balloon, ∀ q ∈ l, sJ jnw jao 75 q.1 q.2.1 q.2.2 := jmc jt_75_0 <| jmc jt_75_1 <| jmn
theorem jt_76_0 : ∀ q ∈ tcX3_look_0, sJ jnw jao 76 q.1 q.2.1 q.2.2 :=
  jcons (jL jC_76 dX3_look_0 rfl) <|
  jcons (j4V jC_76 jY_76 dX3_look_1 (jc_77 _) q1511 pd_77 (Or.inl q1509) (fun c r h1 h2 => js_127 c r h1 h2)) <|
  jcons (jL jC_76 dX3_look_4 rfl) <|
  jcons (jL jC_76 dX3_look_6 rfl) <|
  jcons (jL jC_76 dX3_look_9 rfl) <|
  jcons (jL jC_76 dX3_look_10 rfl) <|
  jcons (jG jC_76 jY_76 dX3_look_11 fk_3_8_X3 (Or.inl q1320)) <|
  jcons (jL jC_76 dX3_look_14 rfl) <|
  jcons (jL jC_76 dX3_look_15 rfl) <|
  jcons (jPu jC_76 jY_76 dX3_look_16 fk_3_8_X3 ap_3_8 (fn_3_8 _) (Or.inl q1320) (tyX3_ok 8 (by decide)) (Or.inl ⟨rfl, rfl⟩)) <|
  jcons (jL jC_76 dX3_look_19 rfl) <|
  jcons (jL jC_76 dX3_look_22 rfl) <|
  jcons (j4V jC_76 jY_76 dX3_look_23 (jc_77 _) q1511 pd_77 (Or.inl q1509) (fun c r h1 h2 => js_127 c r h1 h2)) <|
  jcons (jL jC_76 dX3_look_26 rfl) <|
  jnil
theorem jm_76 : ∀ l ∈ tbX3_look, ∀ q ∈ l, sJ jnw jao 76 q.1 q.2.1 q.2.2 := jmc jt_76_0 <| jmn
theorem jt_77_0 : ∀ q ∈ tcX3_here_0, sJ jnw jao 77 q.1 q.2.1 q.2.2 :=
  jcons (jL jC_77 dX3_here_0 rfl) <|
  jcons (jG jC_77 jY_77 dX3_here_1 fk_3_8_X3 (Or.inl q1320)) <|
  jcons (jL jC_77 dX3_here_4 rfl) <|
  jcons (jG jC_77 jY_77 dX3_here_5 fk_3_7_X3 (Or.inl q1319)) <|
  jcons (jL jC_77 dX3_here_8 rfl) <|
  jcons (jL jC_77 dX3_here_11 rfl) <|
  jcons (jG jC_77 jY_77 dX3_here_12 fk_3_6_X3 (Or.inl q1318)) <|
  jcons (jL jC_77 dX3_here_15 rfl) <|
  jcons (jG jC_77 jY_77 dX3_here_16 fk_3_8_X3 (Or.inl q1320)) <|
  jcons (jL jC_77 dX3_here_19 rfl) <|
  jcons (jL jC_77 dX3_here_20 rfl) <|
  jcons (jL jC_77 dX3_here_23 rfl) <|
  jcons (jL jC_77 dX3_here_24 rfl) <|
  jnil
theorem jm_77 : ∀ l ∈ tbX3_here, ∀ q ∈ l, sJ jnw jao 77 q.1 q.2.1 q.2.2 := jmc jt_77_0 <| jmn
theorem jt_78_0 : ∀ q ∈ tcX3_bad_0, sJ jnw jao 78 q.1 q.2.1 q.2.2 :=
  jcons (jL jC_78 dX3_bad_0 rfl) <|
  jcons (jL jC_78 dX3_bad_1 rfl) <|
  jcons (jG jC_78 jY_78 dX3_bad_2 fk_3_9_X3 (Or.inl q1321)) <|
  jcons (jL jC_78 dX3_bad_5 rfl) <|
  jcons (jL jC_78 dX3_bad_6 rfl) <|
  jcons (jL jC_78 dX3_bad_9 rfl) <|
  jcons (jG jC_78 jY_78 dX3_bad_10 fk_3_8_X3 (Or.inl q1320)) <|
  jcons (jL jC_78 dX3_bad_13 rfl) <|
  jcons (jL jC_78 dX3_bad_16 rfl) <|
  jcons (jG jC_78 jY_78 dX3_bad_17 fk_3_9_X3 (Or.inl q1321)) <|
  jcons (jPu jC_78 jY_78 dX3_bad_20 fk_3_9_X3 ap_3_9 (fn_3_9 _) (Or.inl q1321) (tyX3_ok 9 (by decide)) (Or.inl ⟨rfl, rfl⟩)) <|
  jcons (jL jC_78 dX3_bad_23 rfl) <|
  jnil
theorem jm_78 : ∀ l ∈ tbX3_bad, ∀ q ∈ l, sJ jnw jao 78 q.1 q.2.1 q.2.2 := jmc jt_78_0 <| jmn
theorem jt_79_0 : ∀ q ∈ tcX3_isDigit_0, sJ jnw jao 79 q.1 q.2.1 q.2.2 :=
  jcons (jL jC_79 dX3_isDigit_0 rfl) <|
  jcons (jL jC_79 dX3_isDigit_1 rfl) <|
  jcons (jL jC_79 dX3_isDigit_3 rfl) <|
  jcons (jL jC_79 dX3_isDigit_6 rfl) <|
  jcons (jL jC_79 dX3_isDigit_7 rfl) <|
  jcons (jL jC_79 dX3_isDigit_9 rfl) <|
  jcons (jL jC_79 dX3_isDigit_12 rfl) <|
  jcons (jL jC_79 dX3_isDigit_13 rfl) <|
  jcons (jL jC_79 dX3_isDigit_16 rfl) <|
  jcons (jL jC_79 dX3_isDigit_17 rfl) <|
  jnil
theorem jm_79 : ∀ l ∈ tbX3_isDigit, ∀ q ∈ l, sJ jnw jao 79 q.1 q.2.1 q.2.2 := jmc jt_79_0 <| jmn
theorem jt_80_0 : ∀ q ∈ tcX3_newPoint_0, sJ jnw jao 80 q.1 q.2.1 q.2.2 :=
  jcons (jL jC_80 dX3_newPoint_0 rfl) <|
  jcons (jG jC_80 jY_80 dX3_newPoint_1 fk_3_21_X3 (Or.inl q1333)) <|
  jcons (jL jC_80 dX3_newPoint_4 rfl) <|
  jcons (jG jC_80 jY_80 dX3_newPoint_5 fk_3_23_X3 (Or.inl q1335)) <|
  jcons (jL jC_80 dX3_newPoint_8 rfl) <|
  jcons (jG jC_80 jY_80 dX3_newPoint_9 fk_3_23_X3 (Or.inl q1335)) <|
  jcons (jL jC_80 dX3_newPoint_12 rfl) <|
  jcons (jL jC_80 dX3_newPoint_13 rfl) <|
  jcons (jL jC_80 dX3_newPoint_14 rfl) <|
  jcons (jG jC_80 jY_80 dX3_newPoint_15 fk_3_23_X3 (Or.inl q1335)) <|
  jcons (jL jC_80 dX3_newPoint_18 rfl) <|
  jcons (jL jC_80 dX3_newPoint_19 rfl) <|
  jcons (jPu jC_80 jY_80 dX3_newPoint_20 fk_3_23_X3 ap_3_23 (fn_3_23 _) (Or.inl q1335) (tyX3_ok 23 (by decide)) (Or.inl ⟨rfl, rfl⟩)) <|
  jcons (jL jC_80 dX3_newPoint_23 rfl) <|
  jcons (jG jC_80 jY_80 dX3_newPoint_24 fk_3_23_X3 (Or.inl q1335)) <|
  jcons (jL jC_80 dX3_newPoint_27 rfl) <|
  jcons (jL jC_80 dX3_newPoint_28 rfl) <|
  jcons (jL jC_80 dX3_newPoint_29 rfl) <|
  jnil
theorem jm_80 : ∀ l ∈ tbX3_newPoint, ∀ q ∈ l, sJ jnw jao 80 q.1 q.2.1 q.2.2 := jmc jt_80_0 <| jmn
theorem jt_81_0 : ∀ q ∈ tcX3_moves_0, sJ jnw jao 81 q.1 q.2.1 q.2.2 :=
  jcons (jL jC_81 dX3_moves_0 rfl) <|
  jcons (jL jC_81 dX3_moves_1 rfl) <|
  jcons (jL jC_81 dX3_moves_2 rfl) <|
  jcons (jL jC_81 dX3_moves_3 rfl) <|
  jcons (jL jC_81 dX3_moves_4 rfl) <|
  jcons (jL jC_81 dX3_moves_5 rfl) <|
  jcons (jL jC_81 dX3_moves_8 rfl) <|
  jcons (jG jC_81 jY_81 dX3_moves_9 fk_3_9_X3 (Or.inl q1321)) <|
  jcons (jL jC_81 dX3_moves_12 rfl) <|
  jcons (jL jC_81 dX3_moves_13 rfl) <|
  jcons (jL jC_81 dX3_moves_16 rfl) <|
  jcons (j4V jC_81 jY_81 dX3_moves_17 (jc_76 _) q1507 pd_76 (Or.inl q1505) (fun c r h1 h2 => js_122 c r h1 h2)) <|
  jcons (jL jC_81 dX3_moves_20 rfl) <|
  jcons (jL jC_81 dX3_moves_21 rfl) <|
  jcons (j4S jC_81 jY_81 dX3_moves_22 (jc_79 _) q1518 pd_79 (Or.inl q1517)) <|
  jcons (jL jC_81 dX3_moves_25 rfl) <|
  jcons (jL jC_81 dX3_moves_28 rfl) <|
  jcons (j4V jC_81 jY_81 dX3_moves_29 (jc_82 _) q1530 pd_82 (Or.inl q1528) (fun c r h1 h2 => js_128 c r h1 h2)) <|
  jcons (jL jC_81 dX3_moves_32 rfl) <|
  jcons (jL jC_81 dX3_moves_35 rfl) <|
  jcons (jL jC_81 dX3_moves_36 rfl) <|
  jcons (jL jC_81 dX3_moves_38 rfl) <|
  jcons (jL jC_81 dX3_moves_41 rfl) <|
  jcons (jL jC_81 dX3_moves_42 rfl) <|
  jcons (jL jC_81 dX3_moves_44 rfl) <|
  jcons (jL jC_81 dX3_moves_47 rfl) <|
  jcons (jL jC_81 dX3_moves_48 rfl) <|
  jcons (jG jC_81 jY_81 dX3_moves_49 fk_3_8_X3 (Or.inl q1320)) <|
  jcons (jL jC_81 dX3_moves_52 rfl) <|
  jcons (jL jC_81 dX3_moves_53 rfl) <|
  jcons (jPu jC_81 jY_81 dX3_moves_54 fk_3_8_X3 ap_3_8 (fn_3_8 _) (Or.inl q1320) (tyX3_ok 8 (by decide)) (Or.inl ⟨rfl, rfl⟩)) <|
  jcons (jL jC_81 dX3_moves_57 rfl) <|
  jcons (jG jC_81 jY_81 dX3_moves_58 fk_3_22_X3 (Or.inl q1334)) <|
  jcons (jL jC_81 dX3_moves_61 rfl) <|
  jcons (jL jC_81 dX3_moves_62 rfl) <|
  jnil
theorem jt_81_1 : ∀ q ∈ tcX3_moves_1, sJ jnw jao 81 q.1 q.2.1 q.2.2 :=
  jcons (jL jC_81 dX3_moves_64 rfl) <|
  jcons (jL jC_81 dX3_moves_65 rfl) <|
  jcons (jL jC_81 dX3_moves_66 rfl) <|
  jcons (jL jC_81 dX3_moves_67 rfl) <|
  jcons (jL jC_81 dX3_moves_70 rfl) <|
  jcons (jG jC_81 jY_81 dX3_moves_71 fk_3_22_X3 (Or.inl q1334)) <|
  jcons (jL jC_81 dX3_moves_74 rfl) <|
  jcons (jL jC_81 dX3_moves_75 rfl) <|
  jcons (jL jC_81 dX3_moves_77 rfl) <|
  jcons (jL jC_81 dX3_moves_78 rfl) <|
  jcons (jG jC_81 jY_81 dX3_moves_79 fk_3_24_X3 (Or.inl q1336)) <|
  jcons (jL jC_81 dX3_moves_82 rfl) <|
  jcons (jL jC_81 dX3_moves_83 rfl) <|
  jcons (jL jC_81 dX3_moves_86 rfl) <|
  jcons (jL jC_81 dX3_moves_87 rfl) <|
  jcons (jG jC_81 jY_81 dX3_moves_88 fk_3_22_X3 (Or.inl q1334)) <|
  jcons (jL jC_81 dX3_moves_91 rfl) <|
  jcons (jL jC_81 dX3_moves_92 rfl) <|
  jcons (jL jC_81 dX3_moves_94 rfl) <|
  jcons (jL jC_81 dX3_moves_95 rfl) <|
  jcons (jL jC_81 dX3_moves_96 rfl) <|
  jcons (jG jC_81 jY_81 dX3_moves_97 fk_3_24_X3 (Or.inl q1336)) <|
  jcons (j4V jC_81 jY_81 dX3_moves_100 (jc_85 _) q1543 pd_85 (Or.inl q1541) (fun c r h1 h2 => js_129 c r h1 h2)) <|
  jcons (jL jC_81 dX3_moves_103 rfl) <|
  jcons (jL jC_81 dX3_moves_106 rfl) <|
  jcons (jL jC_81 dX3_moves_107 rfl) <|
  jcons (jL jC_81 dX3_moves_109 rfl) <|
  jcons (jL jC_81 dX3_moves_112 rfl) <|
  jcons (j4V jC_81 jY_81 dX3_moves_113 (jc_86 _) q1548 pd_86 (Or.inl q1546) (fun c r h1 h2 => js_130 c r h1 h2)) <|
  jcons (jL jC_81 dX3_moves_116 rfl) <|
  jcons (jL jC_81 dX3_moves_119 rfl) <|
  jcons (jL jC_81 dX3_moves_120 rfl) <|
  jcons (jL jC_81 dX3_moves_121 rfl) <|
  jcons (jL jC_81 dX3_moves_122 rfl) <|
  jcons (jL jC_81 dX3_moves_123 rfl) <|
  jcons (jL jC_81 dX3_moves_126 rfl) <|
  jcons (jL jC_81 dX3_moves_127 rfl) <|
  jnil
theorem jt_81_2 : ∀ q ∈ tcX3_moves_2, sJ jnw jao 81 q.1 q.2.1 q.2.2 :=
  jcons (jL jC_81 dX3_moves_130 rfl) <|
  jcons (jL jC_81 dX3_moves_131 rfl) <|
  jcons (jL jC_81 dX3_moves_132 rfl) <|
  jcons (jL jC_81 dX3_moves_133 rfl) <|
  jcons (jL jC_81 dX3_moves_136 rfl) <|
  jcons (jL jC_81 dX3_moves_137 rfl) <|
  jcons (jL jC_81 dX3_moves_140 rfl) <|
  jcons (j4V jC_81 jY_81 dX3_moves_141 (jc_78 _) q1515 pd_78 (Or.inl q1513) (fun c r h1 h2 => js_123 c r h1 h2)) <|
  jcons (jL jC_81 dX3_moves_144 rfl) <|
  jnil
theorem jm_81 : ∀ l ∈ tbX3_moves, ∀ q ∈ l, sJ jnw jao 81 q.1 q.2.1 q.2.2 := jmc jt_81_0 <| jmc jt_81_1 <| jmc jt_81_2 <| jmn
theorem jt_82_0 : ∀ q ∈ tcX3_bubble_0, sJ jnw jao 82 q.1 q.2.1 q.2.2 :=
  jcons (jL jC_82 dX3_bubble_0 rfl) <|
  jcons (jG jC_82 jY_82 dX3_bubble_1 fk_3_13_X3 (Or.inl q1325)) <|
  jcons (jL jC_82 dX3_bubble_4 rfl) <|
  jcons (jG jC_82 jY_82 dX3_bubble_5 fk_3_25_X3 (Or.inl q1337)) <|
  jcons (jL jC_82 dX3_bubble_8 rfl) <|
  jcons (jL jC_82 dX3_bubble_9 rfl) <|
  jcons (jL jC_82 dX3_bubble_11 rfl) <|
  jcons (jL jC_82 dX3_bubble_14 rfl) <|
  jcons (j4V jC_82 jY_82 dX3_bubble_15 (jc_78 _) q1515 pd_78 (Or.inl q1513) (fun c r h1 h2 => js_123 c r h1 h2)) <|
  jcons (jL jC_82 dX3_bubble_18 rfl) <|
  jcons (jL jC_82 dX3_bubble_19 rfl) <|
  jcons (j4V jC_82 jY_82 dX3_bubble_20 (jc_77 _) q1511 pd_77 (Or.inl q1509) (fun c r h1 h2 => js_127 c r h1 h2)) <|
  jcons (jL jC_82 dX3_bubble_23 rfl) <|
  jcons (jL jC_82 dX3_bubble_25 rfl) <|
  jcons (jL jC_82 dX3_bubble_26 rfl) <|
  jcons (jL jC_82 dX3_bubble_27 rfl) <|
  jcons (jL jC_82 dX3_bubble_28 rfl) <|
  jcons (jG jC_82 jY_82 dX3_bubble_29 fk_3_8_X3 (Or.inl q1320)) <|
  jcons (jL jC_82 dX3_bubble_32 rfl) <|
  jcons (jL jC_82 dX3_bubble_33 rfl) <|
  jcons (jPu jC_82 jY_82 dX3_bubble_34 fk_3_8_X3 ap_3_8 (fn_3_8 _) (Or.inl q1320) (tyX3_ok 8 (by decide)) (Or.inl ⟨rfl, rfl⟩)) <|
  jcons (jL jC_82 dX3_bubble_37 rfl) <|
  jcons (j4V jC_82 jY_82 dX3_bubble_38 (jc_77 _) q1511 pd_77 (Or.inl q1509) (fun c r h1 h2 => js_127 c r h1 h2)) <|
  jcons (j4S jC_82 jY_82 dX3_bubble_41 (jc_79 _) q1518 pd_79 (Or.inl q1517)) <|
  jcons (jL jC_82 dX3_bubble_44 rfl) <|
  jcons (jL jC_82 dX3_bubble_47 rfl) <|
  jcons (jL jC_82 dX3_bubble_49 rfl) <|
  jcons (jL jC_82 dX3_bubble_50 rfl) <|
  jcons (jL jC_82 dX3_bubble_51 rfl) <|
  jcons (j4V jC_82 jY_82 dX3_bubble_52 (jc_77 _) q1511 pd_77 (Or.inl q1509) (fun c r h1 h2 => js_127 c r h1 h2)) <|
  jcons (jL jC_82 dX3_bubble_55 rfl) <|
  jcons (jL jC_82 dX3_bubble_56 rfl) <|
  jcons (jL jC_82 dX3_bubble_58 rfl) <|
  jcons (jL jC_82 dX3_bubble_59 rfl) <|
  jcons (jL jC_82 dX3_bubble_60 rfl) <|
  jcons (jL jC_82 dX3_bubble_61 rfl) <|
  jcons (jG jC_82 jY_82 dX3_bubble_62 fk_3_8_X3 (Or.inl q1320)) <|
  jnil
theorem jt_82_1 : ∀ q ∈ tcX3_bubble_1, sJ jnw jao 82 q.1 q.2.1 q.2.2 :=
  jcons (jL jC_82 dX3_bubble_65 rfl) <|
  jcons (jL jC_82 dX3_bubble_66 rfl) <|
  jcons (jPu jC_82 jY_82 dX3_bubble_67 fk_3_8_X3 ap_3_8 (fn_3_8 _) (Or.inl q1320) (tyX3_ok 8 (by decide)) (Or.inl ⟨rfl, rfl⟩)) <|
  jcons (jL jC_82 dX3_bubble_70 rfl) <|
  jcons (jL jC_82 dX3_bubble_71 rfl) <|
  jcons (jL jC_82 dX3_bubble_72 rfl) <|
  jcons (j4S jC_82 jY_82 dX3_bubble_74 (jc_69 _) q1480 pd_69 (Or.inl q1479)) <|
  jcons (jL jC_82 dX3_bubble_77 rfl) <|
  jcons (jL jC_82 dX3_bubble_80 rfl) <|
  jcons (jL jC_82 dX3_bubble_81 rfl) <|
  jcons (jG jC_82 jY_82 dX3_bubble_82 fk_3_8_X3 (Or.inl q1320)) <|
  jcons (jL jC_82 dX3_bubble_85 rfl) <|
  jcons (jL jC_82 dX3_bubble_86 rfl) <|
  jcons (jPu jC_82 jY_82 dX3_bubble_87 fk_3_8_X3 ap_3_8 (fn_3_8 _) (Or.inl q1320) (tyX3_ok 8 (by decide)) (Or.inl ⟨rfl, rfl⟩)) <|
  jcons (jL jC_82 dX3_bubble_90 rfl) <|
  jcons (j4V jC_82 jY_82 dX3_bubble_91 (jc_78 _) q1515 pd_78 (Or.inl q1513) (fun c r h1 h2 => js_123 c r h1 h2)) <|
  jcons (jL jC_82 dX3_bubble_94 rfl) <|
  jcons (jL jC_82 dX3_bubble_95 rfl) <|
  jcons (j4V jC_82 jY_82 dX3_bubble_96 (jc_77 _) q1511 pd_77 (Or.inl q1509) (fun c r h1 h2 => js_127 c r h1 h2)) <|
  jcons (j4S jC_82 jY_82 dX3_bubble_99 (jc_79 _) q1518 pd_79 (Or.inl q1517)) <|
  jcons (jL jC_82 dX3_bubble_102 rfl) <|
  jcons (jL jC_82 dX3_bubble_105 rfl) <|
  jcons (j4V jC_82 jY_82 dX3_bubble_106 (jc_78 _) q1515 pd_78 (Or.inl q1513) (fun c r h1 h2 => js_123 c r h1 h2)) <|
  jcons (jL jC_82 dX3_bubble_109 rfl) <|
  jcons (jL jC_82 dX3_bubble_110 rfl) <|
  jcons (jL jC_82 dX3_bubble_112 rfl) <|
  jcons (jG jC_82 jY_82 dX3_bubble_113 fk_3_25_X3 (Or.inl q1337)) <|
  jcons (jL jC_82 dX3_bubble_116 rfl) <|
  jcons (jL jC_82 dX3_bubble_117 rfl) <|
  jcons (jG jC_82 jY_82 dX3_bubble_118 fk_3_13_X3 (Or.inl q1325)) <|
  jcons (jL jC_82 dX3_bubble_121 rfl) <|
  jcons (jG jC_82 jY_82 dX3_bubble_122 fk_3_25_X3 (Or.inl q1337)) <|
  jcons (jL jC_82 dX3_bubble_125 rfl) <|
  jcons (jL jC_82 dX3_bubble_126 rfl) <|
  jcons (jL jC_82 dX3_bubble_127 rfl) <|
  jnil
theorem jt_82_2 : ∀ q ∈ tcX3_bubble_2, sJ jnw jao 82 q.1 q.2.1 q.2.2 :=
  jcons (jL jC_82 dX3_bubble_128 rfl) <|
  jcons (jG jC_82 jY_82 dX3_bubble_129 fk_3_15_X3 (Or.inl q1327)) <|
  jcons (jL jC_82 dX3_bubble_132 rfl) <|
  jcons (jL jC_82 dX3_bubble_133 rfl) <|
  jcons (jL jC_82 dX3_bubble_134 rfl) <|
  jcons (jL jC_82 dX3_bubble_135 rfl) <|
  jcons (jG jC_82 jY_82 dX3_bubble_136 fk_3_18_X3 (Or.inl q1330)) <|
  jcons (jL jC_82 dX3_bubble_139 rfl) <|
  jcons (jL jC_82 dX3_bubble_140 rfl) <|
  jcons (jG jC_82 jY_82 dX3_bubble_141 fk_3_11_X3 (Or.inl q1323)) <|
  jcons (jL jC_82 dX3_bubble_144 rfl) <|
  jcons (jG jC_82 jY_82 dX3_bubble_145 fk_3_25_X3 (Or.inl q1337)) <|
  jcons (jL jC_82 dX3_bubble_148 rfl) <|
  jcons (jL jC_82 dX3_bubble_149 rfl) <|
  jcons (jL jC_82 dX3_bubble_150 rfl) <|
  jcons (jL jC_82 dX3_bubble_151 rfl) <|
  jcons (jL jC_82 dX3_bubble_152 rfl) <|
  jcons (jG jC_82 jY_82 dX3_bubble_153 fk_3_16_X3 (Or.inl q1328)) <|
  jcons (jL jC_82 dX3_bubble_156 rfl) <|
  jcons (jL jC_82 dX3_bubble_157 rfl) <|
  jcons (jG jC_82 jY_82 dX3_bubble_158 fk_3_24_X3 (Or.inl q1336)) <|
  jcons (jL jC_82 dX3_bubble_161 rfl) <|
  jcons (jL jC_82 dX3_bubble_162 rfl) <|
  jcons (jL jC_82 dX3_bubble_163 rfl) <|
  jcons (j4V jC_82 jY_82 dX3_bubble_164 (jc_80 _) q1522 pd_80 (Or.inl q1520) (fun c r h1 h2 => js_125 c r h1 h2)) <|
  jcons (jPu jC_82 jY_82 dX3_bubble_167 fk_3_24_X3 ap_3_24 (fn_3_24 _) (Or.inl q1336) (tyX3_ok 24 (by decide)) (Or.inl ⟨rfl, rfl⟩)) <|
  jcons (jL jC_82 dX3_bubble_170 rfl) <|
  jcons (jG jC_82 jY_82 dX3_bubble_171 fk_3_17_X3 (Or.inl q1329)) <|
  jcons (jL jC_82 dX3_bubble_174 rfl) <|
  jcons (jL jC_82 dX3_bubble_175 rfl) <|
  jcons (jG jC_82 jY_82 dX3_bubble_176 fk_3_24_X3 (Or.inl q1336)) <|
  jcons (jL jC_82 dX3_bubble_179 rfl) <|
  jcons (jL jC_82 dX3_bubble_180 rfl) <|
  jcons (jG jC_82 jY_82 dX3_bubble_181 fk_3_13_X3 (Or.inl q1325)) <|
  jcons (jL jC_82 dX3_bubble_184 rfl) <|
  jcons (jG jC_82 jY_82 dX3_bubble_185 fk_3_25_X3 (Or.inl q1337)) <|
  jcons (jL jC_82 dX3_bubble_188 rfl) <|
  jcons (jL jC_82 dX3_bubble_189 rfl) <|
  jcons (jL jC_82 dX3_bubble_190 rfl) <|
  jcons (jL jC_82 dX3_bubble_191 rfl) <|
  jnil
theorem jt_82_3 : ∀ q ∈ tcX3_bubble_3, sJ jnw jao 82 q.1 q.2.1 q.2.2 :=
  jcons (jL jC_82 dX3_bubble_192 rfl) <|
  jcons (jL jC_82 dX3_bubble_193 rfl) <|
  jcons (jG jC_82 jY_82 dX3_bubble_194 fk_3_19_X3 (Or.inl q1331)) <|
  jcons (jL jC_82 dX3_bubble_197 rfl) <|
  jcons (jG jC_82 jY_82 dX3_bubble_198 fk_3_25_X3 (Or.inl q1337)) <|
  jcons (jL jC_82 dX3_bubble_201 rfl) <|
  jcons (jG jC_82 jY_82 dX3_bubble_202 fk_3_19_X3 (Or.inl q1331)) <|
  jcons (jL jC_82 dX3_bubble_205 rfl) <|
  jcons (jG jC_82 jY_82 dX3_bubble_206 fk_3_25_X3 (Or.inl q1337)) <|
  jcons (jL jC_82 dX3_bubble_209 rfl) <|
  jcons (jL jC_82 dX3_bubble_210 rfl) <|
  jcons (j4V jC_82 jY_82 dX3_bubble_211 (jc_83 _) q1534 pd_83 (Or.inl q1532) (fun c r h1 h2 => js_131 c r h1 h2)) <|
  jcons (j14 jC_82 jY_82 dX3_bubble_214 q1540) <|
  jcons (jL jC_82 dX3_bubble_217 rfl) <|
  jcons (jL jC_82 dX3_bubble_218 rfl) <|
  jnil
theorem jm_82 : ∀ l ∈ tbX3_bubble, ∀ q ∈ l, sJ jnw jao 82 q.1 q.2.1 q.2.2 := jmc jt_82_0 <| jmc jt_82_1 <| jmc jt_82_2 <| jmc jt_82_3 <| jmn
theorem jt_83_0 : ∀ q ∈ tcX3_held_0, sJ jnw jao 83 q.1 q.2.1 q.2.2 :=
  jcons (jL jC_83 dX3_held_0 rfl) <|
  jcons (jL jC_83 dX3_held_1 rfl) <|
  jcons (jL jC_83 dX3_held_2 rfl) <|
  jcons (jL jC_83 dX3_held_3 rfl) <|
  jcons (jL jC_83 dX3_held_4 rfl) <|
  jcons (jL jC_83 dX3_held_5 rfl) <|
  jcons (jL jC_83 dX3_held_6 rfl) <|
  jcons (jL jC_83 dX3_held_7 rfl) <|
  jcons (jG jC_83 jY_83 dX3_held_8 fk_3_13_X3 (Or.inl q1325)) <|
  jcons (jL jC_83 dX3_held_11 rfl) <|
  jcons (jG jC_83 jY_83 dX3_held_12 fk_3_25_X3 (Or.inl q1337)) <|
  jcons (jL jC_83 dX3_held_15 rfl) <|
  jcons (jL jC_83 dX3_held_16 rfl) <|
  jcons (jL jC_83 dX3_held_19 rfl) <|
  jcons (jL jC_83 dX3_held_21 rfl) <|
  jcons (jG jC_83 jY_83 dX3_held_22 fk_3_25_X3 (Or.inl q1337)) <|
  jcons (jL jC_83 dX3_held_25 rfl) <|
  jcons (jL jC_83 dX3_held_26 rfl) <|
  jcons (jL jC_83 dX3_held_27 rfl) <|
  jcons (jL jC_83 dX3_held_28 rfl) <|
  jcons (jL jC_83 dX3_held_29 rfl) <|
  jcons (jG jC_83 jY_83 dX3_held_30 fk_3_18_X3 (Or.inl q1330)) <|
  jcons (jL jC_83 dX3_held_33 rfl) <|
  jcons (jL jC_83 dX3_held_34 rfl) <|
  jcons (jL jC_83 dX3_held_35 rfl) <|
  jcons (jG jC_83 jY_83 dX3_held_36 fk_3_18_X3 (Or.inl q1330)) <|
  jcons (jL jC_83 dX3_held_39 rfl) <|
  jcons (jL jC_83 dX3_held_40 rfl) <|
  jcons (jL jC_83 dX3_held_41 rfl) <|
  jcons (jL jC_83 dX3_held_42 rfl) <|
  jcons (jL jC_83 dX3_held_43 rfl) <|
  jcons (jL jC_83 dX3_held_46 rfl) <|
  jcons (jL jC_83 dX3_held_49 rfl) <|
  jcons (jL jC_83 dX3_held_50 rfl) <|
  jcons (jL jC_83 dX3_held_52 rfl) <|
  jcons (jL jC_83 dX3_held_53 rfl) <|
  jcons (jL jC_83 dX3_held_55 rfl) <|
  jcons (jL jC_83 dX3_held_57 rfl) <|
  jcons (jG jC_83 jY_83 dX3_held_58 fk_3_13_X3 (Or.inl q1325)) <|
  jcons (jL jC_83 dX3_held_61 rfl) <|
  jcons (jG jC_83 jY_83 dX3_held_62 fk_3_25_X3 (Or.inl q1337)) <|
  jnil
theorem jt_83_1 : ∀ q ∈ tcX3_held_1, sJ jnw jao 83 q.1 q.2.1 q.2.2 :=
  jcons (jL jC_83 dX3_held_65 rfl) <|
  jcons (jL jC_83 dX3_held_66 rfl) <|
  jcons (jL jC_83 dX3_held_69 rfl) <|
  jcons (jL jC_83 dX3_held_71 rfl) <|
  jcons (jL jC_83 dX3_held_72 rfl) <|
  jcons (jG jC_83 jY_83 dX3_held_73 fk_3_16_X3 (Or.inl q1328)) <|
  jcons (jL jC_83 dX3_held_76 rfl) <|
  jcons (jL jC_83 dX3_held_78 rfl) <|
  jcons (jG jC_83 jY_83 dX3_held_79 fk_3_25_X3 (Or.inl q1337)) <|
  jcons (jL jC_83 dX3_held_82 rfl) <|
  jcons (jL jC_83 dX3_held_83 rfl) <|
  jcons (jL jC_83 dX3_held_85 rfl) <|
  jcons (jL jC_83 dX3_held_86 rfl) <|
  jcons (j4V jC_83 jY_83 dX3_held_87 (jc_84 _) q1538 pd_84 (Or.inl q1536) (fun c r h1 h2 => js_132 c r h1 h2)) <|
  jcons (jL jC_83 dX3_held_90 rfl) <|
  jcons (jL jC_83 dX3_held_91 rfl) <|
  jcons (jG jC_83 jY_83 dX3_held_92 fk_3_17_X3 (Or.inl q1329)) <|
  jcons (jL jC_83 dX3_held_95 rfl) <|
  jcons (jL jC_83 dX3_held_96 rfl) <|
  jcons (j4V jC_83 jY_83 dX3_held_97 (jc_84 _) q1538 pd_84 (Or.inl q1536) (fun c r h1 h2 => js_132 c r h1 h2)) <|
  jcons (jL jC_83 dX3_held_100 rfl) <|
  jcons (jL jC_83 dX3_held_103 rfl) <|
  jcons (jL jC_83 dX3_held_104 rfl) <|
  jcons (jL jC_83 dX3_held_107 rfl) <|
  jcons (jL jC_83 dX3_held_108 rfl) <|
  jcons (jL jC_83 dX3_held_109 rfl) <|
  jcons (jL jC_83 dX3_held_111 rfl) <|
  jcons (jL jC_83 dX3_held_113 rfl) <|
  jcons (jL jC_83 dX3_held_114 rfl) <|
  jcons (jG jC_83 jY_83 dX3_held_115 fk_3_17_X3 (Or.inl q1329)) <|
  jcons (jL jC_83 dX3_held_118 rfl) <|
  jcons (jL jC_83 dX3_held_120 rfl) <|
  jcons (jG jC_83 jY_83 dX3_held_121 fk_3_25_X3 (Or.inl q1337)) <|
  jcons (jL jC_83 dX3_held_124 rfl) <|
  jcons (jL jC_83 dX3_held_125 rfl) <|
  jcons (jL jC_83 dX3_held_127 rfl) <|
  jnil
theorem jt_83_2 : ∀ q ∈ tcX3_held_2, sJ jnw jao 83 q.1 q.2.1 q.2.2 :=
  jcons (jL jC_83 dX3_held_128 rfl) <|
  jcons (j4V jC_83 jY_83 dX3_held_129 (jc_84 _) q1538 pd_84 (Or.inl q1536) (fun c r h1 h2 => js_132 c r h1 h2)) <|
  jcons (jL jC_83 dX3_held_132 rfl) <|
  jcons (jL jC_83 dX3_held_133 rfl) <|
  jcons (jG jC_83 jY_83 dX3_held_134 fk_3_17_X3 (Or.inl q1329)) <|
  jcons (jL jC_83 dX3_held_137 rfl) <|
  jcons (jL jC_83 dX3_held_138 rfl) <|
  jcons (j4V jC_83 jY_83 dX3_held_139 (jc_84 _) q1538 pd_84 (Or.inl q1536) (fun c r h1 h2 => js_132 c r h1 h2)) <|
  jcons (jL jC_83 dX3_held_142 rfl) <|
  jcons (jL jC_83 dX3_held_145 rfl) <|
  jcons (jL jC_83 dX3_held_146 rfl) <|
  jcons (jL jC_83 dX3_held_149 rfl) <|
  jcons (jL jC_83 dX3_held_150 rfl) <|
  jcons (jL jC_83 dX3_held_151 rfl) <|
  jcons (jL jC_83 dX3_held_153 rfl) <|
  jcons (jL jC_83 dX3_held_156 rfl) <|
  jcons (jL jC_83 dX3_held_159 rfl) <|
  jcons (jL jC_83 dX3_held_160 rfl) <|
  jcons (jL jC_83 dX3_held_162 rfl) <|
  jcons (jL jC_83 dX3_held_163 rfl) <|
  jcons (jL jC_83 dX3_held_166 rfl) <|
  jcons (jL jC_83 dX3_held_167 rfl) <|
  jcons (jL jC_83 dX3_held_170 rfl) <|
  jcons (jL jC_83 dX3_held_171 rfl) <|
  jcons (jL jC_83 dX3_held_172 rfl) <|
  jcons (jL jC_83 dX3_held_173 rfl) <|
  jcons (jL jC_83 dX3_held_176 rfl) <|
  jcons (jL jC_83 dX3_held_179 rfl) <|
  jcons (jL jC_83 dX3_held_180 rfl) <|
  jnil
theorem jm_83 : ∀ l ∈ tbX3_held, ∀ q ∈ l, sJ jnw jao 83 q.1 q.2.1 q.2.2 := jmc jt_83_0 <| jmc jt_83_1 <| jmc jt_83_2 <| jmn
theorem jt_84_0 : ∀ q ∈ tcX3_find_0, sJ jnw jao 84 q.1 q.2.1 q.2.2 :=
  jcons (jL jC_84 dX3_find_0 rfl) <|
  jcons (jL jC_84 dX3_find_1 rfl) <|
  jcons (jL jC_84 dX3_find_2 rfl) <|
  jcons (jG jC_84 jY_84 dX3_find_3 fk_3_21_X3 (Or.inl q1333)) <|
  jcons (jL jC_84 dX3_find_6 rfl) <|
  jcons (jL jC_84 dX3_find_7 rfl) <|
  jcons (jL jC_84 dX3_find_8 rfl) <|
  jcons (jL jC_84 dX3_find_9 rfl) <|
  jcons (jL jC_84 dX3_find_12 rfl) <|
  jcons (jG jC_84 jY_84 dX3_find_13 fk_3_21_X3 (Or.inl q1333)) <|
  jcons (jL jC_84 dX3_find_16 rfl) <|
  jcons (jL jC_84 dX3_find_17 rfl) <|
  jcons (jL jC_84 dX3_find_18 rfl) <|
  jcons (jL jC_84 dX3_find_19 rfl) <|
  jcons (jL jC_84 dX3_find_22 rfl) <|
  jcons (jL jC_84 dX3_find_23 rfl) <|
  jnil
theorem jm_84 : ∀ l ∈ tbX3_find, ∀ q ∈ l, sJ jnw jao 84 q.1 q.2.1 q.2.2 := jmc jt_84_0 <| jmn
theorem jt_85_0 : ∀ q ∈ tcX3_joinTo_0, sJ jnw jao 85 q.1 q.2.1 q.2.2 :=
  jcons (jL jC_85 dX3_joinTo_0 rfl) <|
  jcons (jL jC_85 dX3_joinTo_1 rfl) <|
  jcons (j4V jC_85 jY_85 dX3_joinTo_2 (jc_84 _) q1538 pd_84 (Or.inl q1536) (fun c r h1 h2 => js_132 c r h1 h2)) <|
  jcons (jL jC_85 dX3_joinTo_5 rfl) <|
  jcons (jL jC_85 dX3_joinTo_6 rfl) <|
  jcons (jL jC_85 dX3_joinTo_7 rfl) <|
  jcons (j4V jC_85 jY_85 dX3_joinTo_8 (jc_84 _) q1538 pd_84 (Or.inl q1536) (fun c r h1 h2 => js_132 c r h1 h2)) <|
  jcons (jL jC_85 dX3_joinTo_11 rfl) <|
  jcons (jL jC_85 dX3_joinTo_13 rfl) <|
  jcons (jG jC_85 jY_85 dX3_joinTo_14 fk_3_21_X3 (Or.inl q1333)) <|
  jcons (jL jC_85 dX3_joinTo_17 rfl) <|
  jcons (jL jC_85 dX3_joinTo_18 rfl) <|
  jcons (j14 jC_85 jY_85 dX3_joinTo_20 q1540) <|
  jcons (jL jC_85 dX3_joinTo_23 rfl) <|
  jcons (jL jC_85 dX3_joinTo_24 rfl) <|
  jcons (j14 jC_85 jY_85 dX3_joinTo_26 q1545) <|
  jcons (jL jC_85 dX3_joinTo_29 rfl) <|
  jcons (jL jC_85 dX3_joinTo_30 rfl) <|
  jnil
theorem jm_85 : ∀ l ∈ tbX3_joinTo, ∀ q ∈ l, sJ jnw jao 85 q.1 q.2.1 q.2.2 := jmc jt_85_0 <| jmn
theorem jt_86_0 : ∀ q ∈ tcX3_nested_0, sJ jnw jao 86 q.1 q.2.1 q.2.2 :=
  jcons (jL jC_86 dX3_nested_0 rfl) <|
  jcons (jG jC_86 jY_86 dX3_nested_1 fk_3_10_X3 (Or.inl q1322)) <|
  jcons (jL jC_86 dX3_nested_4 rfl) <|
  jcons (jL jC_86 dX3_nested_6 rfl) <|
  jcons (jL jC_86 dX3_nested_9 rfl) <|
  jcons (j4V jC_86 jY_86 dX3_nested_10 (jc_78 _) q1515 pd_78 (Or.inl q1513) (fun c r h1 h2 => js_123 c r h1 h2)) <|
  jcons (jL jC_86 dX3_nested_13 rfl) <|
  jcons (jL jC_86 dX3_nested_14 rfl) <|
  jcons (jL jC_86 dX3_nested_15 rfl) <|
  jcons (jG jC_86 jY_86 dX3_nested_16 fk_3_10_X3 (Or.inl q1322)) <|
  jcons (jL jC_86 dX3_nested_19 rfl) <|
  jcons (jL jC_86 dX3_nested_20 rfl) <|
  jcons (jPu jC_86 jY_86 dX3_nested_21 fk_3_10_X3 ap_3_10 (fn_3_10 _) (Or.inl q1322) (tyX3_ok 10 (by decide)) (Or.inl ⟨rfl, rfl⟩)) <|
  jcons (jL jC_86 dX3_nested_24 rfl) <|
  jcons (jL jC_86 dX3_nested_25 rfl) <|
  jcons (jG jC_86 jY_86 dX3_nested_26 fk_3_8_X3 (Or.inl q1320)) <|
  jcons (jL jC_86 dX3_nested_29 rfl) <|
  jcons (jL jC_86 dX3_nested_30 rfl) <|
  jcons (jPu jC_86 jY_86 dX3_nested_31 fk_3_8_X3 ap_3_8 (fn_3_8 _) (Or.inl q1320) (tyX3_ok 8 (by decide)) (Or.inl ⟨rfl, rfl⟩)) <|
  jcons (jL jC_86 dX3_nested_34 rfl) <|
  jcons (jG jC_86 jY_86 dX3_nested_35 fk_3_24_X3 (Or.inl q1336)) <|
  jcons (jL jC_86 dX3_nested_38 rfl) <|
  jcons (jL jC_86 dX3_nested_39 rfl) <|
  jcons (j4V jC_86 jY_86 dX3_nested_40 (jc_81 _) q1526 pd_81 (Or.inl q1524) (fun c r h1 h2 => js_126 c r h1 h2)) <|
  jcons (jL jC_86 dX3_nested_43 rfl) <|
  jcons (jG jC_86 jY_86 dX3_nested_44 fk_3_9_X3 (Or.inl q1321)) <|
  jcons (jL jC_86 dX3_nested_47 rfl) <|
  jcons (jL jC_86 dX3_nested_48 rfl) <|
  jcons (jL jC_86 dX3_nested_51 rfl) <|
  jcons (j4V jC_86 jY_86 dX3_nested_52 (jc_76 _) q1507 pd_76 (Or.inl q1505) (fun c r h1 h2 => js_122 c r h1 h2)) <|
  jcons (jL jC_86 dX3_nested_55 rfl) <|
  jcons (jL jC_86 dX3_nested_57 rfl) <|
  jcons (jL jC_86 dX3_nested_60 rfl) <|
  jcons (j4V jC_86 jY_86 dX3_nested_61 (jc_78 _) q1515 pd_78 (Or.inl q1513) (fun c r h1 h2 => js_123 c r h1 h2)) <|
  jnil
theorem jt_86_1 : ∀ q ∈ tcX3_nested_1, sJ jnw jao 86 q.1 q.2.1 q.2.2 :=
  jcons (jL jC_86 dX3_nested_64 rfl) <|
  jcons (jL jC_86 dX3_nested_65 rfl) <|
  jcons (jG jC_86 jY_86 dX3_nested_66 fk_3_8_X3 (Or.inl q1320)) <|
  jcons (jL jC_86 dX3_nested_69 rfl) <|
  jcons (jL jC_86 dX3_nested_70 rfl) <|
  jcons (jPu jC_86 jY_86 dX3_nested_71 fk_3_8_X3 ap_3_8 (fn_3_8 _) (Or.inl q1320) (tyX3_ok 8 (by decide)) (Or.inl ⟨rfl, rfl⟩)) <|
  jcons (jL jC_86 dX3_nested_74 rfl) <|
  jcons (jL jC_86 dX3_nested_75 rfl) <|
  jcons (jG jC_86 jY_86 dX3_nested_76 fk_3_10_X3 (Or.inl q1322)) <|
  jcons (jL jC_86 dX3_nested_79 rfl) <|
  jcons (jL jC_86 dX3_nested_80 rfl) <|
  jcons (jPu jC_86 jY_86 dX3_nested_81 fk_3_10_X3 ap_3_10 (fn_3_10 _) (Or.inl q1322) (tyX3_ok 10 (by decide)) (Or.inl ⟨rfl, rfl⟩)) <|
  jcons (jL jC_86 dX3_nested_84 rfl) <|
  jcons (jG jC_86 jY_86 dX3_nested_85 fk_3_9_X3 (Or.inl q1321)) <|
  jcons (jL jC_86 dX3_nested_88 rfl) <|
  jcons (jL jC_86 dX3_nested_89 rfl) <|
  jcons (jL jC_86 dX3_nested_92 rfl) <|
  jcons (jL jC_86 dX3_nested_93 rfl) <|
  jcons (jL jC_86 dX3_nested_94 rfl) <|
  jcons (jG jC_86 jY_86 dX3_nested_95 fk_3_24_X3 (Or.inl q1336)) <|
  jcons (j4V jC_86 jY_86 dX3_nested_98 (jc_85 _) q1543 pd_85 (Or.inl q1541) (fun c r h1 h2 => js_129 c r h1 h2)) <|
  jcons (jL jC_86 dX3_nested_101 rfl) <|
  jnil
theorem jm_86 : ∀ l ∈ tbX3_nested, ∀ q ∈ l, sJ jnw jao 86 q.1 q.2.1 q.2.2 := jmc jt_86_0 <| jmc jt_86_1 <| jmn
theorem jt_87_0 : ∀ q ∈ tcX3_numberPoints_0, sJ jnw jao 87 q.1 q.2.1 q.2.2 :=
  jcons (jL jC_87 dX3_numberPoints_0 rfl) <|
  jcons (jL jC_87 dX3_numberPoints_1 rfl) <|
  jcons (jL jC_87 dX3_numberPoints_2 rfl) <|
  jcons (jL jC_87 dX3_numberPoints_3 rfl) <|
  jcons (jL jC_87 dX3_numberPoints_4 rfl) <|
  jcons (jL jC_87 dX3_numberPoints_5 rfl) <|
  jcons (jG jC_87 jY_87 dX3_numberPoints_6 fk_3_23_X3 (Or.inl q1335)) <|
  jcons (jL jC_87 dX3_numberPoints_9 rfl) <|
  jcons (jL jC_87 dX3_numberPoints_12 rfl) <|
  jcons (jL jC_87 dX3_numberPoints_13 rfl) <|
  jcons (j4V jC_87 jY_87 dX3_numberPoints_14 (jc_84 _) q1538 pd_84 (Or.inl q1536) (fun c r h1 h2 => js_132 c r h1 h2)) <|
  jcons (jL jC_87 dX3_numberPoints_17 rfl) <|
  jcons (jL jC_87 dX3_numberPoints_18 rfl) <|
  jcons (jL jC_87 dX3_numberPoints_21 rfl) <|
  jcons (jG jC_87 jY_87 dX3_numberPoints_22 fk_3_26_X3 (Or.inl q1338)) <|
  jcons (jL jC_87 dX3_numberPoints_25 rfl) <|
  jcons (jL jC_87 dX3_numberPoints_26 rfl) <|
  jcons (jL jC_87 dX3_numberPoints_27 rfl) <|
  jcons (jL jC_87 dX3_numberPoints_28 rfl) <|
  jcons (jL jC_87 dX3_numberPoints_31 rfl) <|
  jcons (jL jC_87 dX3_numberPoints_34 rfl) <|
  jcons (jL jC_87 dX3_numberPoints_37 rfl) <|
  jcons (jG jC_87 jY_87 dX3_numberPoints_38 fk_3_14_X3 (Or.inl q1326)) <|
  jcons (jL jC_87 dX3_numberPoints_41 rfl) <|
  jcons (jG jC_87 jY_87 dX3_numberPoints_42 fk_3_25_X3 (Or.inl q1337)) <|
  jcons (jL jC_87 dX3_numberPoints_45 rfl) <|
  jcons (jL jC_87 dX3_numberPoints_46 rfl) <|
  jcons (jL jC_87 dX3_numberPoints_47 rfl) <|
  jcons (jL jC_87 dX3_numberPoints_49 rfl) <|
  jcons (jG jC_87 jY_87 dX3_numberPoints_50 fk_3_25_X3 (Or.inl q1337)) <|
  jcons (jL jC_87 dX3_numberPoints_53 rfl) <|
  jcons (jL jC_87 dX3_numberPoints_54 rfl) <|
  jcons (jL jC_87 dX3_numberPoints_55 rfl) <|
  jcons (jL jC_87 dX3_numberPoints_56 rfl) <|
  jcons (jL jC_87 dX3_numberPoints_58 rfl) <|
  jcons (jG jC_87 jY_87 dX3_numberPoints_59 fk_3_25_X3 (Or.inl q1337)) <|
  jcons (jL jC_87 dX3_numberPoints_62 rfl) <|
  jcons (jL jC_87 dX3_numberPoints_63 rfl) <|
  jnil
theorem jt_87_1 : ∀ q ∈ tcX3_numberPoints_1, sJ jnw jao 87 q.1 q.2.1 q.2.2 :=
  jcons (jG jC_87 jY_87 dX3_numberPoints_64 fk_3_13_X3 (Or.inl q1325)) <|
  jcons (jL jC_87 dX3_numberPoints_67 rfl) <|
  jcons (jG jC_87 jY_87 dX3_numberPoints_68 fk_3_25_X3 (Or.inl q1337)) <|
  jcons (jL jC_87 dX3_numberPoints_71 rfl) <|
  jcons (jL jC_87 dX3_numberPoints_72 rfl) <|
  jcons (jL jC_87 dX3_numberPoints_73 rfl) <|
  jcons (jL jC_87 dX3_numberPoints_76 rfl) <|
  jcons (jG jC_87 jY_87 dX3_numberPoints_77 fk_3_16_X3 (Or.inl q1328)) <|
  jcons (jL jC_87 dX3_numberPoints_80 rfl) <|
  jcons (jL jC_87 dX3_numberPoints_81 rfl) <|
  jcons (jG jC_87 jY_87 dX3_numberPoints_82 fk_3_26_X3 (Or.inl q1338)) <|
  jcons (jL jC_87 dX3_numberPoints_85 rfl) <|
  jcons (jL jC_87 dX3_numberPoints_86 rfl) <|
  jcons (jG jC_87 jY_87 dX3_numberPoints_87 fk_3_16_X3 (Or.inl q1328)) <|
  jcons (jL jC_87 dX3_numberPoints_90 rfl) <|
  jcons (jL jC_87 dX3_numberPoints_91 rfl) <|
  jcons (j4V jC_87 jY_87 dX3_numberPoints_92 (jc_84 _) q1538 pd_84 (Or.inl q1536) (fun c r h1 h2 => js_132 c r h1 h2)) <|
  jcons (jL jC_87 dX3_numberPoints_95 rfl) <|
  jcons (jL jC_87 dX3_numberPoints_96 rfl) <|
  jcons (jL jC_87 dX3_numberPoints_97 rfl) <|
  jcons (jG jC_87 jY_87 dX3_numberPoints_98 fk_3_17_X3 (Or.inl q1329)) <|
  jcons (jL jC_87 dX3_numberPoints_101 rfl) <|
  jcons (jL jC_87 dX3_numberPoints_102 rfl) <|
  jcons (jG jC_87 jY_87 dX3_numberPoints_103 fk_3_26_X3 (Or.inl q1338)) <|
  jcons (jL jC_87 dX3_numberPoints_106 rfl) <|
  jcons (jL jC_87 dX3_numberPoints_107 rfl) <|
  jcons (jG jC_87 jY_87 dX3_numberPoints_108 fk_3_17_X3 (Or.inl q1329)) <|
  jcons (jL jC_87 dX3_numberPoints_111 rfl) <|
  jcons (jL jC_87 dX3_numberPoints_112 rfl) <|
  jcons (j4V jC_87 jY_87 dX3_numberPoints_113 (jc_84 _) q1538 pd_84 (Or.inl q1536) (fun c r h1 h2 => js_132 c r h1 h2)) <|
  jcons (jL jC_87 dX3_numberPoints_116 rfl) <|
  jcons (jL jC_87 dX3_numberPoints_117 rfl) <|
  jcons (jL jC_87 dX3_numberPoints_118 rfl) <|
  jcons (jL jC_87 dX3_numberPoints_121 rfl) <|
  jcons (jL jC_87 dX3_numberPoints_124 rfl) <|
  jnil
theorem jm_87 : ∀ l ∈ tbX3_numberPoints, ∀ q ∈ l, sJ jnw jao 87 q.1 q.2.1 q.2.2 := jmc jt_87_0 <| jmc jt_87_1 <| jmn
theorem jt_88_0 : ∀ q ∈ tcX3_readRule_0, sJ jnw jao 88 q.1 q.2.1 q.2.2 :=
  jcons (jL jC_88 dX3_readRule_0 rfl) <|
  jcons (jL jC_88 dX3_readRule_1 rfl) <|
  jcons (jPu jC_88 jY_88 dX3_readRule_2 fk_3_32_X3 ap_3_32 (fn_3_32 _) (Or.inl q1344) (tyX3_ok 32 (by decide)) (Or.inl ⟨rfl, rfl⟩)) <|
  jcons (jL jC_88 dX3_readRule_5 rfl) <|
  jcons (jL jC_88 dX3_readRule_6 rfl) <|
  jcons (jPu jC_88 jY_88 dX3_readRule_7 fk_3_8_X3 ap_3_8 (fn_3_8 _) (Or.inl q1320) (tyX3_ok 8 (by decide)) (Or.inl ⟨rfl, rfl⟩)) <|
  jcons (jL jC_88 dX3_readRule_10 rfl) <|
  jcons (jL jC_88 dX3_readRule_11 rfl) <|
  jcons (jPu jC_88 jY_88 dX3_readRule_12 fk_3_9_X3 ap_3_9 (fn_3_9 _) (Or.inl q1321) (tyX3_ok 9 (by decide)) (Or.inl ⟨rfl, rfl⟩)) <|
  jcons (jL jC_88 dX3_readRule_15 rfl) <|
  jcons (jL jC_88 dX3_readRule_16 rfl) <|
  jcons (jPu jC_88 jY_88 dX3_readRule_17 fk_3_10_X3 ap_3_10 (fn_3_10 _) (Or.inl q1322) (tyX3_ok 10 (by decide)) (Or.inl ⟨rfl, rfl⟩)) <|
  jcons (jL jC_88 dX3_readRule_20 rfl) <|
  jcons (jL jC_88 dX3_readRule_21 rfl) <|
  jcons (jPu jC_88 jY_88 dX3_readRule_22 fk_3_33_X3 ap_3_33 (fn_3_33 _) (Or.inl q1345) (tyX3_ok 33 (by decide)) (Or.inl ⟨rfl, rfl⟩)) <|
  jcons (jL jC_88 dX3_readRule_25 rfl) <|
  jcons (jG jC_88 jY_88 dX3_readRule_26 fk_3_28_X3 (Or.inl q1340)) <|
  jcons (jL jC_88 dX3_readRule_29 rfl) <|
  jcons (jL jC_88 dX3_readRule_30 rfl) <|
  jcons (jL jC_88 dX3_readRule_31 rfl) <|
  jcons (jL jC_88 dX3_readRule_32 rfl) <|
  jcons (j4V jC_88 jY_88 dX3_readRule_33 (jc_89 _) q1560 pd_89 (Or.inl q1558) (fun c r h1 h2 => js_133 c r h1 h2)) <|
  jcons (jL jC_88 dX3_readRule_36 rfl) <|
  jcons (jG jC_88 jY_88 dX3_readRule_37 fk_3_9_X3 (Or.inl q1321)) <|
  jcons (jL jC_88 dX3_readRule_40 rfl) <|
  jcons (jL jC_88 dX3_readRule_41 rfl) <|
  jcons (jL jC_88 dX3_readRule_44 rfl) <|
  jcons (j4V jC_88 jY_88 dX3_readRule_45 (jc_76 _) q1507 pd_76 (Or.inl q1505) (fun c r h1 h2 => js_122 c r h1 h2)) <|
  jcons (jL jC_88 dX3_readRule_48 rfl) <|
  jcons (jL jC_88 dX3_readRule_50 rfl) <|
  jcons (jL jC_88 dX3_readRule_53 rfl) <|
  jcons (jL jC_88 dX3_readRule_54 rfl) <|
  jcons (jG jC_88 jY_88 dX3_readRule_55 fk_3_8_X3 (Or.inl q1320)) <|
  jcons (jL jC_88 dX3_readRule_58 rfl) <|
  jcons (jL jC_88 dX3_readRule_59 rfl) <|
  jcons (jPu jC_88 jY_88 dX3_readRule_60 fk_3_8_X3 ap_3_8 (fn_3_8 _) (Or.inl q1320) (tyX3_ok 8 (by decide)) (Or.inl ⟨rfl, rfl⟩)) <|
  jcons (jL jC_88 dX3_readRule_63 rfl) <|
  jnil
theorem jt_88_1 : ∀ q ∈ tcX3_readRule_1, sJ jnw jao 88 q.1 q.2.1 q.2.2 :=
  jcons (j4V jC_88 jY_88 dX3_readRule_64 (jc_89 _) q1560 pd_89 (Or.inl q1558) (fun c r h1 h2 => js_133 c r h1 h2)) <|
  jcons (jL jC_88 dX3_readRule_67 rfl) <|
  jcons (jL jC_88 dX3_readRule_70 rfl) <|
  jcons (jG jC_88 jY_88 dX3_readRule_71 fk_3_9_X3 (Or.inl q1321)) <|
  jcons (jL jC_88 dX3_readRule_74 rfl) <|
  jcons (jL jC_88 dX3_readRule_75 rfl) <|
  jcons (jL jC_88 dX3_readRule_78 rfl) <|
  jcons (j4V jC_88 jY_88 dX3_readRule_79 (jc_76 _) q1507 pd_76 (Or.inl q1505) (fun c r h1 h2 => js_122 c r h1 h2)) <|
  jcons (jL jC_88 dX3_readRule_82 rfl) <|
  jcons (jL jC_88 dX3_readRule_83 rfl) <|
  jcons (jL jC_88 dX3_readRule_86 rfl) <|
  jcons (j4V jC_88 jY_88 dX3_readRule_87 (jc_78 _) q1515 pd_78 (Or.inl q1513) (fun c r h1 h2 => js_123 c r h1 h2)) <|
  jcons (jL jC_88 dX3_readRule_90 rfl) <|
  jcons (jG jC_88 jY_88 dX3_readRule_91 fk_3_9_X3 (Or.inl q1321)) <|
  jcons (jL jC_88 dX3_readRule_94 rfl) <|
  jnil
theorem jm_88 : ∀ l ∈ tbX3_readRule, ∀ q ∈ l, sJ jnw jao 88 q.1 q.2.1 q.2.2 := jmc jt_88_0 <| jmc jt_88_1 <| jmn
theorem jt_89_0 : ∀ q ∈ tcX3_clause_0, sJ jnw jao 89 q.1 q.2.1 q.2.2 :=
  jcons (jL jC_89 dX3_clause_0 rfl) <|
  jcons (jL jC_89 dX3_clause_2 rfl) <|
  jcons (jG jC_89 jY_89 dX3_clause_3 fk_3_32_X3 (Or.inl q1344)) <|
  jcons (jL jC_89 dX3_clause_6 rfl) <|
  jcons (jL jC_89 dX3_clause_7 rfl) <|
  jcons (jG jC_89 jY_89 dX3_clause_8 fk_3_28_X3 (Or.inl q1340)) <|
  jcons (jL jC_89 dX3_clause_11 rfl) <|
  jcons (jG jC_89 jY_89 dX3_clause_12 fk_3_32_X3 (Or.inl q1344)) <|
  jcons (jL jC_89 dX3_clause_15 rfl) <|
  jcons (jL jC_89 dX3_clause_16 rfl) <|
  jcons (jL jC_89 dX3_clause_17 rfl) <|
  jcons (jL jC_89 dX3_clause_18 rfl) <|
  jcons (j4V jC_89 jY_89 dX3_clause_19 (jc_76 _) q1507 pd_76 (Or.inl q1505) (fun c r h1 h2 => js_122 c r h1 h2)) <|
  jcons (jL jC_89 dX3_clause_22 rfl) <|
  jcons (jL jC_89 dX3_clause_24 rfl) <|
  jcons (jL jC_89 dX3_clause_27 rfl) <|
  jcons (j4V jC_89 jY_89 dX3_clause_28 (jc_78 _) q1515 pd_78 (Or.inl q1513) (fun c r h1 h2 => js_123 c r h1 h2)) <|
  jcons (jL jC_89 dX3_clause_31 rfl) <|
  jcons (jL jC_89 dX3_clause_32 rfl) <|
  jcons (jL jC_89 dX3_clause_33 rfl) <|
  jcons (jG jC_89 jY_89 dX3_clause_34 fk_3_8_X3 (Or.inl q1320)) <|
  jcons (jL jC_89 dX3_clause_37 rfl) <|
  jcons (jL jC_89 dX3_clause_38 rfl) <|
  jcons (jPu jC_89 jY_89 dX3_clause_39 fk_3_8_X3 ap_3_8 (fn_3_8 _) (Or.inl q1320) (tyX3_ok 8 (by decide)) (Or.inl ⟨rfl, rfl⟩)) <|
  jcons (jL jC_89 dX3_clause_42 rfl) <|
  jcons (j4V jC_89 jY_89 dX3_clause_43 (jc_76 _) q1507 pd_76 (Or.inl q1505) (fun c r h1 h2 => js_122 c r h1 h2)) <|
  jcons (jL jC_89 dX3_clause_46 rfl) <|
  jcons (jL jC_89 dX3_clause_48 rfl) <|
  jcons (jL jC_89 dX3_clause_51 rfl) <|
  jcons (j4V jC_89 jY_89 dX3_clause_52 (jc_78 _) q1515 pd_78 (Or.inl q1513) (fun c r h1 h2 => js_123 c r h1 h2)) <|
  jcons (jL jC_89 dX3_clause_55 rfl) <|
  jcons (jL jC_89 dX3_clause_56 rfl) <|
  jcons (jL jC_89 dX3_clause_57 rfl) <|
  jcons (jG jC_89 jY_89 dX3_clause_58 fk_3_8_X3 (Or.inl q1320)) <|
  jcons (jL jC_89 dX3_clause_61 rfl) <|
  jcons (jL jC_89 dX3_clause_62 rfl) <|
  jcons (jPu jC_89 jY_89 dX3_clause_63 fk_3_8_X3 ap_3_8 (fn_3_8 _) (Or.inl q1320) (tyX3_ok 8 (by decide)) (Or.inl ⟨rfl, rfl⟩)) <|
  jnil
theorem jt_89_1 : ∀ q ∈ tcX3_clause_1, sJ jnw jao 89 q.1 q.2.1 q.2.2 :=
  jcons (jL jC_89 dX3_clause_66 rfl) <|
  jcons (jG jC_89 jY_89 dX3_clause_67 fk_3_28_X3 (Or.inl q1340)) <|
  jcons (jL jC_89 dX3_clause_70 rfl) <|
  jcons (jG jC_89 jY_89 dX3_clause_71 fk_3_32_X3 (Or.inl q1344)) <|
  jcons (jL jC_89 dX3_clause_74 rfl) <|
  jcons (jL jC_89 dX3_clause_75 rfl) <|
  jcons (jL jC_89 dX3_clause_76 rfl) <|
  jcons (jL jC_89 dX3_clause_77 rfl) <|
  jcons (jL jC_89 dX3_clause_78 rfl) <|
  jcons (jL jC_89 dX3_clause_79 rfl) <|
  jcons (jG jC_89 jY_89 dX3_clause_80 fk_3_29_X3 (Or.inl q1341)) <|
  jcons (jL jC_89 dX3_clause_83 rfl) <|
  jcons (jL jC_89 dX3_clause_84 rfl) <|
  jcons (jG jC_89 jY_89 dX3_clause_85 fk_3_33_X3 (Or.inl q1345)) <|
  jcons (jL jC_89 dX3_clause_88 rfl) <|
  jcons (jL jC_89 dX3_clause_89 rfl) <|
  jcons (j4V jC_89 jY_89 dX3_clause_90 (jc_76 _) q1507 pd_76 (Or.inl q1505) (fun c r h1 h2 => js_122 c r h1 h2)) <|
  jcons (jL jC_89 dX3_clause_93 rfl) <|
  jcons (jL jC_89 dX3_clause_94 rfl) <|
  jcons (jL jC_89 dX3_clause_95 rfl) <|
  jcons (jL jC_89 dX3_clause_97 rfl) <|
  jcons (jL jC_89 dX3_clause_100 rfl) <|
  jcons (jL jC_89 dX3_clause_101 rfl) <|
  jcons (jL jC_89 dX3_clause_103 rfl) <|
  jcons (jL jC_89 dX3_clause_106 rfl) <|
  jcons (jL jC_89 dX3_clause_107 rfl) <|
  jcons (jL jC_89 dX3_clause_110 rfl) <|
  jcons (jL jC_89 dX3_clause_111 rfl) <|
  jcons (jL jC_89 dX3_clause_112 rfl) <|
  jcons (jL jC_89 dX3_clause_113 rfl) <|
  jcons (jL jC_89 dX3_clause_116 rfl) <|
  jcons (jL jC_89 dX3_clause_117 rfl) <|
  jcons (j4V jC_89 jY_89 dX3_clause_118 (jc_90 _) q1564 pd_90 (Or.inl q1562) (fun c r h1 h2 => js_134 c r h1 h2)) <|
  jcons (jL jC_89 dX3_clause_121 rfl) <|
  jcons (jL jC_89 dX3_clause_124 rfl) <|
  jcons (j4V jC_89 jY_89 dX3_clause_125 (jc_96 _) q1588 pd_96 (Or.inl q1586) (fun c r h1 h2 => js_135 c r h1 h2)) <|
  jnil
theorem jt_89_2 : ∀ q ∈ tcX3_clause_2, sJ jnw jao 89 q.1 q.2.1 q.2.2 :=
  jcons (jL jC_89 dX3_clause_128 rfl) <|
  jcons (jG jC_89 jY_89 dX3_clause_129 fk_3_9_X3 (Or.inl q1321)) <|
  jcons (jL jC_89 dX3_clause_132 rfl) <|
  jcons (jL jC_89 dX3_clause_133 rfl) <|
  jcons (jL jC_89 dX3_clause_136 rfl) <|
  jcons (j4V jC_89 jY_89 dX3_clause_137 (jc_76 _) q1507 pd_76 (Or.inl q1505) (fun c r h1 h2 => js_122 c r h1 h2)) <|
  jcons (jL jC_89 dX3_clause_140 rfl) <|
  jcons (jL jC_89 dX3_clause_143 rfl) <|
  jcons (jL jC_89 dX3_clause_144 rfl) <|
  jcons (jL jC_89 dX3_clause_145 rfl) <|
  jcons (jL jC_89 dX3_clause_146 rfl) <|
  jcons (jL jC_89 dX3_clause_148 rfl) <|
  jcons (jL jC_89 dX3_clause_151 rfl) <|
  jcons (jL jC_89 dX3_clause_152 rfl) <|
  jcons (jL jC_89 dX3_clause_154 rfl) <|
  jcons (jL jC_89 dX3_clause_157 rfl) <|
  jcons (jL jC_89 dX3_clause_158 rfl) <|
  jcons (jL jC_89 dX3_clause_160 rfl) <|
  jcons (jL jC_89 dX3_clause_163 rfl) <|
  jcons (jL jC_89 dX3_clause_164 rfl) <|
  jcons (jL jC_89 dX3_clause_167 rfl) <|
  jcons (jL jC_89 dX3_clause_168 rfl) <|
  jcons (jL jC_89 dX3_clause_169 rfl) <|
  jcons (jL jC_89 dX3_clause_170 rfl) <|
  jcons (jL jC_89 dX3_clause_173 rfl) <|
  jcons (jL jC_89 dX3_clause_174 rfl) <|
  jcons (j4V jC_89 jY_89 dX3_clause_175 (jc_90 _) q1564 pd_90 (Or.inl q1562) (fun c r h1 h2 => js_134 c r h1 h2)) <|
  jcons (jL jC_89 dX3_clause_178 rfl) <|
  jcons (jG jC_89 jY_89 dX3_clause_179 fk_3_9_X3 (Or.inl q1321)) <|
  jcons (jL jC_89 dX3_clause_182 rfl) <|
  jcons (jL jC_89 dX3_clause_183 rfl) <|
  jcons (jL jC_89 dX3_clause_186 rfl) <|
  jcons (jL jC_89 dX3_clause_187 rfl) <|
  jcons (jL jC_89 dX3_clause_190 rfl) <|
  jcons (j4V jC_89 jY_89 dX3_clause_191 (jc_76 _) q1507 pd_76 (Or.inl q1505) (fun c r h1 h2 => js_122 c r h1 h2)) <|
  jnil
theorem jt_89_3 : ∀ q ∈ tcX3_clause_3, sJ jnw jao 89 q.1 q.2.1 q.2.2 :=
  jcons (jL jC_89 dX3_clause_194 rfl) <|
  jcons (jL jC_89 dX3_clause_196 rfl) <|
  jcons (jL jC_89 dX3_clause_199 rfl) <|
  jcons (j4V jC_89 jY_89 dX3_clause_200 (jc_78 _) q1515 pd_78 (Or.inl q1513) (fun c r h1 h2 => js_123 c r h1 h2)) <|
  jcons (jL jC_89 dX3_clause_203 rfl) <|
  jcons (jL jC_89 dX3_clause_204 rfl) <|
  jcons (jL jC_89 dX3_clause_205 rfl) <|
  jcons (jG jC_89 jY_89 dX3_clause_206 fk_3_8_X3 (Or.inl q1320)) <|
  jcons (jL jC_89 dX3_clause_209 rfl) <|
  jcons (jL jC_89 dX3_clause_210 rfl) <|
  jcons (jPu jC_89 jY_89 dX3_clause_211 fk_3_8_X3 ap_3_8 (fn_3_8 _) (Or.inl q1320) (tyX3_ok 8 (by decide)) (Or.inl ⟨rfl, rfl⟩)) <|
  jcons (jL jC_89 dX3_clause_214 rfl) <|
  jcons (jG jC_89 jY_89 dX3_clause_215 fk_3_29_X3 (Or.inl q1341)) <|
  jcons (jL jC_89 dX3_clause_218 rfl) <|
  jcons (jL jC_89 dX3_clause_219 rfl) <|
  jcons (jG jC_89 jY_89 dX3_clause_220 fk_3_33_X3 (Or.inl q1345)) <|
  jcons (jL jC_89 dX3_clause_223 rfl) <|
  jcons (jL jC_89 dX3_clause_224 rfl) <|
  jcons (j4V jC_89 jY_89 dX3_clause_225 (jc_96 _) q1588 pd_96 (Or.inl q1586) (fun c r h1 h2 => js_135 c r h1 h2)) <|
  jcons (jL jC_89 dX3_clause_228 rfl) <|
  jcons (jG jC_89 jY_89 dX3_clause_229 fk_3_30_X3 (Or.inl q1342)) <|
  jcons (jL jC_89 dX3_clause_232 rfl) <|
  jcons (jL jC_89 dX3_clause_233 rfl) <|
  jcons (jG jC_89 jY_89 dX3_clause_234 fk_3_33_X3 (Or.inl q1345)) <|
  jcons (jL jC_89 dX3_clause_237 rfl) <|
  jcons (jL jC_89 dX3_clause_238 rfl) <|
  jnil
theorem jm_89 : ∀ l ∈ tbX3_clause, ∀ q ∈ l, sJ jnw jao 89 q.1 q.2.1 q.2.2 := jmc jt_89_0 <| jmc jt_89_1 <| jmc jt_89_2 <| jmc jt_89_3 <| jmn
theorem jt_90_0 : ∀ q ∈ tcX3_condition_0, sJ jnw jao 90 q.1 q.2.1 q.2.2 :=
  jcons (jL jC_90 dX3_condition_0 rfl) <|
  jcons (jL jC_90 dX3_condition_1 rfl) <|
  jcons (j4V jC_90 jY_90 dX3_condition_2 (jc_91 _) q1568 pd_91 (Or.inl q1566) (fun c r h1 h2 => js_136 c r h1 h2)) <|
  jcons (jL jC_90 dX3_condition_5 rfl) <|
  jcons (jG jC_90 jY_90 dX3_condition_6 fk_3_9_X3 (Or.inl q1321)) <|
  jcons (jL jC_90 dX3_condition_9 rfl) <|
  jcons (jL jC_90 dX3_condition_10 rfl) <|
  jcons (jL jC_90 dX3_condition_13 rfl) <|
  jcons (j4V jC_90 jY_90 dX3_condition_14 (jc_76 _) q1507 pd_76 (Or.inl q1505) (fun c r h1 h2 => js_122 c r h1 h2)) <|
  jcons (jL jC_90 dX3_condition_17 rfl) <|
  jcons (jL jC_90 dX3_condition_19 rfl) <|
  jcons (jL jC_90 dX3_condition_22 rfl) <|
  jcons (jL jC_90 dX3_condition_23 rfl) <|
  jcons (jG jC_90 jY_90 dX3_condition_24 fk_3_8_X3 (Or.inl q1320)) <|
  jcons (jL jC_90 dX3_condition_27 rfl) <|
  jcons (jL jC_90 dX3_condition_28 rfl) <|
  jcons (jPu jC_90 jY_90 dX3_condition_29 fk_3_8_X3 ap_3_8 (fn_3_8 _) (Or.inl q1320) (tyX3_ok 8 (by decide)) (Or.inl ⟨rfl, rfl⟩)) <|
  jcons (jL jC_90 dX3_condition_32 rfl) <|
  jcons (jL jC_90 dX3_condition_33 rfl) <|
  jcons (j4V jC_90 jY_90 dX3_condition_34 (jc_91 _) q1568 pd_91 (Or.inl q1566) (fun c r h1 h2 => js_136 c r h1 h2)) <|
  jcons (jL jC_90 dX3_condition_37 rfl) <|
  jcons (jL jC_90 dX3_condition_38 rfl) <|
  jcons (j4V jC_90 jY_90 dX3_condition_40 (jc_94 _) q1580 pd_94 (Or.inl q1578) (fun c r h1 h2 => js_137 c r h1 h2)) <|
  jcons (jL jC_90 dX3_condition_43 rfl) <|
  jcons (jL jC_90 dX3_condition_46 rfl) <|
  jnil
theorem jm_90 : ∀ l ∈ tbX3_condition, ∀ q ∈ l, sJ jnw jao 90 q.1 q.2.1 q.2.2 := jmc jt_90_0 <| jmn
theorem jt_91_0 : ∀ q ∈ tcX3_truth_0, sJ jnw jao 91 q.1 q.2.1 q.2.2 :=
  jcons (jL jC_91 dX3_truth_0 rfl) <|
  jcons (jL jC_91 dX3_truth_1 rfl) <|
  jcons (j4V jC_91 jY_91 dX3_truth_2 (jc_92 _) q1572 pd_92 (Or.inl q1570) (fun c r h1 h2 => js_138 c r h1 h2)) <|
  jcons (jL jC_91 dX3_truth_5 rfl) <|
  jcons (jG jC_91 jY_91 dX3_truth_6 fk_3_9_X3 (Or.inl q1321)) <|
  jcons (jL jC_91 dX3_truth_9 rfl) <|
  jcons (jL jC_91 dX3_truth_10 rfl) <|
  jcons (jL jC_91 dX3_truth_13 rfl) <|
  jcons (j4V jC_91 jY_91 dX3_truth_14 (jc_76 _) q1507 pd_76 (Or.inl q1505) (fun c r h1 h2 => js_122 c r h1 h2)) <|
  jcons (jL jC_91 dX3_truth_17 rfl) <|
  jcons (jL jC_91 dX3_truth_19 rfl) <|
  jcons (jL jC_91 dX3_truth_22 rfl) <|
  jcons (jL jC_91 dX3_truth_23 rfl) <|
  jcons (jG jC_91 jY_91 dX3_truth_24 fk_3_8_X3 (Or.inl q1320)) <|
  jcons (jL jC_91 dX3_truth_27 rfl) <|
  jcons (jL jC_91 dX3_truth_28 rfl) <|
  jcons (jPu jC_91 jY_91 dX3_truth_29 fk_3_8_X3 ap_3_8 (fn_3_8 _) (Or.inl q1320) (tyX3_ok 8 (by decide)) (Or.inl ⟨rfl, rfl⟩)) <|
  jcons (jL jC_91 dX3_truth_32 rfl) <|
  jcons (jL jC_91 dX3_truth_33 rfl) <|
  jcons (j4V jC_91 jY_91 dX3_truth_34 (jc_92 _) q1572 pd_92 (Or.inl q1570) (fun c r h1 h2 => js_138 c r h1 h2)) <|
  jcons (jL jC_91 dX3_truth_37 rfl) <|
  jcons (jL jC_91 dX3_truth_38 rfl) <|
  jcons (j4V jC_91 jY_91 dX3_truth_40 (jc_94 _) q1580 pd_94 (Or.inl q1578) (fun c r h1 h2 => js_137 c r h1 h2)) <|
  jcons (jL jC_91 dX3_truth_43 rfl) <|
  jcons (jL jC_91 dX3_truth_46 rfl) <|
  jnil
theorem jm_91 : ∀ l ∈ tbX3_truth, ∀ q ∈ l, sJ jnw jao 91 q.1 q.2.1 q.2.2 := jmc jt_91_0 <| jmn
theorem jt_92_0 : ∀ q ∈ tcX3_unit_0, sJ jnw jao 92 q.1 q.2.1 q.2.2 :=
  jcons (jL jC_92 dX3_unit_0 rfl) <|
  jcons (jG jC_92 jY_92 dX3_unit_1 fk_3_9_X3 (Or.inl q1321)) <|
  jcons (jL jC_92 dX3_unit_4 rfl) <|
  jcons (jL jC_92 dX3_unit_5 rfl) <|
  jcons (jL jC_92 dX3_unit_8 rfl) <|
  jcons (j4V jC_92 jY_92 dX3_unit_9 (jc_76 _) q1507 pd_76 (Or.inl q1505) (fun c r h1 h2 => js_122 c r h1 h2)) <|
  jcons (jL jC_92 dX3_unit_12 rfl) <|
  jcons (jL jC_92 dX3_unit_15 rfl) <|
  jcons (jL jC_92 dX3_unit_16 rfl) <|
  jcons (jL jC_92 dX3_unit_17 rfl) <|
  jcons (jL jC_92 dX3_unit_18 rfl) <|
  jcons (jL jC_92 dX3_unit_21 rfl) <|
  jcons (jL jC_92 dX3_unit_22 rfl) <|
  jcons (jL jC_92 dX3_unit_24 rfl) <|
  jcons (jL jC_92 dX3_unit_27 rfl) <|
  jcons (jL jC_92 dX3_unit_28 rfl) <|
  jcons (jL jC_92 dX3_unit_30 rfl) <|
  jcons (jL jC_92 dX3_unit_33 rfl) <|
  jcons (j4V jC_92 jY_92 dX3_unit_34 (jc_93 _) q1576 pd_93 (Or.inl q1574) (fun c r h1 h2 => js_139 c r h1 h2)) <|
  jcons (jL jC_92 dX3_unit_37 rfl) <|
  jcons (jG jC_92 jY_92 dX3_unit_38 fk_3_9_X3 (Or.inl q1321)) <|
  jcons (jL jC_92 dX3_unit_41 rfl) <|
  jcons (jL jC_92 dX3_unit_42 rfl) <|
  jcons (jL jC_92 dX3_unit_45 rfl) <|
  jcons (jL jC_92 dX3_unit_46 rfl) <|
  jcons (jL jC_92 dX3_unit_47 rfl) <|
  jcons (jL jC_92 dX3_unit_49 rfl) <|
  jcons (jL jC_92 dX3_unit_52 rfl) <|
  jcons (jL jC_92 dX3_unit_53 rfl) <|
  jcons (j4V jC_92 jY_92 dX3_unit_54 (jc_92 _) q1572 pd_92 (Or.inl q1570) (fun c r h1 h2 => js_138 c r h1 h2)) <|
  jcons (jL jC_92 dX3_unit_57 rfl) <|
  jcons (jL jC_92 dX3_unit_58 rfl) <|
  jcons (jG jC_92 jY_92 dX3_unit_59 fk_3_10_X3 (Or.inl q1322)) <|
  jcons (jL jC_92 dX3_unit_62 rfl) <|
  jcons (jL jC_92 dX3_unit_63 rfl) <|
  jnil
theorem jt_92_1 : ∀ q ∈ tcX3_unit_1, sJ jnw jao 92 q.1 q.2.1 q.2.2 :=
  jcons (jPu jC_92 jY_92 dX3_unit_64 fk_3_10_X3 ap_3_10 (fn_3_10 _) (Or.inl q1322) (tyX3_ok 10 (by decide)) (Or.inl ⟨rfl, rfl⟩)) <|
  jcons (jL jC_92 dX3_unit_67 rfl) <|
  jcons (jL jC_92 dX3_unit_68 rfl) <|
  jcons (j4V jC_92 jY_92 dX3_unit_70 (jc_94 _) q1580 pd_94 (Or.inl q1578) (fun c r h1 h2 => js_137 c r h1 h2)) <|
  jcons (jL jC_92 dX3_unit_73 rfl) <|
  jcons (jL jC_92 dX3_unit_76 rfl) <|
  jcons (jL jC_92 dX3_unit_77 rfl) <|
  jcons (j4V jC_92 jY_92 dX3_unit_78 (jc_90 _) q1564 pd_90 (Or.inl q1562) (fun c r h1 h2 => js_134 c r h1 h2)) <|
  jcons (jL jC_92 dX3_unit_81 rfl) <|
  jcons (jL jC_92 dX3_unit_82 rfl) <|
  jcons (j4V jC_92 jY_92 dX3_unit_84 (jc_95 _) q1584 pd_95 (Or.inl q1582) (fun c r h1 h2 => js_140 c r h1 h2)) <|
  jcons (jL jC_92 dX3_unit_87 rfl) <|
  jcons (jL jC_92 dX3_unit_88 rfl) <|
  jcons (jL jC_92 dX3_unit_89 rfl) <|
  jcons (jL jC_92 dX3_unit_92 rfl) <|
  jcons (j4V jC_92 jY_92 dX3_unit_93 (jc_96 _) q1588 pd_96 (Or.inl q1586) (fun c r h1 h2 => js_135 c r h1 h2)) <|
  jcons (jL jC_92 dX3_unit_96 rfl) <|
  jcons (jG jC_92 jY_92 dX3_unit_97 fk_3_9_X3 (Or.inl q1321)) <|
  jcons (jL jC_92 dX3_unit_100 rfl) <|
  jcons (jL jC_92 dX3_unit_101 rfl) <|
  jcons (jL jC_92 dX3_unit_104 rfl) <|
  jcons (j4V jC_92 jY_92 dX3_unit_105 (jc_76 _) q1507 pd_76 (Or.inl q1505) (fun c r h1 h2 => js_122 c r h1 h2)) <|
  jcons (jL jC_92 dX3_unit_108 rfl) <|
  jcons (jL jC_92 dX3_unit_111 rfl) <|
  jcons (jL jC_92 dX3_unit_112 rfl) <|
  jcons (jL jC_92 dX3_unit_113 rfl) <|
  jcons (jL jC_92 dX3_unit_114 rfl) <|
  jcons (jL jC_92 dX3_unit_116 rfl) <|
  jcons (jL jC_92 dX3_unit_119 rfl) <|
  jcons (jL jC_92 dX3_unit_120 rfl) <|
  jcons (jL jC_92 dX3_unit_122 rfl) <|
  jcons (jL jC_92 dX3_unit_125 rfl) <|
  jcons (jL jC_92 dX3_unit_126 rfl) <|
  jnil
theorem jt_92_2 : ∀ q ∈ tcX3_unit_2, sJ jnw jao 92 q.1 q.2.1 q.2.2 :=
  jcons (jL jC_92 dX3_unit_128 rfl) <|
  jcons (jL jC_92 dX3_unit_131 rfl) <|
  jcons (j4V jC_92 jY_92 dX3_unit_132 (jc_78 _) q1515 pd_78 (Or.inl q1513) (fun c r h1 h2 => js_123 c r h1 h2)) <|
  jcons (jL jC_92 dX3_unit_135 rfl) <|
  jcons (jL jC_92 dX3_unit_136 rfl) <|
  jcons (jL jC_92 dX3_unit_137 rfl) <|
  jcons (jG jC_92 jY_92 dX3_unit_138 fk_3_8_X3 (Or.inl q1320)) <|
  jcons (jL jC_92 dX3_unit_141 rfl) <|
  jcons (jL jC_92 dX3_unit_142 rfl) <|
  jcons (jPu jC_92 jY_92 dX3_unit_143 fk_3_8_X3 ap_3_8 (fn_3_8 _) (Or.inl q1320) (tyX3_ok 8 (by decide)) (Or.inl ⟨rfl, rfl⟩)) <|
  jcons (jL jC_92 dX3_unit_146 rfl) <|
  jcons (j4V jC_92 jY_92 dX3_unit_147 (jc_96 _) q1588 pd_96 (Or.inl q1586) (fun c r h1 h2 => js_135 c r h1 h2)) <|
  jcons (jL jC_92 dX3_unit_150 rfl) <|
  jcons (jL jC_92 dX3_unit_151 rfl) <|
  jcons (j4V jC_92 jY_92 dX3_unit_152 (jc_94 _) q1580 pd_94 (Or.inl q1578) (fun c r h1 h2 => js_137 c r h1 h2)) <|
  jcons (jL jC_92 dX3_unit_155 rfl) <|
  jnil
theorem jm_92 : ∀ l ∈ tbX3_unit, ∀ q ∈ l, sJ jnw jao 92 q.1 q.2.1 q.2.2 := jmc jt_92_0 <| jmc jt_92_1 <| jmc jt_92_2 <| jmn
theorem jt_93_0 : ∀ q ∈ tcX3_opens_0, sJ jnw jao 93 q.1 q.2.1 q.2.2 :=
  jcons (jL jC_93 dX3_opens_0 rfl) <|
  jcons (jG jC_93 jY_93 dX3_opens_1 fk_3_10_X3 (Or.inl q1322)) <|
  jcons (jL jC_93 dX3_opens_4 rfl) <|
  jcons (jL jC_93 dX3_opens_6 rfl) <|
  jcons (jL jC_93 dX3_opens_9 rfl) <|
  jcons (j4V jC_93 jY_93 dX3_opens_10 (jc_78 _) q1515 pd_78 (Or.inl q1513) (fun c r h1 h2 => js_123 c r h1 h2)) <|
  jcons (jL jC_93 dX3_opens_13 rfl) <|
  jcons (jL jC_93 dX3_opens_14 rfl) <|
  jcons (jL jC_93 dX3_opens_15 rfl) <|
  jcons (jG jC_93 jY_93 dX3_opens_16 fk_3_10_X3 (Or.inl q1322)) <|
  jcons (jL jC_93 dX3_opens_19 rfl) <|
  jcons (jL jC_93 dX3_opens_20 rfl) <|
  jcons (jPu jC_93 jY_93 dX3_opens_21 fk_3_10_X3 ap_3_10 (fn_3_10 _) (Or.inl q1322) (tyX3_ok 10 (by decide)) (Or.inl ⟨rfl, rfl⟩)) <|
  jcons (jL jC_93 dX3_opens_24 rfl) <|
  jcons (jL jC_93 dX3_opens_25 rfl) <|
  jcons (jG jC_93 jY_93 dX3_opens_26 fk_3_8_X3 (Or.inl q1320)) <|
  jcons (jL jC_93 dX3_opens_29 rfl) <|
  jcons (jL jC_93 dX3_opens_30 rfl) <|
  jcons (jPu jC_93 jY_93 dX3_opens_31 fk_3_8_X3 ap_3_8 (fn_3_8 _) (Or.inl q1320) (tyX3_ok 8 (by decide)) (Or.inl ⟨rfl, rfl⟩)) <|
  jcons (jL jC_93 dX3_opens_34 rfl) <|
  jnil
theorem jm_93 : ∀ l ∈ tbX3_opens, ∀ q ∈ l, sJ jnw jao 93 q.1 q.2.1 q.2.2 := jmc jt_93_0 <| jmn
theorem jt_94_0 : ∀ q ∈ tcX3_say_0, sJ jnw jao 94 q.1 q.2.1 q.2.2 :=
  jcons (jL jC_94 dX3_say_0 rfl) <|
  jcons (jG jC_94 jY_94 dX3_say_1 fk_3_27_X3 (Or.inl q1339)) <|
  jcons (jL jC_94 dX3_say_4 rfl) <|
  jcons (jL jC_94 dX3_say_7 rfl) <|
  jcons (jG jC_94 jY_94 dX3_say_8 fk_3_32_X3 (Or.inl q1344)) <|
  jcons (jL jC_94 dX3_say_11 rfl) <|
  jcons (jL jC_94 dX3_say_12 rfl) <|
  jcons (jG jC_94 jY_94 dX3_say_13 fk_3_33_X3 (Or.inl q1345)) <|
  jcons (jL jC_94 dX3_say_16 rfl) <|
  jcons (jL jC_94 dX3_say_17 rfl) <|
  jcons (jL jC_94 dX3_say_18 rfl) <|
  jcons (jL jC_94 dX3_say_19 rfl) <|
  jcons (jL jC_94 dX3_say_20 rfl) <|
  jcons (jG jC_94 jY_94 dX3_say_21 fk_3_33_X3 (Or.inl q1345)) <|
  jcons (jL jC_94 dX3_say_24 rfl) <|
  jcons (jL jC_94 dX3_say_25 rfl) <|
  jcons (jPu jC_94 jY_94 dX3_say_26 fk_3_33_X3 ap_3_33 (fn_3_33 _) (Or.inl q1345) (tyX3_ok 33 (by decide)) (Or.inl ⟨rfl, rfl⟩)) <|
  jcons (jL jC_94 dX3_say_29 rfl) <|
  jnil
theorem jm_94 : ∀ l ∈ tbX3_say, ∀ q ∈ l, sJ jnw jao 94 q.1 q.2.1 q.2.2 := jmc jt_94_0 <| jmn
theorem jt_95_0 : ∀ q ∈ tcX3_sign_0, sJ jnw jao 95 q.1 q.2.1 q.2.2 :=
  jcons (jL jC_95 dX3_sign_0 rfl) <|
  jcons (jG jC_95 jY_95 dX3_sign_1 fk_3_9_X3 (Or.inl q1321)) <|
  jcons (jL jC_95 dX3_sign_4 rfl) <|
  jcons (jL jC_95 dX3_sign_5 rfl) <|
  jcons (jL jC_95 dX3_sign_8 rfl) <|
  jcons (j4V jC_95 jY_95 dX3_sign_9 (jc_76 _) q1507 pd_76 (Or.inl q1505) (fun c r h1 h2 => js_122 c r h1 h2)) <|
  jcons (jL jC_95 dX3_sign_12 rfl) <|
  jcons (jL jC_95 dX3_sign_13 rfl) <|
  jcons (jL jC_95 dX3_sign_16 rfl) <|
  jcons (j4V jC_95 jY_95 dX3_sign_17 (jc_78 _) q1515 pd_78 (Or.inl q1513) (fun c r h1 h2 => js_123 c r h1 h2)) <|
  jcons (jL jC_95 dX3_sign_20 rfl) <|
  jcons (jL jC_95 dX3_sign_21 rfl) <|
  jcons (jG jC_95 jY_95 dX3_sign_22 fk_3_8_X3 (Or.inl q1320)) <|
  jcons (jL jC_95 dX3_sign_25 rfl) <|
  jcons (jL jC_95 dX3_sign_26 rfl) <|
  jcons (jPu jC_95 jY_95 dX3_sign_27 fk_3_8_X3 ap_3_8 (fn_3_8 _) (Or.inl q1320) (tyX3_ok 8 (by decide)) (Or.inl ⟨rfl, rfl⟩)) <|
  jcons (jL jC_95 dX3_sign_30 rfl) <|
  jcons (jL jC_95 dX3_sign_31 rfl) <|
  jcons (jG jC_95 jY_95 dX3_sign_32 fk_3_10_X3 (Or.inl q1322)) <|
  jcons (jL jC_95 dX3_sign_35 rfl) <|
  jcons (jL jC_95 dX3_sign_36 rfl) <|
  jcons (jPu jC_95 jY_95 dX3_sign_37 fk_3_10_X3 ap_3_10 (fn_3_10 _) (Or.inl q1322) (tyX3_ok 10 (by decide)) (Or.inl ⟨rfl, rfl⟩)) <|
  jcons (jL jC_95 dX3_sign_40 rfl) <|
  jnil
theorem jm_95 : ∀ l ∈ tbX3_sign, ∀ q ∈ l, sJ jnw jao 95 q.1 q.2.1 q.2.2 := jmc jt_95_0 <| jmn
theorem jt_96_0 : ∀ q ∈ tcX3_sum_0, sJ jnw jao 96 q.1 q.2.1 q.2.2 :=
  jcons (jL jC_96 dX3_sum_0 rfl) <|
  jcons (j4V jC_96 jY_96 dX3_sum_1 (jc_97 _) q1592 pd_97 (Or.inl q1590) (fun c r h1 h2 => js_141 c r h1 h2)) <|
  jcons (jL jC_96 dX3_sum_4 rfl) <|
  jcons (jG jC_96 jY_96 dX3_sum_5 fk_3_9_X3 (Or.inl q1321)) <|
  jcons (jL jC_96 dX3_sum_8 rfl) <|
  jcons (jL jC_96 dX3_sum_9 rfl) <|
  jcons (jL jC_96 dX3_sum_12 rfl) <|
  jcons (j4V jC_96 jY_96 dX3_sum_13 (jc_76 _) q1507 pd_76 (Or.inl q1505) (fun c r h1 h2 => js_122 c r h1 h2)) <|
  jcons (jL jC_96 dX3_sum_16 rfl) <|
  jcons (jL jC_96 dX3_sum_18 rfl) <|
  jcons (jL jC_96 dX3_sum_21 rfl) <|
  jcons (j4V jC_96 jY_96 dX3_sum_22 (jc_76 _) q1507 pd_76 (Or.inl q1505) (fun c r h1 h2 => js_122 c r h1 h2)) <|
  jcons (jL jC_96 dX3_sum_25 rfl) <|
  jcons (jL jC_96 dX3_sum_27 rfl) <|
  jcons (jL jC_96 dX3_sum_30 rfl) <|
  jcons (j4V jC_96 jY_96 dX3_sum_31 (jc_76 _) q1507 pd_76 (Or.inl q1505) (fun c r h1 h2 => js_122 c r h1 h2)) <|
  jcons (jL jC_96 dX3_sum_34 rfl) <|
  jcons (jL jC_96 dX3_sum_35 rfl) <|
  jcons (jL jC_96 dX3_sum_36 rfl) <|
  jcons (jG jC_96 jY_96 dX3_sum_37 fk_3_8_X3 (Or.inl q1320)) <|
  jcons (jL jC_96 dX3_sum_40 rfl) <|
  jcons (jL jC_96 dX3_sum_41 rfl) <|
  jcons (jPu jC_96 jY_96 dX3_sum_42 fk_3_8_X3 ap_3_8 (fn_3_8 _) (Or.inl q1320) (tyX3_ok 8 (by decide)) (Or.inl ⟨rfl, rfl⟩)) <|
  jcons (jL jC_96 dX3_sum_45 rfl) <|
  jcons (j4V jC_96 jY_96 dX3_sum_46 (jc_97 _) q1592 pd_97 (Or.inl q1590) (fun c r h1 h2 => js_141 c r h1 h2)) <|
  jcons (jL jC_96 dX3_sum_49 rfl) <|
  jcons (jL jC_96 dX3_sum_50 rfl) <|
  jcons (j4V jC_96 jY_96 dX3_sum_51 (jc_94 _) q1580 pd_94 (Or.inl q1578) (fun c r h1 h2 => js_137 c r h1 h2)) <|
  jcons (jL jC_96 dX3_sum_54 rfl) <|
  jcons (jL jC_96 dX3_sum_57 rfl) <|
  jnil
theorem jm_96 : ∀ l ∈ tbX3_sum, ∀ q ∈ l, sJ jnw jao 96 q.1 q.2.1 q.2.2 := jmc jt_96_0 <| jmn
theorem jt_97_0 : ∀ q ∈ tcX3_term_0, sJ jnw jao 97 q.1 q.2.1 q.2.2 :=
  jcons (jL jC_97 dX3_term_0 rfl) <|
  jcons (j4V jC_97 jY_97 dX3_term_1 (jc_98 _) q1596 pd_98 (Or.inl q1594) (fun c r h1 h2 => js_142 c r h1 h2)) <|
  jcons (jL jC_97 dX3_term_4 rfl) <|
  jcons (jG jC_97 jY_97 dX3_term_5 fk_3_9_X3 (Or.inl q1321)) <|
  jcons (jL jC_97 dX3_term_8 rfl) <|
  jcons (jL jC_97 dX3_term_9 rfl) <|
  jcons (jL jC_97 dX3_term_12 rfl) <|
  jcons (j4V jC_97 jY_97 dX3_term_13 (jc_76 _) q1507 pd_76 (Or.inl q1505) (fun c r h1 h2 => js_122 c r h1 h2)) <|
  jcons (jL jC_97 dX3_term_16 rfl) <|
  jcons (jL jC_97 dX3_term_18 rfl) <|
  jcons (jL jC_97 dX3_term_21 rfl) <|
  jcons (j4V jC_97 jY_97 dX3_term_22 (jc_76 _) q1507 pd_76 (Or.inl q1505) (fun c r h1 h2 => js_122 c r h1 h2)) <|
  jcons (jL jC_97 dX3_term_25 rfl) <|
  jcons (jL jC_97 dX3_term_27 rfl) <|
  jcons (jL jC_97 dX3_term_30 rfl) <|
  jcons (j4V jC_97 jY_97 dX3_term_31 (jc_76 _) q1507 pd_76 (Or.inl q1505) (fun c r h1 h2 => js_122 c r h1 h2)) <|
  jcons (jL jC_97 dX3_term_34 rfl) <|
  jcons (jL jC_97 dX3_term_35 rfl) <|
  jcons (jL jC_97 dX3_term_36 rfl) <|
  jcons (jG jC_97 jY_97 dX3_term_37 fk_3_8_X3 (Or.inl q1320)) <|
  jcons (jL jC_97 dX3_term_40 rfl) <|
  jcons (jL jC_97 dX3_term_41 rfl) <|
  jcons (jPu jC_97 jY_97 dX3_term_42 fk_3_8_X3 ap_3_8 (fn_3_8 _) (Or.inl q1320) (tyX3_ok 8 (by decide)) (Or.inl ⟨rfl, rfl⟩)) <|
  jcons (jL jC_97 dX3_term_45 rfl) <|
  jcons (j4V jC_97 jY_97 dX3_term_46 (jc_98 _) q1596 pd_98 (Or.inl q1594) (fun c r h1 h2 => js_142 c r h1 h2)) <|
  jcons (jL jC_97 dX3_term_49 rfl) <|
  jcons (jL jC_97 dX3_term_50 rfl) <|
  jcons (j4V jC_97 jY_97 dX3_term_51 (jc_94 _) q1580 pd_94 (Or.inl q1578) (fun c r h1 h2 => js_137 c r h1 h2)) <|
  jcons (jL jC_97 dX3_term_54 rfl) <|
  jcons (jL jC_97 dX3_term_57 rfl) <|
  jnil
theorem jm_97 : ∀ l ∈ tbX3_term, ∀ q ∈ l, sJ jnw jao 97 q.1 q.2.1 q.2.2 := jmc jt_97_0 <| jmn
theorem jt_98_0 : ∀ q ∈ tcX3_atom_0, sJ jnw jao 98 q.1 q.2.1 q.2.2 :=
  jcons (jL jC_98 dX3_atom_0 rfl) <|
  jcons (jG jC_98 jY_98 dX3_atom_1 fk_3_9_X3 (Or.inl q1321)) <|
  jcons (jL jC_98 dX3_atom_4 rfl) <|
  jcons (jL jC_98 dX3_atom_5 rfl) <|
  jcons (jL jC_98 dX3_atom_8 rfl) <|
  jcons (j4V jC_98 jY_98 dX3_atom_9 (jc_76 _) q1507 pd_76 (Or.inl q1505) (fun c r h1 h2 => js_122 c r h1 h2)) <|
  jcons (jL jC_98 dX3_atom_12 rfl) <|
  jcons (jL jC_98 dX3_atom_15 rfl) <|
  jcons (jL jC_98 dX3_atom_16 rfl) <|
  jcons (jL jC_98 dX3_atom_17 rfl) <|
  jcons (j4S jC_98 jY_98 dX3_atom_18 (jc_79 _) q1518 pd_79 (Or.inl q1517)) <|
  jcons (jL jC_98 dX3_atom_21 rfl) <|
  jcons (jL jC_98 dX3_atom_24 rfl) <|
  jcons (jL jC_98 dX3_atom_25 rfl) <|
  jcons (jL jC_98 dX3_atom_26 rfl) <|
  jcons (jL jC_98 dX3_atom_27 rfl) <|
  jcons (jL jC_98 dX3_atom_28 rfl) <|
  jcons (j4V jC_98 jY_98 dX3_atom_29 (jc_77 _) q1511 pd_77 (Or.inl q1509) (fun c r h1 h2 => js_127 c r h1 h2)) <|
  jcons (j4S jC_98 jY_98 dX3_atom_32 (jc_79 _) q1518 pd_79 (Or.inl q1517)) <|
  jcons (jL jC_98 dX3_atom_35 rfl) <|
  jcons (jL jC_98 dX3_atom_38 rfl) <|
  jcons (jL jC_98 dX3_atom_39 rfl) <|
  jcons (jL jC_98 dX3_atom_40 rfl) <|
  jcons (jL jC_98 dX3_atom_43 rfl) <|
  jcons (j4V jC_98 jY_98 dX3_atom_44 (jc_78 _) q1515 pd_78 (Or.inl q1513) (fun c r h1 h2 => js_123 c r h1 h2)) <|
  jcons (jL jC_98 dX3_atom_47 rfl) <|
  jcons (jL jC_98 dX3_atom_48 rfl) <|
  jcons (jL jC_98 dX3_atom_50 rfl) <|
  jcons (jL jC_98 dX3_atom_51 rfl) <|
  jcons (jL jC_98 dX3_atom_52 rfl) <|
  jcons (j4V jC_98 jY_98 dX3_atom_53 (jc_77 _) q1511 pd_77 (Or.inl q1509) (fun c r h1 h2 => js_127 c r h1 h2)) <|
  jcons (jL jC_98 dX3_atom_56 rfl) <|
  jcons (jL jC_98 dX3_atom_57 rfl) <|
  jcons (jL jC_98 dX3_atom_59 rfl) <|
  jcons (jL jC_98 dX3_atom_60 rfl) <|
  jcons (jL jC_98 dX3_atom_61 rfl) <|
  jnil
theorem jt_98_1 : ∀ q ∈ tcX3_atom_1, sJ jnw jao 98 q.1 q.2.1 q.2.2 :=
  jcons (jL jC_98 dX3_atom_64 rfl) <|
  jcons (jL jC_98 dX3_atom_65 rfl) <|
  jcons (jG jC_98 jY_98 dX3_atom_66 fk_3_8_X3 (Or.inl q1320)) <|
  jcons (jL jC_98 dX3_atom_69 rfl) <|
  jcons (jL jC_98 dX3_atom_70 rfl) <|
  jcons (jPu jC_98 jY_98 dX3_atom_71 fk_3_8_X3 ap_3_8 (fn_3_8 _) (Or.inl q1320) (tyX3_ok 8 (by decide)) (Or.inl ⟨rfl, rfl⟩)) <|
  jcons (jL jC_98 dX3_atom_74 rfl) <|
  jcons (jL jC_98 dX3_atom_77 rfl) <|
  jcons (jL jC_98 dX3_atom_78 rfl) <|
  jcons (j4V jC_98 jY_98 dX3_atom_79 (jc_94 _) q1580 pd_94 (Or.inl q1578) (fun c r h1 h2 => js_137 c r h1 h2)) <|
  jcons (jL jC_98 dX3_atom_82 rfl) <|
  jcons (jL jC_98 dX3_atom_83 rfl) <|
  jcons (j4V jC_98 jY_98 dX3_atom_84 (jc_94 _) q1580 pd_94 (Or.inl q1578) (fun c r h1 h2 => js_137 c r h1 h2)) <|
  jcons (jL jC_98 dX3_atom_87 rfl) <|
  jcons (jL jC_98 dX3_atom_90 rfl) <|
  jcons (j4S jC_98 jY_98 dX3_atom_91 (jc_99 _) q1599 pd_99 (Or.inl q1598)) <|
  jcons (jL jC_98 dX3_atom_94 rfl) <|
  jcons (jL jC_98 dX3_atom_97 rfl) <|
  jcons (jL jC_98 dX3_atom_98 rfl) <|
  jcons (jG jC_98 jY_98 dX3_atom_99 fk_3_8_X3 (Or.inl q1320)) <|
  jcons (jL jC_98 dX3_atom_102 rfl) <|
  jcons (jL jC_98 dX3_atom_103 rfl) <|
  jcons (jPu jC_98 jY_98 dX3_atom_104 fk_3_8_X3 ap_3_8 (fn_3_8 _) (Or.inl q1320) (tyX3_ok 8 (by decide)) (Or.inl ⟨rfl, rfl⟩)) <|
  jcons (jL jC_98 dX3_atom_107 rfl) <|
  jcons (jL jC_98 dX3_atom_108 rfl) <|
  jcons (j4V jC_98 jY_98 dX3_atom_109 (jc_94 _) q1580 pd_94 (Or.inl q1578) (fun c r h1 h2 => js_137 c r h1 h2)) <|
  jcons (jL jC_98 dX3_atom_112 rfl) <|
  jcons (jL jC_98 dX3_atom_113 rfl) <|
  jcons (j4V jC_98 jY_98 dX3_atom_114 (jc_94 _) q1580 pd_94 (Or.inl q1578) (fun c r h1 h2 => js_137 c r h1 h2)) <|
  jcons (jL jC_98 dX3_atom_117 rfl) <|
  jcons (jL jC_98 dX3_atom_120 rfl) <|
  jcons (jL jC_98 dX3_atom_121 rfl) <|
  jcons (jL jC_98 dX3_atom_123 rfl) <|
  jcons (jL jC_98 dX3_atom_126 rfl) <|
  jcons (j4V jC_98 jY_98 dX3_atom_127 (jc_93 _) q1576 pd_93 (Or.inl q1574) (fun c r h1 h2 => js_139 c r h1 h2)) <|
  jnil
theorem jt_98_2 : ∀ q ∈ tcX3_atom_2, sJ jnw jao 98 q.1 q.2.1 q.2.2 :=
  jcons (jL jC_98 dX3_atom_130 rfl) <|
  jcons (jG jC_98 jY_98 dX3_atom_131 fk_3_9_X3 (Or.inl q1321)) <|
  jcons (jL jC_98 dX3_atom_134 rfl) <|
  jcons (jL jC_98 dX3_atom_135 rfl) <|
  jcons (jL jC_98 dX3_atom_138 rfl) <|
  jcons (j4V jC_98 jY_98 dX3_atom_139 (jc_96 _) q1588 pd_96 (Or.inl q1586) (fun c r h1 h2 => js_135 c r h1 h2)) <|
  jcons (jL jC_98 dX3_atom_142 rfl) <|
  jcons (jL jC_98 dX3_atom_143 rfl) <|
  jcons (j4V jC_98 jY_98 dX3_atom_145 (jc_95 _) q1584 pd_95 (Or.inl q1582) (fun c r h1 h2 => js_140 c r h1 h2)) <|
  jcons (jL jC_98 dX3_atom_148 rfl) <|
  jcons (jL jC_98 dX3_atom_151 rfl) <|
  jcons (j4V jC_98 jY_98 dX3_atom_152 (jc_78 _) q1515 pd_78 (Or.inl q1513) (fun c r h1 h2 => js_123 c r h1 h2)) <|
  jcons (jL jC_98 dX3_atom_155 rfl) <|
  jnil
theorem jm_98 : ∀ l ∈ tbX3_atom, ∀ q ∈ l, sJ jnw jao 98 q.1 q.2.1 q.2.2 := jmc jt_98_0 <| jmc jt_98_1 <| jmc jt_98_2 <| jmn
theorem jt_99_0 : ∀ q ∈ tcX3_isLetter_0, sJ jnw jao 99 q.1 q.2.1 q.2.2 :=
  jcons (jL jC_99 dX3_isLetter_0 rfl) <|
  jcons (jL jC_99 dX3_isLetter_1 rfl) <|
  jcons (jL jC_99 dX3_isLetter_3 rfl) <|
  jcons (jL jC_99 dX3_isLetter_6 rfl) <|
  jcons (jL jC_99 dX3_isLetter_7 rfl) <|
  jcons (jL jC_99 dX3_isLetter_9 rfl) <|
  jcons (jL jC_99 dX3_isLetter_12 rfl) <|
  jcons (jL jC_99 dX3_isLetter_13 rfl) <|
  jcons (jL jC_99 dX3_isLetter_15 rfl) <|
  jcons (jL jC_99 dX3_isLetter_18 rfl) <|
  jcons (jL jC_99 dX3_isLetter_19 rfl) <|
  jcons (jL jC_99 dX3_isLetter_21 rfl) <|
  jcons (jL jC_99 dX3_isLetter_24 rfl) <|
  jcons (jL jC_99 dX3_isLetter_25 rfl) <|
  jcons (jL jC_99 dX3_isLetter_27 rfl) <|
  jcons (jL jC_99 dX3_isLetter_30 rfl) <|
  jcons (jL jC_99 dX3_isLetter_31 rfl) <|
  jcons (jL jC_99 dX3_isLetter_34 rfl) <|
  jcons (jL jC_99 dX3_isLetter_35 rfl) <|
  jnil
theorem jm_99 : ∀ l ∈ tbX3_isLetter, ∀ q ∈ l, sJ jnw jao 99 q.1 q.2.1 q.2.2 := jmc jt_99_0 <| jmn
theorem jt_100_0 : ∀ q ∈ tcX3_figure_0, sJ jnw jao 100 q.1 q.2.1 q.2.2 :=
  jcons (jL jC_100 dX3_figure_0 rfl) <|
  jcons (jG jC_100 jY_100 dX3_figure_1 fk_3_20_X3 (Or.inl q1332)) <|
  jcons (jL jC_100 dX3_figure_4 rfl) <|
  jcons (jL jC_100 dX3_figure_6 rfl) <|
  jcons (jL jC_100 dX3_figure_9 rfl) <|
  jcons (jL jC_100 dX3_figure_10 rfl) <|
  jcons (jG jC_100 jY_100 dX3_figure_11 fk_3_20_X3 (Or.inl q1332)) <|
  jcons (j4V jC_100 jY_100 dX3_figure_14 (jc_74 _) q1499 pd_74 (Or.inl q1497) (fun c r h1 h2 => js_119 c r h1 h2)) <|
  jcons (jL jC_100 dX3_figure_17 rfl) <|
  jcons (jL jC_100 dX3_figure_18 rfl) <|
  jcons (jL jC_100 dX3_figure_21 rfl) <|
  jcons (jL jC_100 dX3_figure_22 rfl) <|
  jcons (jL jC_100 dX3_figure_23 rfl) <|
  jcons (jL jC_100 dX3_figure_24 rfl) <|
  jcons (jPu jC_100 jY_100 dX3_figure_25 fk_3_7_X3 ap_3_7 (fn_3_7 _) (Or.inl q1319) (tyX3_ok 7 (by decide)) (Or.inl ⟨rfl, rfl⟩)) <|
  jcons (jL jC_100 dX3_figure_28 rfl) <|
  jcons (jL jC_100 dX3_figure_29 rfl) <|
  jcons (jG jC_100 jY_100 dX3_figure_30 fk_3_20_X3 (Or.inl q1332)) <|
  jcons (jL jC_100 dX3_figure_33 rfl) <|
  jcons (jL jC_100 dX3_figure_34 rfl) <|
  jcons (jPu jC_100 jY_100 dX3_figure_35 fk_3_20_X3 ap_3_20 (fn_3_20 _) (Or.inl q1332) (tyX3_ok 20 (by decide)) (Or.inl ⟨rfl, rfl⟩)) <|
  jcons (jL jC_100 dX3_figure_38 rfl) <|
  jcons (jG jC_100 jY_100 dX3_figure_39 fk_3_20_X3 (Or.inl q1332)) <|
  jcons (jL jC_100 dX3_figure_42 rfl) <|
  jcons (jL jC_100 dX3_figure_43 rfl) <|
  jcons (jL jC_100 dX3_figure_44 rfl) <|
  jnil
theorem jm_100 : ∀ l ∈ tbX3_figure, ∀ q ∈ l, sJ jnw jao 100 q.1 q.2.1 q.2.2 := jmc jt_100_0 <| jmn
theorem jt_101_0 : ∀ q ∈ tcX3_rule_0, sJ jnw jao 101 q.1 q.2.1 q.2.2 :=
  jcons (jL jC_101 dX3_rule_0 rfl) <|
  jcons (jG jC_101 jY_101 dX3_rule_1 fk_3_31_X3 (Or.inl q1343)) <|
  jcons (jL jC_101 dX3_rule_4 rfl) <|
  jcons (jL jC_101 dX3_rule_6 rfl) <|
  jcons (jL jC_101 dX3_rule_9 rfl) <|
  jcons (jL jC_101 dX3_rule_10 rfl) <|
  jcons (jG jC_101 jY_101 dX3_rule_11 fk_3_31_X3 (Or.inl q1343)) <|
  jcons (j4V jC_101 jY_101 dX3_rule_14 (jc_88 _) q1556 pd_88 (Or.inl q1554) (fun c r h1 h2 => js_120 c r h1 h2)) <|
  jcons (jL jC_101 dX3_rule_17 rfl) <|
  jcons (jL jC_101 dX3_rule_18 rfl) <|
  jcons (jL jC_101 dX3_rule_21 rfl) <|
  jcons (jL jC_101 dX3_rule_22 rfl) <|
  jcons (jL jC_101 dX3_rule_23 rfl) <|
  jcons (jL jC_101 dX3_rule_24 rfl) <|
  jcons (jPu jC_101 jY_101 dX3_rule_25 fk_3_7_X3 ap_3_7 (fn_3_7 _) (Or.inl q1319) (tyX3_ok 7 (by decide)) (Or.inl ⟨rfl, rfl⟩)) <|
  jcons (jL jC_101 dX3_rule_28 rfl) <|
  jcons (jL jC_101 dX3_rule_29 rfl) <|
  jcons (jG jC_101 jY_101 dX3_rule_30 fk_3_31_X3 (Or.inl q1343)) <|
  jcons (jL jC_101 dX3_rule_33 rfl) <|
  jcons (jL jC_101 dX3_rule_34 rfl) <|
  jcons (jPu jC_101 jY_101 dX3_rule_35 fk_3_31_X3 ap_3_31 (fn_3_31 _) (Or.inl q1343) (tyX3_ok 31 (by decide)) (Or.inl ⟨rfl, rfl⟩)) <|
  jcons (jL jC_101 dX3_rule_38 rfl) <|
  jcons (jG jC_101 jY_101 dX3_rule_39 fk_3_31_X3 (Or.inl q1343)) <|
  jcons (jL jC_101 dX3_rule_42 rfl) <|
  jcons (jL jC_101 dX3_rule_43 rfl) <|
  jcons (jL jC_101 dX3_rule_44 rfl) <|
  jnil
theorem jm_101 : ∀ l ∈ tbX3_rule, ∀ q ∈ l, sJ jnw jao 101 q.1 q.2.1 q.2.2 := jmc jt_101_0 <| jmn
theorem jt_102_0 : ∀ q ∈ tcX3_worth_0, sJ jnw jao 102 q.1 q.2.1 q.2.2 :=
  jcons (jL jC_102 dX3_worth_0 rfl) <|
  jcons (jL jC_102 dX3_worth_1 rfl) <|
  jcons (jL jC_102 dX3_worth_2 rfl) <|
  jcons (jL jC_102 dX3_worth_3 rfl) <|
  jcons (jG jC_102 jY_102 dX3_worth_4 fk_3_31_X3 (Or.inl q1343)) <|
  jcons (jL jC_102 dX3_worth_7 rfl) <|
  jcons (jL jC_102 dX3_worth_8 rfl) <|
  jcons (j4S jC_102 jY_102 dX3_worth_9 (jc_69 _) q1480 pd_69 (Or.inl q1479)) <|
  jcons (jL jC_102 dX3_worth_12 rfl) <|
  jcons (jL jC_102 dX3_worth_15 rfl) <|
  jcons (jL jC_102 dX3_worth_16 rfl) <|
  jcons (jL jC_102 dX3_worth_19 rfl) <|
  jcons (jPu jC_102 jY_102 dX3_worth_20 fk_3_0_X3 ap_3_0 (fn_3_0 _) (Or.inl q1312) (tyX3_ok 0 (by decide)) (Or.inl ⟨rfl, rfl⟩)) <|
  jcons (jL jC_102 dX3_worth_23 rfl) <|
  jcons (jG jC_102 jY_102 dX3_worth_24 fk_3_0_X3 (Or.inl q1312)) <|
  jcons (jL jC_102 dX3_worth_27 rfl) <|
  jcons (jL jC_102 dX3_worth_28 rfl) <|
  jcons (jL jC_102 dX3_worth_31 rfl) <|
  jcons (jL jC_102 dX3_worth_32 rfl) <|
  jcons (jL jC_102 dX3_worth_35 rfl) <|
  jcons (jL jC_102 dX3_worth_36 rfl) <|
  jcons (jL jC_102 dX3_worth_37 rfl) <|
  jcons (jL jC_102 dX3_worth_38 rfl) <|
  jcons (jL jC_102 dX3_worth_39 rfl) <|
  jcons (jL jC_102 dX3_worth_41 rfl) <|
  jcons (jL jC_102 dX3_worth_43 rfl) <|
  jcons (j4V jC_102 jY_102 dX3_worth_45 (jc_103 _) q1615 pd_103 (Or.inl q1613) (fun c r h1 h2 => js_143 c r h1 h2)) <|
  jcons (jL jC_102 dX3_worth_48 rfl) <|
  jnil
theorem jm_102 : ∀ l ∈ tbX3_worth, ∀ q ∈ l, sJ jnw jao 102 q.1 q.2.1 q.2.2 := jmc jt_102_0 <| jmn
theorem jt_103_0 : ∀ q ∈ tcX3_worthOf_0, sJ jnw jao 103 q.1 q.2.1 q.2.2 :=
  jcons (jL jC_103 dX3_worthOf_0 rfl) <|
  jcons (jL jC_103 dX3_worthOf_1 rfl) <|
  jcons (jL jC_103 dX3_worthOf_3 rfl) <|
  jcons (jL jC_103 dX3_worthOf_4 rfl) <|
  jcons (jL jC_103 dX3_worthOf_6 rfl) <|
  jcons (jL jC_103 dX3_worthOf_8 rfl) <|
  jcons (jG jC_103 jY_103 dX3_worthOf_9 fk_3_28_X3 (Or.inl q1340)) <|
  jcons (jL jC_103 dX3_worthOf_12 rfl) <|
  jcons (jL jC_103 dX3_worthOf_13 rfl) <|
  jcons (jL jC_103 dX3_worthOf_14 rfl) <|
  jcons (jL jC_103 dX3_worthOf_17 rfl) <|
  jcons (jG jC_103 jY_103 dX3_worthOf_18 fk_3_29_X3 (Or.inl q1341)) <|
  jcons (jL jC_103 dX3_worthOf_21 rfl) <|
  jcons (jL jC_103 dX3_worthOf_23 rfl) <|
  jcons (jL jC_103 dX3_worthOf_24 rfl) <|
  jcons (jL jC_103 dX3_worthOf_25 rfl) <|
  jcons (jL jC_103 dX3_worthOf_27 rfl) <|
  jcons (jL jC_103 dX3_worthOf_28 rfl) <|
  jcons (jL jC_103 dX3_worthOf_29 rfl) <|
  jcons (jL jC_103 dX3_worthOf_31 rfl) <|
  jcons (jG jC_103 jY_103 dX3_worthOf_32 fk_3_30_X3 (Or.inl q1342)) <|
  jcons (jL jC_103 dX3_worthOf_35 rfl) <|
  jcons (jL jC_103 dX3_worthOf_37 rfl) <|
  jcons (jL jC_103 dX3_worthOf_38 rfl) <|
  jcons (jL jC_103 dX3_worthOf_39 rfl) <|
  jcons (jL jC_103 dX3_worthOf_41 rfl) <|
  jcons (jL jC_103 dX3_worthOf_42 rfl) <|
  jcons (jL jC_103 dX3_worthOf_43 rfl) <|
  jcons (jL jC_103 dX3_worthOf_45 rfl) <|
  jcons (jL jC_103 dX3_worthOf_47 rfl) <|
  jcons (jL jC_103 dX3_worthOf_49 rfl) <|
  jcons (jL jC_103 dX3_worthOf_52 rfl) <|
  jcons (jL jC_103 dX3_worthOf_53 rfl) <|
  jcons (jL jC_103 dX3_worthOf_54 rfl) <|
  jcons (jL jC_103 dX3_worthOf_56 rfl) <|
  jcons (jL jC_103 dX3_worthOf_58 rfl) <|
  jcons (jL jC_103 dX3_worthOf_59 rfl) <|
  jcons (jL jC_103 dX3_worthOf_60 rfl) <|
  jcons (jL jC_103 dX3_worthOf_62 rfl) <|
  jnil
theorem jt_103_1 : ∀ q ∈ tcX3_worthOf_1, sJ jnw jao 103 q.1 q.2.1 q.2.2 :=
  jcons (jL jC_103 dX3_worthOf_64 rfl) <|
  jcons (j4V jC_103 jY_103 dX3_worthOf_66 (jc_104 _) q1619 pd_104 (Or.inl q1617) (fun c r h1 h2 => js_144 c r h1 h2)) <|
  jcons (jL jC_103 dX3_worthOf_69 rfl) <|
  jcons (jL jC_103 dX3_worthOf_70 rfl) <|
  jcons (jL jC_103 dX3_worthOf_71 rfl) <|
  jcons (jL jC_103 dX3_worthOf_74 rfl) <|
  jcons (jL jC_103 dX3_worthOf_75 rfl) <|
  jcons (jL jC_103 dX3_worthOf_76 rfl) <|
  jcons (jL jC_103 dX3_worthOf_78 rfl) <|
  jcons (jL jC_103 dX3_worthOf_80 rfl) <|
  jcons (jL jC_103 dX3_worthOf_81 rfl) <|
  jcons (jL jC_103 dX3_worthOf_82 rfl) <|
  jcons (jL jC_103 dX3_worthOf_84 rfl) <|
  jcons (jL jC_103 dX3_worthOf_86 rfl) <|
  jcons (j4V jC_103 jY_103 dX3_worthOf_88 (jc_104 _) q1619 pd_104 (Or.inl q1617) (fun c r h1 h2 => js_144 c r h1 h2)) <|
  jcons (jL jC_103 dX3_worthOf_91 rfl) <|
  jcons (jL jC_103 dX3_worthOf_92 rfl) <|
  jcons (jL jC_103 dX3_worthOf_93 rfl) <|
  jcons (jL jC_103 dX3_worthOf_95 rfl) <|
  jcons (jL jC_103 dX3_worthOf_97 rfl) <|
  jcons (jL jC_103 dX3_worthOf_100 rfl) <|
  jcons (jL jC_103 dX3_worthOf_103 rfl) <|
  jcons (jL jC_103 dX3_worthOf_104 rfl) <|
  jnil
theorem jm_103 : ∀ l ∈ tbX3_worthOf, ∀ q ∈ l, sJ jnw jao 103 q.1 q.2.1 q.2.2 := jmc jt_103_0 <| jmc jt_103_1 <| jmn
theorem jt_104_0 : ∀ q ∈ tcX3_work_0, sJ jnw jao 104 q.1 q.2.1 q.2.2 :=
  jcons (jL jC_104 dX3_work_0 rfl) <|
  jcons (jL jC_104 dX3_work_1 rfl) <|
  jcons (jL jC_104 dX3_work_3 rfl) <|
  jcons (jL jC_104 dX3_work_6 rfl) <|
  jcons (jL jC_104 dX3_work_7 rfl) <|
  jcons (jL jC_104 dX3_work_8 rfl) <|
  jcons (jL jC_104 dX3_work_9 rfl) <|
  jcons (jL jC_104 dX3_work_10 rfl) <|
  jcons (jL jC_104 dX3_work_12 rfl) <|
  jcons (jL jC_104 dX3_work_14 rfl) <|
  jcons (jL jC_104 dX3_work_17 rfl) <|
  jcons (jL jC_104 dX3_work_18 rfl) <|
  jcons (jL jC_104 dX3_work_19 rfl) <|
  jcons (jL jC_104 dX3_work_20 rfl) <|
  jcons (jL jC_104 dX3_work_21 rfl) <|
  jcons (jL jC_104 dX3_work_24 rfl) <|
  jcons (jG jC_104 jY_104 dX3_work_25 fk_3_27_X3 (Or.inl q1339)) <|
  jcons (jL jC_104 dX3_work_28 rfl) <|
  jcons (jL jC_104 dX3_work_30 rfl) <|
  jcons (jL jC_104 dX3_work_31 rfl) <|
  jcons (jL jC_104 dX3_work_33 rfl) <|
  jcons (jL jC_104 dX3_work_36 rfl) <|
  jcons (jL jC_104 dX3_work_38 rfl) <|
  jcons (jL jC_104 dX3_work_39 rfl) <|
  jcons (jL jC_104 dX3_work_42 rfl) <|
  jcons (jG jC_104 jY_104 dX3_work_43 fk_3_27_X3 (Or.inl q1339)) <|
  jcons (jL jC_104 dX3_work_46 rfl) <|
  jcons (jL jC_104 dX3_work_48 rfl) <|
  jcons (jL jC_104 dX3_work_49 rfl) <|
  jcons (jL jC_104 dX3_work_51 rfl) <|
  jcons (jL jC_104 dX3_work_54 rfl) <|
  jcons (jG jC_104 jY_104 dX3_work_55 fk_3_34_X3 (Or.inl q1346)) <|
  jcons (jL jC_104 dX3_work_58 rfl) <|
  jcons (jL jC_104 dX3_work_60 rfl) <|
  jcons (jL jC_104 dX3_work_62 rfl) <|
  jnil
theorem jt_104_1 : ∀ q ∈ tcX3_work_1, sJ jnw jao 104 q.1 q.2.1 q.2.2 :=
  jcons (jL jC_104 dX3_work_65 rfl) <|
  jcons (jL jC_104 dX3_work_67 rfl) <|
  jcons (jL jC_104 dX3_work_68 rfl) <|
  jcons (jL jC_104 dX3_work_71 rfl) <|
  jcons (jL jC_104 dX3_work_73 rfl) <|
  jcons (jL jC_104 dX3_work_75 rfl) <|
  jcons (jL jC_104 dX3_work_78 rfl) <|
  jcons (jL jC_104 dX3_work_80 rfl) <|
  jcons (jL jC_104 dX3_work_81 rfl) <|
  jcons (jL jC_104 dX3_work_84 rfl) <|
  jcons (jL jC_104 dX3_work_86 rfl) <|
  jcons (jL jC_104 dX3_work_88 rfl) <|
  jcons (jL jC_104 dX3_work_91 rfl) <|
  jcons (jL jC_104 dX3_work_93 rfl) <|
  jcons (jL jC_104 dX3_work_94 rfl) <|
  jcons (jL jC_104 dX3_work_97 rfl) <|
  jcons (jL jC_104 dX3_work_99 rfl) <|
  jcons (jL jC_104 dX3_work_101 rfl) <|
  jcons (jL jC_104 dX3_work_104 rfl) <|
  jcons (jL jC_104 dX3_work_106 rfl) <|
  jcons (jL jC_104 dX3_work_107 rfl) <|
  jcons (jL jC_104 dX3_work_110 rfl) <|
  jcons (jL jC_104 dX3_work_112 rfl) <|
  jcons (jL jC_104 dX3_work_114 rfl) <|
  jcons (jL jC_104 dX3_work_117 rfl) <|
  jcons (jL jC_104 dX3_work_119 rfl) <|
  jcons (jL jC_104 dX3_work_120 rfl) <|
  jcons (jL jC_104 dX3_work_123 rfl) <|
  jcons (jL jC_104 dX3_work_125 rfl) <|
  jcons (jL jC_104 dX3_work_126 rfl) <|
  jcons (jL jC_104 dX3_work_127 rfl) <|
  jnil
theorem jt_104_2 : ∀ q ∈ tcX3_work_2, sJ jnw jao 104 q.1 q.2.1 q.2.2 :=
  jcons (jL jC_104 dX3_work_130 rfl) <|
  jcons (jL jC_104 dX3_work_133 rfl) <|
  jcons (jL jC_104 dX3_work_135 rfl) <|
  jcons (jL jC_104 dX3_work_137 rfl) <|
  jcons (jL jC_104 dX3_work_140 rfl) <|
  jcons (jG jC_104 jY_104 dX3_work_141 fk_3_34_X3 (Or.inl q1346)) <|
  jcons (jL jC_104 dX3_work_144 rfl) <|
  jcons (jL jC_104 dX3_work_146 rfl) <|
  jcons (jL jC_104 dX3_work_147 rfl) <|
  jcons (jL jC_104 dX3_work_148 rfl) <|
  jcons (jL jC_104 dX3_work_149 rfl) <|
  jcons (jG jC_104 jY_104 dX3_work_150 fk_3_34_X3 (Or.inl q1346)) <|
  jcons (jL jC_104 dX3_work_153 rfl) <|
  jcons (jL jC_104 dX3_work_155 rfl) <|
  jcons (jL jC_104 dX3_work_156 rfl) <|
  jcons (jL jC_104 dX3_work_157 rfl) <|
  jcons (jL jC_104 dX3_work_158 rfl) <|
  jcons (jL jC_104 dX3_work_159 rfl) <|
  jcons (jL jC_104 dX3_work_160 rfl) <|
  jcons (jL jC_104 dX3_work_163 rfl) <|
  jcons (jL jC_104 dX3_work_166 rfl) <|
  jcons (jG jC_104 jY_104 dX3_work_167 fk_3_34_X3 (Or.inl q1346)) <|
  jcons (jL jC_104 dX3_work_170 rfl) <|
  jcons (jL jC_104 dX3_work_172 rfl) <|
  jcons (jL jC_104 dX3_work_173 rfl) <|
  jcons (jL jC_104 dX3_work_174 rfl) <|
  jcons (jL jC_104 dX3_work_176 rfl) <|
  jcons (jG jC_104 jY_104 dX3_work_177 fk_3_34_X3 (Or.inl q1346)) <|
  jcons (jL jC_104 dX3_work_180 rfl) <|
  jcons (jL jC_104 dX3_work_182 rfl) <|
  jcons (jL jC_104 dX3_work_183 rfl) <|
  jcons (jL jC_104 dX3_work_184 rfl) <|
  jcons (jL jC_104 dX3_work_185 rfl) <|
  jcons (jG jC_104 jY_104 dX3_work_186 fk_3_34_X3 (Or.inl q1346)) <|
  jcons (jL jC_104 dX3_work_189 rfl) <|
  jcons (jL jC_104 dX3_work_191 rfl) <|
  jnil
theorem jt_104_3 : ∀ q ∈ tcX3_work_3, sJ jnw jao 104 q.1 q.2.1 q.2.2 :=
  jcons (j4S jC_104 jY_104 dX3_work_192 (jc_105 _) q1622 pd_105 (Or.inl q1621)) <|
  jcons (jL jC_104 dX3_work_195 rfl) <|
  jcons (jL jC_104 dX3_work_196 rfl) <|
  jcons (jL jC_104 dX3_work_199 rfl) <|
  jcons (jG jC_104 jY_104 dX3_work_200 fk_3_34_X3 (Or.inl q1346)) <|
  jcons (jL jC_104 dX3_work_203 rfl) <|
  jcons (jL jC_104 dX3_work_204 rfl) <|
  jcons (jL jC_104 dX3_work_205 rfl) <|
  jnil
theorem jm_104 : ∀ l ∈ tbX3_work, ∀ q ∈ l, sJ jnw jao 104 q.1 q.2.1 q.2.2 := jmc jt_104_0 <| jmc jt_104_1 <| jmc jt_104_2 <| jmc jt_104_3 <| jmn
theorem jt_105_0 : ∀ q ∈ tcX3_both_0, sJ jnw jao 105 q.1 q.2.1 q.2.2 :=
  jcons (jL jC_105 dX3_both_0 rfl) <|
  jcons (jL jC_105 dX3_both_1 rfl) <|
  jnil
theorem jt_105_1 : ∀ q ∈ tcX3_both_1, sJ jnw jao 105 q.1 q.2.1 q.2.2 :=
  jcons (jL jC_105 dX3_both_116 rfl) <|
  jcons (jL jC_105 dX3_both_117 rfl) <|
  jcons (jL jC_105 dX3_both_118 rfl) <|
  jcons (j4S jC_105 jY_105 dX3_both_119 (jc_106 _) q1625 pd_106 (Or.inl q1624)) <|
  jcons (jL jC_105 dX3_both_122 rfl) <|
  jcons (jL jC_105 dX3_both_123 rfl) <|
  jcons (jL jC_105 dX3_both_124 rfl) <|
  jcons (jL jC_105 dX3_both_125 rfl) <|
  jcons (j4S jC_105 jY_105 dX3_both_126 (jc_106 _) q1625 pd_106 (Or.inl q1624)) <|
  jnil
theorem jt_105_2 : ∀ q ∈ tcX3_both_2, sJ jnw jao 105 q.1 q.2.1 q.2.2 :=
  jcons (jL jC_105 dX3_both_129 rfl) <|
  jcons (jL jC_105 dX3_both_130 rfl) <|
  jcons (jL jC_105 dX3_both_131 rfl) <|
  jcons (jL jC_105 dX3_both_132 rfl) <|
  jcons (j4S jC_105 jY_105 dX3_both_133 (jc_106 _) q1625 pd_106 (Or.inl q1624)) <|
  jcons (jL jC_105 dX3_both_136 rfl) <|
  jcons (jL jC_105 dX3_both_137 rfl) <|
  jcons (jL jC_105 dX3_both_138 rfl) <|
  jcons (jL jC_105 dX3_both_139 rfl) <|
  jcons (jL jC_105 dX3_both_140 rfl) <|
  jcons (jL jC_105 dX3_both_143 rfl) <|
  jcons (jL jC_105 dX3_both_144 rfl) <|
  jcons (jL jC_105 dX3_both_147 rfl) <|
  jcons (jL jC_105 dX3_both_148 rfl) <|
  jcons (jL jC_105 dX3_both_149 rfl) <|
  jcons (j4S jC_105 jY_105 dX3_both_150 (jc_106 _) q1625 pd_106 (Or.inl q1624)) <|
  jcons (jL jC_105 dX3_both_153 rfl) <|
  jcons (jL jC_105 dX3_both_154 rfl) <|
  jcons (jL jC_105 dX3_both_155 rfl) <|
  jcons (jL jC_105 dX3_both_156 rfl) <|
  jcons (jL jC_105 dX3_both_157 rfl) <|
  jcons (jL jC_105 dX3_both_160 rfl) <|
  jcons (jL jC_105 dX3_both_161 rfl) <|
  jcons (jL jC_105 dX3_both_164 rfl) <|
  jcons (jL jC_105 dX3_both_165 rfl) <|
  jcons (jL jC_105 dX3_both_166 rfl) <|
  jcons (jL jC_105 dX3_both_167 rfl) <|
  jcons (jL jC_105 dX3_both_168 rfl) <|
  jcons (jL jC_105 dX3_both_169 rfl) <|
  jcons (jL jC_105 dX3_both_172 rfl) <|
  jcons (jL jC_105 dX3_both_173 rfl) <|
  jcons (jL jC_105 dX3_both_176 rfl) <|
  jcons (jL jC_105 dX3_both_177 rfl) <|
  jcons (jL jC_105 dX3_both_178 rfl) <|
  jcons (jL jC_105 dX3_both_179 rfl) <|
  jcons (jL jC_105 dX3_both_180 rfl) <|
  jcons (jL jC_105 dX3_both_181 rfl) <|
  jcons (jL jC_105 dX3_both_184 rfl) <|
  jcons (jL jC_105 dX3_both_185 rfl) <|
  jcons (jL jC_105 dX3_both_188 rfl) <|
  jcons (jL jC_105 dX3_both_189 rfl) <|
  jcons (jL jC_105 dX3_both_190 rfl) <|
  jcons (jL jC_105 dX3_both_191 rfl) <|
  jnil
theorem jt_105_3 : ∀ q ∈ tcX3_both_3, sJ jnw jao 105 q.1 q.2.1 q.2.2 :=
  jcons (jL jC_105 dX3_both_192 rfl) <|
  jcons (j3 jC_105 jY_105 dX3_both_193 q1631) <|
  jcons (jL jC_105 dX3_both_196 rfl) <|
  jcons (jL jC_105 dX3_both_197 rfl) <|
  jcons (jL jC_105 dX3_both_200 rfl) <|
  jcons (jL jC_105 dX3_both_201 rfl) <|
  jcons (jL jC_105 dX3_both_204 rfl) <|
  jcons (jL jC_105 dX3_both_205 rfl) <|
  jcons (jL jC_105 dX3_both_206 rfl) <|
  jcons (jL jC_105 dX3_both_207 rfl) <|
  jcons (jL jC_105 dX3_both_208 rfl) <|
  jcons (jL jC_105 dX3_both_209 rfl) <|
  jcons (jL jC_105 dX3_both_210 rfl) <|
  jcons (jL jC_105 dX3_both_211 rfl) <|
  jcons (jL jC_105 dX3_both_214 rfl) <|
  jcons (jL jC_105 dX3_both_215 rfl) <|
  jcons (jL jC_105 dX3_both_218 rfl) <|
  jcons (jL jC_105 dX3_both_219 rfl) <|
  jnil
theorem jm_105 : ∀ l ∈ tbX3_both, ∀ q ∈ l, sJ jnw jao 105 q.1 q.2.1 q.2.2 := jmc jt_105_0 <| jmc jt_105_1 <| jmc jt_105_2 <| jmc jt_105_3 <| jmn
theorem jt_106_0 : ∀ q ∈ tcX3_within_0, sJ jnw jao 106 q.1 q.2.1 q.2.2 :=
  jcons (j3 jC_106 jY_106 dX3_within_0 q1627) <|
  jcons (j3 jC_106 jY_106 dX3_within_3 q1628) <|
  jcons (jL jC_106 dX3_within_6 rfl) <|
  jcons (j14 jC_106 jY_106 dX3_within_7 q1629) <|
  jcons (j14 jC_106 jY_106 dX3_within_10 q1630) <|
  jcons (jL jC_106 dX3_within_13 rfl) <|
  jnil
theorem jm_106 : ∀ l ∈ tbX3_within, ∀ q ∈ l, sJ jnw jao 106 q.1 q.2.1 q.2.2 := jmc jt_106_0 <| jmn
theorem jt_107_0 : ∀ q ∈ tcX3_many_0, sJ jnw jao 107 q.1 q.2.1 q.2.2 :=
  jcons (jL jC_107 dX3_many_0 rfl) <|
  jcons (jL jC_107 dX3_many_1 rfl) <|
  jcons (j4V jC_107 jY_107 dX3_many_2 (jc_108 _) q1638 pd_108 (Or.inl q1636) (fun c r h1 h2 => js_145 c r h1 h2)) <|
  jcons (jL jC_107 dX3_many_5 rfl) <|
  jcons (jL jC_107 dX3_many_8 rfl) <|
  jcons (jL jC_107 dX3_many_9 rfl) <|
  jcons (jL jC_107 dX3_many_10 rfl) <|
  jcons (j4S jC_107 jY_107 dX3_many_11 (jc_69 _) q1480 pd_69 (Or.inl q1479)) <|
  jcons (jL jC_107 dX3_many_14 rfl) <|
  jcons (jL jC_107 dX3_many_17 rfl) <|
  jcons (jL jC_107 dX3_many_18 rfl) <|
  jcons (jL jC_107 dX3_many_19 rfl) <|
  jcons (jL jC_107 dX3_many_20 rfl) <|
  jcons (jL jC_107 dX3_many_21 rfl) <|
  jcons (jL jC_107 dX3_many_22 rfl) <|
  jcons (jL jC_107 dX3_many_24 rfl) <|
  jcons (jL jC_107 dX3_many_25 rfl) <|
  jcons (jL jC_107 dX3_many_27 rfl) <|
  jcons (jL jC_107 dX3_many_29 rfl) <|
  jcons (jG jC_107 jY_107 dX3_many_30 fk_3_13_X3 (Or.inl q1325)) <|
  jcons (jL jC_107 dX3_many_33 rfl) <|
  jcons (jL jC_107 dX3_many_34 rfl) <|
  jcons (jL jC_107 dX3_many_35 rfl) <|
  jcons (jL jC_107 dX3_many_38 rfl) <|
  jcons (jL jC_107 dX3_many_39 rfl) <|
  jcons (jL jC_107 dX3_many_40 rfl) <|
  jcons (jL jC_107 dX3_many_41 rfl) <|
  jcons (j4V jC_107 jY_107 dX3_many_43 (jc_109 _) q1642 pd_109 (Or.inl q1640) (fun c r h1 h2 => js_146 c r h1 h2)) <|
  jcons (jL jC_107 dX3_many_46 rfl) <|
  jcons (jL jC_107 dX3_many_49 rfl) <|
  jcons (jL jC_107 dX3_many_50 rfl) <|
  jcons (jL jC_107 dX3_many_53 rfl) <|
  jcons (jL jC_107 dX3_many_54 rfl) <|
  jcons (jL jC_107 dX3_many_55 rfl) <|
  jcons (jL jC_107 dX3_many_56 rfl) <|
  jcons (jL jC_107 dX3_many_58 rfl) <|
  jcons (jL jC_107 dX3_many_59 rfl) <|
  jcons (jL jC_107 dX3_many_60 rfl) <|
  jcons (j4V jC_107 jY_107 dX3_many_62 (jc_109 _) q1642 pd_109 (Or.inl q1640) (fun c r h1 h2 => js_146 c r h1 h2)) <|
  jnil
theorem jt_107_1 : ∀ q ∈ tcX3_many_1, sJ jnw jao 107 q.1 q.2.1 q.2.2 :=
  jcons (jL jC_107 dX3_many_65 rfl) <|
  jcons (jL jC_107 dX3_many_68 rfl) <|
  jcons (jL jC_107 dX3_many_69 rfl) <|
  jcons (jL jC_107 dX3_many_70 rfl) <|
  jcons (j4V jC_107 jY_107 dX3_many_72 (jc_110 _) q1646 pd_110 (Or.inl q1644) (fun c r h1 h2 => js_147 c r h1 h2)) <|
  jcons (jL jC_107 dX3_many_75 rfl) <|
  jcons (jL jC_107 dX3_many_78 rfl) <|
  jcons (jL jC_107 dX3_many_79 rfl) <|
  jcons (jL jC_107 dX3_many_82 rfl) <|
  jcons (jL jC_107 dX3_many_83 rfl) <|
  jcons (jL jC_107 dX3_many_84 rfl) <|
  jcons (jL jC_107 dX3_many_86 rfl) <|
  jcons (jL jC_107 dX3_many_89 rfl) <|
  jcons (jL jC_107 dX3_many_92 rfl) <|
  jcons (jL jC_107 dX3_many_93 rfl) <|
  jcons (jL jC_107 dX3_many_96 rfl) <|
  jcons (jG jC_107 jY_107 dX3_many_97 fk_3_11_X3 (Or.inl q1323)) <|
  jcons (jL jC_107 dX3_many_100 rfl) <|
  jcons (jL jC_107 dX3_many_101 rfl) <|
  jcons (jL jC_107 dX3_many_102 rfl) <|
  jcons (jL jC_107 dX3_many_105 rfl) <|
  jcons (jL jC_107 dX3_many_106 rfl) <|
  jcons (jL jC_107 dX3_many_107 rfl) <|
  jcons (jL jC_107 dX3_many_110 rfl) <|
  jcons (jG jC_107 jY_107 dX3_many_111 fk_3_13_X3 (Or.inl q1325)) <|
  jcons (jL jC_107 dX3_many_114 rfl) <|
  jcons (jL jC_107 dX3_many_115 rfl) <|
  jcons (jL jC_107 dX3_many_116 rfl) <|
  jcons (jL jC_107 dX3_many_119 rfl) <|
  jcons (jL jC_107 dX3_many_120 rfl) <|
  jcons (jL jC_107 dX3_many_121 rfl) <|
  jcons (jL jC_107 dX3_many_124 rfl) <|
  jcons (jG jC_107 jY_107 dX3_many_125 fk_3_14_X3 (Or.inl q1326)) <|
  jnil
theorem jt_107_2 : ∀ q ∈ tcX3_many_2, sJ jnw jao 107 q.1 q.2.1 q.2.2 :=
  jcons (jL jC_107 dX3_many_128 rfl) <|
  jcons (jL jC_107 dX3_many_129 rfl) <|
  jcons (jL jC_107 dX3_many_130 rfl) <|
  jcons (jL jC_107 dX3_many_133 rfl) <|
  jcons (jL jC_107 dX3_many_134 rfl) <|
  jcons (jL jC_107 dX3_many_135 rfl) <|
  jcons (jL jC_107 dX3_many_138 rfl) <|
  jcons (jL jC_107 dX3_many_139 rfl) <|
  jcons (jL jC_107 dX3_many_142 rfl) <|
  jcons (jL jC_107 dX3_many_143 rfl) <|
  jcons (jL jC_107 dX3_many_144 rfl) <|
  jcons (jL jC_107 dX3_many_147 rfl) <|
  jcons (jL jC_107 dX3_many_149 rfl) <|
  jcons (jL jC_107 dX3_many_152 rfl) <|
  jcons (jL jC_107 dX3_many_153 rfl) <|
  jcons (jL jC_107 dX3_many_154 rfl) <|
  jcons (jL jC_107 dX3_many_155 rfl) <|
  jcons (j4V jC_107 jY_107 dX3_many_156 (jc_111 _) q1650 pd_111 (Or.inl q1648) (fun c r h1 h2 => js_148 c r h1 h2)) <|
  jcons (j4V jC_107 jY_107 dX3_many_159 (jc_113 _) q1658 pd_113 (Or.inl q1656) (fun c r h1 h2 => js_149 c r h1 h2)) <|
  jcons (jL jC_107 dX3_many_162 rfl) <|
  jnil
theorem jm_107 : ∀ l ∈ tbX3_many, ∀ q ∈ l, sJ jnw jao 107 q.1 q.2.1 q.2.2 := jmc jt_107_0 <| jmc jt_107_1 <| jmc jt_107_2 <| jmn
theorem jt_108_0 : ∀ q ∈ tcX3_isFigure_0, sJ jnw jao 108 q.1 q.2.1 q.2.2 :=
  jcons (jL jC_108 dX3_isFigure_0 rfl) <|
  jcons (jL jC_108 dX3_isFigure_1 rfl) <|
  jcons (jL jC_108 dX3_isFigure_2 rfl) <|
  jcons (jG jC_108 jY_108 dX3_isFigure_3 fk_3_20_X3 (Or.inl q1332)) <|
  jcons (jL jC_108 dX3_isFigure_6 rfl) <|
  jcons (jL jC_108 dX3_isFigure_7 rfl) <|
  jcons (j4S jC_108 jY_108 dX3_isFigure_8 (jc_69 _) q1480 pd_69 (Or.inl q1479)) <|
  jcons (jL jC_108 dX3_isFigure_11 rfl) <|
  jnil
theorem jm_108 : ∀ l ∈ tbX3_isFigure, ∀ q ∈ l, sJ jnw jao 108 q.1 q.2.1 q.2.2 := jmc jt_108_0 <| jmn
theorem jt_109_0 : ∀ q ∈ tcX3_isTwist_0, sJ jnw jao 109 q.1 q.2.1 q.2.2 :=
  jcons (jL jC_109 dX3_isTwist_0 rfl) <|
  jcons (jL jC_109 dX3_isTwist_1 rfl) <|
  jcons (jL jC_109 dX3_isTwist_2 rfl) <|
  jcons (jL jC_109 dX3_isTwist_3 rfl) <|
  jcons (jG jC_109 jY_109 dX3_isTwist_4 fk_3_13_X3 (Or.inl q1325)) <|
  jcons (jL jC_109 dX3_isTwist_7 rfl) <|
  jcons (jL jC_109 dX3_isTwist_8 rfl) <|
  jcons (jL jC_109 dX3_isTwist_9 rfl) <|
  jcons (jL jC_109 dX3_isTwist_12 rfl) <|
  jcons (jG jC_109 jY_109 dX3_isTwist_13 fk_3_18_X3 (Or.inl q1330)) <|
  jcons (jL jC_109 dX3_isTwist_16 rfl) <|
  jcons (jL jC_109 dX3_isTwist_18 rfl) <|
  jcons (jL jC_109 dX3_isTwist_19 rfl) <|
  jcons (jL jC_109 dX3_isTwist_20 rfl) <|
  jcons (jL jC_109 dX3_isTwist_21 rfl) <|
  jcons (jL jC_109 dX3_isTwist_22 rfl) <|
  jcons (jL jC_109 dX3_isTwist_23 rfl) <|
  jcons (jG jC_109 jY_109 dX3_isTwist_24 fk_3_18_X3 (Or.inl q1330)) <|
  jcons (jL jC_109 dX3_isTwist_27 rfl) <|
  jcons (jL jC_109 dX3_isTwist_29 rfl) <|
  jcons (jL jC_109 dX3_isTwist_30 rfl) <|
  jcons (jL jC_109 dX3_isTwist_31 rfl) <|
  jcons (jL jC_109 dX3_isTwist_32 rfl) <|
  jcons (jL jC_109 dX3_isTwist_33 rfl) <|
  jcons (jL jC_109 dX3_isTwist_34 rfl) <|
  jcons (jL jC_109 dX3_isTwist_35 rfl) <|
  jcons (jL jC_109 dX3_isTwist_36 rfl) <|
  jcons (jL jC_109 dX3_isTwist_39 rfl) <|
  jcons (jL jC_109 dX3_isTwist_40 rfl) <|
  jcons (jL jC_109 dX3_isTwist_43 rfl) <|
  jcons (jL jC_109 dX3_isTwist_44 rfl) <|
  jnil
theorem jm_109 : ∀ l ∈ tbX3_isTwist, ∀ q ∈ l, sJ jnw jao 109 q.1 q.2.1 q.2.2 := jmc jt_109_0 <| jmn
