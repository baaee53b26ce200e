/-! TABLE FACTS 5 (printed by gentab.py) -/
set_option maxRecDepth 100000
theorem jt_180_0 : ∀ q ∈ tcX6_move_0, sJ jnw jao 180 q.1 q.2.1 q.2.2 :=
  jcons (jL jC_180 dX6_move_0 rfl) <|
  jcons (j4W (x := ⟨"BalloonStall$FigureReader", "look", "()I"⟩) jC_180 jY_180 dX6_move_1 (jc_170 _) q340 pd_170 q336 q337 jw_q338 (by decide) (fun c r h1 h2 => js_182 c r h1 h2)) <|
  jcons (jL jC_180 dX6_move_4 rfl) <|
  jcons (jL jC_180 dX6_move_5 rfl) <|
  jcons (jL jC_180 dX6_move_6 rfl) <|
  jcons (j4V jC_180 jY_180 dX6_move_7 (jc_181 _) q435 pd_181 (Or.inl q433) (fun c r h1 h2 => js_186 c r h1 h2)) <|
  jcons (jL jC_180 dX6_move_10 rfl) <|
  jcons (j6 jC_180 jY_180 dX6_move_13 rfl q437 q355 q112) <|
  jcons (jL jC_180 dX6_move_16 rfl) <|
  jcons (jL jC_180 dX6_move_17 rfl) <|
  jcons (jG jC_180 jY_180 dX6_move_18 fk_6_0_X6 (Or.inl q311)) <|
  jcons (j4I jC_180 jY_180 dX6_move_21 (jc_256 _) rfl q395 ⟨_, _, q396⟩ pd_256 (Or.inl q438)) <|
  jcons (jL jC_180 dX6_move_24 rfl) <|
  jcons (jL jC_180 dX6_move_25 rfl) <|
  jcons (jL jC_180 dX6_move_26 rfl) <|
  jcons (jL jC_180 dX6_move_28 rfl) <|
  jcons (j6 jC_180 jY_180 dX6_move_31 rfl q439 q440 q115) <|
  jcons (jL jC_180 dX6_move_34 rfl) <|
  jcons (jL jC_180 dX6_move_35 rfl) <|
  jcons (jL jC_180 dX6_move_36 rfl) <|
  jcons (j4W (x := ⟨"BalloonStall$FigureReader", "take", "(Z)I"⟩) jC_180 jY_180 dX6_move_37 (jc_172 _) q352 pd_172 q348 q349 jw_q350 (by decide) (fun c r h1 h2 => js_183 c r h1 h2)) <|
  jcons (jL jC_180 dX6_move_40 rfl) <|
  jcons (jL jC_180 dX6_move_42 rfl) <|
  jcons (j4I jC_180 jY_180 dX6_move_43 (jc_187 _) rfl q442 ⟨_, _, q443⟩ pd_187 (Or.inl q441)) <|
  jcons (jL jC_180 dX6_move_46 rfl) <|
  jcons (jL jC_180 dX6_move_47 rfl) <|
  jcons (jL jC_180 dX6_move_48 rfl) <|
  jcons (jL jC_180 dX6_move_50 rfl) <|
  jcons (j6 jC_180 jY_180 dX6_move_53 rfl q456 q457 q116) <|
  jcons (jL jC_180 dX6_move_56 rfl) <|
  jcons (jL jC_180 dX6_move_57 rfl) <|
  jcons (j4V jC_180 jY_180 dX6_move_58 (jc_182 _) q460 pd_182 (Or.inl q458) (fun c r h1 h2 => js_187 c r h1 h2)) <|
  jcons (j4I jC_180 jY_180 dX6_move_61 (jc_189 _) rfl q471 ⟨_, _, q472⟩ pd_189 (Or.inl q470)) <|
  jnil
theorem jt_180_1 : ∀ q ∈ tcX6_move_1, sJ jnw jao 180 q.1 q.2.1 q.2.2 :=
  jcons (jL jC_180 dX6_move_64 rfl) <|
  jcons (jL jC_180 dX6_move_65 rfl) <|
  jcons (j4W (x := ⟨"BalloonStall$FigureReader", "goIn", "()V"⟩) jC_180 jY_180 dX6_move_66 (jc_174 _) q483 pd_174 q479 q480 jw_q481 (by decide) (fun c r h1 h2 => js_188 c r h1 h2)) <|
  jcons (jL jC_180 dX6_move_69 rfl) <|
  jcons (j4V jC_180 jY_180 dX6_move_70 (jc_179 _) q427 pd_179 (Or.inl q425) (fun c r h1 h2 => js_184 c r h1 h2)) <|
  jcons (jL jC_180 dX6_move_73 rfl) <|
  jcons (jL jC_180 dX6_move_74 rfl) <|
  jcons (jL jC_180 dX6_move_75 rfl) <|
  jcons (j4W (x := ⟨"BalloonStall$FigureReader", "goOut", "(I)V"⟩) jC_180 jY_180 dX6_move_77 (jc_175 _) q490 pd_175 q486 q487 jw_q488 (by decide) (fun c r h1 h2 => js_189 c r h1 h2)) <|
  jcons (j6 jC_180 jY_180 dX6_move_80 rfl q493 q494 q117) <|
  jcons (jL jC_180 dX6_move_83 rfl) <|
  jcons (jL jC_180 dX6_move_84 rfl) <|
  jcons (j4I jC_180 jY_180 dX6_move_85 (jc_191 _) rfl q496 ⟨_, _, q497⟩ pd_191 (Or.inl q495)) <|
  jcons (jL jC_180 dX6_move_88 rfl) <|
  jnil
theorem jm_180 : ∀ l ∈ tbX6_move, ∀ q ∈ l, sJ jnw jao 180 q.1 q.2.1 q.2.2 := jmc jt_180_0 <| jmc jt_180_1 <| jmn
theorem jt_181_0 : ∀ q ∈ tcX6_isMove_0, sJ jnw jao 181 q.1 q.2.1 q.2.2 :=
  jcons (jL jC_181 dX6_isMove_0 rfl) <|
  jcons (jL jC_181 dX6_isMove_1 rfl) <|
  jcons (jL jC_181 dX6_isMove_3 rfl) <|
  jcons (jL jC_181 dX6_isMove_6 rfl) <|
  jcons (jL jC_181 dX6_isMove_7 rfl) <|
  jcons (jL jC_181 dX6_isMove_9 rfl) <|
  jcons (jL jC_181 dX6_isMove_12 rfl) <|
  jcons (jL jC_181 dX6_isMove_13 rfl) <|
  jcons (jL jC_181 dX6_isMove_15 rfl) <|
  jcons (jL jC_181 dX6_isMove_18 rfl) <|
  jcons (jL jC_181 dX6_isMove_19 rfl) <|
  jcons (jL jC_181 dX6_isMove_21 rfl) <|
  jcons (jL jC_181 dX6_isMove_24 rfl) <|
  jcons (jL jC_181 dX6_isMove_25 rfl) <|
  jcons (jL jC_181 dX6_isMove_27 rfl) <|
  jcons (jL jC_181 dX6_isMove_30 rfl) <|
  jcons (jL jC_181 dX6_isMove_31 rfl) <|
  jcons (jL jC_181 dX6_isMove_34 rfl) <|
  jcons (jL jC_181 dX6_isMove_35 rfl) <|
  jnil
theorem jm_181 : ∀ l ∈ tbX6_isMove, ∀ q ∈ l, sJ jnw jao 181 q.1 q.2.1 q.2.2 := jmc jt_181_0 <| jmn
theorem jt_182_0 : ∀ q ∈ tcX6_bubble_0, sJ jnw jao 182 q.1 q.2.1 q.2.2 :=
  jcons (jL jC_182 dX6_bubble_0 rfl) <|
  jcons (jL jC_182 dX6_bubble_1 rfl) <|
  jcons (jG jC_182 jY_182 dX6_bubble_2 fk_6_3_X6 (Or.inl q305)) <|
  jcons (jL jC_182 dX6_bubble_5 rfl) <|
  jcons (jL jC_182 dX6_bubble_7 rfl) <|
  jcons (jL jC_182 dX6_bubble_10 rfl) <|
  jcons (jL jC_182 dX6_bubble_11 rfl) <|
  jcons (jL jC_182 dX6_bubble_14 rfl) <|
  jcons (j4W (x := ⟨"BalloonStall$FigureReader", "take", "(Z)I"⟩) jC_182 jY_182 dX6_bubble_15 (jc_172 _) q352 pd_172 q348 q349 jw_q350 (by decide) (fun c r h1 h2 => js_183 c r h1 h2)) <|
  jcons (jL jC_182 dX6_bubble_18 rfl) <|
  jcons (jL jC_182 dX6_bubble_20 rfl) <|
  jcons (jL jC_182 dX6_bubble_21 rfl) <|
  jcons (jL jC_182 dX6_bubble_22 rfl) <|
  jcons (jL jC_182 dX6_bubble_23 rfl) <|
  jcons (jG jC_182 jY_182 dX6_bubble_24 fk_6_3_X6 (Or.inl q305)) <|
  jcons (jL jC_182 dX6_bubble_27 rfl) <|
  jcons (jL jC_182 dX6_bubble_28 rfl) <|
  jcons (jPu jC_182 jY_182 dX6_bubble_29 fk_6_3_X6 ap_6_3 (fn_6_3 _) (Or.inl q305) (tyX6_ok 3 (by decide)) (Or.inl ⟨rfl, rfl⟩)) <|
  jcons (jL jC_182 dX6_bubble_32 rfl) <|
  jcons (j4W (x := ⟨"BalloonStall$FigureReader", "isDigit", "()Z"⟩) jC_182 jY_182 dX6_bubble_33 (jc_173 _) q466 pd_173 q462 q463 jw_q464 (by decide) (fun c r h1 h2 => js_190 c r h1 h2)) <|
  jcons (jL jC_182 dX6_bubble_36 rfl) <|
  jcons (jL jC_182 dX6_bubble_39 rfl) <|
  jcons (jL jC_182 dX6_bubble_41 rfl) <|
  jcons (jL jC_182 dX6_bubble_42 rfl) <|
  jcons (jL jC_182 dX6_bubble_43 rfl) <|
  jcons (jL jC_182 dX6_bubble_44 rfl) <|
  jcons (j4W (x := ⟨"BalloonStall$FigureReader", "take", "(Z)I"⟩) jC_182 jY_182 dX6_bubble_45 (jc_172 _) q352 pd_172 q348 q349 jw_q350 (by decide) (fun c r h1 h2 => js_183 c r h1 h2)) <|
  jcons (jL jC_182 dX6_bubble_48 rfl) <|
  jcons (jL jC_182 dX6_bubble_49 rfl) <|
  jcons (jL jC_182 dX6_bubble_51 rfl) <|
  jcons (jL jC_182 dX6_bubble_52 rfl) <|
  jcons (jL jC_182 dX6_bubble_53 rfl) <|
  jcons (jL jC_182 dX6_bubble_54 rfl) <|
  jcons (jL jC_182 dX6_bubble_55 rfl) <|
  jcons (j3 jC_182 jY_182 dX6_bubble_56 q468) <|
  jcons (j4S jC_182 jY_182 dX6_bubble_59 (jc_6 _) q245 pd_6 (Or.inr ⟨_, jw_q469⟩)) <|
  jcons (jL jC_182 dX6_bubble_62 rfl) <|
  jnil
theorem jt_182_1 : ∀ q ∈ tcX6_bubble_1, sJ jnw jao 182 q.1 q.2.1 q.2.2 :=
  jcons (j6 jC_182 jY_182 dX6_bubble_65 rfl q437 q355 q112) <|
  jcons (jL jC_182 dX6_bubble_68 rfl) <|
  jcons (jL jC_182 dX6_bubble_69 rfl) <|
  jcons (jG jC_182 jY_182 dX6_bubble_70 fk_6_0_X6 (Or.inl q311)) <|
  jcons (jL jC_182 dX6_bubble_73 rfl) <|
  jcons (jL jC_182 dX6_bubble_74 rfl) <|
  jcons (j4I jC_182 jY_182 dX6_bubble_75 (jc_256 _) rfl q395 ⟨_, _, q396⟩ pd_256 (Or.inl q438)) <|
  jcons (jL jC_182 dX6_bubble_78 rfl) <|
  jcons (jL jC_182 dX6_bubble_79 rfl) <|
  jcons (j4W (x := ⟨"BalloonStall$FigureReader", "isDigit", "()Z"⟩) jC_182 jY_182 dX6_bubble_80 (jc_173 _) q466 pd_173 q462 q463 jw_q464 (by decide) (fun c r h1 h2 => js_190 c r h1 h2)) <|
  jcons (jL jC_182 dX6_bubble_83 rfl) <|
  jcons (j6 jC_182 jY_182 dX6_bubble_86 rfl q437 q355 q112) <|
  jcons (jL jC_182 dX6_bubble_89 rfl) <|
  jcons (jL jC_182 dX6_bubble_90 rfl) <|
  jcons (jG jC_182 jY_182 dX6_bubble_91 fk_6_0_X6 (Or.inl q311)) <|
  jcons (j4I jC_182 jY_182 dX6_bubble_94 (jc_256 _) rfl q395 ⟨_, _, q396⟩ pd_256 (Or.inl q438)) <|
  jcons (jL jC_182 dX6_bubble_97 rfl) <|
  jcons (jL jC_182 dX6_bubble_98 rfl) <|
  jcons (jL jC_182 dX6_bubble_99 rfl) <|
  jnil
theorem jm_182 : ∀ l ∈ tbX6_bubble, ∀ q ∈ l, sJ jnw jao 182 q.1 q.2.1 q.2.2 := jmc jt_182_0 <| jmc jt_182_1 <| jmn
theorem jt_183_0 : ∀ q ∈ tcX8_init_0, sJ jnw jao 183 q.1 q.2.1 q.2.2 :=
  jcons (jL jC_183 dX8_init_0 rfl) <|
  jcons (j10 jC_183 jY_183 dX8_init_1 q447) <|
  jcons (jL jC_183 dX8_init_4 rfl) <|
  jnil
theorem jm_183 : ∀ l ∈ tbX8_init, ∀ q ∈ l, sJ jnw jao 183 q.1 q.2.1 q.2.2 := jmc jt_183_0 <| jmn
theorem jt_184_0 : ∀ q ∈ tcX8_all_0, sJ jnw jao 184 q.1 q.2.1 q.2.2 :=
  jcons (jL jC_184 dX8_all_0 rfl) <|
  jcons (jL jC_184 dX8_all_1 rfl) <|
  jcons (jL jC_184 dX8_all_2 rfl) <|
  jcons (jL jC_184 dX8_all_3 rfl) <|
  jcons (jL jC_184 dX8_all_6 rfl) <|
  jcons (jL jC_184 dX8_all_7 rfl) <|
  jcons (jA jC_184 jY_184 dX8_all_8 (nb := 1) (by decide +kernel) q763 q765 jw_q764 (by decide) (jvc (jvk (by decide) (by decide) (jc_186 _) q797 rfl q796) <| jvc (jvk (by decide) (by decide) (jc_188 _) q805 rfl q804) <| jvc (jvk (by decide) (by decide) (jc_190 _) q767 rfl q766) <| jvc (jvk (by decide) (by decide) (jc_192 _) q815 rfl q814) <| jvn)) <|
  jcons (jL jC_184 dX8_all_11 rfl) <|
  jcons (jG jC_184 jY_184 dX8_all_12 fk_8_0_X8 (Or.inl q450)) <|
  jcons (jL jC_184 dX8_all_15 rfl) <|
  jcons (jL jC_184 dX8_all_16 rfl) <|
  jcons (jL jC_184 dX8_all_19 rfl) <|
  jnil
theorem jm_184 : ∀ l ∈ tbX8_all, ∀ q ∈ l, sJ jnw jao 184 q.1 q.2.1 q.2.2 := jmc jt_184_0 <| jmn
theorem jt_185_0 : ∀ q ∈ tcX9_init_0, sJ jnw jao 185 q.1 q.2.1 q.2.2 :=
  jcons (jL jC_185 dX9_init_0 rfl) <|
  jcons (j4I jC_185 jY_185 dX9_init_1 (jc_183 _) rfl q445 ⟨_, _, q446⟩ pd_183 (Or.inr ⟨_, jw_q507⟩)) <|
  jcons (jL jC_185 dX9_init_4 rfl) <|
  jcons (jL jC_185 dX9_init_5 rfl) <|
  jcons (jPf jC_185 jY_185 dX9_init_6 fk_9_1_X9 ap_9_1 fn_9_1 q508 rfl (tyX9_ok 1 (by decide)) (Or.inl ⟨rfl, rfl⟩)) <|
  jcons (jL jC_185 dX9_init_9 rfl) <|
  jcons (jL jC_185 dX9_init_10 rfl) <|
  jcons (jPf jC_185 jY_185 dX9_init_11 fk_9_2_X9 ap_9_2 fn_9_2 q509 rfl (tyX9_ok 2 (by decide)) (Or.inr (Or.inr (Or.inr ⟨rfl, jRf rfl⟩)))) <|
  jcons (jL jC_185 dX9_init_14 rfl) <|
  jnil
theorem jm_185 : ∀ l ∈ tbX9_init, ∀ q ∈ l, sJ jnw jao 185 q.1 q.2.1 q.2.2 := jmc jt_185_0 <| jmn
theorem jt_186_0 : ∀ q ∈ tcX9_made_0, sJ jnw jao 186 q.1 q.2.1 q.2.2 :=
  jcons (jL jC_186 dX9_made_0 rfl) <|
  jcons (jL jC_186 dX9_made_1 rfl) <|
  jcons (jG jC_186 jY_186 dX9_made_2 fk_9_1_X9 (Or.inl q508)) <|
  jcons (j4V jC_186 jY_186 dX9_made_5 (jc_226 _) q800 pd_226 (Or.inl q799) (fun c r h1 h2 => js_191 c r h1 h2)) <|
  jcons (jL jC_186 dX9_made_8 rfl) <|
  jcons (jG jC_186 jY_186 dX9_made_9 fk_9_2_X9 (Or.inl q509)) <|
  jcons (jL jC_186 dX9_made_12 rfl) <|
  jcons (j4V jC_186 jY_186 dX9_made_13 (jc_184 _) q756 pd_184 (Or.inl q803) (fun c r h1 h2 => js_74 c r h1 h2)) <|
  jcons (jL jC_186 dX9_made_16 rfl) <|
  jnil
theorem jm_186 : ∀ l ∈ tbX9_made, ∀ q ∈ l, sJ jnw jao 186 q.1 q.2.1 q.2.2 := jmc jt_186_0 <| jmn
theorem jt_187_0 : ∀ q ∈ tcX10_init_0, sJ jnw jao 187 q.1 q.2.1 q.2.2 :=
  jcons (jL jC_187 dX10_init_0 rfl) <|
  jcons (j4I jC_187 jY_187 dX10_init_1 (jc_183 _) rfl q445 ⟨_, _, q446⟩ pd_183 (Or.inr ⟨_, jw_q444⟩)) <|
  jcons (jL jC_187 dX10_init_4 rfl) <|
  jcons (jL jC_187 dX10_init_5 rfl) <|
  jcons (jPf jC_187 jY_187 dX10_init_6 fk_10_1_X10 ap_10_1 fn_10_1 q448 rfl (tyX10_ok 1 (by decide)) (Or.inl ⟨rfl, rfl⟩)) <|
  jcons (jL jC_187 dX10_init_9 rfl) <|
  jnil
theorem jm_187 : ∀ l ∈ tbX10_init, ∀ q ∈ l, sJ jnw jao 187 q.1 q.2.1 q.2.2 := jmc jt_187_0 <| jmn
theorem jt_188_0 : ∀ q ∈ tcX10_made_0, sJ jnw jao 188 q.1 q.2.1 q.2.2 :=
  jcons (jL jC_188 dX10_made_0 rfl) <|
  jcons (jG jC_188 jY_188 dX10_made_1 fk_23_1_X23 (Or.inr ⟨_, jw_q706⟩)) <|
  jcons (jL jC_188 dX10_made_4 rfl) <|
  jcons (jG jC_188 jY_188 dX10_made_5 fk_10_1_X10 (Or.inl q448)) <|
  jcons (jL jC_188 dX10_made_8 rfl) <|
  jcons (jL jC_188 dX10_made_9 rfl) <|
  jcons (jL jC_188 dX10_made_10 rfl) <|
  jcons (jL jC_188 dX10_made_13 rfl) <|
  jcons (jG jC_188 jY_188 dX10_made_14 fk_23_1_X23 (Or.inr ⟨_, jw_q706⟩)) <|
  jcons (jL jC_188 dX10_made_17 rfl) <|
  jcons (jG jC_188 jY_188 dX10_made_18 fk_10_1_X10 (Or.inl q448)) <|
  jcons (jL jC_188 dX10_made_21 rfl) <|
  jcons (jG jC_188 jY_188 dX10_made_22 fk_23_7_X23 (Or.inr ⟨_, jw_q719⟩)) <|
  jcons (jL jC_188 dX10_made_25 rfl) <|
  jcons (jL jC_188 dX10_made_26 rfl) <|
  jcons (jL jC_188 dX10_made_29 rfl) <|
  jcons (jL jC_188 dX10_made_30 rfl) <|
  jcons (jG jC_188 jY_188 dX10_made_31 fk_23_1_X23 (Or.inr ⟨_, jw_q706⟩)) <|
  jcons (jL jC_188 dX10_made_34 rfl) <|
  jcons (jG jC_188 jY_188 dX10_made_35 fk_10_1_X10 (Or.inl q448)) <|
  jcons (jL jC_188 dX10_made_38 rfl) <|
  jcons (jL jC_188 dX10_made_39 rfl) <|
  jcons (jG jC_188 jY_188 dX10_made_40 fk_23_7_X23 (Or.inr ⟨_, jw_q719⟩)) <|
  jcons (j4V jC_188 jY_188 dX10_made_43 (jc_227 _) q808 pd_227 (Or.inl q807) (fun c r h1 h2 => js_91 c r h1 h2)) <|
  jcons (jL jC_188 dX10_made_46 rfl) <|
  jnil
theorem jm_188 : ∀ l ∈ tbX10_made, ∀ q ∈ l, sJ jnw jao 188 q.1 q.2.1 q.2.2 := jmc jt_188_0 <| jmn
theorem jt_189_0 : ∀ q ∈ tcX11_init_0, sJ jnw jao 189 q.1 q.2.1 q.2.2 :=
  jcons (jL jC_189 dX11_init_0 rfl) <|
  jcons (j4I jC_189 jY_189 dX11_init_1 (jc_183 _) rfl q445 ⟨_, _, q446⟩ pd_183 (Or.inr ⟨_, jw_q473⟩)) <|
  jcons (jL jC_189 dX11_init_4 rfl) <|
  jcons (jL jC_189 dX11_init_5 rfl) <|
  jcons (jPf jC_189 jY_189 dX11_init_6 fk_11_1_X11 ap_11_1 fn_11_1 q474 rfl (tyX11_ok 1 (by decide)) (Or.inl ⟨rfl, rfl⟩)) <|
  jcons (jL jC_189 dX11_init_9 rfl) <|
  jnil
theorem jm_189 : ∀ l ∈ tbX11_init, ∀ q ∈ l, sJ jnw jao 189 q.1 q.2.1 q.2.2 := jmc jt_189_0 <| jmn
theorem jt_190_0 : ∀ q ∈ tcX11_made_0, sJ jnw jao 190 q.1 q.2.1 q.2.2 :=
  jcons (jL jC_190 dX11_made_0 rfl) <|
  jcons (jL jC_190 dX11_made_1 rfl) <|
  jcons (jG jC_190 jY_190 dX11_made_2 fk_11_1_X11 (Or.inl q474)) <|
  jcons (j4V jC_190 jY_190 dX11_made_5 (jc_220 _) q770 pd_220 (Or.inl q769) (fun c r h1 h2 => js_192 c r h1 h2)) <|
  jcons (jL jC_190 dX11_made_8 rfl) <|
  jnil
theorem jm_190 : ∀ l ∈ tbX11_made, ∀ q ∈ l, sJ jnw jao 190 q.1 q.2.1 q.2.2 := jmc jt_190_0 <| jmn
theorem jt_191_0 : ∀ q ∈ tcX12_init_0, sJ jnw jao 191 q.1 q.2.1 q.2.2 :=
  jcons (jL jC_191 dX12_init_0 rfl) <|
  jcons (j4I jC_191 jY_191 dX12_init_1 (jc_183 _) rfl q445 ⟨_, _, q446⟩ pd_183 (Or.inr ⟨_, jw_q498⟩)) <|
  jcons (jL jC_191 dX12_init_4 rfl) <|
  jcons (jL jC_191 dX12_init_5 rfl) <|
  jcons (jPf jC_191 jY_191 dX12_init_6 fk_12_1_X12 ap_12_1 fn_12_1 q499 rfl (tyX12_ok 1 (by decide)) (Or.inr (Or.inr (Or.inr ⟨rfl, jRf rfl⟩)))) <|
  jcons (jL jC_191 dX12_init_9 rfl) <|
  jnil
theorem jm_191 : ∀ l ∈ tbX12_init, ∀ q ∈ l, sJ jnw jao 191 q.1 q.2.1 q.2.2 := jmc jt_191_0 <| jmn
theorem jt_192_0 : ∀ q ∈ tcX12_made_0, sJ jnw jao 192 q.1 q.2.1 q.2.2 :=
  jcons (jL jC_192 dX12_made_0 rfl) <|
  jcons (jG jC_192 jY_192 dX12_made_1 fk_23_7_X23 (Or.inr ⟨_, jw_q718⟩)) <|
  jcons (jL jC_192 dX12_made_4 rfl) <|
  jcons (jL jC_192 dX12_made_5 rfl) <|
  jcons (jG jC_192 jY_192 dX12_made_6 fk_12_1_X12 (Or.inl q499)) <|
  jcons (jL jC_192 dX12_made_9 rfl) <|
  jcons (j4V jC_192 jY_192 dX12_made_10 (jc_184 _) q756 pd_184 (Or.inl q817) (fun c r h1 h2 => js_74 c r h1 h2)) <|
  jcons (jL jC_192 dX12_made_13 rfl) <|
  jcons (jL jC_192 dX12_made_14 rfl) <|
  jcons (jL jC_192 dX12_made_15 rfl) <|
  jcons (jG jC_192 jY_192 dX12_made_16 fk_23_7_X23 (Or.inr ⟨_, jw_q718⟩)) <|
  jcons (j4V jC_192 jY_192 dX12_made_19 (jc_227 _) q808 pd_227 (Or.inl q818) (fun c r h1 h2 => js_91 c r h1 h2)) <|
  jcons (jL jC_192 dX12_made_22 rfl) <|
  jnil
theorem jm_192 : ∀ l ∈ tbX12_made, ∀ q ∈ l, sJ jnw jao 192 q.1 q.2.1 q.2.2 := jmc jt_192_0 <| jmn
theorem jt_193_0 : ∀ q ∈ tcX13_whole_0, sJ jnw jao 193 q.1 q.2.1 q.2.2 :=
  jcons (jL jC_193 dX13_whole_0 rfl) <|
  jcons (j4V jC_193 jY_193 dX13_whole_1 (jc_194 _) q535 pd_194 (Or.inl q533) (fun c r h1 h2 => js_193 c r h1 h2)) <|
  jcons (jL jC_193 dX13_whole_4 rfl) <|
  jcons (jL jC_193 dX13_whole_5 rfl) <|
  jcons (jL jC_193 dX13_whole_6 rfl) <|
  jcons (jL jC_193 dX13_whole_7 rfl) <|
  jcons (j4W (x := ⟨"BalloonStall$RuleReader", "look", "()I"⟩) jC_193 jY_193 dX13_whole_8 (jc_170 _) q340 pd_170 q537 q538 jw_q338 (by decide) (fun c r h1 h2 => js_194 c r h1 h2)) <|
  jcons (jL jC_193 dX13_whole_11 rfl) <|
  jcons (jL jC_193 dX13_whole_13 rfl) <|
  jcons (jL jC_193 dX13_whole_16 rfl) <|
  jcons (jL jC_193 dX13_whole_17 rfl) <|
  jcons (jG jC_193 jY_193 dX13_whole_18 fk_13_0_X13 (Or.inl q309)) <|
  jcons (jL jC_193 dX13_whole_21 rfl) <|
  jcons (jL jC_193 dX13_whole_22 rfl) <|
  jcons (jPu jC_193 jY_193 dX13_whole_23 fk_13_0_X13 ap_13_0 (fn_13_0 _) (Or.inl q309) (tyX13_ok 0 (by decide)) (Or.inl ⟨rfl, rfl⟩)) <|
  jcons (jL jC_193 dX13_whole_26 rfl) <|
  jcons (jL jC_193 dX13_whole_27 rfl) <|
  jcons (j4V jC_193 jY_193 dX13_whole_28 (jc_194 _) q535 pd_194 (Or.inl q533) (fun c r h1 h2 => js_193 c r h1 h2)) <|
  jcons (jPu jC_193 jY_193 dX13_whole_31 fk_22_2_X22 ap_22_2 (fn_22_2 _) (Or.inr ⟨_, jw_q683⟩) (tyX22_ok 2 (by decide)) (Or.inr (Or.inr (Or.inr ⟨rfl, jRf rfl⟩)))) <|
  jcons (jL jC_193 dX13_whole_34 rfl) <|
  jcons (jG jC_193 jY_193 dX13_whole_35 fk_22_2_X22 (Or.inr ⟨_, jw_q683⟩)) <|
  jcons (jL jC_193 dX13_whole_38 rfl) <|
  jcons (jL jC_193 dX13_whole_39 rfl) <|
  jcons (jL jC_193 dX13_whole_42 rfl) <|
  jcons (j4W (x := ⟨"BalloonStall$RuleReader", "look", "()I"⟩) jC_193 jY_193 dX13_whole_43 (jc_170 _) q340 pd_170 q537 q538 jw_q338 (by decide) (fun c r h1 h2 => js_194 c r h1 h2)) <|
  jcons (jL jC_193 dX13_whole_46 rfl) <|
  jcons (jL jC_193 dX13_whole_47 rfl) <|
  jcons (j6 jC_193 jY_193 dX13_whole_50 rfl q692 q355 q112) <|
  jcons (jL jC_193 dX13_whole_53 rfl) <|
  jcons (jL jC_193 dX13_whole_54 rfl) <|
  jcons (jG jC_193 jY_193 dX13_whole_55 fk_13_0_X13 (Or.inl q309)) <|
  jcons (j4I jC_193 jY_193 dX13_whole_58 (jc_256 _) rfl q395 ⟨_, _, q396⟩ pd_256 (Or.inl q693)) <|
  jcons (jL jC_193 dX13_whole_61 rfl) <|
  jcons (jL jC_193 dX13_whole_62 rfl) <|
  jcons (jL jC_193 dX13_whole_63 rfl) <|
  jnil
theorem jm_193 : ∀ l ∈ tbX13_whole, ∀ q ∈ l, sJ jnw jao 193 q.1 q.2.1 q.2.2 := jmc jt_193_0 <| jmn
theorem jt_194_0 : ∀ q ∈ tcX13_clause_0, sJ jnw jao 194 q.1 q.2.1 q.2.2 :=
  jcons (jL jC_194 dX13_clause_0 rfl) <|
  jcons (j4W (x := ⟨"BalloonStall$RuleReader", "look", "()I"⟩) jC_194 jY_194 dX13_clause_1 (jc_170 _) q340 pd_170 q537 q538 jw_q338 (by decide) (fun c r h1 h2 => js_194 c r h1 h2)) <|
  jcons (jL jC_194 dX13_clause_4 rfl) <|
  jcons (jL jC_194 dX13_clause_5 rfl) <|
  jcons (jL jC_194 dX13_clause_6 rfl) <|
  jcons (jL jC_194 dX13_clause_7 rfl) <|
  jcons (jL jC_194 dX13_clause_9 rfl) <|
  jcons (jL jC_194 dX13_clause_12 rfl) <|
  jcons (jL jC_194 dX13_clause_13 rfl) <|
  jcons (jL jC_194 dX13_clause_16 rfl) <|
  jcons (j4W (x := ⟨"BalloonStall$RuleReader", "take", "(Z)I"⟩) jC_194 jY_194 dX13_clause_17 (jc_172 _) q352 pd_172 q540 q541 jw_q350 (by decide) (fun c r h1 h2 => js_195 c r h1 h2)) <|
  jcons (jL jC_194 dX13_clause_20 rfl) <|
  jcons (jL jC_194 dX13_clause_21 rfl) <|
  jcons (j4W (x := ⟨"BalloonStall$RuleReader", "look", "()I"⟩) jC_194 jY_194 dX13_clause_22 (jc_170 _) q340 pd_170 q537 q538 jw_q338 (by decide) (fun c r h1 h2 => js_194 c r h1 h2)) <|
  jcons (jL jC_194 dX13_clause_25 rfl) <|
  jcons (jL jC_194 dX13_clause_26 rfl) <|
  jcons (jL jC_194 dX13_clause_27 rfl) <|
  jcons (jL jC_194 dX13_clause_28 rfl) <|
  jcons (jL jC_194 dX13_clause_30 rfl) <|
  jcons (jL jC_194 dX13_clause_33 rfl) <|
  jcons (jL jC_194 dX13_clause_34 rfl) <|
  jcons (jL jC_194 dX13_clause_37 rfl) <|
  jcons (j4W (x := ⟨"BalloonStall$RuleReader", "take", "(Z)I"⟩) jC_194 jY_194 dX13_clause_38 (jc_172 _) q352 pd_172 q540 q541 jw_q350 (by decide) (fun c r h1 h2 => js_195 c r h1 h2)) <|
  jcons (jL jC_194 dX13_clause_41 rfl) <|
  jcons (jL jC_194 dX13_clause_42 rfl) <|
  jcons (j4W (x := ⟨"BalloonStall$RuleReader", "look", "()I"⟩) jC_194 jY_194 dX13_clause_43 (jc_170 _) q340 pd_170 q537 q538 jw_q338 (by decide) (fun c r h1 h2 => js_194 c r h1 h2)) <|
  jcons (jL jC_194 dX13_clause_46 rfl) <|
  jcons (jL jC_194 dX13_clause_47 rfl) <|
  jcons (jL jC_194 dX13_clause_48 rfl) <|
  jcons (jL jC_194 dX13_clause_50 rfl) <|
  jcons (jL jC_194 dX13_clause_53 rfl) <|
  jcons (jL jC_194 dX13_clause_54 rfl) <|
  jcons (jL jC_194 dX13_clause_56 rfl) <|
  jcons (jL jC_194 dX13_clause_59 rfl) <|
  jcons (jL jC_194 dX13_clause_60 rfl) <|
  jcons (jL jC_194 dX13_clause_61 rfl) <|
  jcons (j4V jC_194 jY_194 dX13_clause_62 (jc_195 _) q545 pd_195 (Or.inl q543) (fun c r h1 h2 => js_196 c r h1 h2)) <|
  jnil
theorem jt_194_1 : ∀ q ∈ tcX13_clause_1, sJ jnw jao 194 q.1 q.2.1 q.2.2 :=
  jcons (j4V jC_194 jY_194 dX13_clause_65 (jc_202 _) q672 pd_202 (Or.inl q670) (fun c r h1 h2 => js_197 c r h1 h2)) <|
  jcons (jL jC_194 dX13_clause_68 rfl) <|
  jcons (jL jC_194 dX13_clause_69 rfl) <|
  jcons (j4V jC_194 jY_194 dX13_clause_70 (jc_198 _) q582 pd_198 (Or.inl q580) (fun c r h1 h2 => js_198 c r h1 h2)) <|
  jcons (jL jC_194 dX13_clause_73 rfl) <|
  jcons (jL jC_194 dX13_clause_74 rfl) <|
  jcons (j4W (x := ⟨"BalloonStall$RuleReader", "look", "()I"⟩) jC_194 jY_194 dX13_clause_75 (jc_170 _) q340 pd_170 q537 q538 jw_q338 (by decide) (fun c r h1 h2 => js_194 c r h1 h2)) <|
  jcons (jL jC_194 dX13_clause_78 rfl) <|
  jcons (jL jC_194 dX13_clause_79 rfl) <|
  jcons (jL jC_194 dX13_clause_80 rfl) <|
  jcons (jL jC_194 dX13_clause_82 rfl) <|
  jcons (jL jC_194 dX13_clause_85 rfl) <|
  jcons (jL jC_194 dX13_clause_86 rfl) <|
  jcons (jL jC_194 dX13_clause_88 rfl) <|
  jcons (jL jC_194 dX13_clause_91 rfl) <|
  jcons (jL jC_194 dX13_clause_92 rfl) <|
  jcons (jL jC_194 dX13_clause_94 rfl) <|
  jcons (jL jC_194 dX13_clause_97 rfl) <|
  jcons (jL jC_194 dX13_clause_98 rfl) <|
  jcons (jL jC_194 dX13_clause_99 rfl) <|
  jcons (j4V jC_194 jY_194 dX13_clause_100 (jc_195 _) q545 pd_195 (Or.inl q543) (fun c r h1 h2 => js_196 c r h1 h2)) <|
  jcons (j4V jC_194 jY_194 dX13_clause_103 (jc_202 _) q672 pd_202 (Or.inl q670) (fun c r h1 h2 => js_197 c r h1 h2)) <|
  jcons (jL jC_194 dX13_clause_106 rfl) <|
  jcons (j6 jC_194 jY_194 dX13_clause_109 rfl q674 q675 q127) <|
  jcons (jL jC_194 dX13_clause_112 rfl) <|
  jcons (jL jC_194 dX13_clause_113 rfl) <|
  jcons (jL jC_194 dX13_clause_114 rfl) <|
  jcons (j4I jC_194 jY_194 dX13_clause_115 (jc_217 _) rfl q677 ⟨_, _, q678⟩ pd_217 (Or.inl q676)) <|
  jcons (jL jC_194 dX13_clause_118 rfl) <|
  jnil
theorem jm_194 : ∀ l ∈ tbX13_clause, ∀ q ∈ l, sJ jnw jao 194 q.1 q.2.1 q.2.2 := jmc jt_194_0 <| jmc jt_194_1 <| jmn
theorem jt_195_0 : ∀ q ∈ tcX13_condition_0, sJ jnw jao 195 q.1 q.2.1 q.2.2 :=
  jcons (jL jC_195 dX13_condition_0 rfl) <|
  jcons (jL jC_195 dX13_condition_1 rfl) <|
  jcons (j4V jC_195 jY_195 dX13_condition_2 (jc_196 _) q549 pd_196 (Or.inl q547) (fun c r h1 h2 => js_199 c r h1 h2)) <|
  jcons (jL jC_195 dX13_condition_5 rfl) <|
  jcons (jL jC_195 dX13_condition_6 rfl) <|
  jcons (j4W (x := ⟨"BalloonStall$RuleReader", "look", "()I"⟩) jC_195 jY_195 dX13_condition_7 (jc_170 _) q340 pd_170 q537 q538 jw_q338 (by decide) (fun c r h1 h2 => js_194 c r h1 h2)) <|
  jcons (jL jC_195 dX13_condition_10 rfl) <|
  jcons (jL jC_195 dX13_condition_12 rfl) <|
  jcons (jL jC_195 dX13_condition_15 rfl) <|
  jcons (jL jC_195 dX13_condition_16 rfl) <|
  jcons (jG jC_195 jY_195 dX13_condition_17 fk_13_0_X13 (Or.inl q309)) <|
  jcons (jL jC_195 dX13_condition_20 rfl) <|
  jcons (jL jC_195 dX13_condition_21 rfl) <|
  jcons (jPu jC_195 jY_195 dX13_condition_22 fk_13_0_X13 ap_13_0 (fn_13_0 _) (Or.inl q309) (tyX13_ok 0 (by decide)) (Or.inl ⟨rfl, rfl⟩)) <|
  jcons (j6 jC_195 jY_195 dX13_condition_25 rfl q654 q655 q126) <|
  jcons (jL jC_195 dX13_condition_28 rfl) <|
  jcons (jL jC_195 dX13_condition_29 rfl) <|
  jcons (jL jC_195 dX13_condition_30 rfl) <|
  jcons (jL jC_195 dX13_condition_31 rfl) <|
  jcons (jL jC_195 dX13_condition_32 rfl) <|
  jcons (j4V jC_195 jY_195 dX13_condition_33 (jc_196 _) q549 pd_196 (Or.inl q547) (fun c r h1 h2 => js_199 c r h1 h2)) <|
  jcons (j4I jC_195 jY_195 dX13_condition_36 (jc_215 _) rfl q657 ⟨_, _, q658⟩ pd_215 (Or.inl q656)) <|
  jcons (jL jC_195 dX13_condition_39 rfl) <|
  jcons (jL jC_195 dX13_condition_40 rfl) <|
  jcons (jL jC_195 dX13_condition_43 rfl) <|
  jcons (jL jC_195 dX13_condition_44 rfl) <|
  jnil
theorem jm_195 : ∀ l ∈ tbX13_condition, ∀ q ∈ l, sJ jnw jao 195 q.1 q.2.1 q.2.2 := jmc jt_195_0 <| jmn
theorem jt_196_0 : ∀ q ∈ tcX13_truth_0, sJ jnw jao 196 q.1 q.2.1 q.2.2 :=
  jcons (jL jC_196 dX13_truth_0 rfl) <|
  jcons (jL jC_196 dX13_truth_1 rfl) <|
  jcons (jL jC_196 dX13_truth_4 rfl) <|
  jcons (j4V jC_196 jY_196 dX13_truth_5 (jc_197 _) q553 pd_197 (Or.inl q551) (fun c r h1 h2 => js_200 c r h1 h2)) <|
  jcons (jL jC_196 dX13_truth_8 rfl) <|
  jcons (jL jC_196 dX13_truth_11 rfl) <|
  jcons (jL jC_196 dX13_truth_12 rfl) <|
  jcons (j4V jC_196 jY_196 dX13_truth_13 (jc_201 _) q636 pd_201 (Or.inl q634) (fun c r h1 h2 => js_201 c r h1 h2)) <|
  jcons (jL jC_196 dX13_truth_16 rfl) <|
  jcons (jL jC_196 dX13_truth_17 rfl) <|
  jcons (j4W (x := ⟨"BalloonStall$RuleReader", "look", "()I"⟩) jC_196 jY_196 dX13_truth_18 (jc_170 _) q340 pd_170 q537 q538 jw_q338 (by decide) (fun c r h1 h2 => js_194 c r h1 h2)) <|
  jcons (jL jC_196 dX13_truth_21 rfl) <|
  jcons (jL jC_196 dX13_truth_23 rfl) <|
  jcons (jL jC_196 dX13_truth_26 rfl) <|
  jcons (jL jC_196 dX13_truth_27 rfl) <|
  jcons (jG jC_196 jY_196 dX13_truth_28 fk_13_0_X13 (Or.inl q309)) <|
  jcons (jL jC_196 dX13_truth_31 rfl) <|
  jcons (jL jC_196 dX13_truth_32 rfl) <|
  jcons (jPu jC_196 jY_196 dX13_truth_33 fk_13_0_X13 ap_13_0 (fn_13_0 _) (Or.inl q309) (tyX13_ok 0 (by decide)) (Or.inl ⟨rfl, rfl⟩)) <|
  jcons (j6 jC_196 jY_196 dX13_truth_36 rfl q654 q655 q126) <|
  jcons (jL jC_196 dX13_truth_39 rfl) <|
  jcons (jL jC_196 dX13_truth_40 rfl) <|
  jcons (jL jC_196 dX13_truth_41 rfl) <|
  jcons (jL jC_196 dX13_truth_42 rfl) <|
  jcons (j4V jC_196 jY_196 dX13_truth_43 (jc_197 _) q553 pd_197 (Or.inl q551) (fun c r h1 h2 => js_200 c r h1 h2)) <|
  jcons (j4I jC_196 jY_196 dX13_truth_46 (jc_215 _) rfl q657 ⟨_, _, q658⟩ pd_215 (Or.inl q656)) <|
  jcons (jL jC_196 dX13_truth_49 rfl) <|
  jcons (jL jC_196 dX13_truth_50 rfl) <|
  jcons (jL jC_196 dX13_truth_53 rfl) <|
  jcons (jL jC_196 dX13_truth_54 rfl) <|
  jnil
theorem jm_196 : ∀ l ∈ tbX13_truth, ∀ q ∈ l, sJ jnw jao 196 q.1 q.2.1 q.2.2 := jmc jt_196_0 <| jmn
theorem jt_197_0 : ∀ q ∈ tcX13_unit_0, sJ jnw jao 197 q.1 q.2.1 q.2.2 :=
  jcons (jL jC_197 dX13_unit_0 rfl) <|
  jcons (j4W (x := ⟨"BalloonStall$RuleReader", "look", "()I"⟩) jC_197 jY_197 dX13_unit_1 (jc_170 _) q340 pd_170 q537 q538 jw_q338 (by decide) (fun c r h1 h2 => js_194 c r h1 h2)) <|
  jcons (jL jC_197 dX13_unit_4 rfl) <|
  jcons (jL jC_197 dX13_unit_5 rfl) <|
  jcons (jL jC_197 dX13_unit_6 rfl) <|
  jcons (jL jC_197 dX13_unit_8 rfl) <|
  jcons (jL jC_197 dX13_unit_11 rfl) <|
  jcons (j4W (x := ⟨"BalloonStall$RuleReader", "goIn", "()V"⟩) jC_197 jY_197 dX13_unit_12 (jc_174 _) q483 pd_174 q555 q556 jw_q481 (by decide) (fun c r h1 h2 => js_202 c r h1 h2)) <|
  jcons (j6 jC_197 jY_197 dX13_unit_15 rfl q558 q559 q120) <|
  jcons (jL jC_197 dX13_unit_18 rfl) <|
  jcons (jL jC_197 dX13_unit_19 rfl) <|
  jcons (j4V jC_197 jY_197 dX13_unit_20 (jc_197 _) q553 pd_197 (Or.inl q551) (fun c r h1 h2 => js_200 c r h1 h2)) <|
  jcons (j4I jC_197 jY_197 dX13_unit_23 (jc_204 _) rfl q561 ⟨_, _, q562⟩ pd_204 (Or.inl q560)) <|
  jcons (jL jC_197 dX13_unit_26 rfl) <|
  jcons (jL jC_197 dX13_unit_27 rfl) <|
  jcons (j4W (x := ⟨"BalloonStall$RuleReader", "comeOut", "()V"⟩) jC_197 jY_197 dX13_unit_28 (jc_176 _) q575 pd_176 q571 q572 jw_q573 (by decide) (fun c r h1 h2 => js_203 c r h1 h2)) <|
  jcons (jL jC_197 dX13_unit_31 rfl) <|
  jcons (jL jC_197 dX13_unit_32 rfl) <|
  jcons (jL jC_197 dX13_unit_33 rfl) <|
  jcons (jL jC_197 dX13_unit_34 rfl) <|
  jcons (jL jC_197 dX13_unit_36 rfl) <|
  jcons (jL jC_197 dX13_unit_39 rfl) <|
  jcons (j4W (x := ⟨"BalloonStall$RuleReader", "goIn", "()V"⟩) jC_197 jY_197 dX13_unit_40 (jc_174 _) q483 pd_174 q555 q556 jw_q481 (by decide) (fun c r h1 h2 => js_202 c r h1 h2)) <|
  jcons (jL jC_197 dX13_unit_43 rfl) <|
  jcons (jL jC_197 dX13_unit_44 rfl) <|
  jcons (j4V jC_197 jY_197 dX13_unit_45 (jc_195 _) q545 pd_195 (Or.inl q543) (fun c r h1 h2 => js_196 c r h1 h2)) <|
  jcons (jL jC_197 dX13_unit_48 rfl) <|
  jcons (jL jC_197 dX13_unit_49 rfl) <|
  jcons (jL jC_197 dX13_unit_50 rfl) <|
  jcons (j4W (x := ⟨"BalloonStall$RuleReader", "goOut", "(I)V"⟩) jC_197 jY_197 dX13_unit_52 (jc_175 _) q490 pd_175 q577 q578 jw_q488 (by decide) (fun c r h1 h2 => js_204 c r h1 h2)) <|
  jcons (jL jC_197 dX13_unit_55 rfl) <|
  jcons (jL jC_197 dX13_unit_56 rfl) <|
  jcons (jL jC_197 dX13_unit_57 rfl) <|
  jcons (jL jC_197 dX13_unit_58 rfl) <|
  jcons (j4V jC_197 jY_197 dX13_unit_59 (jc_198 _) q582 pd_198 (Or.inl q580) (fun c r h1 h2 => js_198 c r h1 h2)) <|
  jcons (j4V jC_197 jY_197 dX13_unit_62 (jc_201 _) q636 pd_201 (Or.inl q634) (fun c r h1 h2 => js_201 c r h1 h2)) <|
  jnil
theorem jt_197_1 : ∀ q ∈ tcX13_unit_1, sJ jnw jao 197 q.1 q.2.1 q.2.2 :=
  jcons (jL jC_197 dX13_unit_65 rfl) <|
  jnil
theorem jm_197 : ∀ l ∈ tbX13_unit, ∀ q ∈ l, sJ jnw jao 197 q.1 q.2.1 q.2.2 := jmc jt_197_0 <| jmc jt_197_1 <| jmn
theorem jt_198_0 : ∀ q ∈ tcX13_sum_0, sJ jnw jao 198 q.1 q.2.1 q.2.2 :=
  jcons (jL jC_198 dX13_sum_0 rfl) <|
  jcons (j4V jC_198 jY_198 dX13_sum_1 (jc_199 _) q586 pd_199 (Or.inl q584) (fun c r h1 h2 => js_205 c r h1 h2)) <|
  jcons (jL jC_198 dX13_sum_4 rfl) <|
  jcons (jL jC_198 dX13_sum_5 rfl) <|
  jcons (j4W (x := ⟨"BalloonStall$RuleReader", "look", "()I"⟩) jC_198 jY_198 dX13_sum_6 (jc_170 _) q340 pd_170 q537 q538 jw_q338 (by decide) (fun c r h1 h2 => js_194 c r h1 h2)) <|
  jcons (jL jC_198 dX13_sum_9 rfl) <|
  jcons (jL jC_198 dX13_sum_10 rfl) <|
  jcons (jL jC_198 dX13_sum_11 rfl) <|
  jcons (jL jC_198 dX13_sum_13 rfl) <|
  jcons (jL jC_198 dX13_sum_16 rfl) <|
  jcons (jL jC_198 dX13_sum_17 rfl) <|
  jcons (jL jC_198 dX13_sum_19 rfl) <|
  jcons (jL jC_198 dX13_sum_22 rfl) <|
  jcons (jL jC_198 dX13_sum_23 rfl) <|
  jcons (jG jC_198 jY_198 dX13_sum_24 fk_13_0_X13 (Or.inl q309)) <|
  jcons (jL jC_198 dX13_sum_27 rfl) <|
  jcons (jL jC_198 dX13_sum_28 rfl) <|
  jcons (jPu jC_198 jY_198 dX13_sum_29 fk_13_0_X13 ap_13_0 (fn_13_0 _) (Or.inl q309) (tyX13_ok 0 (by decide)) (Or.inl ⟨rfl, rfl⟩)) <|
  jcons (j6 jC_198 jY_198 dX13_sum_32 rfl q618 q619 q124) <|
  jcons (jL jC_198 dX13_sum_35 rfl) <|
  jcons (jL jC_198 dX13_sum_36 rfl) <|
  jcons (jL jC_198 dX13_sum_37 rfl) <|
  jcons (jL jC_198 dX13_sum_38 rfl) <|
  jcons (j4V jC_198 jY_198 dX13_sum_39 (jc_199 _) q586 pd_199 (Or.inl q584) (fun c r h1 h2 => js_205 c r h1 h2)) <|
  jcons (j4I jC_198 jY_198 dX13_sum_42 (jc_211 _) rfl q621 ⟨_, _, q622⟩ pd_211 (Or.inl q620)) <|
  jcons (jL jC_198 dX13_sum_45 rfl) <|
  jcons (jL jC_198 dX13_sum_46 rfl) <|
  jcons (j4W (x := ⟨"BalloonStall$RuleReader", "look", "()I"⟩) jC_198 jY_198 dX13_sum_47 (jc_170 _) q340 pd_170 q537 q538 jw_q338 (by decide) (fun c r h1 h2 => js_194 c r h1 h2)) <|
  jcons (jL jC_198 dX13_sum_50 rfl) <|
  jcons (jL jC_198 dX13_sum_51 rfl) <|
  jcons (jL jC_198 dX13_sum_54 rfl) <|
  jcons (jL jC_198 dX13_sum_55 rfl) <|
  jnil
theorem jm_198 : ∀ l ∈ tbX13_sum, ∀ q ∈ l, sJ jnw jao 198 q.1 q.2.1 q.2.2 := jmc jt_198_0 <| jmn
theorem jt_199_0 : ∀ q ∈ tcX13_term_0, sJ jnw jao 199 q.1 q.2.1 q.2.2 :=
  jcons (jL jC_199 dX13_term_0 rfl) <|
  jcons (j4V jC_199 jY_199 dX13_term_1 (jc_200 _) q590 pd_200 (Or.inl q588) (fun c r h1 h2 => js_206 c r h1 h2)) <|
  jcons (jL jC_199 dX13_term_4 rfl) <|
  jcons (jL jC_199 dX13_term_5 rfl) <|
  jcons (j4W (x := ⟨"BalloonStall$RuleReader", "look", "()I"⟩) jC_199 jY_199 dX13_term_6 (jc_170 _) q340 pd_170 q537 q538 jw_q338 (by decide) (fun c r h1 h2 => js_194 c r h1 h2)) <|
  jcons (jL jC_199 dX13_term_9 rfl) <|
  jcons (jL jC_199 dX13_term_10 rfl) <|
  jcons (jL jC_199 dX13_term_11 rfl) <|
  jcons (jL jC_199 dX13_term_13 rfl) <|
  jcons (jL jC_199 dX13_term_16 rfl) <|
  jcons (jL jC_199 dX13_term_17 rfl) <|
  jcons (jL jC_199 dX13_term_19 rfl) <|
  jcons (jL jC_199 dX13_term_22 rfl) <|
  jcons (jL jC_199 dX13_term_23 rfl) <|
  jcons (jG jC_199 jY_199 dX13_term_24 fk_13_0_X13 (Or.inl q309)) <|
  jcons (jL jC_199 dX13_term_27 rfl) <|
  jcons (jL jC_199 dX13_term_28 rfl) <|
  jcons (jPu jC_199 jY_199 dX13_term_29 fk_13_0_X13 ap_13_0 (fn_13_0 _) (Or.inl q309) (tyX13_ok 0 (by decide)) (Or.inl ⟨rfl, rfl⟩)) <|
  jcons (j6 jC_199 jY_199 dX13_term_32 rfl q618 q619 q124) <|
  jcons (jL jC_199 dX13_term_35 rfl) <|
  jcons (jL jC_199 dX13_term_36 rfl) <|
  jcons (jL jC_199 dX13_term_37 rfl) <|
  jcons (jL jC_199 dX13_term_38 rfl) <|
  jcons (j4V jC_199 jY_199 dX13_term_39 (jc_200 _) q590 pd_200 (Or.inl q588) (fun c r h1 h2 => js_206 c r h1 h2)) <|
  jcons (j4I jC_199 jY_199 dX13_term_42 (jc_211 _) rfl q621 ⟨_, _, q622⟩ pd_211 (Or.inl q620)) <|
  jcons (jL jC_199 dX13_term_45 rfl) <|
  jcons (jL jC_199 dX13_term_46 rfl) <|
  jcons (j4W (x := ⟨"BalloonStall$RuleReader", "look", "()I"⟩) jC_199 jY_199 dX13_term_47 (jc_170 _) q340 pd_170 q537 q538 jw_q338 (by decide) (fun c r h1 h2 => js_194 c r h1 h2)) <|
  jcons (jL jC_199 dX13_term_50 rfl) <|
  jcons (jL jC_199 dX13_term_51 rfl) <|
  jcons (jL jC_199 dX13_term_54 rfl) <|
  jcons (jL jC_199 dX13_term_55 rfl) <|
  jnil
theorem jm_199 : ∀ l ∈ tbX13_term, ∀ q ∈ l, sJ jnw jao 199 q.1 q.2.1 q.2.2 := jmc jt_199_0 <| jmn
theorem jt_200_0 : ∀ q ∈ tcX13_atom_0, sJ jnw jao 200 q.1 q.2.1 q.2.2 :=
  jcons (jL jC_200 dX13_atom_0 rfl) <|
  jcons (j4W (x := ⟨"BalloonStall$RuleReader", "look", "()I"⟩) jC_200 jY_200 dX13_atom_1 (jc_170 _) q340 pd_170 q537 q538 jw_q338 (by decide) (fun c r h1 h2 => js_194 c r h1 h2)) <|
  jcons (jL jC_200 dX13_atom_4 rfl) <|
  jcons (jL jC_200 dX13_atom_5 rfl) <|
  jcons (jL jC_200 dX13_atom_6 rfl) <|
  jcons (jL jC_200 dX13_atom_8 rfl) <|
  jcons (jL jC_200 dX13_atom_11 rfl) <|
  jcons (jL jC_200 dX13_atom_12 rfl) <|
  jcons (jL jC_200 dX13_atom_14 rfl) <|
  jcons (jL jC_200 dX13_atom_17 rfl) <|
  jcons (jL jC_200 dX13_atom_18 rfl) <|
  jcons (jL jC_200 dX13_atom_20 rfl) <|
  jcons (jL jC_200 dX13_atom_23 rfl) <|
  jcons (jL jC_200 dX13_atom_24 rfl) <|
  jcons (jL jC_200 dX13_atom_26 rfl) <|
  jcons (jL jC_200 dX13_atom_29 rfl) <|
  jcons (jL jC_200 dX13_atom_30 rfl) <|
  jcons (jL jC_200 dX13_atom_32 rfl) <|
  jcons (jL jC_200 dX13_atom_35 rfl) <|
  jcons (jL jC_200 dX13_atom_36 rfl) <|
  jcons (jG jC_200 jY_200 dX13_atom_37 fk_13_0_X13 (Or.inl q309)) <|
  jcons (jL jC_200 dX13_atom_40 rfl) <|
  jcons (jL jC_200 dX13_atom_41 rfl) <|
  jcons (jPu jC_200 jY_200 dX13_atom_42 fk_13_0_X13 ap_13_0 (fn_13_0 _) (Or.inl q309) (tyX13_ok 0 (by decide)) (Or.inl ⟨rfl, rfl⟩)) <|
  jcons (j6 jC_200 jY_200 dX13_atom_45 rfl q592 q593 q122) <|
  jcons (jL jC_200 dX13_atom_48 rfl) <|
  jcons (jL jC_200 dX13_atom_49 rfl) <|
  jcons (j4I jC_200 jY_200 dX13_atom_50 (jc_207 _) rfl q595 ⟨_, _, q596⟩ pd_207 (Or.inl q594)) <|
  jcons (jL jC_200 dX13_atom_53 rfl) <|
  jcons (jL jC_200 dX13_atom_54 rfl) <|
  jcons (jL jC_200 dX13_atom_55 rfl) <|
  jcons (jL jC_200 dX13_atom_57 rfl) <|
  jcons (jL jC_200 dX13_atom_60 rfl) <|
  jcons (j4W (x := ⟨"BalloonStall$RuleReader", "goIn", "()V"⟩) jC_200 jY_200 dX13_atom_61 (jc_174 _) q483 pd_174 q555 q556 jw_q481 (by decide) (fun c r h1 h2 => js_202 c r h1 h2)) <|
  jnil
theorem jt_200_1 : ∀ q ∈ tcX13_atom_1, sJ jnw jao 200 q.1 q.2.1 q.2.2 :=
  jcons (jL jC_200 dX13_atom_64 rfl) <|
  jcons (j4V jC_200 jY_200 dX13_atom_65 (jc_198 _) q582 pd_198 (Or.inl q580) (fun c r h1 h2 => js_198 c r h1 h2)) <|
  jcons (jL jC_200 dX13_atom_68 rfl) <|
  jcons (jL jC_200 dX13_atom_69 rfl) <|
  jcons (jL jC_200 dX13_atom_70 rfl) <|
  jcons (j4W (x := ⟨"BalloonStall$RuleReader", "goOut", "(I)V"⟩) jC_200 jY_200 dX13_atom_72 (jc_175 _) q490 pd_175 q577 q578 jw_q488 (by decide) (fun c r h1 h2 => js_204 c r h1 h2)) <|
  jcons (jL jC_200 dX13_atom_75 rfl) <|
  jcons (jL jC_200 dX13_atom_76 rfl) <|
  jcons (jL jC_200 dX13_atom_77 rfl) <|
  jcons (jL jC_200 dX13_atom_78 rfl) <|
  jcons (j4W (x := ⟨"BalloonStall$RuleReader", "isDigit", "()Z"⟩) jC_200 jY_200 dX13_atom_79 (jc_173 _) q466 pd_173 q605 q606 jw_q464 (by decide) (fun c r h1 h2 => js_207 c r h1 h2)) <|
  jcons (j4W (x := ⟨"BalloonStall$RuleReader", "take", "(Z)I"⟩) jC_200 jY_200 dX13_atom_82 (jc_172 _) q352 pd_172 q540 q541 jw_q350 (by decide) (fun c r h1 h2 => js_195 c r h1 h2)) <|
  jcons (jL jC_200 dX13_atom_85 rfl) <|
  jcons (jL jC_200 dX13_atom_87 rfl) <|
  jcons (jL jC_200 dX13_atom_88 rfl) <|
  jcons (jL jC_200 dX13_atom_89 rfl) <|
  jcons (jL jC_200 dX13_atom_90 rfl) <|
  jcons (jL jC_200 dX13_atom_91 rfl) <|
  jcons (j4W (x := ⟨"BalloonStall$RuleReader", "isDigit", "()Z"⟩) jC_200 jY_200 dX13_atom_92 (jc_173 _) q466 pd_173 q605 q606 jw_q464 (by decide) (fun c r h1 h2 => js_207 c r h1 h2)) <|
  jcons (jL jC_200 dX13_atom_95 rfl) <|
  jcons (jL jC_200 dX13_atom_98 rfl) <|
  jcons (jL jC_200 dX13_atom_100 rfl) <|
  jcons (jL jC_200 dX13_atom_101 rfl) <|
  jcons (jL jC_200 dX13_atom_102 rfl) <|
  jcons (jL jC_200 dX13_atom_103 rfl) <|
  jcons (jL jC_200 dX13_atom_104 rfl) <|
  jcons (jL jC_200 dX13_atom_105 rfl) <|
  jcons (jL jC_200 dX13_atom_108 rfl) <|
  jcons (jL jC_200 dX13_atom_109 rfl) <|
  jcons (jL jC_200 dX13_atom_112 rfl) <|
  jcons (j4W (x := ⟨"BalloonStall$RuleReader", "take", "(Z)I"⟩) jC_200 jY_200 dX13_atom_113 (jc_172 _) q352 pd_172 q540 q541 jw_q350 (by decide) (fun c r h1 h2 => js_195 c r h1 h2)) <|
  jcons (jL jC_200 dX13_atom_116 rfl) <|
  jcons (jL jC_200 dX13_atom_117 rfl) <|
  jcons (jL jC_200 dX13_atom_119 rfl) <|
  jcons (jL jC_200 dX13_atom_120 rfl) <|
  jcons (jL jC_200 dX13_atom_121 rfl) <|
  jcons (jL jC_200 dX13_atom_124 rfl) <|
  jcons (j6 jC_200 jY_200 dX13_atom_127 rfl q608 q609 q123) <|
  jnil
theorem jt_200_2 : ∀ q ∈ tcX13_atom_2, sJ jnw jao 200 q.1 q.2.1 q.2.2 :=
  jcons (jL jC_200 dX13_atom_130 rfl) <|
  jcons (jL jC_200 dX13_atom_131 rfl) <|
  jcons (j4I jC_200 jY_200 dX13_atom_132 (jc_209 _) rfl q611 ⟨_, _, q612⟩ pd_209 (Or.inl q610)) <|
  jcons (jL jC_200 dX13_atom_135 rfl) <|
  jnil
theorem jm_200 : ∀ l ∈ tbX13_atom, ∀ q ∈ l, sJ jnw jao 200 q.1 q.2.1 q.2.2 := jmc jt_200_0 <| jmc jt_200_1 <| jmc jt_200_2 <| jmn
theorem jt_201_0 : ∀ q ∈ tcX13_compares_0, sJ jnw jao 201 q.1 q.2.1 q.2.2 :=
  jcons (jL jC_201 dX13_compares_0 rfl) <|
  jcons (j4W (x := ⟨"BalloonStall$RuleReader", "look", "()I"⟩) jC_201 jY_201 dX13_compares_1 (jc_170 _) q340 pd_170 q537 q538 jw_q338 (by decide) (fun c r h1 h2 => js_194 c r h1 h2)) <|
  jcons (jL jC_201 dX13_compares_4 rfl) <|
  jcons (jL jC_201 dX13_compares_5 rfl) <|
  jcons (jL jC_201 dX13_compares_6 rfl) <|
  jcons (jL jC_201 dX13_compares_7 rfl) <|
  jcons (jL jC_201 dX13_compares_9 rfl) <|
  jcons (jL jC_201 dX13_compares_12 rfl) <|
  jcons (jL jC_201 dX13_compares_13 rfl) <|
  jcons (jL jC_201 dX13_compares_15 rfl) <|
  jcons (jL jC_201 dX13_compares_18 rfl) <|
  jcons (jL jC_201 dX13_compares_19 rfl) <|
  jcons (jL jC_201 dX13_compares_21 rfl) <|
  jcons (jL jC_201 dX13_compares_24 rfl) <|
  jcons (jL jC_201 dX13_compares_25 rfl) <|
  jcons (jL jC_201 dX13_compares_28 rfl) <|
  jcons (j4W (x := ⟨"BalloonStall$RuleReader", "take", "(Z)I"⟩) jC_201 jY_201 dX13_compares_29 (jc_172 _) q352 pd_172 q540 q541 jw_q350 (by decide) (fun c r h1 h2 => js_195 c r h1 h2)) <|
  jcons (jL jC_201 dX13_compares_32 rfl) <|
  jcons (j6 jC_201 jY_201 dX13_compares_33 rfl q638 q639 q125) <|
  jcons (jL jC_201 dX13_compares_36 rfl) <|
  jcons (jL jC_201 dX13_compares_37 rfl) <|
  jcons (jL jC_201 dX13_compares_38 rfl) <|
  jcons (jL jC_201 dX13_compares_39 rfl) <|
  jcons (j4V jC_201 jY_201 dX13_compares_40 (jc_198 _) q582 pd_198 (Or.inl q580) (fun c r h1 h2 => js_198 c r h1 h2)) <|
  jcons (j4I jC_201 jY_201 dX13_compares_43 (jc_213 _) rfl q641 ⟨_, _, q642⟩ pd_213 (Or.inl q640)) <|
  jcons (jL jC_201 dX13_compares_46 rfl) <|
  jnil
theorem jm_201 : ∀ l ∈ tbX13_compares, ∀ q ∈ l, sJ jnw jao 201 q.1 q.2.1 q.2.2 := jmc jt_201_0 <| jmn
theorem jt_202_0 : ∀ q ∈ tcX13_asked_0, sJ jnw jao 202 q.1 q.2.1 q.2.2 :=
  jcons (jL jC_202 dX13_asked_0 rfl) <|
  jcons (j4W (x := ⟨"BalloonStall$RuleReader", "look", "()I"⟩) jC_202 jY_202 dX13_asked_1 (jc_170 _) q340 pd_170 q537 q538 jw_q338 (by decide) (fun c r h1 h2 => js_194 c r h1 h2)) <|
  jcons (jL jC_202 dX13_asked_4 rfl) <|
  jcons (jL jC_202 dX13_asked_5 rfl) <|
  jcons (jL jC_202 dX13_asked_6 rfl) <|
  jcons (jL jC_202 dX13_asked_7 rfl) <|
  jcons (jL jC_202 dX13_asked_9 rfl) <|
  jcons (jL jC_202 dX13_asked_12 rfl) <|
  jcons (jL jC_202 dX13_asked_13 rfl) <|
  jcons (jL jC_202 dX13_asked_16 rfl) <|
  jcons (j4W (x := ⟨"BalloonStall$RuleReader", "take", "(Z)I"⟩) jC_202 jY_202 dX13_asked_17 (jc_172 _) q352 pd_172 q540 q541 jw_q350 (by decide) (fun c r h1 h2 => js_195 c r h1 h2)) <|
  jcons (jL jC_202 dX13_asked_20 rfl) <|
  jcons (j6 jC_202 jY_202 dX13_asked_21 rfl q674 q675 q127) <|
  jcons (jL jC_202 dX13_asked_24 rfl) <|
  jcons (jL jC_202 dX13_asked_25 rfl) <|
  jcons (jL jC_202 dX13_asked_26 rfl) <|
  jcons (j4V jC_202 jY_202 dX13_asked_27 (jc_198 _) q582 pd_198 (Or.inl q580) (fun c r h1 h2 => js_198 c r h1 h2)) <|
  jcons (j4I jC_202 jY_202 dX13_asked_30 (jc_217 _) rfl q677 ⟨_, _, q678⟩ pd_217 (Or.inl q676)) <|
  jcons (jL jC_202 dX13_asked_33 rfl) <|
  jnil
theorem jm_202 : ∀ l ∈ tbX13_asked, ∀ q ∈ l, sJ jnw jao 202 q.1 q.2.1 q.2.2 := jmc jt_202_0 <| jmn
theorem jt_203_0 : ∀ q ∈ tcX14_init_0, sJ jnw jao 203 q.1 q.2.1 q.2.2 :=
  jcons (jL jC_203 dX14_init_0 rfl) <|
  jcons (j10 jC_203 jY_203 dX14_init_1 q566) <|
  jcons (jL jC_203 dX14_init_4 rfl) <|
  jnil
theorem jm_203 : ∀ l ∈ tbX14_init, ∀ q ∈ l, sJ jnw jao 203 q.1 q.2.1 q.2.2 := jmc jt_203_0 <| jmn
theorem jt_204_0 : ∀ q ∈ tcX15_init_0, sJ jnw jao 204 q.1 q.2.1 q.2.2 :=
  jcons (jL jC_204 dX15_init_0 rfl) <|
  jcons (j4I jC_204 jY_204 dX15_init_1 (jc_203 _) rfl q564 ⟨_, _, q565⟩ pd_203 (Or.inr ⟨_, jw_q563⟩)) <|
  jcons (jL jC_204 dX15_init_4 rfl) <|
  jcons (jL jC_204 dX15_init_5 rfl) <|
  jcons (jPf jC_204 jY_204 dX15_init_6 fk_15_0_X15 ap_15_0 fn_15_0 q567 rfl (tyX15_ok 0 (by decide)) (Or.inr (Or.inr (Or.inr ⟨rfl, jRf rfl⟩)))) <|
  jcons (jL jC_204 dX15_init_9 rfl) <|
  jnil
theorem jm_204 : ∀ l ∈ tbX15_init, ∀ q ∈ l, sJ jnw jao 204 q.1 q.2.1 q.2.2 := jmc jt_204_0 <| jmn
theorem jt_205_0 : ∀ q ∈ tcX15_holds_0, sJ jnw jao 205 q.1 q.2.1 q.2.2 :=
  jcons (jL jC_205 dX15_holds_0 rfl) <|
  jcons (jG jC_205 jY_205 dX15_holds_1 fk_15_0_X15 (Or.inl q567)) <|
  jcons (jL jC_205 dX15_holds_4 rfl) <|
  jcons (jA jC_205 jY_205 dX15_holds_5 (nb := 1) (by decide +kernel) q1248 q1218 jw_q1217 (by decide) (jvc (jvk (by decide) (by decide) (jc_205 _) q1246 rfl q1250) <| jvc (jvk (by decide) (by decide) (jc_214 _) q1223 rfl q1249) <| jvc (jvk (by decide) (by decide) (jc_216 _) q1220 rfl q1219) <| jvn)) <|
  jcons (jL jC_205 dX15_holds_8 rfl) <|
  jcons (jL jC_205 dX15_holds_11 rfl) <|
  jcons (jL jC_205 dX15_holds_12 rfl) <|
  jcons (jL jC_205 dX15_holds_15 rfl) <|
  jcons (jL jC_205 dX15_holds_16 rfl) <|
  jnil
theorem jm_205 : ∀ l ∈ tbX15_holds, ∀ q ∈ l, sJ jnw jao 205 q.1 q.2.1 q.2.2 := jmc jt_205_0 <| jmn
theorem jt_206_0 : ∀ q ∈ tcX16_init_0, sJ jnw jao 206 q.1 q.2.1 q.2.2 :=
  jcons (jL jC_206 dX16_init_0 rfl) <|
  jcons (j10 jC_206 jY_206 dX16_init_1 q600) <|
  jcons (jL jC_206 dX16_init_4 rfl) <|
  jnil
theorem jm_206 : ∀ l ∈ tbX16_init, ∀ q ∈ l, sJ jnw jao 206 q.1 q.2.1 q.2.2 := jmc jt_206_0 <| jmn
theorem jt_207_0 : ∀ q ∈ tcX17_init_0, sJ jnw jao 207 q.1 q.2.1 q.2.2 :=
  jcons (jL jC_207 dX17_init_0 rfl) <|
  jcons (j4I jC_207 jY_207 dX17_init_1 (jc_206 _) rfl q598 ⟨_, _, q599⟩ pd_206 (Or.inr ⟨_, jw_q597⟩)) <|
  jcons (jL jC_207 dX17_init_4 rfl) <|
  jcons (jL jC_207 dX17_init_5 rfl) <|
  jcons (jPf jC_207 jY_207 dX17_init_6 fk_17_0_X17 ap_17_0 fn_17_0 q601 rfl (tyX17_ok 0 (by decide)) (Or.inl ⟨rfl, rfl⟩)) <|
  jcons (jL jC_207 dX17_init_9 rfl) <|
  jnil
theorem jm_207 : ∀ l ∈ tbX17_init, ∀ q ∈ l, sJ jnw jao 207 q.1 q.2.1 q.2.2 := jmc jt_207_0 <| jmn
theorem jt_208_0 : ∀ q ∈ tcX17_of_0, sJ jnw jao 208 q.1 q.2.1 q.2.2 :=
  jcons (jL jC_208 dX17_of_0 rfl) <|
  jcons (jG jC_208 jY_208 dX17_of_1 fk_2_0_X2 (Or.inr ⟨_, jw_q158⟩)) <|
  jcons (jL jC_208 dX17_of_4 rfl) <|
  jcons (jG jC_208 jY_208 dX17_of_5 fk_17_0_X17 (Or.inl q601)) <|
  jcons (jL jC_208 dX17_of_8 rfl) <|
  jcons (jL jC_208 dX17_of_9 rfl) <|
  jnil
theorem jm_208 : ∀ l ∈ tbX17_of, ∀ q ∈ l, sJ jnw jao 208 q.1 q.2.1 q.2.2 := jmc jt_208_0 <| jmn
theorem jt_209_0 : ∀ q ∈ tcX18_init_0, sJ jnw jao 209 q.1 q.2.1 q.2.2 :=
  jcons (jL jC_209 dX18_init_0 rfl) <|
  jcons (j4I jC_209 jY_209 dX18_init_1 (jc_206 _) rfl q598 ⟨_, _, q599⟩ pd_206 (Or.inr ⟨_, jw_q613⟩)) <|
  jcons (jL jC_209 dX18_init_4 rfl) <|
  jcons (jL jC_209 dX18_init_5 rfl) <|
  jcons (jPf jC_209 jY_209 dX18_init_6 fk_18_0_X18 ap_18_0 fn_18_0 q614 rfl (tyX18_ok 0 (by decide)) (Or.inl ⟨rfl, rfl⟩)) <|
  jcons (jL jC_209 dX18_init_9 rfl) <|
  jnil
theorem jm_209 : ∀ l ∈ tbX18_init, ∀ q ∈ l, sJ jnw jao 209 q.1 q.2.1 q.2.2 := jmc jt_209_0 <| jmn
theorem jt_210_0 : ∀ q ∈ tcX18_of_0, sJ jnw jao 210 q.1 q.2.1 q.2.2 :=
  jcons (jL jC_210 dX18_of_0 rfl) <|
  jcons (jG jC_210 jY_210 dX18_of_1 fk_18_0_X18 (Or.inl q614)) <|
  jcons (jL jC_210 dX18_of_4 rfl) <|
  jnil
theorem jm_210 : ∀ l ∈ tbX18_of, ∀ q ∈ l, sJ jnw jao 210 q.1 q.2.1 q.2.2 := jmc jt_210_0 <| jmn
theorem jt_211_0 : ∀ q ∈ tcX19_init_0, sJ jnw jao 211 q.1 q.2.1 q.2.2 :=
  jcons (jL jC_211 dX19_init_0 rfl) <|
  jcons (j4I jC_211 jY_211 dX19_init_1 (jc_206 _) rfl q598 ⟨_, _, q599⟩ pd_206 (Or.inr ⟨_, jw_q623⟩)) <|
  jcons (jL jC_211 dX19_init_4 rfl) <|
  jcons (jL jC_211 dX19_init_5 rfl) <|
  jcons (jPf jC_211 jY_211 dX19_init_6 fk_19_0_X19 ap_19_0 fn_19_0 q624 rfl (tyX19_ok 0 (by decide)) (Or.inl ⟨rfl, rfl⟩)) <|
  jcons (jL jC_211 dX19_init_9 rfl) <|
  jcons (jL jC_211 dX19_init_10 rfl) <|
  jcons (jPf jC_211 jY_211 dX19_init_11 fk_19_1_X19 ap_19_1 fn_19_1 q625 rfl (tyX19_ok 1 (by decide)) (Or.inr (Or.inr (Or.inr ⟨rfl, jRf rfl⟩)))) <|
  jcons (jL jC_211 dX19_init_14 rfl) <|
  jcons (jL jC_211 dX19_init_15 rfl) <|
  jcons (jPf jC_211 jY_211 dX19_init_16 fk_19_2_X19 ap_19_2 fn_19_2 q626 rfl (tyX19_ok 2 (by decide)) (Or.inr (Or.inr (Or.inr ⟨rfl, jRf rfl⟩)))) <|
  jcons (jL jC_211 dX19_init_19 rfl) <|
  jnil
theorem jm_211 : ∀ l ∈ tbX19_init, ∀ q ∈ l, sJ jnw jao 211 q.1 q.2.1 q.2.2 := jmc jt_211_0 <| jmn
theorem jt_212_0 : ∀ q ∈ tcX19_of_0, sJ jnw jao 212 q.1 q.2.1 q.2.2 :=
  jcons (jL jC_212 dX19_of_0 rfl) <|
  jcons (jG jC_212 jY_212 dX19_of_1 fk_19_1_X19 (Or.inl q625)) <|
  jcons (jL jC_212 dX19_of_4 rfl) <|
  jcons (jA jC_212 jY_212 dX19_of_5 (nb := 1) (by decide +kernel) q1234 q1227 jw_q1226 (by decide) (jvc (jvk (by decide) (by decide) (jc_208 _) q1229 rfl q1228) <| jvc (jvk (by decide) (by decide) (jc_210 _) q1235 rfl q1245) <| jvc (jvk (by decide) (by decide) (jc_212 _) q1232 rfl q1231) <| jvn)) <|
  jcons (jL jC_212 dX19_of_8 rfl) <|
  jcons (jL jC_212 dX19_of_9 rfl) <|
  jcons (jL jC_212 dX19_of_10 rfl) <|
  jcons (jG jC_212 jY_212 dX19_of_11 fk_19_2_X19 (Or.inl q626)) <|
  jcons (jL jC_212 dX19_of_14 rfl) <|
  jcons (jA jC_212 jY_212 dX19_of_15 (nb := 1) (by decide +kernel) q1234 q1227 jw_q1226 (by decide) (jvc (jvk (by decide) (by decide) (jc_208 _) q1229 rfl q1228) <| jvc (jvk (by decide) (by decide) (jc_210 _) q1235 rfl q1245) <| jvc (jvk (by decide) (by decide) (jc_212 _) q1232 rfl q1231) <| jvn)) <|
  jcons (jL jC_212 dX19_of_18 rfl) <|
  jcons (jL jC_212 dX19_of_19 rfl) <|
  jcons (jL jC_212 dX19_of_21 rfl) <|
  jcons (jG jC_212 jY_212 dX19_of_22 fk_19_0_X19 (Or.inl q624)) <|
  jcons (jL jC_212 dX19_of_25 rfl) <|
  jcons (jL jC_212 dX19_of_27 rfl) <|
  jcons (jL jC_212 dX19_of_30 rfl) <|
  jcons (jL jC_212 dX19_of_31 rfl) <|
  jcons (jL jC_212 dX19_of_33 rfl) <|
  jcons (jL jC_212 dX19_of_34 rfl) <|
  jcons (jL jC_212 dX19_of_37 rfl) <|
  jcons (jG jC_212 jY_212 dX19_of_38 fk_19_0_X19 (Or.inl q624)) <|
  jcons (jL jC_212 dX19_of_41 rfl) <|
  jcons (jL jC_212 dX19_of_43 rfl) <|
  jcons (jL jC_212 dX19_of_46 rfl) <|
  jcons (jL jC_212 dX19_of_47 rfl) <|
  jcons (jL jC_212 dX19_of_49 rfl) <|
  jcons (jL jC_212 dX19_of_50 rfl) <|
  jcons (jL jC_212 dX19_of_53 rfl) <|
  jcons (jG jC_212 jY_212 dX19_of_54 fk_19_0_X19 (Or.inl q624)) <|
  jcons (jL jC_212 dX19_of_57 rfl) <|
  jcons (jL jC_212 dX19_of_59 rfl) <|
  jcons (jL jC_212 dX19_of_62 rfl) <|
  jcons (jL jC_212 dX19_of_63 rfl) <|
  jnil
theorem jt_212_1 : ∀ q ∈ tcX19_of_1, sJ jnw jao 212 q.1 q.2.1 q.2.2 :=
  jcons (jL jC_212 dX19_of_65 rfl) <|
  jcons (jL jC_212 dX19_of_66 rfl) <|
  jcons (jL jC_212 dX19_of_69 rfl) <|
  jcons (jL jC_212 dX19_of_71 rfl) <|
  jcons (jL jC_212 dX19_of_72 rfl) <|
  jcons (jL jC_212 dX19_of_73 rfl) <|
  jcons (jL jC_212 dX19_of_76 rfl) <|
  jcons (jL jC_212 dX19_of_77 rfl) <|
  jcons (jL jC_212 dX19_of_80 rfl) <|
  jcons (jL jC_212 dX19_of_81 rfl) <|
  jcons (jL jC_212 dX19_of_83 rfl) <|
  jcons (jL jC_212 dX19_of_84 rfl) <|
  jcons (j3 jC_212 jY_212 dX19_of_86 q1237) <|
  jcons (j3 jC_212 jY_212 dX19_of_89 q1238) <|
  jcons (jL jC_212 dX19_of_92 rfl) <|
  jcons (j14 jC_212 jY_212 dX19_of_94 q1239) <|
  jcons (j14 jC_212 jY_212 dX19_of_97 q1242) <|
  jcons (jL jC_212 dX19_of_100 rfl) <|
  jcons (jL jC_212 dX19_of_101 rfl) <|
  jnil
theorem jm_212 : ∀ l ∈ tbX19_of, ∀ q ∈ l, sJ jnw jao 212 q.1 q.2.1 q.2.2 := jmc jt_212_0 <| jmc jt_212_1 <| jmn
theorem jt_213_0 : ∀ q ∈ tcX20_init_0, sJ jnw jao 213 q.1 q.2.1 q.2.2 :=
  jcons (jL jC_213 dX20_init_0 rfl) <|
  jcons (j4I jC_213 jY_213 dX20_init_1 (jc_203 _) rfl q564 ⟨_, _, q565⟩ pd_203 (Or.inr ⟨_, jw_q643⟩)) <|
  jcons (jL jC_213 dX20_init_4 rfl) <|
  jcons (jL jC_213 dX20_init_5 rfl) <|
  jcons (jPf jC_213 jY_213 dX20_init_6 fk_20_0_X20 ap_20_0 fn_20_0 q644 rfl (tyX20_ok 0 (by decide)) (Or.inl ⟨rfl, rfl⟩)) <|
  jcons (jL jC_213 dX20_init_9 rfl) <|
  jcons (jL jC_213 dX20_init_10 rfl) <|
  jcons (jPf jC_213 jY_213 dX20_init_11 fk_20_1_X20 ap_20_1 fn_20_1 q645 rfl (tyX20_ok 1 (by decide)) (Or.inr (Or.inr (Or.inr ⟨rfl, jRf rfl⟩)))) <|
  jcons (jL jC_213 dX20_init_14 rfl) <|
  jcons (jL jC_213 dX20_init_15 rfl) <|
  jcons (jPf jC_213 jY_213 dX20_init_16 fk_20_2_X20 ap_20_2 fn_20_2 q646 rfl (tyX20_ok 2 (by decide)) (Or.inr (Or.inr (Or.inr ⟨rfl, jRf rfl⟩)))) <|
  jcons (jL jC_213 dX20_init_19 rfl) <|
  jnil
theorem jm_213 : ∀ l ∈ tbX20_init, ∀ q ∈ l, sJ jnw jao 213 q.1 q.2.1 q.2.2 := jmc jt_213_0 <| jmn
theorem jt_214_0 : ∀ q ∈ tcX20_holds_0, sJ jnw jao 214 q.1 q.2.1 q.2.2 :=
  jcons (jL jC_214 dX20_holds_0 rfl) <|
  jcons (jG jC_214 jY_214 dX20_holds_1 fk_20_1_X20 (Or.inl q645)) <|
  jcons (jL jC_214 dX20_holds_4 rfl) <|
  jcons (jA jC_214 jY_214 dX20_holds_5 (nb := 1) (by decide +kernel) q1225 q1227 jw_q1226 (by decide) (jvc (jvk (by decide) (by decide) (jc_208 _) q1229 rfl q1228) <| jvc (jvk (by decide) (by decide) (jc_210 _) q1235 rfl q1245) <| jvc (jvk (by decide) (by decide) (jc_212 _) q1232 rfl q1231) <| jvn)) <|
  jcons (jL jC_214 dX20_holds_8 rfl) <|
  jcons (jL jC_214 dX20_holds_9 rfl) <|
  jcons (jG jC_214 jY_214 dX20_holds_10 fk_20_2_X20 (Or.inl q646)) <|
  jcons (jL jC_214 dX20_holds_13 rfl) <|
  jcons (jA jC_214 jY_214 dX20_holds_14 (nb := 1) (by decide +kernel) q1225 q1227 jw_q1226 (by decide) (jvc (jvk (by decide) (by decide) (jc_208 _) q1229 rfl q1228) <| jvc (jvk (by decide) (by decide) (jc_210 _) q1235 rfl q1245) <| jvc (jvk (by decide) (by decide) (jc_212 _) q1232 rfl q1231) <| jvn)) <|
  jcons (jL jC_214 dX20_holds_17 rfl) <|
  jcons (jL jC_214 dX20_holds_18 rfl) <|
  jcons (jG jC_214 jY_214 dX20_holds_19 fk_20_0_X20 (Or.inl q644)) <|
  jcons (jL jC_214 dX20_holds_22 rfl) <|
  jcons (jL jC_214 dX20_holds_24 rfl) <|
  jcons (jL jC_214 dX20_holds_27 rfl) <|
  jcons (jL jC_214 dX20_holds_28 rfl) <|
  jcons (jL jC_214 dX20_holds_29 rfl) <|
  jcons (jL jC_214 dX20_holds_32 rfl) <|
  jcons (jL jC_214 dX20_holds_33 rfl) <|
  jcons (jL jC_214 dX20_holds_36 rfl) <|
  jcons (jL jC_214 dX20_holds_37 rfl) <|
  jcons (jL jC_214 dX20_holds_40 rfl) <|
  jcons (jG jC_214 jY_214 dX20_holds_41 fk_20_0_X20 (Or.inl q644)) <|
  jcons (jL jC_214 dX20_holds_44 rfl) <|
  jcons (jL jC_214 dX20_holds_46 rfl) <|
  jcons (jL jC_214 dX20_holds_49 rfl) <|
  jcons (jL jC_214 dX20_holds_50 rfl) <|
  jcons (jL jC_214 dX20_holds_51 rfl) <|
  jcons (jL jC_214 dX20_holds_54 rfl) <|
  jcons (jL jC_214 dX20_holds_55 rfl) <|
  jcons (jL jC_214 dX20_holds_58 rfl) <|
  jcons (jL jC_214 dX20_holds_59 rfl) <|
  jcons (jL jC_214 dX20_holds_62 rfl) <|
  jcons (jL jC_214 dX20_holds_63 rfl) <|
  jnil
theorem jt_214_1 : ∀ q ∈ tcX20_holds_1, sJ jnw jao 214 q.1 q.2.1 q.2.2 :=
  jcons (jL jC_214 dX20_holds_64 rfl) <|
  jcons (jL jC_214 dX20_holds_67 rfl) <|
  jcons (jL jC_214 dX20_holds_68 rfl) <|
  jcons (jL jC_214 dX20_holds_71 rfl) <|
  jcons (jL jC_214 dX20_holds_72 rfl) <|
  jnil
theorem jm_214 : ∀ l ∈ tbX20_holds, ∀ q ∈ l, sJ jnw jao 214 q.1 q.2.1 q.2.2 := jmc jt_214_0 <| jmc jt_214_1 <| jmn
theorem jt_215_0 : ∀ q ∈ tcX21_init_0, sJ jnw jao 215 q.1 q.2.1 q.2.2 :=
  jcons (jL jC_215 dX21_init_0 rfl) <|
  jcons (j4I jC_215 jY_215 dX21_init_1 (jc_203 _) rfl q564 ⟨_, _, q565⟩ pd_203 (Or.inr ⟨_, jw_q659⟩)) <|
  jcons (jL jC_215 dX21_init_4 rfl) <|
  jcons (jL jC_215 dX21_init_5 rfl) <|
  jcons (jPf jC_215 jY_215 dX21_init_6 fk_21_0_X21 ap_21_0 fn_21_0 q660 rfl (tyX21_ok 0 (by decide)) (Or.inr (Or.inr (Or.inl ⟨rfl, rfl⟩)))) <|
  jcons (jL jC_215 dX21_init_9 rfl) <|
  jcons (jL jC_215 dX21_init_10 rfl) <|
  jcons (jPf jC_215 jY_215 dX21_init_11 fk_21_1_X21 ap_21_1 fn_21_1 q661 rfl (tyX21_ok 1 (by decide)) (Or.inr (Or.inr (Or.inr ⟨rfl, jRf rfl⟩)))) <|
  jcons (jL jC_215 dX21_init_14 rfl) <|
  jcons (jL jC_215 dX21_init_15 rfl) <|
  jcons (jPf jC_215 jY_215 dX21_init_16 fk_21_2_X21 ap_21_2 fn_21_2 q662 rfl (tyX21_ok 2 (by decide)) (Or.inr (Or.inr (Or.inr ⟨rfl, jRf rfl⟩)))) <|
  jcons (jL jC_215 dX21_init_19 rfl) <|
  jnil
theorem jm_215 : ∀ l ∈ tbX21_init, ∀ q ∈ l, sJ jnw jao 215 q.1 q.2.1 q.2.2 := jmc jt_215_0 <| jmn
theorem jt_216_0 : ∀ q ∈ tcX21_holds_0, sJ jnw jao 216 q.1 q.2.1 q.2.2 :=
  jcons (jL jC_216 dX21_holds_0 rfl) <|
  jcons (jG jC_216 jY_216 dX21_holds_1 fk_21_0_X21 (Or.inl q660)) <|
  jcons (jL jC_216 dX21_holds_4 rfl) <|
  jcons (jL jC_216 dX21_holds_7 rfl) <|
  jcons (jG jC_216 jY_216 dX21_holds_8 fk_21_1_X21 (Or.inl q661)) <|
  jcons (jL jC_216 dX21_holds_11 rfl) <|
  jcons (jA jC_216 jY_216 dX21_holds_12 (nb := 1) (by decide +kernel) q1222 q1218 jw_q1217 (by decide) (jvc (jvk (by decide) (by decide) (jc_205 _) q1246 rfl q1250) <| jvc (jvk (by decide) (by decide) (jc_214 _) q1223 rfl q1249) <| jvc (jvk (by decide) (by decide) (jc_216 _) q1220 rfl q1219) <| jvn)) <|
  jcons (jL jC_216 dX21_holds_15 rfl) <|
  jcons (jL jC_216 dX21_holds_18 rfl) <|
  jcons (jG jC_216 jY_216 dX21_holds_19 fk_21_2_X21 (Or.inl q662)) <|
  jcons (jL jC_216 dX21_holds_22 rfl) <|
  jcons (jA jC_216 jY_216 dX21_holds_23 (nb := 1) (by decide +kernel) q1222 q1218 jw_q1217 (by decide) (jvc (jvk (by decide) (by decide) (jc_205 _) q1246 rfl q1250) <| jvc (jvk (by decide) (by decide) (jc_214 _) q1223 rfl q1249) <| jvc (jvk (by decide) (by decide) (jc_216 _) q1220 rfl q1219) <| jvn)) <|
  jcons (jL jC_216 dX21_holds_26 rfl) <|
  jcons (jL jC_216 dX21_holds_29 rfl) <|
  jcons (jL jC_216 dX21_holds_30 rfl) <|
  jcons (jL jC_216 dX21_holds_33 rfl) <|
  jcons (jL jC_216 dX21_holds_34 rfl) <|
  jcons (jL jC_216 dX21_holds_37 rfl) <|
  jcons (jG jC_216 jY_216 dX21_holds_38 fk_21_1_X21 (Or.inl q661)) <|
  jcons (jL jC_216 dX21_holds_41 rfl) <|
  jcons (jA jC_216 jY_216 dX21_holds_42 (nb := 1) (by decide +kernel) q1222 q1218 jw_q1217 (by decide) (jvc (jvk (by decide) (by decide) (jc_205 _) q1246 rfl q1250) <| jvc (jvk (by decide) (by decide) (jc_214 _) q1223 rfl q1249) <| jvc (jvk (by decide) (by decide) (jc_216 _) q1220 rfl q1219) <| jvn)) <|
  jcons (jL jC_216 dX21_holds_45 rfl) <|
  jcons (jL jC_216 dX21_holds_48 rfl) <|
  jcons (jG jC_216 jY_216 dX21_holds_49 fk_21_2_X21 (Or.inl q662)) <|
  jcons (jL jC_216 dX21_holds_52 rfl) <|
  jcons (jA jC_216 jY_216 dX21_holds_53 (nb := 1) (by decide +kernel) q1222 q1218 jw_q1217 (by decide) (jvc (jvk (by decide) (by decide) (jc_205 _) q1246 rfl q1250) <| jvc (jvk (by decide) (by decide) (jc_214 _) q1223 rfl q1249) <| jvc (jvk (by decide) (by decide) (jc_216 _) q1220 rfl q1219) <| jvn)) <|
  jcons (jL jC_216 dX21_holds_56 rfl) <|
  jcons (jL jC_216 dX21_holds_59 rfl) <|
  jcons (jL jC_216 dX21_holds_60 rfl) <|
  jcons (jL jC_216 dX21_holds_63 rfl) <|
  jnil
theorem jt_216_1 : ∀ q ∈ tcX21_holds_1, sJ jnw jao 216 q.1 q.2.1 q.2.2 :=
  jcons (jL jC_216 dX21_holds_64 rfl) <|
  jnil
theorem jm_216 : ∀ l ∈ tbX21_holds, ∀ q ∈ l, sJ jnw jao 216 q.1 q.2.1 q.2.2 := jmc jt_216_0 <| jmc jt_216_1 <| jmn
theorem jt_217_0 : ∀ q ∈ tcX22_init_0, sJ jnw jao 217 q.1 q.2.1 q.2.2 :=
  jcons (jL jC_217 dX22_init_0 rfl) <|
  jcons (j10 jC_217 jY_217 dX22_init_1 q679) <|
  jcons (jL jC_217 dX22_init_4 rfl) <|
  jcons (jL jC_217 dX22_init_5 rfl) <|
  jcons (jPf jC_217 jY_217 dX22_init_6 fk_22_0_X22 ap_22_0 fn_22_0 q680 rfl (tyX22_ok 0 (by decide)) (Or.inr (Or.inr (Or.inr ⟨rfl, jRf rfl⟩)))) <|
  jcons (jL jC_217 dX22_init_9 rfl) <|
  jcons (jL jC_217 dX22_init_10 rfl) <|
  jcons (jPf jC_217 jY_217 dX22_init_11 fk_22_1_X22 ap_22_1 fn_22_1 q681 rfl (tyX22_ok 1 (by decide)) (Or.inr (Or.inr (Or.inr ⟨rfl, jRf rfl⟩)))) <|
  jcons (jL jC_217 dX22_init_14 rfl) <|
  jnil
theorem jm_217 : ∀ l ∈ tbX22_init, ∀ q ∈ l, sJ jnw jao 217 q.1 q.2.1 q.2.2 := jmc jt_217_0 <| jmn
theorem jt_218_0 : ∀ q ∈ tcX22_holds_0, sJ jnw jao 218 q.1 q.2.1 q.2.2 :=
  jcons (jL jC_218 dX22_holds_0 rfl) <|
  jcons (jG jC_218 jY_218 dX22_holds_1 fk_22_0_X22 (Or.inl q680)) <|
  jcons (jL jC_218 dX22_holds_4 rfl) <|
  jcons (jL jC_218 dX22_holds_7 rfl) <|
  jcons (jG jC_218 jY_218 dX22_holds_8 fk_22_0_X22 (Or.inl q680)) <|
  jcons (jL jC_218 dX22_holds_11 rfl) <|
  jcons (jA jC_218 jY_218 dX22_holds_12 (nb := 1) (by decide +kernel) q1216 q1218 jw_q1217 (by decide) (jvc (jvk (by decide) (by decide) (jc_205 _) q1246 rfl q1250) <| jvc (jvk (by decide) (by decide) (jc_214 _) q1223 rfl q1249) <| jvc (jvk (by decide) (by decide) (jc_216 _) q1220 rfl q1219) <| jvn)) <|
  jcons (jL jC_218 dX22_holds_15 rfl) <|
  jcons (jL jC_218 dX22_holds_18 rfl) <|
  jcons (jL jC_218 dX22_holds_19 rfl) <|
  jcons (jL jC_218 dX22_holds_22 rfl) <|
  jcons (jL jC_218 dX22_holds_23 rfl) <|
  jnil
theorem jm_218 : ∀ l ∈ tbX22_holds, ∀ q ∈ l, sJ jnw jao 218 q.1 q.2.1 q.2.2 := jmc jt_218_0 <| jmn
theorem jt_219_0 : ∀ q ∈ tcX23_init_0, sJ jnw jao 219 q.1 q.2.1 q.2.2 :=
  jcons (jL jC_219 dX23_init_0 rfl) <|
  jcons (j10 jC_219 jY_219 dX23_init_1 q703) <|
  jcons (jL jC_219 dX23_init_4 rfl) <|
  jcons (jL jC_219 dX23_init_5 rfl) <|
  jcons (j7_0 jC_219 dX23_init_7) <|
  jcons (jPf jC_219 jY_219 dX23_init_9 fk_23_0_X23 ap_23_0 fn_23_0 q704 rfl (tyX23_ok 0 (by decide)) (Or.inr (Or.inr (Or.inr ⟨rfl, jRf rfl⟩)))) <|
  jcons (jL jC_219 dX23_init_12 rfl) <|
  jcons (jL jC_219 dX23_init_13 rfl) <|
  jcons (j7_0 jC_219 dX23_init_15) <|
  jcons (jPf jC_219 jY_219 dX23_init_17 fk_23_1_X23 ap_23_1 fn_23_1 q705 rfl (tyX23_ok 1 (by decide)) (Or.inr (Or.inr (Or.inr ⟨rfl, jRf rfl⟩)))) <|
  jcons (jL jC_219 dX23_init_20 rfl) <|
  jcons (jL jC_219 dX23_init_21 rfl) <|
  jcons (j7_0 jC_219 dX23_init_23) <|
  jcons (jPf jC_219 jY_219 dX23_init_25 fk_23_2_X23 ap_23_2 fn_23_2 q707 rfl (tyX23_ok 2 (by decide)) (Or.inr (Or.inr (Or.inr ⟨rfl, jRf rfl⟩)))) <|
  jcons (jL jC_219 dX23_init_28 rfl) <|
  jcons (jL jC_219 dX23_init_29 rfl) <|
  jcons (j7_0 jC_219 dX23_init_31) <|
  jcons (jPf jC_219 jY_219 dX23_init_33 fk_23_3_X23 ap_23_3 fn_23_3 q709 rfl (tyX23_ok 3 (by decide)) (Or.inr (Or.inr (Or.inr ⟨rfl, jRf rfl⟩)))) <|
  jcons (jL jC_219 dX23_init_36 rfl) <|
  jcons (jL jC_219 dX23_init_37 rfl) <|
  jcons (j7_0 jC_219 dX23_init_39) <|
  jcons (jPf jC_219 jY_219 dX23_init_41 fk_23_4_X23 ap_23_4 fn_23_4 q711 rfl (tyX23_ok 4 (by decide)) (Or.inr (Or.inr (Or.inr ⟨rfl, jRf rfl⟩)))) <|
  jcons (jL jC_219 dX23_init_44 rfl) <|
  jcons (jL jC_219 dX23_init_45 rfl) <|
  jcons (j7_0 jC_219 dX23_init_47) <|
  jcons (jPf jC_219 jY_219 dX23_init_49 fk_23_5_X23 ap_23_5 fn_23_5 q713 rfl (tyX23_ok 5 (by decide)) (Or.inr (Or.inr (Or.inr ⟨rfl, jRf rfl⟩)))) <|
  jcons (jL jC_219 dX23_init_52 rfl) <|
  jcons (jL jC_219 dX23_init_53 rfl) <|
  jcons (j7_0 jC_219 dX23_init_55) <|
  jcons (jPf jC_219 jY_219 dX23_init_57 fk_23_6_X23 ap_23_6 fn_23_6 q715 rfl (tyX23_ok 6 (by decide)) (Or.inr (Or.inr (Or.inr ⟨rfl, jRf rfl⟩)))) <|
  jcons (jL jC_219 dX23_init_60 rfl) <|
  jcons (jL jC_219 dX23_init_61 rfl) <|
  jcons (jL jC_219 dX23_init_62 rfl) <|
  jcons (jL jC_219 dX23_init_63 rfl) <|
  jnil
theorem jt_219_1 : ∀ q ∈ tcX23_init_1, sJ jnw jao 219 q.1 q.2.1 q.2.2 :=
  jcons (jL jC_219 dX23_init_65 rfl) <|
  jcons (jL jC_219 dX23_init_68 rfl) <|
  jcons (jG jC_219 jY_219 dX23_init_69 fk_23_1_X23 (Or.inl q705)) <|
  jcons (jL jC_219 dX23_init_72 rfl) <|
  jcons (jL jC_219 dX23_init_73 rfl) <|
  jcons (jL jC_219 dX23_init_74 rfl) <|
  jcons (jL jC_219 dX23_init_75 rfl) <|
  jcons (jL jC_219 dX23_init_78 rfl) <|
  jcons (jL jC_219 dX23_init_81 rfl) <|
  jnil
theorem jm_219 : ∀ l ∈ tbX23_init, ∀ q ∈ l, sJ jnw jao 219 q.1 q.2.1 q.2.2 := jmc jt_219_0 <| jmc jt_219_1 <| jmn
theorem jt_220_0 : ∀ q ∈ tcX23_blows_0, sJ jnw jao 220 q.1 q.2.1 q.2.2 :=
  jcons (jL jC_220 dX23_blows_0 rfl) <|
  jcons (j4V jC_220 jY_220 dX23_blows_1 (jc_221 _) q774 pd_221 (Or.inl q773) (fun c r h1 h2 => js_86 c r h1 h2)) <|
  jcons (jL jC_220 dX23_blows_4 rfl) <|
  jcons (jL jC_220 dX23_blows_5 rfl) <|
  jcons (jL jC_220 dX23_blows_6 rfl) <|
  jcons (jL jC_220 dX23_blows_7 rfl) <|
  jcons (jG jC_220 jY_220 dX23_blows_8 fk_23_7_X23 (Or.inl q720)) <|
  jcons (jL jC_220 dX23_blows_11 rfl) <|
  jcons (jL jC_220 dX23_blows_12 rfl) <|
  jcons (jG jC_220 jY_220 dX23_blows_13 fk_23_10_X23 (Or.inl q726)) <|
  jcons (jL jC_220 dX23_blows_16 rfl) <|
  jcons (jL jC_220 dX23_blows_17 rfl) <|
  jcons (j4V jC_220 jY_220 dX23_blows_18 (jc_222 _) q778 pd_222 (Or.inl q777) (fun c r h1 h2 => js_87 c r h1 h2)) <|
  jcons (jL jC_220 dX23_blows_21 rfl) <|
  jcons (jL jC_220 dX23_blows_22 rfl) <|
  jcons (jPu jC_220 jY_220 dX23_blows_23 fk_23_7_X23 ap_23_7 (fn_23_7 _) (Or.inl q720) (tyX23_ok 7 (by decide)) (Or.inl ⟨rfl, rfl⟩)) <|
  jcons (jL jC_220 dX23_blows_26 rfl) <|
  jnil
theorem jm_220 : ∀ l ∈ tbX23_blows, ∀ q ∈ l, sJ jnw jao 220 q.1 q.2.1 q.2.2 := jmc jt_220_0 <| jmn
theorem jt_221_0 : ∀ q ∈ tcX23_point_0, sJ jnw jao 221 q.1 q.2.1 q.2.2 :=
  jcons (jL jC_221 dX23_point_0 rfl) <|
  jcons (jG jC_221 jY_221 dX23_point_1 fk_23_0_X23 (Or.inl q704)) <|
  jcons (jL jC_221 dX23_point_4 rfl) <|
  jcons (jG jC_221 jY_221 dX23_point_5 fk_23_8_X23 (Or.inl q722)) <|
  jcons (jL jC_221 dX23_point_8 rfl) <|
  jcons (jG jC_221 jY_221 dX23_point_9 fk_23_8_X23 (Or.inl q722)) <|
  jcons (jL jC_221 dX23_point_12 rfl) <|
  jcons (jL jC_221 dX23_point_13 rfl) <|
  jcons (jL jC_221 dX23_point_14 rfl) <|
  jcons (jG jC_221 jY_221 dX23_point_15 fk_23_8_X23 (Or.inl q722)) <|
  jcons (jL jC_221 dX23_point_18 rfl) <|
  jcons (jL jC_221 dX23_point_19 rfl) <|
  jcons (jPu jC_221 jY_221 dX23_point_20 fk_23_8_X23 ap_23_8 (fn_23_8 _) (Or.inl q722) (tyX23_ok 8 (by decide)) (Or.inl ⟨rfl, rfl⟩)) <|
  jcons (jL jC_221 dX23_point_23 rfl) <|
  jcons (jG jC_221 jY_221 dX23_point_24 fk_23_8_X23 (Or.inl q722)) <|
  jcons (jL jC_221 dX23_point_27 rfl) <|
  jcons (jL jC_221 dX23_point_28 rfl) <|
  jcons (jL jC_221 dX23_point_29 rfl) <|
  jnil
theorem jm_221 : ∀ l ∈ tbX23_point, ∀ q ∈ l, sJ jnw jao 221 q.1 q.2.1 q.2.2 := jmc jt_221_0 <| jmn
theorem jt_222_0 : ∀ q ∈ tcX23_adds_0, sJ jnw jao 222 q.1 q.2.1 q.2.2 :=
  jcons (jL jC_222 dX23_adds_0 rfl) <|
  jcons (jG jC_222 jY_222 dX23_adds_1 fk_23_2_X23 (Or.inl q707)) <|
  jcons (jL jC_222 dX23_adds_4 rfl) <|
  jcons (jG jC_222 jY_222 dX23_adds_5 fk_23_9_X23 (Or.inl q724)) <|
  jcons (jL jC_222 dX23_adds_8 rfl) <|
  jcons (jL jC_222 dX23_adds_9 rfl) <|
  jcons (jL jC_222 dX23_adds_10 rfl) <|
  jcons (jG jC_222 jY_222 dX23_adds_11 fk_23_3_X23 (Or.inl q709)) <|
  jcons (jL jC_222 dX23_adds_14 rfl) <|
  jcons (jG jC_222 jY_222 dX23_adds_15 fk_23_9_X23 (Or.inl q724)) <|
  jcons (jL jC_222 dX23_adds_18 rfl) <|
  jcons (jL jC_222 dX23_adds_19 rfl) <|
  jcons (jL jC_222 dX23_adds_20 rfl) <|
  jcons (jG jC_222 jY_222 dX23_adds_21 fk_23_4_X23 (Or.inl q711)) <|
  jcons (jL jC_222 dX23_adds_24 rfl) <|
  jcons (jG jC_222 jY_222 dX23_adds_25 fk_23_9_X23 (Or.inl q724)) <|
  jcons (jL jC_222 dX23_adds_28 rfl) <|
  jcons (jL jC_222 dX23_adds_29 rfl) <|
  jcons (jL jC_222 dX23_adds_30 rfl) <|
  jcons (jG jC_222 jY_222 dX23_adds_31 fk_23_5_X23 (Or.inl q713)) <|
  jcons (jL jC_222 dX23_adds_34 rfl) <|
  jcons (jG jC_222 jY_222 dX23_adds_35 fk_23_9_X23 (Or.inl q724)) <|
  jcons (jL jC_222 dX23_adds_38 rfl) <|
  jcons (jL jC_222 dX23_adds_40 rfl) <|
  jcons (jL jC_222 dX23_adds_41 rfl) <|
  jcons (jL jC_222 dX23_adds_42 rfl) <|
  jcons (jG jC_222 jY_222 dX23_adds_43 fk_23_9_X23 (Or.inl q724)) <|
  jcons (jL jC_222 dX23_adds_46 rfl) <|
  jcons (jL jC_222 dX23_adds_47 rfl) <|
  jcons (jPu jC_222 jY_222 dX23_adds_48 fk_23_9_X23 ap_23_9 (fn_23_9 _) (Or.inl q724) (tyX23_ok 9 (by decide)) (Or.inl ⟨rfl, rfl⟩)) <|
  jcons (jL jC_222 dX23_adds_51 rfl) <|
  jcons (jL jC_222 dX23_adds_52 rfl) <|
  jcons (jG jC_222 jY_222 dX23_adds_53 fk_23_11_X23 (Or.inl q729)) <|
  jcons (jL jC_222 dX23_adds_56 rfl) <|
  jcons (j4V jC_222 jY_222 dX23_adds_57 (jc_223 _) q783 pd_223 (Or.inl q781) (fun c r h1 h2 => js_208 c r h1 h2)) <|
  jcons (j14 jC_222 jY_222 dX23_adds_60 q793) <|
  jcons (jPu jC_222 jY_222 dX23_adds_63 fk_23_11_X23 ap_23_11 (fn_23_11 _) (Or.inl q729) (tyX23_ok 11 (by decide)) (Or.inl ⟨rfl, rfl⟩)) <|
  jnil
theorem jt_222_1 : ∀ q ∈ tcX23_adds_1, sJ jnw jao 222 q.1 q.2.1 q.2.2 :=
  jcons (jL jC_222 dX23_adds_66 rfl) <|
  jnil
theorem jm_222 : ∀ l ∈ tbX23_adds, ∀ q ∈ l, sJ jnw jao 222 q.1 q.2.1 q.2.2 := jmc jt_222_0 <| jmc jt_222_1 <| jmn
theorem jt_223_0 : ∀ q ∈ tcX23_held_0, sJ jnw jao 223 q.1 q.2.1 q.2.2 :=
  jcons (jL jC_223 dX23_held_0 rfl) <|
  jcons (jL jC_223 dX23_held_1 rfl) <|
  jcons (jL jC_223 dX23_held_2 rfl) <|
  jcons (jL jC_223 dX23_held_3 rfl) <|
  jcons (jL jC_223 dX23_held_4 rfl) <|
  jcons (jL jC_223 dX23_held_5 rfl) <|
  jcons (jL jC_223 dX23_held_6 rfl) <|
  jcons (jL jC_223 dX23_held_7 rfl) <|
  jcons (jG jC_223 jY_223 dX23_held_8 fk_23_9_X23 (Or.inl q724)) <|
  jcons (jL jC_223 dX23_held_11 rfl) <|
  jcons (jL jC_223 dX23_held_14 rfl) <|
  jcons (jL jC_223 dX23_held_15 rfl) <|
  jcons (jG jC_223 jY_223 dX23_held_16 fk_23_5_X23 (Or.inl q713)) <|
  jcons (jL jC_223 dX23_held_19 rfl) <|
  jcons (jL jC_223 dX23_held_20 rfl) <|
  jcons (jL jC_223 dX23_held_21 rfl) <|
  jcons (jG jC_223 jY_223 dX23_held_22 fk_23_5_X23 (Or.inl q713)) <|
  jcons (jL jC_223 dX23_held_25 rfl) <|
  jcons (jL jC_223 dX23_held_26 rfl) <|
  jcons (jL jC_223 dX23_held_27 rfl) <|
  jcons (jL jC_223 dX23_held_28 rfl) <|
  jcons (jL jC_223 dX23_held_29 rfl) <|
  jcons (jL jC_223 dX23_held_32 rfl) <|
  jcons (jL jC_223 dX23_held_33 rfl) <|
  jcons (jL jC_223 dX23_held_34 rfl) <|
  jcons (jG jC_223 jY_223 dX23_held_35 fk_23_3_X23 (Or.inl q709)) <|
  jcons (jL jC_223 dX23_held_38 rfl) <|
  jcons (jL jC_223 dX23_held_39 rfl) <|
  jcons (j4V jC_223 jY_223 dX23_held_40 (jc_224 _) q786 pd_224 (Or.inl q785) (fun c r h1 h2 => js_209 c r h1 h2)) <|
  jcons (j4V jC_223 jY_223 dX23_held_43 (jc_225 _) q791 pd_225 (Or.inl q789) (fun c r h1 h2 => js_210 c r h1 h2)) <|
  jcons (jL jC_223 dX23_held_46 rfl) <|
  jcons (jL jC_223 dX23_held_47 rfl) <|
  jcons (jL jC_223 dX23_held_50 rfl) <|
  jcons (jL jC_223 dX23_held_51 rfl) <|
  jcons (jL jC_223 dX23_held_54 rfl) <|
  jcons (jL jC_223 dX23_held_55 rfl) <|
  jcons (jL jC_223 dX23_held_56 rfl) <|
  jcons (jL jC_223 dX23_held_57 rfl) <|
  jcons (jL jC_223 dX23_held_60 rfl) <|
  jcons (jL jC_223 dX23_held_63 rfl) <|
  jnil
theorem jt_223_1 : ∀ q ∈ tcX23_held_1, sJ jnw jao 223 q.1 q.2.1 q.2.2 :=
  jcons (jL jC_223 dX23_held_64 rfl) <|
  jnil
theorem jm_223 : ∀ l ∈ tbX23_held, ∀ q ∈ l, sJ jnw jao 223 q.1 q.2.1 q.2.2 := jmc jt_223_0 <| jmc jt_223_1 <| jmn
theorem jt_224_0 : ∀ q ∈ tcX23_root_0, sJ jnw jao 224 q.1 q.2.1 q.2.2 :=
  jcons (jL jC_224 dX23_root_0 rfl) <|
  jcons (jL jC_224 dX23_root_1 rfl) <|
  jcons (jL jC_224 dX23_root_2 rfl) <|
  jcons (jG jC_224 jY_224 dX23_root_3 fk_23_0_X23 (Or.inl q704)) <|
  jcons (jL jC_224 dX23_root_6 rfl) <|
  jcons (jL jC_224 dX23_root_7 rfl) <|
  jcons (jL jC_224 dX23_root_8 rfl) <|
  jcons (jL jC_224 dX23_root_9 rfl) <|
  jcons (jL jC_224 dX23_root_12 rfl) <|
  jcons (jG jC_224 jY_224 dX23_root_13 fk_23_0_X23 (Or.inl q704)) <|
  jcons (jL jC_224 dX23_root_16 rfl) <|
  jcons (jL jC_224 dX23_root_17 rfl) <|
  jcons (jL jC_224 dX23_root_18 rfl) <|
  jcons (jL jC_224 dX23_root_19 rfl) <|
  jcons (jL jC_224 dX23_root_22 rfl) <|
  jcons (jL jC_224 dX23_root_23 rfl) <|
  jnil
theorem jm_224 : ∀ l ∈ tbX23_root, ∀ q ∈ l, sJ jnw jao 224 q.1 q.2.1 q.2.2 := jmc jt_224_0 <| jmn
theorem jt_225_0 : ∀ q ∈ tcX23_ends_0, sJ jnw jao 225 q.1 q.2.1 q.2.2 :=
  jcons (jL jC_225 dX23_ends_0 rfl) <|
  jcons (jL jC_225 dX23_ends_1 rfl) <|
  jcons (jL jC_225 dX23_ends_2 rfl) <|
  jcons (jL jC_225 dX23_ends_3 rfl) <|
  jcons (jL jC_225 dX23_ends_4 rfl) <|
  jcons (jL jC_225 dX23_ends_5 rfl) <|
  jcons (jG jC_225 jY_225 dX23_ends_6 fk_23_9_X23 (Or.inl q724)) <|
  jcons (jL jC_225 dX23_ends_9 rfl) <|
  jcons (jL jC_225 dX23_ends_12 rfl) <|
  jcons (jL jC_225 dX23_ends_13 rfl) <|
  jcons (jL jC_225 dX23_ends_14 rfl) <|
  jcons (jG jC_225 jY_225 dX23_ends_15 fk_23_2_X23 (Or.inl q707)) <|
  jcons (jL jC_225 dX23_ends_18 rfl) <|
  jcons (jL jC_225 dX23_ends_19 rfl) <|
  jcons (j4V jC_225 jY_225 dX23_ends_20 (jc_224 _) q786 pd_224 (Or.inl q785) (fun c r h1 h2 => js_209 c r h1 h2)) <|
  jcons (jL jC_225 dX23_ends_23 rfl) <|
  jcons (jL jC_225 dX23_ends_24 rfl) <|
  jcons (jL jC_225 dX23_ends_27 rfl) <|
  jcons (jL jC_225 dX23_ends_28 rfl) <|
  jcons (jL jC_225 dX23_ends_31 rfl) <|
  jcons (jL jC_225 dX23_ends_32 rfl) <|
  jcons (jL jC_225 dX23_ends_33 rfl) <|
  jcons (jG jC_225 jY_225 dX23_ends_34 fk_23_3_X23 (Or.inl q709)) <|
  jcons (jL jC_225 dX23_ends_37 rfl) <|
  jcons (jL jC_225 dX23_ends_38 rfl) <|
  jcons (j4V jC_225 jY_225 dX23_ends_39 (jc_224 _) q786 pd_224 (Or.inl q785) (fun c r h1 h2 => js_209 c r h1 h2)) <|
  jcons (jL jC_225 dX23_ends_42 rfl) <|
  jcons (jL jC_225 dX23_ends_43 rfl) <|
  jcons (jL jC_225 dX23_ends_46 rfl) <|
  jcons (jL jC_225 dX23_ends_47 rfl) <|
  jcons (jL jC_225 dX23_ends_50 rfl) <|
  jcons (jL jC_225 dX23_ends_51 rfl) <|
  jcons (jL jC_225 dX23_ends_52 rfl) <|
  jcons (jL jC_225 dX23_ends_53 rfl) <|
  jcons (jL jC_225 dX23_ends_54 rfl) <|
  jcons (jL jC_225 dX23_ends_57 rfl) <|
  jcons (jL jC_225 dX23_ends_60 rfl) <|
  jcons (jL jC_225 dX23_ends_61 rfl) <|
  jnil
theorem jm_225 : ∀ l ∈ tbX23_ends, ∀ q ∈ l, sJ jnw jao 225 q.1 q.2.1 q.2.2 := jmc jt_225_0 <| jmn
theorem jt_226_0 : ∀ q ∈ tcX23_begins_0, sJ jnw jao 226 q.1 q.2.1 q.2.2 :=
  jcons (jL jC_226 dX23_begins_0 rfl) <|
  jcons (jL jC_226 dX23_begins_1 rfl) <|
  jcons (j4V jC_226 jY_226 dX23_begins_2 (jc_221 _) q774 pd_221 (Or.inl q773) (fun c r h1 h2 => js_86 c r h1 h2)) <|
  jcons (jPu jC_226 jY_226 dX23_begins_5 fk_23_7_X23 ap_23_7 (fn_23_7 _) (Or.inl q720) (tyX23_ok 7 (by decide)) (Or.inl ⟨rfl, rfl⟩)) <|
  jcons (jL jC_226 dX23_begins_8 rfl) <|
  jcons (jG jC_226 jY_226 dX23_begins_9 fk_23_6_X23 (Or.inl q715)) <|
  jcons (jL jC_226 dX23_begins_12 rfl) <|
  jcons (jG jC_226 jY_226 dX23_begins_13 fk_23_10_X23 (Or.inl q726)) <|
  jcons (jL jC_226 dX23_begins_16 rfl) <|
  jcons (jL jC_226 dX23_begins_17 rfl) <|
  jcons (jL jC_226 dX23_begins_18 rfl) <|
  jcons (jL jC_226 dX23_begins_19 rfl) <|
  jcons (jG jC_226 jY_226 dX23_begins_20 fk_23_10_X23 (Or.inl q726)) <|
  jcons (jL jC_226 dX23_begins_23 rfl) <|
  jcons (jL jC_226 dX23_begins_24 rfl) <|
  jcons (jPu jC_226 jY_226 dX23_begins_25 fk_23_10_X23 ap_23_10 (fn_23_10 _) (Or.inl q726) (tyX23_ok 10 (by decide)) (Or.inl ⟨rfl, rfl⟩)) <|
  jcons (jL jC_226 dX23_begins_28 rfl) <|
  jnil
theorem jm_226 : ∀ l ∈ tbX23_begins, ∀ q ∈ l, sJ jnw jao 226 q.1 q.2.1 q.2.2 := jmc jt_226_0 <| jmn
theorem jt_227_0 : ∀ q ∈ tcX23_joins_0, sJ jnw jao 227 q.1 q.2.1 q.2.2 :=
  jcons (jL jC_227 dX23_joins_0 rfl) <|
  jcons (jL jC_227 dX23_joins_1 rfl) <|
  jcons (j4V jC_227 jY_227 dX23_joins_2 (jc_224 _) q786 pd_224 (Or.inl q785) (fun c r h1 h2 => js_209 c r h1 h2)) <|
  jcons (jL jC_227 dX23_joins_5 rfl) <|
  jcons (jL jC_227 dX23_joins_6 rfl) <|
  jcons (jL jC_227 dX23_joins_7 rfl) <|
  jcons (j4V jC_227 jY_227 dX23_joins_8 (jc_224 _) q786 pd_224 (Or.inl q785) (fun c r h1 h2 => js_209 c r h1 h2)) <|
  jcons (jL jC_227 dX23_joins_11 rfl) <|
  jcons (jL jC_227 dX23_joins_13 rfl) <|
  jcons (jG jC_227 jY_227 dX23_joins_14 fk_23_0_X23 (Or.inl q704)) <|
  jcons (jL jC_227 dX23_joins_17 rfl) <|
  jcons (jL jC_227 dX23_joins_18 rfl) <|
  jcons (j14 jC_227 jY_227 dX23_joins_20 q793) <|
  jcons (jL jC_227 dX23_joins_23 rfl) <|
  jcons (jL jC_227 dX23_joins_24 rfl) <|
  jcons (j14 jC_227 jY_227 dX23_joins_26 q811) <|
  jcons (jL jC_227 dX23_joins_29 rfl) <|
  jcons (jL jC_227 dX23_joins_30 rfl) <|
  jnil
theorem jm_227 : ∀ l ∈ tbX23_joins, ∀ q ∈ l, sJ jnw jao 227 q.1 q.2.1 q.2.2 := jmc jt_227_0 <| jmn
theorem jt_228_0 : ∀ q ∈ tcX23_takes_0, sJ jnw jao 228 q.1 q.2.1 q.2.2 :=
  jcons (jL jC_228 dX23_takes_0 rfl) <|
  jcons (jG jC_228 jY_228 dX23_takes_1 fk_23_10_X23 (Or.inl q726)) <|
  jcons (jL jC_228 dX23_takes_4 rfl) <|
  jcons (jL jC_228 dX23_takes_5 rfl) <|
  jcons (jG jC_228 jY_228 dX23_takes_6 fk_24_4_X24 (Or.inr ⟨_, jw_q841⟩)) <|
  jcons (jL jC_228 dX23_takes_9 rfl) <|
  jcons (jL jC_228 dX23_takes_10 rfl) <|
  jcons (jG jC_228 jY_228 dX23_takes_11 fk_23_6_X23 (Or.inl q715)) <|
  jcons (jL jC_228 dX23_takes_14 rfl) <|
  jcons (jL jC_228 dX23_takes_15 rfl) <|
  jcons (jG jC_228 jY_228 dX23_takes_16 fk_24_7_X24 (Or.inr ⟨_, jw_q849⟩)) <|
  jcons (j9 jC_228 jY_228 dX23_takes_19 q1014) <|
  jcons (jL jC_228 dX23_takes_22 rfl) <|
  jcons (jL jC_228 dX23_takes_23 rfl) <|
  jcons (jG jC_228 jY_228 dX23_takes_24 fk_23_10_X23 (Or.inl q726)) <|
  jcons (jL jC_228 dX23_takes_27 rfl) <|
  jcons (jG jC_228 jY_228 dX23_takes_28 fk_24_7_X24 (Or.inr ⟨_, jw_q849⟩)) <|
  jcons (jL jC_228 dX23_takes_31 rfl) <|
  jcons (jPu jC_228 jY_228 dX23_takes_32 fk_23_10_X23 ap_23_10 (fn_23_10 _) (Or.inl q726) (tyX23_ok 10 (by decide)) (Or.inl ⟨rfl, rfl⟩)) <|
  jcons (jL jC_228 dX23_takes_35 rfl) <|
  jcons (jL jC_228 dX23_takes_36 rfl) <|
  jcons (jL jC_228 dX23_takes_38 rfl) <|
  jcons (jL jC_228 dX23_takes_40 rfl) <|
  jcons (jG jC_228 jY_228 dX23_takes_41 fk_24_6_X24 (Or.inr ⟨_, jw_q846⟩)) <|
  jcons (jL jC_228 dX23_takes_44 rfl) <|
  jcons (jL jC_228 dX23_takes_47 rfl) <|
  jcons (jL jC_228 dX23_takes_48 rfl) <|
  jcons (jG jC_228 jY_228 dX23_takes_49 fk_24_2_X24 (Or.inr ⟨_, jw_q835⟩)) <|
  jcons (jL jC_228 dX23_takes_52 rfl) <|
  jcons (jL jC_228 dX23_takes_54 rfl) <|
  jcons (jL jC_228 dX23_takes_55 rfl) <|
  jcons (jL jC_228 dX23_takes_56 rfl) <|
  jcons (jG jC_228 jY_228 dX23_takes_57 fk_24_0_X24 (Or.inr ⟨_, jw_q829⟩)) <|
  jcons (jL jC_228 dX23_takes_60 rfl) <|
  jcons (jL jC_228 dX23_takes_62 rfl) <|
  jcons (jL jC_228 dX23_takes_63 rfl) <|
  jnil
theorem jt_228_1 : ∀ q ∈ tcX23_takes_1, sJ jnw jao 228 q.1 q.2.1 q.2.2 :=
  jcons (jL jC_228 dX23_takes_64 rfl) <|
  jcons (jL jC_228 dX23_takes_65 rfl) <|
  jcons (jG jC_228 jY_228 dX23_takes_66 fk_24_1_X24 (Or.inr ⟨_, jw_q832⟩)) <|
  jcons (jL jC_228 dX23_takes_69 rfl) <|
  jcons (jL jC_228 dX23_takes_71 rfl) <|
  jcons (jL jC_228 dX23_takes_72 rfl) <|
  jcons (jL jC_228 dX23_takes_73 rfl) <|
  jcons (jL jC_228 dX23_takes_74 rfl) <|
  jcons (jG jC_228 jY_228 dX23_takes_75 fk_24_3_X24 (Or.inr ⟨_, jw_q838⟩)) <|
  jcons (jL jC_228 dX23_takes_78 rfl) <|
  jcons (jL jC_228 dX23_takes_80 rfl) <|
  jcons (jL jC_228 dX23_takes_81 rfl) <|
  jcons (j4V jC_228 jY_228 dX23_takes_82 (jc_222 _) q778 pd_222 (Or.inl q777) (fun c r h1 h2 => js_87 c r h1 h2)) <|
  jcons (jL jC_228 dX23_takes_85 rfl) <|
  jcons (jL jC_228 dX23_takes_88 rfl) <|
  jcons (jL jC_228 dX23_takes_91 rfl) <|
  jnil
theorem jm_228 : ∀ l ∈ tbX23_takes, ∀ q ∈ l, sJ jnw jao 228 q.1 q.2.1 q.2.2 := jmc jt_228_0 <| jmc jt_228_1 <| jmn
theorem jt_229_0 : ∀ q ∈ tcX24_init_0, sJ jnw jao 229 q.1 q.2.1 q.2.2 :=
  jcons (jL jC_229 dX24_init_0 rfl) <|
  jcons (j10 jC_229 jY_229 dX24_init_1 q823) <|
  jcons (jL jC_229 dX24_init_4 rfl) <|
  jcons (jL jC_229 dX24_init_5 rfl) <|
  jcons (j7_0 jC_229 dX24_init_7) <|
  jcons (jPf jC_229 jY_229 dX24_init_9 fk_24_0_X24 ap_24_0 fn_24_0 q828 rfl (tyX24_ok 0 (by decide)) (Or.inr (Or.inr (Or.inr ⟨rfl, jRf rfl⟩)))) <|
  jcons (jL jC_229 dX24_init_12 rfl) <|
  jcons (jL jC_229 dX24_init_13 rfl) <|
  jcons (j7_0 jC_229 dX24_init_15) <|
  jcons (jPf jC_229 jY_229 dX24_init_17 fk_24_1_X24 ap_24_1 fn_24_1 q831 rfl (tyX24_ok 1 (by decide)) (Or.inr (Or.inr (Or.inr ⟨rfl, jRf rfl⟩)))) <|
  jcons (jL jC_229 dX24_init_20 rfl) <|
  jcons (jL jC_229 dX24_init_21 rfl) <|
  jcons (j7_0 jC_229 dX24_init_23) <|
  jcons (jPf jC_229 jY_229 dX24_init_25 fk_24_2_X24 ap_24_2 fn_24_2 q834 rfl (tyX24_ok 2 (by decide)) (Or.inr (Or.inr (Or.inr ⟨rfl, jRf rfl⟩)))) <|
  jcons (jL jC_229 dX24_init_28 rfl) <|
  jcons (jL jC_229 dX24_init_29 rfl) <|
  jcons (j7_0 jC_229 dX24_init_31) <|
  jcons (jPf jC_229 jY_229 dX24_init_33 fk_24_3_X24 ap_24_3 fn_24_3 q837 rfl (tyX24_ok 3 (by decide)) (Or.inr (Or.inr (Or.inr ⟨rfl, jRf rfl⟩)))) <|
  jcons (jL jC_229 dX24_init_36 rfl) <|
  jcons (jL jC_229 dX24_init_37 rfl) <|
  jcons (j7_0 jC_229 dX24_init_39) <|
  jcons (jPf jC_229 jY_229 dX24_init_41 fk_24_4_X24 ap_24_4 fn_24_4 q840 rfl (tyX24_ok 4 (by decide)) (Or.inr (Or.inr (Or.inr ⟨rfl, jRf rfl⟩)))) <|
  jcons (jL jC_229 dX24_init_44 rfl) <|
  jcons (jL jC_229 dX24_init_45 rfl) <|
  jcons (j7_0 jC_229 dX24_init_47) <|
  jcons (jPf jC_229 jY_229 dX24_init_49 fk_24_5_X24 ap_24_5 fn_24_5 q843 rfl (tyX24_ok 5 (by decide)) (Or.inr (Or.inr (Or.inr ⟨rfl, jRf rfl⟩)))) <|
  jcons (jL jC_229 dX24_init_52 rfl) <|
  jcons (jL jC_229 dX24_init_53 rfl) <|
  jcons (jG jC_229 jY_229 dX24_init_54 fk_23_9_X23 (Or.inr ⟨_, jw_q723⟩)) <|
  jcons (jPf jC_229 jY_229 dX24_init_57 fk_24_6_X24 ap_24_6 fn_24_6 q845 rfl (tyX24_ok 6 (by decide)) (Or.inl ⟨rfl, rfl⟩)) <|
  jcons (jL jC_229 dX24_init_60 rfl) <|
  jcons (jL jC_229 dX24_init_61 rfl) <|
  jcons (jG jC_229 jY_229 dX24_init_62 fk_23_10_X23 (Or.inr ⟨_, jw_q725⟩)) <|
  jnil
theorem jt_229_1 : ∀ q ∈ tcX24_init_1, sJ jnw jao 229 q.1 q.2.1 q.2.2 :=
  jcons (jPf jC_229 jY_229 dX24_init_65 fk_24_7_X24 ap_24_7 fn_24_7 q848 rfl (tyX24_ok 7 (by decide)) (Or.inl ⟨rfl, rfl⟩)) <|
  jcons (jL jC_229 dX24_init_68 rfl) <|
  jcons (jL jC_229 dX24_init_69 rfl) <|
  jcons (jG jC_229 jY_229 dX24_init_70 fk_23_11_X23 (Or.inr ⟨_, jw_q728⟩)) <|
  jcons (jPf jC_229 jY_229 dX24_init_73 fk_24_9_X24 ap_24_9 fn_24_9 q853 rfl (tyX24_ok 9 (by decide)) (Or.inl ⟨rfl, rfl⟩)) <|
  jcons (jL jC_229 dX24_init_76 rfl) <|
  jcons (j7_0 jC_229 dX24_init_78) <|
  jcons (jL jC_229 dX24_init_80 rfl) <|
  jcons (jL jC_229 dX24_init_81 rfl) <|
  jcons (jL jC_229 dX24_init_82 rfl) <|
  jcons (jL jC_229 dX24_init_83 rfl) <|
  jcons (jL jC_229 dX24_init_84 rfl) <|
  jcons (jL jC_229 dX24_init_86 rfl) <|
  jcons (jL jC_229 dX24_init_88 rfl) <|
  jcons (jG jC_229 jY_229 dX24_init_89 fk_23_8_X23 (Or.inr ⟨_, jw_q721⟩)) <|
  jcons (jL jC_229 dX24_init_92 rfl) <|
  jcons (jL jC_229 dX24_init_95 rfl) <|
  jcons (jL jC_229 dX24_init_96 rfl) <|
  jcons (j4V jC_229 jY_229 dX24_init_98 (jc_224 _) q786 pd_224 (Or.inl q824) (fun c r h1 h2 => js_209 c r h1 h2)) <|
  jcons (jL jC_229 dX24_init_101 rfl) <|
  jcons (jL jC_229 dX24_init_103 rfl) <|
  jcons (jL jC_229 dX24_init_106 rfl) <|
  jcons (jL jC_229 dX24_init_109 rfl) <|
  jcons (jL jC_229 dX24_init_110 rfl) <|
  jcons (jL jC_229 dX24_init_112 rfl) <|
  jcons (jL jC_229 dX24_init_113 rfl) <|
  jcons (jL jC_229 dX24_init_114 rfl) <|
  jcons (jL jC_229 dX24_init_117 rfl) <|
  jcons (jL jC_229 dX24_init_120 rfl) <|
  jcons (jL jC_229 dX24_init_123 rfl) <|
  jcons (jL jC_229 dX24_init_124 rfl) <|
  jcons (jPf jC_229 jY_229 dX24_init_125 fk_24_8_X24 ap_24_8 fn_24_8 q851 rfl (tyX24_ok 8 (by decide)) (Or.inl ⟨rfl, rfl⟩)) <|
  jnil
theorem jt_229_2 : ∀ q ∈ tcX24_init_2, sJ jnw jao 229 q.1 q.2.1 q.2.2 :=
  jcons (jL jC_229 dX24_init_128 rfl) <|
  jcons (jL jC_229 dX24_init_129 rfl) <|
  jcons (jL jC_229 dX24_init_131 rfl) <|
  jcons (jL jC_229 dX24_init_133 rfl) <|
  jcons (jG jC_229 jY_229 dX24_init_134 fk_24_6_X24 (Or.inl q845)) <|
  jcons (jL jC_229 dX24_init_137 rfl) <|
  jcons (jL jC_229 dX24_init_140 rfl) <|
  jcons (jG jC_229 jY_229 dX24_init_141 fk_24_0_X24 (Or.inl q828)) <|
  jcons (jL jC_229 dX24_init_144 rfl) <|
  jcons (jL jC_229 dX24_init_146 rfl) <|
  jcons (jL jC_229 dX24_init_147 rfl) <|
  jcons (jL jC_229 dX24_init_148 rfl) <|
  jcons (jG jC_229 jY_229 dX24_init_149 fk_23_2_X23 (Or.inr ⟨_, jw_q708⟩)) <|
  jcons (jL jC_229 dX24_init_152 rfl) <|
  jcons (jL jC_229 dX24_init_154 rfl) <|
  jcons (j4V jC_229 jY_229 dX24_init_155 (jc_224 _) q786 pd_224 (Or.inl q824) (fun c r h1 h2 => js_209 c r h1 h2)) <|
  jcons (jL jC_229 dX24_init_158 rfl) <|
  jcons (jL jC_229 dX24_init_159 rfl) <|
  jcons (jL jC_229 dX24_init_160 rfl) <|
  jcons (jG jC_229 jY_229 dX24_init_161 fk_24_1_X24 (Or.inl q831)) <|
  jcons (jL jC_229 dX24_init_164 rfl) <|
  jcons (jL jC_229 dX24_init_166 rfl) <|
  jcons (jL jC_229 dX24_init_167 rfl) <|
  jcons (jL jC_229 dX24_init_168 rfl) <|
  jcons (jG jC_229 jY_229 dX24_init_169 fk_23_3_X23 (Or.inr ⟨_, jw_q710⟩)) <|
  jcons (jL jC_229 dX24_init_172 rfl) <|
  jcons (jL jC_229 dX24_init_174 rfl) <|
  jcons (j4V jC_229 jY_229 dX24_init_175 (jc_224 _) q786 pd_224 (Or.inl q824) (fun c r h1 h2 => js_209 c r h1 h2)) <|
  jcons (jL jC_229 dX24_init_178 rfl) <|
  jcons (jL jC_229 dX24_init_179 rfl) <|
  jcons (jL jC_229 dX24_init_180 rfl) <|
  jcons (jG jC_229 jY_229 dX24_init_181 fk_24_2_X24 (Or.inl q834)) <|
  jcons (jL jC_229 dX24_init_184 rfl) <|
  jcons (jL jC_229 dX24_init_186 rfl) <|
  jcons (jG jC_229 jY_229 dX24_init_187 fk_23_4_X23 (Or.inr ⟨_, jw_q712⟩)) <|
  jcons (jL jC_229 dX24_init_190 rfl) <|
  jnil
theorem jt_229_3 : ∀ q ∈ tcX24_init_3, sJ jnw jao 229 q.1 q.2.1 q.2.2 :=
  jcons (jL jC_229 dX24_init_192 rfl) <|
  jcons (jL jC_229 dX24_init_193 rfl) <|
  jcons (jL jC_229 dX24_init_194 rfl) <|
  jcons (jG jC_229 jY_229 dX24_init_195 fk_24_3_X24 (Or.inl q837)) <|
  jcons (jL jC_229 dX24_init_198 rfl) <|
  jcons (jL jC_229 dX24_init_200 rfl) <|
  jcons (jG jC_229 jY_229 dX24_init_201 fk_23_5_X23 (Or.inr ⟨_, jw_q714⟩)) <|
  jcons (jL jC_229 dX24_init_204 rfl) <|
  jcons (jL jC_229 dX24_init_206 rfl) <|
  jcons (jL jC_229 dX24_init_207 rfl) <|
  jcons (jL jC_229 dX24_init_208 rfl) <|
  jcons (jG jC_229 jY_229 dX24_init_209 fk_24_5_X24 (Or.inl q843)) <|
  jcons (jL jC_229 dX24_init_212 rfl) <|
  jcons (jG jC_229 jY_229 dX24_init_213 fk_24_0_X24 (Or.inl q828)) <|
  jcons (jL jC_229 dX24_init_216 rfl) <|
  jcons (jL jC_229 dX24_init_218 rfl) <|
  jcons (jL jC_229 dX24_init_219 rfl) <|
  jcons (jL jC_229 dX24_init_220 rfl) <|
  jcons (jL jC_229 dX24_init_221 rfl) <|
  jcons (jL jC_229 dX24_init_222 rfl) <|
  jcons (jL jC_229 dX24_init_223 rfl) <|
  jcons (jL jC_229 dX24_init_224 rfl) <|
  jcons (jG jC_229 jY_229 dX24_init_225 fk_24_5_X24 (Or.inl q843)) <|
  jcons (jL jC_229 dX24_init_228 rfl) <|
  jcons (jG jC_229 jY_229 dX24_init_229 fk_24_1_X24 (Or.inl q831)) <|
  jcons (jL jC_229 dX24_init_232 rfl) <|
  jcons (jL jC_229 dX24_init_234 rfl) <|
  jcons (jL jC_229 dX24_init_235 rfl) <|
  jcons (jL jC_229 dX24_init_236 rfl) <|
  jcons (jL jC_229 dX24_init_237 rfl) <|
  jcons (jL jC_229 dX24_init_238 rfl) <|
  jcons (jL jC_229 dX24_init_239 rfl) <|
  jcons (jL jC_229 dX24_init_240 rfl) <|
  jcons (jL jC_229 dX24_init_243 rfl) <|
  jcons (jL jC_229 dX24_init_246 rfl) <|
  jcons (jG jC_229 jY_229 dX24_init_247 fk_23_6_X23 (Or.inr ⟨_, jw_q716⟩)) <|
  jcons (jL jC_229 dX24_init_250 rfl) <|
  jcons (jL jC_229 dX24_init_251 rfl) <|
  jcons (jG jC_229 jY_229 dX24_init_252 fk_24_4_X24 (Or.inl q840)) <|
  jcons (jL jC_229 dX24_init_255 rfl) <|
  jnil
theorem jt_229_4 : ∀ q ∈ tcX24_init_4, sJ jnw jao 229 q.1 q.2.1 q.2.2 :=
  jcons (jL jC_229 dX24_init_256 rfl) <|
  jcons (j9 jC_229 jY_229 dX24_init_258 q825) <|
  jcons (jL jC_229 dX24_init_261 rfl) <|
  jnil
theorem jm_229 : ∀ l ∈ tbX24_init, ∀ q ∈ l, sJ jnw jao 229 q.1 q.2.1 q.2.2 := jmc jt_229_0 <| jmc jt_229_1 <| jmc jt_229_2 <| jmc jt_229_3 <| jmc jt_229_4 <| jmn
theorem jt_230_0 : ∀ q ∈ tcX24_twists_0, sJ jnw jao 230 q.1 q.2.1 q.2.2 :=
  jcons (jL jC_230 dX24_twists_0 rfl) <|
  jcons (jL jC_230 dX24_twists_1 rfl) <|
  jcons (jL jC_230 dX24_twists_2 rfl) <|
  jcons (jL jC_230 dX24_twists_3 rfl) <|
  jcons (jL jC_230 dX24_twists_4 rfl) <|
  jcons (jL jC_230 dX24_twists_5 rfl) <|
  jcons (jG jC_230 jY_230 dX24_twists_6 fk_24_6_X24 (Or.inl q845)) <|
  jcons (jL jC_230 dX24_twists_9 rfl) <|
  jcons (jL jC_230 dX24_twists_12 rfl) <|
  jcons (jL jC_230 dX24_twists_13 rfl) <|
  jcons (jL jC_230 dX24_twists_14 rfl) <|
  jcons (j4V jC_230 jY_230 dX24_twists_15 (jc_231 _) q893 pd_231 (Or.inl q892) (fun c r h1 h2 => js_84 c r h1 h2)) <|
  jcons (jL jC_230 dX24_twists_18 rfl) <|
  jcons (jL jC_230 dX24_twists_21 rfl) <|
  jcons (jL jC_230 dX24_twists_22 rfl) <|
  jcons (jL jC_230 dX24_twists_25 rfl) <|
  jcons (jL jC_230 dX24_twists_26 rfl) <|
  jcons (jL jC_230 dX24_twists_27 rfl) <|
  jcons (jL jC_230 dX24_twists_28 rfl) <|
  jcons (jL jC_230 dX24_twists_31 rfl) <|
  jcons (jL jC_230 dX24_twists_34 rfl) <|
  jcons (jL jC_230 dX24_twists_35 rfl) <|
  jnil
theorem jm_230 : ∀ l ∈ tbX24_twists, ∀ q ∈ l, sJ jnw jao 230 q.1 q.2.1 q.2.2 := jmc jt_230_0 <| jmn
theorem jt_231_0 : ∀ q ∈ tcX24_isTwist_0, sJ jnw jao 231 q.1 q.2.1 q.2.2 :=
  jcons (jL jC_231 dX24_isTwist_0 rfl) <|
  jcons (jL jC_231 dX24_isTwist_1 rfl) <|
  jcons (jL jC_231 dX24_isTwist_2 rfl) <|
  jcons (jL jC_231 dX24_isTwist_3 rfl) <|
  jcons (jG jC_231 jY_231 dX24_isTwist_4 fk_24_6_X24 (Or.inl q845)) <|
  jcons (jL jC_231 dX24_isTwist_7 rfl) <|
  jcons (jL jC_231 dX24_isTwist_10 rfl) <|
  jcons (jG jC_231 jY_231 dX24_isTwist_11 fk_24_3_X24 (Or.inl q837)) <|
  jcons (jL jC_231 dX24_isTwist_14 rfl) <|
  jcons (jL jC_231 dX24_isTwist_15 rfl) <|
  jcons (jL jC_231 dX24_isTwist_16 rfl) <|
  jcons (jG jC_231 jY_231 dX24_isTwist_17 fk_24_3_X24 (Or.inl q837)) <|
  jcons (jL jC_231 dX24_isTwist_20 rfl) <|
  jcons (jL jC_231 dX24_isTwist_21 rfl) <|
  jcons (jL jC_231 dX24_isTwist_22 rfl) <|
  jcons (jL jC_231 dX24_isTwist_23 rfl) <|
  jcons (jL jC_231 dX24_isTwist_24 rfl) <|
  jcons (jL jC_231 dX24_isTwist_27 rfl) <|
  jcons (jL jC_231 dX24_isTwist_28 rfl) <|
  jcons (jL jC_231 dX24_isTwist_31 rfl) <|
  jcons (jL jC_231 dX24_isTwist_32 rfl) <|
  jnil
theorem jm_231 : ∀ l ∈ tbX24_isTwist, ∀ q ∈ l, sJ jnw jao 231 q.1 q.2.1 q.2.2 := jmc jt_231_0 <| jmn
theorem jt_232_0 : ∀ q ∈ tcX24_slack_0, sJ jnw jao 232 q.1 q.2.1 q.2.2 :=
  jcons (jL jC_232 dX24_slack_0 rfl) <|
  jcons (jL jC_232 dX24_slack_1 rfl) <|
  jcons (jL jC_232 dX24_slack_2 rfl) <|
  jcons (jL jC_232 dX24_slack_3 rfl) <|
  jcons (jL jC_232 dX24_slack_4 rfl) <|
  jcons (jL jC_232 dX24_slack_5 rfl) <|
  jcons (jG jC_232 jY_232 dX24_slack_6 fk_24_6_X24 (Or.inl q845)) <|
  jcons (jL jC_232 dX24_slack_9 rfl) <|
  jcons (jL jC_232 dX24_slack_12 rfl) <|
  jcons (jL jC_232 dX24_slack_13 rfl) <|
  jcons (jL jC_232 dX24_slack_14 rfl) <|
  jcons (j4V jC_232 jY_232 dX24_slack_15 (jc_231 _) q893 pd_231 (Or.inl q892) (fun c r h1 h2 => js_84 c r h1 h2)) <|
  jcons (jL jC_232 dX24_slack_18 rfl) <|
  jcons (jL jC_232 dX24_slack_21 rfl) <|
  jcons (jL jC_232 dX24_slack_22 rfl) <|
  jcons (j4V jC_232 jY_232 dX24_slack_23 (jc_233 _) q901 pd_233 (Or.inl q900) (fun c r h1 h2 => js_85 c r h1 h2)) <|
  jcons (jL jC_232 dX24_slack_26 rfl) <|
  jcons (jL jC_232 dX24_slack_29 rfl) <|
  jcons (jL jC_232 dX24_slack_30 rfl) <|
  jcons (jL jC_232 dX24_slack_33 rfl) <|
  jcons (jL jC_232 dX24_slack_34 rfl) <|
  jcons (jL jC_232 dX24_slack_35 rfl) <|
  jcons (jL jC_232 dX24_slack_36 rfl) <|
  jcons (jL jC_232 dX24_slack_39 rfl) <|
  jcons (jL jC_232 dX24_slack_42 rfl) <|
  jcons (jL jC_232 dX24_slack_43 rfl) <|
  jnil
theorem jm_232 : ∀ l ∈ tbX24_slack, ∀ q ∈ l, sJ jnw jao 232 q.1 q.2.1 q.2.2 := jmc jt_232_0 <| jmn
theorem jt_233_0 : ∀ q ∈ tcX24_holds_0, sJ jnw jao 233 q.1 q.2.1 q.2.2 :=
  jcons (jL jC_233 dX24_holds_0 rfl) <|
  jcons (jG jC_233 jY_233 dX24_holds_1 fk_24_5_X24 (Or.inl q843)) <|
  jcons (jL jC_233 dX24_holds_4 rfl) <|
  jcons (jG jC_233 jY_233 dX24_holds_5 fk_24_1_X24 (Or.inl q831)) <|
  jcons (jL jC_233 dX24_holds_8 rfl) <|
  jcons (jL jC_233 dX24_holds_9 rfl) <|
  jcons (jL jC_233 dX24_holds_10 rfl) <|
  jcons (jL jC_233 dX24_holds_11 rfl) <|
  jcons (jL jC_233 dX24_holds_12 rfl) <|
  jcons (jL jC_233 dX24_holds_15 rfl) <|
  jcons (jL jC_233 dX24_holds_16 rfl) <|
  jcons (jL jC_233 dX24_holds_19 rfl) <|
  jcons (jL jC_233 dX24_holds_20 rfl) <|
  jnil
theorem jm_233 : ∀ l ∈ tbX24_holds, ∀ q ∈ l, sJ jnw jao 233 q.1 q.2.1 q.2.2 := jmc jt_233_0 <| jmn
theorem jt_234_0 : ∀ q ∈ tcX24_odd_0, sJ jnw jao 234 q.1 q.2.1 q.2.2 :=
  jcons (jL jC_234 dX24_odd_0 rfl) <|
  jcons (jL jC_234 dX24_odd_1 rfl) <|
  jcons (jL jC_234 dX24_odd_2 rfl) <|
  jcons (jL jC_234 dX24_odd_3 rfl) <|
  jcons (jL jC_234 dX24_odd_4 rfl) <|
  jcons (jL jC_234 dX24_odd_5 rfl) <|
  jcons (jG jC_234 jY_234 dX24_odd_6 fk_24_8_X24 (Or.inl q851)) <|
  jcons (jL jC_234 dX24_odd_9 rfl) <|
  jcons (jL jC_234 dX24_odd_12 rfl) <|
  jcons (jL jC_234 dX24_odd_13 rfl) <|
  jcons (jG jC_234 jY_234 dX24_odd_14 fk_24_5_X24 (Or.inl q843)) <|
  jcons (jL jC_234 dX24_odd_17 rfl) <|
  jcons (jL jC_234 dX24_odd_18 rfl) <|
  jcons (jL jC_234 dX24_odd_19 rfl) <|
  jcons (jL jC_234 dX24_odd_20 rfl) <|
  jcons (jL jC_234 dX24_odd_21 rfl) <|
  jcons (jL jC_234 dX24_odd_22 rfl) <|
  jcons (jL jC_234 dX24_odd_23 rfl) <|
  jcons (jL jC_234 dX24_odd_26 rfl) <|
  jcons (jL jC_234 dX24_odd_29 rfl) <|
  jcons (jL jC_234 dX24_odd_30 rfl) <|
  jnil
theorem jm_234 : ∀ l ∈ tbX24_odd, ∀ q ∈ l, sJ jnw jao 234 q.1 q.2.1 q.2.2 := jmc jt_234_0 <| jmn
theorem jt_235_0 : ∀ q ∈ tcX24_needs_0, sJ jnw jao 235 q.1 q.2.1 q.2.2 :=
  jcons (jL jC_235 dX24_needs_0 rfl) <|
  jcons (jL jC_235 dX24_needs_1 rfl) <|
  jcons (jL jC_235 dX24_needs_3 rfl) <|
  jcons (jL jC_235 dX24_needs_4 rfl) <|
  jcons (jL jC_235 dX24_needs_6 rfl) <|
  jcons (jL jC_235 dX24_needs_7 rfl) <|
  jcons (jL jC_235 dX24_needs_9 rfl) <|
  jcons (jL jC_235 dX24_needs_11 rfl) <|
  jcons (jL jC_235 dX24_needs_12 rfl) <|
  jcons (jL jC_235 dX24_needs_15 rfl) <|
  jcons (jG jC_235 jY_235 dX24_needs_16 fk_24_3_X24 (Or.inl q837)) <|
  jcons (jL jC_235 dX24_needs_19 rfl) <|
  jcons (jL jC_235 dX24_needs_21 rfl) <|
  jcons (jL jC_235 dX24_needs_22 rfl) <|
  jcons (jL jC_235 dX24_needs_23 rfl) <|
  jcons (jL jC_235 dX24_needs_26 rfl) <|
  jcons (jL jC_235 dX24_needs_29 rfl) <|
  jcons (jL jC_235 dX24_needs_32 rfl) <|
  jcons (jL jC_235 dX24_needs_34 rfl) <|
  jcons (jG jC_235 jY_235 dX24_needs_35 fk_24_2_X24 (Or.inl q834)) <|
  jcons (jL jC_235 dX24_needs_38 rfl) <|
  jcons (jL jC_235 dX24_needs_40 rfl) <|
  jcons (jL jC_235 dX24_needs_41 rfl) <|
  jcons (jL jC_235 dX24_needs_42 rfl) <|
  jcons (jL jC_235 dX24_needs_44 rfl) <|
  jcons (jL jC_235 dX24_needs_47 rfl) <|
  jcons (jL jC_235 dX24_needs_50 rfl) <|
  jcons (jL jC_235 dX24_needs_52 rfl) <|
  jcons (jL jC_235 dX24_needs_53 rfl) <|
  jcons (j4V jC_235 jY_235 dX24_needs_55 (jc_169 _) q929 pd_169 (Or.inl q928) (fun c r h1 h2 => js_104 c r h1 h2)) <|
  jcons (jL jC_235 dX24_needs_58 rfl) <|
  jcons (jL jC_235 dX24_needs_59 rfl) <|
  jnil
theorem jm_235 : ∀ l ∈ tbX24_needs, ∀ q ∈ l, sJ jnw jao 235 q.1 q.2.1 q.2.2 := jmc jt_235_0 <| jmn
theorem jt_236_0 : ∀ q ∈ tcX24_lost_0, sJ jnw jao 236 q.1 q.2.1 q.2.2 :=
  jcons (jL jC_236 dX24_lost_0 rfl) <|
  jcons (jL jC_236 dX24_lost_1 rfl) <|
  jcons (jL jC_236 dX24_lost_2 rfl) <|
  jcons (jL jC_236 dX24_lost_3 rfl) <|
  jcons (j4V jC_236 jY_236 dX24_lost_4 (jc_237 _) q968 pd_237 (Or.inl q967) (fun c r h1 h2 => js_117 c r h1 h2)) <|
  jcons (jL jC_236 dX24_lost_7 rfl) <|
  jnil
theorem jm_236 : ∀ l ∈ tbX24_lost, ∀ q ∈ l, sJ jnw jao 236 q.1 q.2.1 q.2.2 := jmc jt_236_0 <| jmn
theorem jt_237_0 : ∀ q ∈ tcX24_lostWith_0, sJ jnw jao 237 q.1 q.2.1 q.2.2 :=
  jcons (jL jC_237 dX24_lostWith_0 rfl) <|
  jcons (jL jC_237 dX24_lostWith_1 rfl) <|
  jcons (jL jC_237 dX24_lostWith_2 rfl) <|
  jcons (jL jC_237 dX24_lostWith_3 rfl) <|
  jcons (jL jC_237 dX24_lostWith_4 rfl) <|
  jcons (jL jC_237 dX24_lostWith_5 rfl) <|
  jcons (jL jC_237 dX24_lostWith_6 rfl) <|
  jcons (jL jC_237 dX24_lostWith_7 rfl) <|
  jcons (jL jC_237 dX24_lostWith_8 rfl) <|
  jcons (jL jC_237 dX24_lostWith_11 rfl) <|
  jcons (jL jC_237 dX24_lostWith_12 rfl) <|
  jcons (jL jC_237 dX24_lostWith_13 rfl) <|
  jcons (jL jC_237 dX24_lostWith_14 rfl) <|
  jcons (jL jC_237 dX24_lostWith_16 rfl) <|
  jcons (jL jC_237 dX24_lostWith_18 rfl) <|
  jcons (jG jC_237 jY_237 dX24_lostWith_19 fk_24_6_X24 (Or.inl q845)) <|
  jcons (jL jC_237 dX24_lostWith_22 rfl) <|
  jcons (jL jC_237 dX24_lostWith_25 rfl) <|
  jcons (jL jC_237 dX24_lostWith_26 rfl) <|
  jcons (j4V jC_237 jY_237 dX24_lostWith_28 (jc_231 _) q893 pd_231 (Or.inl q892) (fun c r h1 h2 => js_84 c r h1 h2)) <|
  jcons (jL jC_237 dX24_lostWith_31 rfl) <|
  jcons (jL jC_237 dX24_lostWith_34 rfl) <|
  jcons (jL jC_237 dX24_lostWith_35 rfl) <|
  jcons (jL jC_237 dX24_lostWith_37 rfl) <|
  jcons (jL jC_237 dX24_lostWith_38 rfl) <|
  jcons (jL jC_237 dX24_lostWith_39 rfl) <|
  jcons (jL jC_237 dX24_lostWith_40 rfl) <|
  jcons (jL jC_237 dX24_lostWith_41 rfl) <|
  jcons (jL jC_237 dX24_lostWith_43 rfl) <|
  jcons (jL jC_237 dX24_lostWith_44 rfl) <|
  jcons (jL jC_237 dX24_lostWith_45 rfl) <|
  jcons (jL jC_237 dX24_lostWith_46 rfl) <|
  jcons (jL jC_237 dX24_lostWith_47 rfl) <|
  jcons (jL jC_237 dX24_lostWith_48 rfl) <|
  jcons (jL jC_237 dX24_lostWith_51 rfl) <|
  jcons (jL jC_237 dX24_lostWith_52 rfl) <|
  jcons (jL jC_237 dX24_lostWith_53 rfl) <|
  jcons (jG jC_237 jY_237 dX24_lostWith_54 fk_24_1_X24 (Or.inl q831)) <|
  jcons (jL jC_237 dX24_lostWith_57 rfl) <|
  jcons (jL jC_237 dX24_lostWith_59 rfl) <|
  jcons (j4V jC_237 jY_237 dX24_lostWith_60 (jc_238 _) q973 pd_238 (Or.inl q971) (fun c r h1 h2 => js_115 c r h1 h2)) <|
  jcons (jL jC_237 dX24_lostWith_63 rfl) <|
  jnil
theorem jt_237_1 : ∀ q ∈ tcX24_lostWith_1, sJ jnw jao 237 q.1 q.2.1 q.2.2 :=
  jcons (jL jC_237 dX24_lostWith_64 rfl) <|
  jcons (jL jC_237 dX24_lostWith_67 rfl) <|
  jcons (jL jC_237 dX24_lostWith_70 rfl) <|
  jcons (jL jC_237 dX24_lostWith_71 rfl) <|
  jcons (jL jC_237 dX24_lostWith_72 rfl) <|
  jcons (jL jC_237 dX24_lostWith_74 rfl) <|
  jcons (jL jC_237 dX24_lostWith_75 rfl) <|
  jcons (jL jC_237 dX24_lostWith_76 rfl) <|
  jcons (jL jC_237 dX24_lostWith_77 rfl) <|
  jcons (jL jC_237 dX24_lostWith_80 rfl) <|
  jcons (jL jC_237 dX24_lostWith_83 rfl) <|
  jcons (jL jC_237 dX24_lostWith_86 rfl) <|
  jcons (jL jC_237 dX24_lostWith_87 rfl) <|
  jnil
theorem jm_237 : ∀ l ∈ tbX24_lostWith, ∀ q ∈ l, sJ jnw jao 237 q.1 q.2.1 q.2.2 := jmc jt_237_0 <| jmc jt_237_1 <| jmn
theorem jt_238_0 : ∀ q ∈ tcX24_left_0, sJ jnw jao 238 q.1 q.2.1 q.2.2 :=
  jcons (jL jC_238 dX24_left_0 rfl) <|
  jcons (jL jC_238 dX24_left_1 rfl) <|
  jcons (jL jC_238 dX24_left_2 rfl) <|
  jcons (jL jC_238 dX24_left_3 rfl) <|
  jcons (jL jC_238 dX24_left_5 rfl) <|
  jcons (jL jC_238 dX24_left_7 rfl) <|
  jcons (jG jC_238 jY_238 dX24_left_8 fk_24_6_X24 (Or.inl q845)) <|
  jcons (jL jC_238 dX24_left_11 rfl) <|
  jcons (jL jC_238 dX24_left_14 rfl) <|
  jcons (jL jC_238 dX24_left_15 rfl) <|
  jcons (jL jC_238 dX24_left_17 rfl) <|
  jcons (jL jC_238 dX24_left_18 rfl) <|
  jcons (jL jC_238 dX24_left_19 rfl) <|
  jcons (jL jC_238 dX24_left_20 rfl) <|
  jcons (jL jC_238 dX24_left_23 rfl) <|
  jcons (jL jC_238 dX24_left_24 rfl) <|
  jcons (jG jC_238 jY_238 dX24_left_25 fk_24_0_X24 (Or.inl q828)) <|
  jcons (jL jC_238 dX24_left_28 rfl) <|
  jcons (jL jC_238 dX24_left_30 rfl) <|
  jcons (jL jC_238 dX24_left_31 rfl) <|
  jcons (jL jC_238 dX24_left_32 rfl) <|
  jcons (jL jC_238 dX24_left_35 rfl) <|
  jcons (jL jC_238 dX24_left_36 rfl) <|
  jcons (jL jC_238 dX24_left_39 rfl) <|
  jcons (jL jC_238 dX24_left_40 rfl) <|
  jcons (jG jC_238 jY_238 dX24_left_41 fk_24_1_X24 (Or.inl q831)) <|
  jcons (jL jC_238 dX24_left_44 rfl) <|
  jcons (jL jC_238 dX24_left_46 rfl) <|
  jcons (jL jC_238 dX24_left_47 rfl) <|
  jcons (jL jC_238 dX24_left_48 rfl) <|
  jcons (jL jC_238 dX24_left_51 rfl) <|
  jcons (jL jC_238 dX24_left_52 rfl) <|
  jcons (jL jC_238 dX24_left_55 rfl) <|
  jcons (jL jC_238 dX24_left_56 rfl) <|
  jcons (jL jC_238 dX24_left_57 rfl) <|
  jcons (jL jC_238 dX24_left_58 rfl) <|
  jcons (jL jC_238 dX24_left_59 rfl) <|
  jcons (jL jC_238 dX24_left_62 rfl) <|
  jnil
theorem jt_238_1 : ∀ q ∈ tcX24_left_1, sJ jnw jao 238 q.1 q.2.1 q.2.2 :=
  jcons (jL jC_238 dX24_left_65 rfl) <|
  jcons (jL jC_238 dX24_left_66 rfl) <|
  jnil
theorem jm_238 : ∀ l ∈ tbX24_left, ∀ q ∈ l, sJ jnw jao 238 q.1 q.2.1 q.2.2 := jmc jt_238_0 <| jmc jt_238_1 <| jmn
theorem jt_239_0 : ∀ q ∈ tcX24_every_0, sJ jnw jao 239 q.1 q.2.1 q.2.2 :=
  jcons (jL jC_239 dX24_every_0 rfl) <|
  jcons (jL jC_239 dX24_every_1 rfl) <|
  jcons (jG jC_239 jY_239 dX24_every_2 fk_24_6_X24 (Or.inl q845)) <|
  jcons (jL jC_239 dX24_every_5 rfl) <|
  jcons (jL jC_239 dX24_every_6 rfl) <|
  jcons (jL jC_239 dX24_every_7 rfl) <|
  jcons (jL jC_239 dX24_every_8 rfl) <|
  jnil
theorem jm_239 : ∀ l ∈ tbX24_every, ∀ q ∈ l, sJ jnw jao 239 q.1 q.2.1 q.2.2 := jmc jt_239_0 <| jmn
theorem jt_240_0 : ∀ q ∈ tcX24_parts_0, sJ jnw jao 240 q.1 q.2.1 q.2.2 :=
  jcons (jL jC_240 dX24_parts_0 rfl) <|
  jcons (jL jC_240 dX24_parts_1 rfl) <|
  jcons (jL jC_240 dX24_parts_2 rfl) <|
  jcons (jL jC_240 dX24_parts_3 rfl) <|
  jcons (jL jC_240 dX24_parts_4 rfl) <|
  jcons (jL jC_240 dX24_parts_5 rfl) <|
  jcons (jL jC_240 dX24_parts_8 rfl) <|
  jcons (jL jC_240 dX24_parts_9 rfl) <|
  jcons (jL jC_240 dX24_parts_10 rfl) <|
  jcons (jL jC_240 dX24_parts_11 rfl) <|
  jcons (j4S jC_240 jY_240 dX24_parts_12 (jc_255 _) q990 pd_255 (Or.inl q989)) <|
  jcons (j4V jC_240 jY_240 dX24_parts_15 (jc_241 _) q995 pd_241 (Or.inl q993) (fun c r h1 h2 => js_211 c r h1 h2)) <|
  jcons (jL jC_240 dX24_parts_18 rfl) <|
  jcons (jL jC_240 dX24_parts_19 rfl) <|
  jcons (jL jC_240 dX24_parts_20 rfl) <|
  jcons (jL jC_240 dX24_parts_21 rfl) <|
  jcons (jL jC_240 dX24_parts_22 rfl) <|
  jcons (jL jC_240 dX24_parts_25 rfl) <|
  jcons (jL jC_240 dX24_parts_28 rfl) <|
  jcons (jL jC_240 dX24_parts_29 rfl) <|
  jnil
theorem jm_240 : ∀ l ∈ tbX24_parts, ∀ q ∈ l, sJ jnw jao 240 q.1 q.2.1 q.2.2 := jmc jt_240_0 <| jmn
theorem jt_241_0 : ∀ q ∈ tcX24_hang_0, sJ jnw jao 241 q.1 q.2.1 q.2.2 :=
  jcons (jL jC_241 dX24_hang_0 rfl) <|
  jcons (jL jC_241 dX24_hang_1 rfl) <|
  jcons (jL jC_241 dX24_hang_2 rfl) <|
  jcons (jL jC_241 dX24_hang_3 rfl) <|
  jcons (jL jC_241 dX24_hang_4 rfl) <|
  jcons (jL jC_241 dX24_hang_5 rfl) <|
  jcons (jL jC_241 dX24_hang_7 rfl) <|
  jcons (jL jC_241 dX24_hang_9 rfl) <|
  jcons (jL jC_241 dX24_hang_10 rfl) <|
  jcons (jL jC_241 dX24_hang_13 rfl) <|
  jcons (jL jC_241 dX24_hang_14 rfl) <|
  jcons (jL jC_241 dX24_hang_16 rfl) <|
  jcons (jL jC_241 dX24_hang_17 rfl) <|
  jcons (jL jC_241 dX24_hang_19 rfl) <|
  jcons (jL jC_241 dX24_hang_21 rfl) <|
  jcons (jG jC_241 jY_241 dX24_hang_22 fk_24_6_X24 (Or.inl q845)) <|
  jcons (jL jC_241 dX24_hang_25 rfl) <|
  jcons (jL jC_241 dX24_hang_28 rfl) <|
  jcons (jL jC_241 dX24_hang_29 rfl) <|
  jcons (jL jC_241 dX24_hang_31 rfl) <|
  jcons (jL jC_241 dX24_hang_32 rfl) <|
  jcons (jL jC_241 dX24_hang_33 rfl) <|
  jcons (jL jC_241 dX24_hang_34 rfl) <|
  jcons (jL jC_241 dX24_hang_37 rfl) <|
  jcons (jL jC_241 dX24_hang_38 rfl) <|
  jcons (jL jC_241 dX24_hang_40 rfl) <|
  jcons (jL jC_241 dX24_hang_41 rfl) <|
  jcons (jL jC_241 dX24_hang_42 rfl) <|
  jcons (jL jC_241 dX24_hang_43 rfl) <|
  jcons (jL jC_241 dX24_hang_44 rfl) <|
  jcons (jL jC_241 dX24_hang_47 rfl) <|
  jcons (jL jC_241 dX24_hang_50 rfl) <|
  jcons (jL jC_241 dX24_hang_51 rfl) <|
  jcons (jL jC_241 dX24_hang_53 rfl) <|
  jcons (jL jC_241 dX24_hang_55 rfl) <|
  jcons (jG jC_241 jY_241 dX24_hang_56 fk_24_6_X24 (Or.inl q845)) <|
  jcons (jL jC_241 dX24_hang_59 rfl) <|
  jcons (jL jC_241 dX24_hang_62 rfl) <|
  jcons (jL jC_241 dX24_hang_63 rfl) <|
  jnil
theorem jt_241_1 : ∀ q ∈ tcX24_hang_1, sJ jnw jao 241 q.1 q.2.1 q.2.2 :=
  jcons (jL jC_241 dX24_hang_65 rfl) <|
  jcons (jL jC_241 dX24_hang_66 rfl) <|
  jcons (jL jC_241 dX24_hang_67 rfl) <|
  jcons (jL jC_241 dX24_hang_68 rfl) <|
  jcons (jL jC_241 dX24_hang_69 rfl) <|
  jcons (jL jC_241 dX24_hang_72 rfl) <|
  jcons (jL jC_241 dX24_hang_73 rfl) <|
  jcons (jL jC_241 dX24_hang_75 rfl) <|
  jcons (j4V jC_241 jY_241 dX24_hang_77 (jc_242 _) q999 pd_242 (Or.inl q997) (fun c r h1 h2 => js_212 c r h1 h2)) <|
  jcons (jL jC_241 dX24_hang_80 rfl) <|
  jcons (jL jC_241 dX24_hang_83 rfl) <|
  jcons (jL jC_241 dX24_hang_84 rfl) <|
  jcons (jL jC_241 dX24_hang_85 rfl) <|
  jcons (jL jC_241 dX24_hang_87 rfl) <|
  jcons (jL jC_241 dX24_hang_88 rfl) <|
  jcons (jL jC_241 dX24_hang_89 rfl) <|
  jcons (jL jC_241 dX24_hang_90 rfl) <|
  jcons (jL jC_241 dX24_hang_93 rfl) <|
  jcons (jL jC_241 dX24_hang_96 rfl) <|
  jcons (jL jC_241 dX24_hang_99 rfl) <|
  jcons (jL jC_241 dX24_hang_102 rfl) <|
  jcons (jL jC_241 dX24_hang_105 rfl) <|
  jcons (jL jC_241 dX24_hang_106 rfl) <|
  jnil
theorem jm_241 : ∀ l ∈ tbX24_hang, ∀ q ∈ l, sJ jnw jao 241 q.1 q.2.1 q.2.2 := jmc jt_241_0 <| jmc jt_241_1 <| jmn
theorem jt_242_0 : ∀ q ∈ tcX24_meets_0, sJ jnw jao 242 q.1 q.2.1 q.2.2 :=
  jcons (jL jC_242 dX24_meets_0 rfl) <|
  jcons (jG jC_242 jY_242 dX24_meets_1 fk_24_0_X24 (Or.inl q828)) <|
  jcons (jL jC_242 dX24_meets_4 rfl) <|
  jcons (jL jC_242 dX24_meets_5 rfl) <|
  jcons (jL jC_242 dX24_meets_6 rfl) <|
  jcons (jG jC_242 jY_242 dX24_meets_7 fk_24_0_X24 (Or.inl q828)) <|
  jcons (jL jC_242 dX24_meets_10 rfl) <|
  jcons (jL jC_242 dX24_meets_11 rfl) <|
  jcons (jL jC_242 dX24_meets_12 rfl) <|
  jcons (jL jC_242 dX24_meets_15 rfl) <|
  jcons (jG jC_242 jY_242 dX24_meets_16 fk_24_0_X24 (Or.inl q828)) <|
  jcons (jL jC_242 dX24_meets_19 rfl) <|
  jcons (jL jC_242 dX24_meets_20 rfl) <|
  jcons (jL jC_242 dX24_meets_21 rfl) <|
  jcons (jG jC_242 jY_242 dX24_meets_22 fk_24_1_X24 (Or.inl q831)) <|
  jcons (jL jC_242 dX24_meets_25 rfl) <|
  jcons (jL jC_242 dX24_meets_26 rfl) <|
  jcons (jL jC_242 dX24_meets_27 rfl) <|
  jcons (jL jC_242 dX24_meets_30 rfl) <|
  jcons (jG jC_242 jY_242 dX24_meets_31 fk_24_1_X24 (Or.inl q831)) <|
  jcons (jL jC_242 dX24_meets_34 rfl) <|
  jcons (jL jC_242 dX24_meets_35 rfl) <|
  jcons (jL jC_242 dX24_meets_36 rfl) <|
  jcons (jG jC_242 jY_242 dX24_meets_37 fk_24_0_X24 (Or.inl q828)) <|
  jcons (jL jC_242 dX24_meets_40 rfl) <|
  jcons (jL jC_242 dX24_meets_41 rfl) <|
  jcons (jL jC_242 dX24_meets_42 rfl) <|
  jcons (jL jC_242 dX24_meets_45 rfl) <|
  jcons (jG jC_242 jY_242 dX24_meets_46 fk_24_1_X24 (Or.inl q831)) <|
  jcons (jL jC_242 dX24_meets_49 rfl) <|
  jcons (jL jC_242 dX24_meets_50 rfl) <|
  jcons (jL jC_242 dX24_meets_51 rfl) <|
  jcons (jG jC_242 jY_242 dX24_meets_52 fk_24_1_X24 (Or.inl q831)) <|
  jcons (jL jC_242 dX24_meets_55 rfl) <|
  jcons (jL jC_242 dX24_meets_56 rfl) <|
  jcons (jL jC_242 dX24_meets_57 rfl) <|
  jcons (jL jC_242 dX24_meets_60 rfl) <|
  jcons (jL jC_242 dX24_meets_61 rfl) <|
  jnil
theorem jt_242_1 : ∀ q ∈ tcX24_meets_1, sJ jnw jao 242 q.1 q.2.1 q.2.2 :=
  jcons (jL jC_242 dX24_meets_64 rfl) <|
  jcons (jL jC_242 dX24_meets_65 rfl) <|
  jnil
theorem jm_242 : ∀ l ∈ tbX24_meets, ∀ q ∈ l, sJ jnw jao 242 q.1 q.2.1 q.2.2 := jmc jt_242_0 <| jmc jt_242_1 <| jmn
theorem jt_243_0 : ∀ q ∈ tcX24_between_0, sJ jnw jao 243 q.1 q.2.1 q.2.2 :=
  jcons (jL jC_243 dX24_between_0 rfl) <|
  jcons (jL jC_243 dX24_between_1 rfl) <|
  jcons (jL jC_243 dX24_between_3 rfl) <|
  jcons (jL jC_243 dX24_between_4 rfl) <|
  jcons (jL jC_243 dX24_between_6 rfl) <|
  jcons (jL jC_243 dX24_between_8 rfl) <|
  jcons (jG jC_243 jY_243 dX24_between_9 fk_24_6_X24 (Or.inl q845)) <|
  jcons (jL jC_243 dX24_between_12 rfl) <|
  jcons (jL jC_243 dX24_between_15 rfl) <|
  jcons (jL jC_243 dX24_between_17 rfl) <|
  jcons (jG jC_243 jY_243 dX24_between_18 fk_24_2_X24 (Or.inl q834)) <|
  jcons (jL jC_243 dX24_between_21 rfl) <|
  jcons (jL jC_243 dX24_between_23 rfl) <|
  jcons (jL jC_243 dX24_between_24 rfl) <|
  jcons (jL jC_243 dX24_between_25 rfl) <|
  jcons (jL jC_243 dX24_between_28 rfl) <|
  jcons (jG jC_243 jY_243 dX24_between_29 fk_24_0_X24 (Or.inl q828)) <|
  jcons (jL jC_243 dX24_between_32 rfl) <|
  jcons (jL jC_243 dX24_between_34 rfl) <|
  jcons (jL jC_243 dX24_between_35 rfl) <|
  jcons (jL jC_243 dX24_between_36 rfl) <|
  jcons (jL jC_243 dX24_between_39 rfl) <|
  jcons (jG jC_243 jY_243 dX24_between_40 fk_24_1_X24 (Or.inl q831)) <|
  jcons (jL jC_243 dX24_between_43 rfl) <|
  jcons (jL jC_243 dX24_between_45 rfl) <|
  jcons (jL jC_243 dX24_between_46 rfl) <|
  jcons (jL jC_243 dX24_between_47 rfl) <|
  jcons (jL jC_243 dX24_between_50 rfl) <|
  jcons (jG jC_243 jY_243 dX24_between_51 fk_24_0_X24 (Or.inl q828)) <|
  jcons (jL jC_243 dX24_between_54 rfl) <|
  jcons (jL jC_243 dX24_between_56 rfl) <|
  jcons (jL jC_243 dX24_between_57 rfl) <|
  jcons (jL jC_243 dX24_between_58 rfl) <|
  jcons (jL jC_243 dX24_between_61 rfl) <|
  jcons (jG jC_243 jY_243 dX24_between_62 fk_24_1_X24 (Or.inl q831)) <|
  jnil
theorem jt_243_1 : ∀ q ∈ tcX24_between_1, sJ jnw jao 243 q.1 q.2.1 q.2.2 :=
  jcons (jL jC_243 dX24_between_65 rfl) <|
  jcons (jL jC_243 dX24_between_67 rfl) <|
  jcons (jL jC_243 dX24_between_68 rfl) <|
  jcons (jL jC_243 dX24_between_69 rfl) <|
  jcons (jL jC_243 dX24_between_72 rfl) <|
  jcons (jL jC_243 dX24_between_73 rfl) <|
  jcons (jL jC_243 dX24_between_76 rfl) <|
  jcons (jL jC_243 dX24_between_77 rfl) <|
  jcons (jL jC_243 dX24_between_78 rfl) <|
  jcons (jL jC_243 dX24_between_80 rfl) <|
  jcons (jL jC_243 dX24_between_83 rfl) <|
  jcons (jL jC_243 dX24_between_86 rfl) <|
  jcons (jL jC_243 dX24_between_88 rfl) <|
  jnil
theorem jm_243 : ∀ l ∈ tbX24_between, ∀ q ∈ l, sJ jnw jao 243 q.1 q.2.1 q.2.2 := jmc jt_243_0 <| jmc jt_243_1 <| jmn
theorem jt_244_0 : ∀ q ∈ tcX24_strokes_0, sJ jnw jao 244 q.1 q.2.1 q.2.2 :=
  jcons (jL jC_244 dX24_strokes_0 rfl) <|
  jcons (jL jC_244 dX24_strokes_1 rfl) <|
  jcons (jL jC_244 dX24_strokes_2 rfl) <|
  jcons (j4V jC_244 jY_244 dX24_strokes_3 (jc_239 _) q982 pd_239 (Or.inl q1065) (fun c r h1 h2 => js_89 c r h1 h2)) <|
  jcons (jL jC_244 dX24_strokes_6 rfl) <|
  jcons (jL jC_244 dX24_strokes_7 rfl) <|
  jcons (jL jC_244 dX24_strokes_8 rfl) <|
  jcons (jL jC_244 dX24_strokes_11 rfl) <|
  jcons (jL jC_244 dX24_strokes_12 rfl) <|
  jcons (jL jC_244 dX24_strokes_13 rfl) <|
  jcons (j4S jC_244 jY_244 dX24_strokes_14 (jc_255 _) q990 pd_255 (Or.inl q989)) <|
  jcons (j4V jC_244 jY_244 dX24_strokes_17 (jc_241 _) q995 pd_241 (Or.inl q993) (fun c r h1 h2 => js_211 c r h1 h2)) <|
  jcons (jL jC_244 dX24_strokes_20 rfl) <|
  jcons (jL jC_244 dX24_strokes_21 rfl) <|
  jcons (jL jC_244 dX24_strokes_22 rfl) <|
  jcons (jL jC_244 dX24_strokes_23 rfl) <|
  jcons (jL jC_244 dX24_strokes_24 rfl) <|
  jcons (j4V jC_244 jY_244 dX24_strokes_25 (jc_245 _) q1067 pd_245 (Or.inl q1066) (fun c r h1 h2 => js_213 c r h1 h2)) <|
  jcons (jL jC_244 dX24_strokes_28 rfl) <|
  jcons (jL jC_244 dX24_strokes_29 rfl) <|
  jcons (j14 jC_244 jY_244 dX24_strokes_30 q1071) <|
  jcons (jL jC_244 dX24_strokes_33 rfl) <|
  jcons (jL jC_244 dX24_strokes_34 rfl) <|
  jcons (jL jC_244 dX24_strokes_35 rfl) <|
  jcons (jL jC_244 dX24_strokes_36 rfl) <|
  jcons (jL jC_244 dX24_strokes_37 rfl) <|
  jcons (jL jC_244 dX24_strokes_38 rfl) <|
  jcons (jL jC_244 dX24_strokes_39 rfl) <|
  jcons (jL jC_244 dX24_strokes_40 rfl) <|
  jcons (jL jC_244 dX24_strokes_41 rfl) <|
  jcons (jL jC_244 dX24_strokes_44 rfl) <|
  jcons (jL jC_244 dX24_strokes_45 rfl) <|
  jnil
theorem jm_244 : ∀ l ∈ tbX24_strokes, ∀ q ∈ l, sJ jnw jao 244 q.1 q.2.1 q.2.2 := jmc jt_244_0 <| jmn
theorem jt_245_0 : ∀ q ∈ tcX24_oddOf_0, sJ jnw jao 245 q.1 q.2.1 q.2.2 :=
  jcons (jL jC_245 dX24_oddOf_0 rfl) <|
  jcons (jL jC_245 dX24_oddOf_1 rfl) <|
  jcons (jL jC_245 dX24_oddOf_2 rfl) <|
  jcons (jL jC_245 dX24_oddOf_3 rfl) <|
  jcons (jL jC_245 dX24_oddOf_4 rfl) <|
  jcons (jL jC_245 dX24_oddOf_5 rfl) <|
  jcons (jG jC_245 jY_245 dX24_oddOf_6 fk_24_6_X24 (Or.inl q845)) <|
  jcons (jL jC_245 dX24_oddOf_9 rfl) <|
  jcons (jL jC_245 dX24_oddOf_12 rfl) <|
  jcons (jL jC_245 dX24_oddOf_13 rfl) <|
  jcons (jL jC_245 dX24_oddOf_14 rfl) <|
  jcons (jL jC_245 dX24_oddOf_15 rfl) <|
  jcons (jL jC_245 dX24_oddOf_16 rfl) <|
  jcons (jL jC_245 dX24_oddOf_17 rfl) <|
  jcons (jL jC_245 dX24_oddOf_18 rfl) <|
  jcons (jL jC_245 dX24_oddOf_21 rfl) <|
  jcons (jL jC_245 dX24_oddOf_22 rfl) <|
  jcons (jL jC_245 dX24_oddOf_23 rfl) <|
  jcons (jG jC_245 jY_245 dX24_oddOf_24 fk_24_0_X24 (Or.inl q828)) <|
  jcons (jL jC_245 dX24_oddOf_27 rfl) <|
  jcons (jL jC_245 dX24_oddOf_28 rfl) <|
  jcons (jL jC_245 dX24_oddOf_29 rfl) <|
  jcons (jL jC_245 dX24_oddOf_30 rfl) <|
  jcons (jL jC_245 dX24_oddOf_31 rfl) <|
  jcons (jG jC_245 jY_245 dX24_oddOf_32 fk_24_1_X24 (Or.inl q831)) <|
  jcons (jL jC_245 dX24_oddOf_35 rfl) <|
  jcons (jL jC_245 dX24_oddOf_36 rfl) <|
  jcons (jL jC_245 dX24_oddOf_37 rfl) <|
  jcons (jL jC_245 dX24_oddOf_38 rfl) <|
  jcons (jL jC_245 dX24_oddOf_39 rfl) <|
  jcons (jL jC_245 dX24_oddOf_40 rfl) <|
  jcons (jL jC_245 dX24_oddOf_41 rfl) <|
  jcons (jL jC_245 dX24_oddOf_44 rfl) <|
  jcons (jL jC_245 dX24_oddOf_47 rfl) <|
  jcons (j4S jC_245 jY_245 dX24_oddOf_48 (jc_254 _) q976 pd_254 (Or.inl q1070)) <|
  jcons (jL jC_245 dX24_oddOf_51 rfl) <|
  jnil
theorem jm_245 : ∀ l ∈ tbX24_oddOf, ∀ q ∈ l, sJ jnw jao 245 q.1 q.2.1 q.2.2 := jmc jt_245_0 <| jmn
theorem jt_246_0 : ∀ q ∈ tcX24_lengthOf_0, sJ jnw jao 246 q.1 q.2.1 q.2.2 :=
  jcons (jL jC_246 dX24_lengthOf_0 rfl) <|
  jcons (jL jC_246 dX24_lengthOf_1 rfl) <|
  jcons (jL jC_246 dX24_lengthOf_2 rfl) <|
  jcons (jL jC_246 dX24_lengthOf_3 rfl) <|
  jcons (jL jC_246 dX24_lengthOf_4 rfl) <|
  jcons (jL jC_246 dX24_lengthOf_5 rfl) <|
  jcons (jG jC_246 jY_246 dX24_lengthOf_6 fk_24_6_X24 (Or.inl q845)) <|
  jcons (jL jC_246 dX24_lengthOf_9 rfl) <|
  jcons (jL jC_246 dX24_lengthOf_12 rfl) <|
  jcons (jL jC_246 dX24_lengthOf_13 rfl) <|
  jcons (jL jC_246 dX24_lengthOf_14 rfl) <|
  jcons (jL jC_246 dX24_lengthOf_15 rfl) <|
  jcons (jL jC_246 dX24_lengthOf_16 rfl) <|
  jcons (jL jC_246 dX24_lengthOf_17 rfl) <|
  jcons (jL jC_246 dX24_lengthOf_18 rfl) <|
  jcons (jL jC_246 dX24_lengthOf_19 rfl) <|
  jcons (jL jC_246 dX24_lengthOf_22 rfl) <|
  jcons (jG jC_246 jY_246 dX24_lengthOf_23 fk_24_2_X24 (Or.inl q834)) <|
  jcons (jL jC_246 dX24_lengthOf_26 rfl) <|
  jcons (jL jC_246 dX24_lengthOf_27 rfl) <|
  jcons (jL jC_246 dX24_lengthOf_28 rfl) <|
  jcons (jL jC_246 dX24_lengthOf_31 rfl) <|
  jcons (jL jC_246 dX24_lengthOf_32 rfl) <|
  jcons (jL jC_246 dX24_lengthOf_33 rfl) <|
  jcons (jL jC_246 dX24_lengthOf_34 rfl) <|
  jcons (jL jC_246 dX24_lengthOf_37 rfl) <|
  jcons (jL jC_246 dX24_lengthOf_40 rfl) <|
  jcons (jL jC_246 dX24_lengthOf_41 rfl) <|
  jnil
theorem jm_246 : ∀ l ∈ tbX24_lengthOf, ∀ q ∈ l, sJ jnw jao 246 q.1 q.2.1 q.2.2 := jmc jt_246_0 <| jmn
theorem jt_247_0 : ∀ q ∈ tcX24_isWay_0, sJ jnw jao 247 q.1 q.2.1 q.2.2 :=
  jcons (jL jC_247 dX24_isWay_0 rfl) <|
  jcons (jL jC_247 dX24_isWay_1 rfl) <|
  jcons (j4V jC_247 jY_247 dX24_isWay_2 (jc_240 _) q986 pd_240 (Or.inl q1097) (fun c r h1 h2 => js_90 c r h1 h2)) <|
  jcons (jL jC_247 dX24_isWay_5 rfl) <|
  jcons (jL jC_247 dX24_isWay_6 rfl) <|
  jcons (jL jC_247 dX24_isWay_9 rfl) <|
  jcons (jL jC_247 dX24_isWay_10 rfl) <|
  jcons (j4V jC_247 jY_247 dX24_isWay_11 (jc_245 _) q1067 pd_245 (Or.inl q1066) (fun c r h1 h2 => js_213 c r h1 h2)) <|
  jcons (jL jC_247 dX24_isWay_14 rfl) <|
  jcons (jL jC_247 dX24_isWay_15 rfl) <|
  jcons (jL jC_247 dX24_isWay_18 rfl) <|
  jcons (jL jC_247 dX24_isWay_19 rfl) <|
  jcons (jL jC_247 dX24_isWay_22 rfl) <|
  jcons (jL jC_247 dX24_isWay_23 rfl) <|
  jnil
theorem jm_247 : ∀ l ∈ tbX24_isWay, ∀ q ∈ l, sJ jnw jao 247 q.1 q.2.1 q.2.2 := jmc jt_247_0 <| jmn
theorem jt_248_0 : ∀ q ∈ tcX24_bubblesOf_0, sJ jnw jao 248 q.1 q.2.1 q.2.2 :=
  jcons (jL jC_248 dX24_bubblesOf_0 rfl) <|
  jcons (jL jC_248 dX24_bubblesOf_1 rfl) <|
  jcons (jL jC_248 dX24_bubblesOf_2 rfl) <|
  jcons (jL jC_248 dX24_bubblesOf_3 rfl) <|
  jcons (jL jC_248 dX24_bubblesOf_4 rfl) <|
  jcons (jL jC_248 dX24_bubblesOf_5 rfl) <|
  jcons (jG jC_248 jY_248 dX24_bubblesOf_6 fk_24_6_X24 (Or.inl q845)) <|
  jcons (jL jC_248 dX24_bubblesOf_9 rfl) <|
  jcons (jL jC_248 dX24_bubblesOf_12 rfl) <|
  jcons (jL jC_248 dX24_bubblesOf_13 rfl) <|
  jcons (jG jC_248 jY_248 dX24_bubblesOf_14 fk_24_3_X24 (Or.inl q837)) <|
  jcons (jL jC_248 dX24_bubblesOf_17 rfl) <|
  jcons (jL jC_248 dX24_bubblesOf_18 rfl) <|
  jcons (jL jC_248 dX24_bubblesOf_19 rfl) <|
  jcons (jL jC_248 dX24_bubblesOf_20 rfl) <|
  jcons (jL jC_248 dX24_bubblesOf_23 rfl) <|
  jcons (jL jC_248 dX24_bubblesOf_24 rfl) <|
  jcons (jL jC_248 dX24_bubblesOf_27 rfl) <|
  jcons (jL jC_248 dX24_bubblesOf_28 rfl) <|
  jcons (jL jC_248 dX24_bubblesOf_29 rfl) <|
  jcons (jL jC_248 dX24_bubblesOf_30 rfl) <|
  jcons (jL jC_248 dX24_bubblesOf_33 rfl) <|
  jcons (jL jC_248 dX24_bubblesOf_36 rfl) <|
  jcons (jL jC_248 dX24_bubblesOf_37 rfl) <|
  jnil
theorem jm_248 : ∀ l ∈ tbX24_bubblesOf, ∀ q ∈ l, sJ jnw jao 248 q.1 q.2.1 q.2.2 := jmc jt_248_0 <| jmn
theorem jt_249_0 : ∀ q ∈ tcX25_init_0, sJ jnw jao 249 q.1 q.2.1 q.2.2 :=
  jcons (jL jC_249 dX25_init_0 rfl) <|
  jcons (j10 jC_249 jY_249 dX25_init_1 q1133) <|
  jcons (jL jC_249 dX25_init_4 rfl) <|
  jcons (jL jC_249 dX25_init_5 rfl) <|
  jcons (jPf jC_249 jY_249 dX25_init_6 fk_25_0_X25 ap_25_0 fn_25_0 q1134 rfl (tyX25_ok 0 (by decide)) (Or.inr (Or.inr (Or.inr ⟨rfl, jRf rfl⟩)))) <|
  jcons (jL jC_249 dX25_init_9 rfl) <|
  jcons (jL jC_249 dX25_init_10 rfl) <|
  jcons (jPf jC_249 jY_249 dX25_init_11 fk_25_1_X25 ap_25_1 fn_25_1 q1136 rfl (tyX25_ok 1 (by decide)) (Or.inl ⟨rfl, rfl⟩)) <|
  jcons (jL jC_249 dX25_init_14 rfl) <|
  jcons (jL jC_249 dX25_init_15 rfl) <|
  jcons (jPf jC_249 jY_249 dX25_init_16 fk_25_2_X25 ap_25_2 fn_25_2 q1138 rfl (tyX25_ok 2 (by decide)) (Or.inl ⟨rfl, rfl⟩)) <|
  jcons (jL jC_249 dX25_init_19 rfl) <|
  jnil
theorem jm_249 : ∀ l ∈ tbX25_init, ∀ q ∈ l, sJ jnw jao 249 q.1 q.2.1 q.2.2 := jmc jt_249_0 <| jmn
theorem jm_250 : ∀ l ∈ tbJ3_max, ∀ q ∈ l, sJ jnw jao 250 q.1 q.2.1 q.2.2 := jmn
theorem jm_251 : ∀ l ∈ tbJ3_min, ∀ q ∈ l, sJ jnw jao 251 q.1 q.2.1 q.2.2 := jmn
theorem jm_252 : ∀ l ∈ tbJ3_min_2, ∀ q ∈ l, sJ jnw jao 252 q.1 q.2.1 q.2.2 := jmn
theorem jm_253 : ∀ l ∈ tbJ3_max_2, ∀ q ∈ l, sJ jnw jao 253 q.1 q.2.1 q.2.2 := jmn
theorem jt_254_0 : ∀ q ∈ tcJ5_bitCount_0, sJ jnw jao 254 q.1 q.2.1 q.2.2 :=
  jcons (jL jC_254 dJ5_bitCount_0 rfl) <|
  jcons (jL jC_254 dJ5_bitCount_1 rfl) <|
  jcons (jL jC_254 dJ5_bitCount_2 rfl) <|
  jcons (jL jC_254 dJ5_bitCount_3 rfl) <|
  jcons (j2 jC_254 jY_254 dJ5_bitCount_4 q978) <|
  jcons (jL jC_254 dJ5_bitCount_7 rfl) <|
  jcons (jL jC_254 dJ5_bitCount_8 rfl) <|
  jcons (jL jC_254 dJ5_bitCount_9 rfl) <|
  jcons (jL jC_254 dJ5_bitCount_10 rfl) <|
  jcons (j2 jC_254 jY_254 dJ5_bitCount_11 q979) <|
  jcons (jL jC_254 dJ5_bitCount_14 rfl) <|
  jcons (jL jC_254 dJ5_bitCount_15 rfl) <|
  jcons (jL jC_254 dJ5_bitCount_16 rfl) <|
  jcons (jL jC_254 dJ5_bitCount_17 rfl) <|
  jcons (j2 jC_254 jY_254 dJ5_bitCount_18 q979) <|
  jcons (jL jC_254 dJ5_bitCount_21 rfl) <|
  jcons (jL jC_254 dJ5_bitCount_22 rfl) <|
  jcons (jL jC_254 dJ5_bitCount_23 rfl) <|
  jcons (jL jC_254 dJ5_bitCount_24 rfl) <|
  jcons (jL jC_254 dJ5_bitCount_25 rfl) <|
  jcons (jL jC_254 dJ5_bitCount_26 rfl) <|
  jcons (jL jC_254 dJ5_bitCount_27 rfl) <|
  jcons (jL jC_254 dJ5_bitCount_28 rfl) <|
  jcons (j2 jC_254 jY_254 dJ5_bitCount_29 q980) <|
  jcons (jL jC_254 dJ5_bitCount_32 rfl) <|
  jcons (jL jC_254 dJ5_bitCount_33 rfl) <|
  jcons (jL jC_254 dJ5_bitCount_34 rfl) <|
  jcons (jL jC_254 dJ5_bitCount_35 rfl) <|
  jcons (jL jC_254 dJ5_bitCount_36 rfl) <|
  jcons (jL jC_254 dJ5_bitCount_38 rfl) <|
  jcons (jL jC_254 dJ5_bitCount_39 rfl) <|
  jcons (jL jC_254 dJ5_bitCount_40 rfl) <|
  jcons (jL jC_254 dJ5_bitCount_41 rfl) <|
  jcons (jL jC_254 dJ5_bitCount_42 rfl) <|
  jcons (jL jC_254 dJ5_bitCount_43 rfl) <|
  jcons (jL jC_254 dJ5_bitCount_45 rfl) <|
  jcons (jL jC_254 dJ5_bitCount_46 rfl) <|
  jcons (jL jC_254 dJ5_bitCount_47 rfl) <|
  jcons (jL jC_254 dJ5_bitCount_48 rfl) <|
  jcons (jL jC_254 dJ5_bitCount_49 rfl) <|
  jcons (jL jC_254 dJ5_bitCount_51 rfl) <|
  jcons (jL jC_254 dJ5_bitCount_52 rfl) <|
  jnil
theorem jm_254 : ∀ l ∈ tbJ5_bitCount, ∀ q ∈ l, sJ jnw jao 254 q.1 q.2.1 q.2.2 := jmc jt_254_0 <| jmn
theorem jt_255_0 : ∀ q ∈ tcJ5_numberOfTrailingZeros_0, sJ jnw jao 255 q.1 q.2.1 q.2.2 :=
  jcons (jL jC_255 dJ5_numberOfTrailingZeros_0 rfl) <|
  jcons (jL jC_255 dJ5_numberOfTrailingZeros_1 rfl) <|
  jcons (jL jC_255 dJ5_numberOfTrailingZeros_2 rfl) <|
  jcons (jL jC_255 dJ5_numberOfTrailingZeros_3 rfl) <|
  jcons (jL jC_255 dJ5_numberOfTrailingZeros_4 rfl) <|
  jcons (jL jC_255 dJ5_numberOfTrailingZeros_5 rfl) <|
  jcons (jL jC_255 dJ5_numberOfTrailingZeros_6 rfl) <|
  jcons (jL jC_255 dJ5_numberOfTrailingZeros_7 rfl) <|
  jcons (jL jC_255 dJ5_numberOfTrailingZeros_8 rfl) <|
  jcons (jL jC_255 dJ5_numberOfTrailingZeros_9 rfl) <|
  jcons (jL jC_255 dJ5_numberOfTrailingZeros_12 rfl) <|
  jcons (jL jC_255 dJ5_numberOfTrailingZeros_13 rfl) <|
  jcons (jL jC_255 dJ5_numberOfTrailingZeros_15 rfl) <|
  jcons (jL jC_255 dJ5_numberOfTrailingZeros_16 rfl) <|
  jcons (jL jC_255 dJ5_numberOfTrailingZeros_17 rfl) <|
  jcons (jL jC_255 dJ5_numberOfTrailingZeros_18 rfl) <|
  jcons (jL jC_255 dJ5_numberOfTrailingZeros_19 rfl) <|
  jcons (j2 jC_255 jY_255 dJ5_numberOfTrailingZeros_20 q992) <|
  jcons (jL jC_255 dJ5_numberOfTrailingZeros_23 rfl) <|
  jcons (jL jC_255 dJ5_numberOfTrailingZeros_26 rfl) <|
  jcons (jL jC_255 dJ5_numberOfTrailingZeros_29 rfl) <|
  jcons (jL jC_255 dJ5_numberOfTrailingZeros_30 rfl) <|
  jcons (jL jC_255 dJ5_numberOfTrailingZeros_32 rfl) <|
  jcons (jL jC_255 dJ5_numberOfTrailingZeros_33 rfl) <|
  jcons (jL jC_255 dJ5_numberOfTrailingZeros_34 rfl) <|
  jcons (jL jC_255 dJ5_numberOfTrailingZeros_35 rfl) <|
  jcons (jL jC_255 dJ5_numberOfTrailingZeros_38 rfl) <|
  jcons (jL jC_255 dJ5_numberOfTrailingZeros_41 rfl) <|
  jcons (jL jC_255 dJ5_numberOfTrailingZeros_44 rfl) <|
  jcons (jL jC_255 dJ5_numberOfTrailingZeros_45 rfl) <|
  jcons (jL jC_255 dJ5_numberOfTrailingZeros_47 rfl) <|
  jcons (jL jC_255 dJ5_numberOfTrailingZeros_48 rfl) <|
  jcons (jL jC_255 dJ5_numberOfTrailingZeros_49 rfl) <|
  jcons (jL jC_255 dJ5_numberOfTrailingZeros_50 rfl) <|
  jcons (jL jC_255 dJ5_numberOfTrailingZeros_52 rfl) <|
  jcons (jL jC_255 dJ5_numberOfTrailingZeros_55 rfl) <|
  jcons (jL jC_255 dJ5_numberOfTrailingZeros_58 rfl) <|
  jcons (jL jC_255 dJ5_numberOfTrailingZeros_59 rfl) <|
  jcons (jL jC_255 dJ5_numberOfTrailingZeros_60 rfl) <|
  jcons (jL jC_255 dJ5_numberOfTrailingZeros_61 rfl) <|
  jcons (jL jC_255 dJ5_numberOfTrailingZeros_62 rfl) <|
  jcons (jL jC_255 dJ5_numberOfTrailingZeros_63 rfl) <|
  jnil
theorem jt_255_1 : ∀ q ∈ tcJ5_numberOfTrailingZeros_1, sJ jnw jao 255 q.1 q.2.1 q.2.2 :=
  jcons (jL jC_255 dJ5_numberOfTrailingZeros_64 rfl) <|
  jcons (jL jC_255 dJ5_numberOfTrailingZeros_67 rfl) <|
  jcons (jL jC_255 dJ5_numberOfTrailingZeros_70 rfl) <|
  jcons (jL jC_255 dJ5_numberOfTrailingZeros_71 rfl) <|
  jcons (jL jC_255 dJ5_numberOfTrailingZeros_72 rfl) <|
  jcons (jL jC_255 dJ5_numberOfTrailingZeros_73 rfl) <|
  jcons (jL jC_255 dJ5_numberOfTrailingZeros_74 rfl) <|
  jcons (jL jC_255 dJ5_numberOfTrailingZeros_75 rfl) <|
  jcons (jL jC_255 dJ5_numberOfTrailingZeros_76 rfl) <|
  jcons (jL jC_255 dJ5_numberOfTrailingZeros_77 rfl) <|
  jcons (jL jC_255 dJ5_numberOfTrailingZeros_78 rfl) <|
  jcons (jL jC_255 dJ5_numberOfTrailingZeros_79 rfl) <|
  jnil
theorem jm_255 : ∀ l ∈ tbJ5_numberOfTrailingZeros, ∀ q ∈ l, sJ jnw jao 255 q.1 q.2.1 q.2.2 := jmc jt_255_0 <| jmc jt_255_1 <| jmn
theorem jt_256_0 : ∀ q ∈ tcX7_init_0, sJ jnw jao 256 q.1 q.2.1 q.2.2 :=
  jcons (jL jC_256 dX7_init_0 rfl) <|
  jcons (jL jC_256 dX7_init_1 rfl) <|
  jcons (jL jC_256 dX7_init_2 rfl) <|
  jcons (jL jC_256 dX7_init_3 rfl) <|
  jcons (jL jC_256 dX7_init_4 rfl) <|
  jcons (j4I jC_256 jY_256 dX7_init_5 (jc_257 _) rfl q398 ⟨_, _, q399⟩ pd_257 (Or.inl q397)) <|
  jcons (jL jC_256 dX7_init_8 rfl) <|
  jcons (jL jC_256 dX7_init_9 rfl) <|
  jcons (jPf jC_256 jY_256 dX7_init_10 fk_7_6_X7 ap_7_6 fn_7_6 q406 rfl (tyX7_ok 6 (by decide)) (Or.inl ⟨rfl, rfl⟩)) <|
  jcons (jL jC_256 dX7_init_13 rfl) <|
  jnil
theorem jm_256 : ∀ l ∈ tbX7_init, ∀ q ∈ l, sJ jnw jao 256 q.1 q.2.1 q.2.2 := jmc jt_256_0 <| jmn
theorem jt_257_0 : ∀ q ∈ tcJ2_init_0, sJ jnw jao 257 q.1 q.2.1 q.2.2 :=
  jcons (jL jC_257 dJ2_init_0 rfl) <|
  jcons (jL jC_257 dJ2_init_1 rfl) <|
  jcons (jL jC_257 dJ2_init_2 rfl) <|
  jcons (jL jC_257 dJ2_init_3 rfl) <|
  jcons (jL jC_257 dJ2_init_4 rfl) <|
  jcons (j4I jC_257 jY_257 dJ2_init_6 (jc_258 _) rfl q401 ⟨_, _, q402⟩ pd_258 (Or.inl q400)) <|
  jcons (jL jC_257 dJ2_init_9 rfl) <|
  jnil
theorem jm_257 : ∀ l ∈ tbJ2_init, ∀ q ∈ l, sJ jnw jao 257 q.1 q.2.1 q.2.2 := jmc jt_257_0 <| jmn
theorem jt_258_0 : ∀ q ∈ tcJ1_init_0, sJ jnw jao 258 q.1 q.2.1 q.2.2 :=
  jcons (jL jC_258 dJ1_init_0 rfl) <|
  jcons (jL jC_258 dJ1_init_1 rfl) <|
  jcons (jL jC_258 dJ1_init_2 rfl) <|
  jcons (jL jC_258 dJ1_init_3 rfl) <|
  jcons (jL jC_258 dJ1_init_4 rfl) <|
  jcons (j12 jC_258 jY_258 dJ1_init_6 q403) <|
  jcons (jL jC_258 dJ1_init_9 rfl) <|
  jnil
theorem jm_258 : ∀ l ∈ tbJ1_init, ∀ q ∈ l, sJ jnw jao 258 q.1 q.2.1 q.2.2 := jmc jt_258_0 <| jmn
theorem jm_259 : ∀ l ∈ tbJ0_init_2, ∀ q ∈ l, sJ jnw jao 259 q.1 q.2.1 q.2.2 := jmn
theorem jm_260 : ∀ l ∈ tbX6_init, ∀ q ∈ l, sJ jnw jao 260 q.1 q.2.1 q.2.2 := jmn
theorem jm_261 : ∀ l ∈ tbX13_init, ∀ q ∈ l, sJ jnw jao 261 q.1 q.2.1 q.2.2 := jmn
theorem jm_262 : ∀ l ∈ tbX5_init, ∀ q ∈ l, sJ jnw jao 262 q.1 q.2.1 q.2.2 := jmn
