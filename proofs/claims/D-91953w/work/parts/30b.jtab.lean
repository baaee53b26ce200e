/-! TABLE FACTS 2 (printed by gentab.py) -/
set_option maxRecDepth 100000
theorem jt_0_0 : ∀ q ∈ tcX0_bubble_0, sJ jnw jao 0 q.1 q.2.1 q.2.2 :=
  jcons (jL jC_0 dX0_bubble_0 rfl) <|
  jcons (jL jC_0 dX0_bubble_2 rfl) <|
  jcons (jL jC_0 dX0_bubble_3 rfl) <|
  jcons (jL jC_0 dX0_bubble_4 rfl) <|
  jcons (jL jC_0 dX0_bubble_5 rfl) <|
  jcons (jL jC_0 dX0_bubble_6 rfl) <|
  jcons (j4V jC_0 jY_0 dX0_bubble_7 (jc_62 _) q1266 pd_62 (Or.inl q1265) (fun c r h1 h2 => js_0 c r h1 h2)) <|
  jcons (jL jC_0 dX0_bubble_10 rfl) <|
  jcons (jL jC_0 dX0_bubble_11 rfl) <|
  jcons (jL jC_0 dX0_bubble_12 rfl) <|
  jcons (jL jC_0 dX0_bubble_15 rfl) <|
  jcons (jL jC_0 dX0_bubble_17 rfl) <|
  jcons (jL jC_0 dX0_bubble_18 rfl) <|
  jcons (jL jC_0 dX0_bubble_19 rfl) <|
  jcons (jL jC_0 dX0_bubble_20 rfl) <|
  jnil
theorem jm_0 : ∀ l ∈ tbX0_bubble, ∀ q ∈ l, sJ jnw jao 0 q.1 q.2.1 q.2.2 := jmc jt_0_0 <| jmn
theorem jt_1_0 : ∀ q ∈ tcX0_guest_0, sJ jnw jao 1 q.1 q.2.1 q.2.2 :=
  jcons (jL jC_1 dX0_guest_0 rfl) <|
  jcons (jL jC_1 dX0_guest_1 rfl) <|
  jcons (jL jC_1 dX0_guest_2 rfl) <|
  jcons (jL jC_1 dX0_guest_3 rfl) <|
  jcons (jL jC_1 dX0_guest_4 rfl) <|
  jcons (j4V jC_1 jY_1 dX0_guest_5 (jc_63 _) q1295 pd_63 (Or.inl q1294) (fun c r h1 h2 => js_1 c r h1 h2)) <|
  jcons (jL jC_1 dX0_guest_8 rfl) <|
  jcons (jL jC_1 dX0_guest_9 rfl) <|
  jcons (jL jC_1 dX0_guest_10 rfl) <|
  jcons (jL jC_1 dX0_guest_13 rfl) <|
  jcons (jL jC_1 dX0_guest_15 rfl) <|
  jcons (jL jC_1 dX0_guest_16 rfl) <|
  jcons (jL jC_1 dX0_guest_17 rfl) <|
  jcons (jL jC_1 dX0_guest_18 rfl) <|
  jnil
theorem jm_1 : ∀ l ∈ tbX0_guest, ∀ q ∈ l, sJ jnw jao 1 q.1 q.2.1 q.2.2 := jmc jt_1_0 <| jmn
theorem jt_2_0 : ∀ q ∈ tcX0_worth_0, sJ jnw jao 2 q.1 q.2.1 q.2.2 :=
  jcons (jL jC_2 dX0_worth_0 rfl) <|
  jcons (jL jC_2 dX0_worth_2 rfl) <|
  jcons (jL jC_2 dX0_worth_3 rfl) <|
  jcons (jL jC_2 dX0_worth_4 rfl) <|
  jcons (jL jC_2 dX0_worth_5 rfl) <|
  jcons (jL jC_2 dX0_worth_6 rfl) <|
  jcons (jL jC_2 dX0_worth_7 rfl) <|
  jcons (jL jC_2 dX0_worth_9 rfl) <|
  jcons (jL jC_2 dX0_worth_11 rfl) <|
  jcons (j4V jC_2 jY_2 dX0_worth_13 (jc_64 _) q1303 pd_64 (Or.inl q1302) (fun c r h1 h2 => js_2 c r h1 h2)) <|
  jcons (jL jC_2 dX0_worth_16 rfl) <|
  jcons (jL jC_2 dX0_worth_17 rfl) <|
  jcons (jL jC_2 dX0_worth_18 rfl) <|
  jcons (jL jC_2 dX0_worth_21 rfl) <|
  jcons (jL jC_2 dX0_worth_23 rfl) <|
  jcons (jL jC_2 dX0_worth_24 rfl) <|
  jcons (jL jC_2 dX0_worth_25 rfl) <|
  jcons (jL jC_2 dX0_worth_26 rfl) <|
  jnil
theorem jm_2 : ∀ l ∈ tbX0_worth, ∀ q ∈ l, sJ jnw jao 2 q.1 q.2.1 q.2.2 := jmc jt_2_0 <| jmn
theorem jt_3_0 : ∀ q ∈ tcL_law_0, sJ jnw jao 3 q.1 q.2.1 q.2.2 :=
  jcons (j6 jC_3 jY_3 dL_law_0 rfl q135 q136 q103) <|
  jcons (jL jC_3 dL_law_3 rfl) <|
  jcons (j4I jC_3 jY_3 dL_law_4 (jc_4 _) rfl q138 ⟨_, _, q139⟩ pd_4 (Or.inl q137)) <|
  jcons (jL jC_3 dL_law_7 rfl) <|
  jcons (j6 jC_3 jY_3 dL_law_8 rfl q1306 q1307 q105) <|
  jcons (jL jC_3 dL_law_11 rfl) <|
  jcons (j4I jC_3 jY_3 dL_law_12 (jc_66 _) rfl q1309 ⟨_, _, q1310⟩ pd_66 (Or.inl q1308)) <|
  jcons (jL jC_3 dL_law_15 rfl) <|
  jcons (jL jC_3 dL_law_16 rfl) <|
  jcons (j7_3 jC_3 dL_law_17) <|
  jcons (jL jC_3 dL_law_19 rfl) <|
  jcons (jL jC_3 dL_law_20 rfl) <|
  jcons (jL jC_3 dL_law_21 rfl) <|
  jcons (jL jC_3 dL_law_23 rfl) <|
  jcons (jL jC_3 dL_law_25 rfl) <|
  jcons (jL jC_3 dL_law_26 rfl) <|
  jcons (jL jC_3 dL_law_27 rfl) <|
  jcons (jL jC_3 dL_law_29 rfl) <|
  jcons (jL jC_3 dL_law_30 rfl) <|
  jcons (jL jC_3 dL_law_33 rfl) <|
  jcons (jL jC_3 dL_law_34 rfl) <|
  jcons (jL jC_3 dL_law_36 rfl) <|
  jcons (jL jC_3 dL_law_37 rfl) <|
  jcons (jL jC_3 dL_law_39 rfl) <|
  jcons (jL jC_3 dL_law_40 rfl) <|
  jnil
theorem jt_3_1 : ∀ q ∈ tcL_law_1, sJ jnw jao 3 q.1 q.2.1 q.2.2 :=
  jnil
theorem jt_3_2 : ∀ q ∈ tcL_law_2, sJ jnw jao 3 q.1 q.2.1 q.2.2 :=
  jnil
theorem jt_3_3 : ∀ q ∈ tcL_law_3, sJ jnw jao 3 q.1 q.2.1 q.2.2 :=
  jcons (jL jC_3 dL_law_196 rfl) <|
  jcons (jL jC_3 dL_law_197 rfl) <|
  jcons (jL jC_3 dL_law_198 rfl) <|
  jcons (jL jC_3 dL_law_200 rfl) <|
  jcons (jL jC_3 dL_law_201 rfl) <|
  jcons (jL jC_3 dL_law_202 rfl) <|
  jcons (jL jC_3 dL_law_203 rfl) <|
  jcons (jL jC_3 dL_law_204 rfl) <|
  jcons (jL jC_3 dL_law_206 rfl) <|
  jcons (jL jC_3 dL_law_207 rfl) <|
  jcons (jL jC_3 dL_law_208 rfl) <|
  jcons (jL jC_3 dL_law_209 rfl) <|
  jcons (jL jC_3 dL_law_210 rfl) <|
  jcons (jL jC_3 dL_law_212 rfl) <|
  jcons (jL jC_3 dL_law_213 rfl) <|
  jcons (jL jC_3 dL_law_214 rfl) <|
  jcons (j4V jC_3 jY_3 dL_law_215 (jc_5 _) q239 pd_5 (Or.inl q238) (fun c r h1 h2 => js_3 c r h1 h2)) <|
  jcons (jL jC_3 dL_law_218 rfl) <|
  jcons (jL jC_3 dL_law_219 rfl) <|
  jcons (jL jC_3 dL_law_220 rfl) <|
  jcons (jL jC_3 dL_law_222 rfl) <|
  jcons (jL jC_3 dL_law_223 rfl) <|
  jcons (jL jC_3 dL_law_224 rfl) <|
  jcons (jL jC_3 dL_law_225 rfl) <|
  jcons (jL jC_3 dL_law_226 rfl) <|
  jcons (jL jC_3 dL_law_228 rfl) <|
  jcons (jL jC_3 dL_law_229 rfl) <|
  jcons (jL jC_3 dL_law_230 rfl) <|
  jcons (jL jC_3 dL_law_231 rfl) <|
  jcons (jL jC_3 dL_law_232 rfl) <|
  jcons (jL jC_3 dL_law_234 rfl) <|
  jcons (jL jC_3 dL_law_235 rfl) <|
  jcons (jL jC_3 dL_law_236 rfl) <|
  jcons (j4V jC_3 jY_3 dL_law_237 (jc_68 _) q1476 pd_68 (Or.inl q1475) (fun c r h1 h2 => js_4 c r h1 h2)) <|
  jcons (jL jC_3 dL_law_240 rfl) <|
  jcons (jL jC_3 dL_law_243 rfl) <|
  jcons (jL jC_3 dL_law_244 rfl) <|
  jcons (jL jC_3 dL_law_245 rfl) <|
  jcons (jL jC_3 dL_law_246 rfl) <|
  jcons (jL jC_3 dL_law_247 rfl) <|
  jcons (jL jC_3 dL_law_249 rfl) <|
  jcons (jL jC_3 dL_law_250 rfl) <|
  jcons (jL jC_3 dL_law_251 rfl) <|
  jcons (jL jC_3 dL_law_252 rfl) <|
  jcons (jL jC_3 dL_law_253 rfl) <|
  jcons (jL jC_3 dL_law_255 rfl) <|
  jnil
theorem jt_3_4 : ∀ q ∈ tcL_law_4, sJ jnw jao 3 q.1 q.2.1 q.2.2 :=
  jcons (jL jC_3 dL_law_256 rfl) <|
  jcons (jL jC_3 dL_law_257 rfl) <|
  jcons (jL jC_3 dL_law_258 rfl) <|
  jcons (jL jC_3 dL_law_259 rfl) <|
  jcons (jL jC_3 dL_law_261 rfl) <|
  jcons (jL jC_3 dL_law_262 rfl) <|
  jcons (jL jC_3 dL_law_263 rfl) <|
  jcons (jL jC_3 dL_law_264 rfl) <|
  jcons (jL jC_3 dL_law_265 rfl) <|
  jcons (jL jC_3 dL_law_267 rfl) <|
  jcons (jL jC_3 dL_law_268 rfl) <|
  jcons (jL jC_3 dL_law_269 rfl) <|
  jcons (jL jC_3 dL_law_270 rfl) <|
  jcons (jL jC_3 dL_law_271 rfl) <|
  jcons (jL jC_3 dL_law_273 rfl) <|
  jcons (jL jC_3 dL_law_274 rfl) <|
  jcons (jL jC_3 dL_law_275 rfl) <|
  jcons (j4V jC_3 jY_3 dL_law_276 (jc_7 _) q277 pd_7 (Or.inl q276) (fun c r h1 h2 => js_5 c r h1 h2)) <|
  jcons (jL jC_3 dL_law_279 rfl) <|
  jcons (jL jC_3 dL_law_280 rfl) <|
  jcons (jL jC_3 dL_law_281 rfl) <|
  jcons (jL jC_3 dL_law_283 rfl) <|
  jcons (jL jC_3 dL_law_284 rfl) <|
  jcons (jL jC_3 dL_law_285 rfl) <|
  jcons (jL jC_3 dL_law_286 rfl) <|
  jcons (jL jC_3 dL_law_287 rfl) <|
  jcons (jL jC_3 dL_law_289 rfl) <|
  jcons (jL jC_3 dL_law_290 rfl) <|
  jcons (jL jC_3 dL_law_291 rfl) <|
  jcons (jL jC_3 dL_law_292 rfl) <|
  jcons (jL jC_3 dL_law_293 rfl) <|
  jcons (jL jC_3 dL_law_295 rfl) <|
  jcons (jL jC_3 dL_law_296 rfl) <|
  jcons (jL jC_3 dL_law_297 rfl) <|
  jcons (jL jC_3 dL_law_298 rfl) <|
  jcons (jL jC_3 dL_law_299 rfl) <|
  jcons (jL jC_3 dL_law_301 rfl) <|
  jcons (jL jC_3 dL_law_302 rfl) <|
  jcons (jL jC_3 dL_law_303 rfl) <|
  jcons (jL jC_3 dL_law_304 rfl) <|
  jcons (jL jC_3 dL_law_305 rfl) <|
  jcons (jL jC_3 dL_law_307 rfl) <|
  jcons (jL jC_3 dL_law_308 rfl) <|
  jcons (jL jC_3 dL_law_309 rfl) <|
  jcons (j4V jC_3 jY_3 dL_law_310 (jc_70 _) q1483 pd_70 (Or.inl q1482) (fun c r h1 h2 => js_6 c r h1 h2)) <|
  jcons (jL jC_3 dL_law_313 rfl) <|
  jcons (jL jC_3 dL_law_316 rfl) <|
  jcons (jL jC_3 dL_law_317 rfl) <|
  jcons (jL jC_3 dL_law_318 rfl) <|
  jcons (jL jC_3 dL_law_319 rfl) <|
  jnil
theorem jt_3_5 : ∀ q ∈ tcL_law_5, sJ jnw jao 3 q.1 q.2.1 q.2.2 :=
  jcons (jL jC_3 dL_law_320 rfl) <|
  jcons (jL jC_3 dL_law_322 rfl) <|
  jcons (jL jC_3 dL_law_323 rfl) <|
  jcons (jL jC_3 dL_law_324 rfl) <|
  jcons (j4V jC_3 jY_3 dL_law_325 (jc_10 _) q288 pd_10 (Or.inl q287) (fun c r h1 h2 => js_7 c r h1 h2)) <|
  jcons (jL jC_3 dL_law_328 rfl) <|
  jcons (jL jC_3 dL_law_329 rfl) <|
  jcons (jL jC_3 dL_law_330 rfl) <|
  jcons (jL jC_3 dL_law_332 rfl) <|
  jcons (jL jC_3 dL_law_333 rfl) <|
  jcons (jL jC_3 dL_law_334 rfl) <|
  jcons (j4V jC_3 jY_3 dL_law_335 (jc_72 _) q1490 pd_72 (Or.inl q1489) (fun c r h1 h2 => js_8 c r h1 h2)) <|
  jcons (jL jC_3 dL_law_338 rfl) <|
  jcons (jL jC_3 dL_law_341 rfl) <|
  jcons (jL jC_3 dL_law_342 rfl) <|
  jcons (jL jC_3 dL_law_343 rfl) <|
  jcons (jL jC_3 dL_law_344 rfl) <|
  jcons (jL jC_3 dL_law_345 rfl) <|
  jcons (jL jC_3 dL_law_347 rfl) <|
  jcons (jL jC_3 dL_law_348 rfl) <|
  jcons (jL jC_3 dL_law_349 rfl) <|
  jcons (j4V jC_3 jY_3 dL_law_350 (jc_11 _) q292 pd_11 (Or.inl q291) (fun c r h1 h2 => js_9 c r h1 h2)) <|
  jcons (jL jC_3 dL_law_353 rfl) <|
  jcons (jL jC_3 dL_law_354 rfl) <|
  jcons (jL jC_3 dL_law_355 rfl) <|
  jcons (jL jC_3 dL_law_357 rfl) <|
  jcons (jL jC_3 dL_law_358 rfl) <|
  jcons (jL jC_3 dL_law_359 rfl) <|
  jcons (j4V jC_3 jY_3 dL_law_360 (jc_73 _) q1494 pd_73 (Or.inl q1493) (fun c r h1 h2 => js_10 c r h1 h2)) <|
  jcons (jL jC_3 dL_law_363 rfl) <|
  jcons (jL jC_3 dL_law_366 rfl) <|
  jcons (jL jC_3 dL_law_367 rfl) <|
  jcons (jL jC_3 dL_law_368 rfl) <|
  jcons (j4V jC_3 jY_3 dL_law_369 (jc_12 _) q695 pd_12 (Or.inl q694) (fun c r h1 h2 => js_11 c r h1 h2)) <|
  jcons (jL jC_3 dL_law_372 rfl) <|
  jcons (j4V jC_3 jY_3 dL_law_373 (jc_100 _) q1602 pd_100 (Or.inl q1601) (fun c r h1 h2 => js_12 c r h1 h2)) <|
  jcons (jL jC_3 dL_law_376 rfl) <|
  jcons (jL jC_3 dL_law_379 rfl) <|
  jcons (jL jC_3 dL_law_380 rfl) <|
  jcons (jL jC_3 dL_law_381 rfl) <|
  jcons (j4V jC_3 jY_3 dL_law_382 (jc_54 _) q1187 pd_54 (Or.inl q1186) (fun c r h1 h2 => js_13 c r h1 h2)) <|
  jnil
theorem jt_3_6 : ∀ q ∈ tcL_law_6, sJ jnw jao 3 q.1 q.2.1 q.2.2 :=
  jcons (jL jC_3 dL_law_385 rfl) <|
  jcons (j4V jC_3 jY_3 dL_law_386 (jc_101 _) q1606 pd_101 (Or.inl q1605) (fun c r h1 h2 => js_14 c r h1 h2)) <|
  jcons (jL jC_3 dL_law_389 rfl) <|
  jcons (jL jC_3 dL_law_392 rfl) <|
  jcons (jL jC_3 dL_law_393 rfl) <|
  jcons (jL jC_3 dL_law_394 rfl) <|
  jcons (jL jC_3 dL_law_395 rfl) <|
  jcons (jL jC_3 dL_law_396 rfl) <|
  jcons (jL jC_3 dL_law_398 rfl) <|
  jcons (jL jC_3 dL_law_399 rfl) <|
  jcons (jL jC_3 dL_law_400 rfl) <|
  jcons (jL jC_3 dL_law_401 rfl) <|
  jcons (jL jC_3 dL_law_402 rfl) <|
  jcons (jL jC_3 dL_law_404 rfl) <|
  jcons (jL jC_3 dL_law_405 rfl) <|
  jcons (jL jC_3 dL_law_406 rfl) <|
  jcons (j4V jC_3 jY_3 dL_law_407 (jc_14 _) q881 pd_14 (Or.inl q880) (fun c r h1 h2 => js_15 c r h1 h2)) <|
  jcons (jL jC_3 dL_law_410 rfl) <|
  jcons (jL jC_3 dL_law_411 rfl) <|
  jcons (jL jC_3 dL_law_412 rfl) <|
  jcons (jL jC_3 dL_law_414 rfl) <|
  jcons (jL jC_3 dL_law_415 rfl) <|
  jcons (jL jC_3 dL_law_416 rfl) <|
  jcons (jL jC_3 dL_law_417 rfl) <|
  jcons (jL jC_3 dL_law_418 rfl) <|
  jcons (jL jC_3 dL_law_420 rfl) <|
  jcons (jL jC_3 dL_law_421 rfl) <|
  jcons (jL jC_3 dL_law_422 rfl) <|
  jcons (j4V jC_3 jY_3 dL_law_423 (jc_107 _) q1633 pd_107 (Or.inl q1632) (fun c r h1 h2 => js_16 c r h1 h2)) <|
  jcons (jL jC_3 dL_law_426 rfl) <|
  jcons (jL jC_3 dL_law_429 rfl) <|
  jcons (jL jC_3 dL_law_430 rfl) <|
  jcons (jL jC_3 dL_law_431 rfl) <|
  jcons (jL jC_3 dL_law_432 rfl) <|
  jcons (jL jC_3 dL_law_433 rfl) <|
  jcons (jL jC_3 dL_law_435 rfl) <|
  jcons (jL jC_3 dL_law_436 rfl) <|
  jcons (jL jC_3 dL_law_437 rfl) <|
  jcons (jL jC_3 dL_law_438 rfl) <|
  jcons (jL jC_3 dL_law_439 rfl) <|
  jcons (jL jC_3 dL_law_441 rfl) <|
  jcons (jL jC_3 dL_law_442 rfl) <|
  jcons (jL jC_3 dL_law_443 rfl) <|
  jcons (jL jC_3 dL_law_444 rfl) <|
  jcons (jL jC_3 dL_law_445 rfl) <|
  jcons (jL jC_3 dL_law_447 rfl) <|
  jnil
theorem jt_3_7 : ∀ q ∈ tcL_law_7, sJ jnw jao 3 q.1 q.2.1 q.2.2 :=
  jcons (jL jC_3 dL_law_448 rfl) <|
  jcons (jL jC_3 dL_law_449 rfl) <|
  jcons (jL jC_3 dL_law_450 rfl) <|
  jcons (j4S jC_3 jY_3 dL_law_451 (jc_0 _) q1262 pd_0 (Or.inl q1261)) <|
  jcons (jL jC_3 dL_law_454 rfl) <|
  jcons (jL jC_3 dL_law_456 rfl) <|
  jcons (jL jC_3 dL_law_457 rfl) <|
  jcons (jL jC_3 dL_law_458 rfl) <|
  jcons (jL jC_3 dL_law_460 rfl) <|
  jcons (jL jC_3 dL_law_461 rfl) <|
  jcons (jL jC_3 dL_law_462 rfl) <|
  jcons (jL jC_3 dL_law_463 rfl) <|
  jcons (jL jC_3 dL_law_464 rfl) <|
  jcons (jL jC_3 dL_law_466 rfl) <|
  jcons (jL jC_3 dL_law_467 rfl) <|
  jcons (jL jC_3 dL_law_468 rfl) <|
  jcons (jL jC_3 dL_law_469 rfl) <|
  jcons (jL jC_3 dL_law_470 rfl) <|
  jcons (jL jC_3 dL_law_472 rfl) <|
  jcons (jL jC_3 dL_law_473 rfl) <|
  jcons (jL jC_3 dL_law_474 rfl) <|
  jcons (j4V jC_3 jY_3 dL_law_475 (jc_114 _) q1661 pd_114 (Or.inl q1660) (fun c r h1 h2 => js_17 c r h1 h2)) <|
  jcons (jL jC_3 dL_law_478 rfl) <|
  jcons (jL jC_3 dL_law_480 rfl) <|
  jcons (j4V jC_3 jY_3 dL_law_481 (jc_67 _) q1472 pd_67 (Or.inl q1471) (fun c r h1 h2 => js_18 c r h1 h2)) <|
  jcons (jL jC_3 dL_law_484 rfl) <|
  jcons (jL jC_3 dL_law_486 rfl) <|
  jcons (jL jC_3 dL_law_489 rfl) <|
  jcons (jL jC_3 dL_law_490 rfl) <|
  jcons (jL jC_3 dL_law_491 rfl) <|
  jcons (jL jC_3 dL_law_493 rfl) <|
  jcons (jL jC_3 dL_law_496 rfl) <|
  jcons (jL jC_3 dL_law_497 rfl) <|
  jcons (jL jC_3 dL_law_498 rfl) <|
  jcons (jL jC_3 dL_law_499 rfl) <|
  jcons (jL jC_3 dL_law_501 rfl) <|
  jcons (jL jC_3 dL_law_502 rfl) <|
  jcons (jL jC_3 dL_law_503 rfl) <|
  jcons (jL jC_3 dL_law_506 rfl) <|
  jcons (jL jC_3 dL_law_507 rfl) <|
  jcons (jL jC_3 dL_law_508 rfl) <|
  jcons (jL jC_3 dL_law_511 rfl) <|
  jnil
theorem jt_3_8 : ∀ q ∈ tcL_law_8, sJ jnw jao 3 q.1 q.2.1 q.2.2 :=
  jcons (jL jC_3 dL_law_512 rfl) <|
  jcons (jL jC_3 dL_law_513 rfl) <|
  jcons (jL jC_3 dL_law_515 rfl) <|
  jcons (jL jC_3 dL_law_516 rfl) <|
  jcons (jL jC_3 dL_law_517 rfl) <|
  jcons (jL jC_3 dL_law_518 rfl) <|
  jcons (jL jC_3 dL_law_519 rfl) <|
  jcons (jL jC_3 dL_law_521 rfl) <|
  jcons (jL jC_3 dL_law_522 rfl) <|
  jcons (jL jC_3 dL_law_523 rfl) <|
  jcons (j4V jC_3 jY_3 dL_law_524 (jc_16 _) q909 pd_16 (Or.inl q908) (fun c r h1 h2 => js_19 c r h1 h2)) <|
  jcons (jL jC_3 dL_law_527 rfl) <|
  jcons (jL jC_3 dL_law_528 rfl) <|
  jcons (jL jC_3 dL_law_529 rfl) <|
  jcons (jL jC_3 dL_law_531 rfl) <|
  jcons (jL jC_3 dL_law_532 rfl) <|
  jcons (jL jC_3 dL_law_533 rfl) <|
  jcons (jL jC_3 dL_law_534 rfl) <|
  jcons (jL jC_3 dL_law_535 rfl) <|
  jcons (jL jC_3 dL_law_537 rfl) <|
  jcons (jL jC_3 dL_law_538 rfl) <|
  jcons (jL jC_3 dL_law_539 rfl) <|
  jcons (j4V jC_3 jY_3 dL_law_540 (jc_116 _) q1669 pd_116 (Or.inl q1668) (fun c r h1 h2 => js_20 c r h1 h2)) <|
  jcons (jL jC_3 dL_law_543 rfl) <|
  jcons (jL jC_3 dL_law_546 rfl) <|
  jcons (jL jC_3 dL_law_547 rfl) <|
  jcons (jL jC_3 dL_law_548 rfl) <|
  jcons (jL jC_3 dL_law_549 rfl) <|
  jcons (jL jC_3 dL_law_550 rfl) <|
  jcons (jL jC_3 dL_law_552 rfl) <|
  jcons (jL jC_3 dL_law_553 rfl) <|
  jcons (jL jC_3 dL_law_554 rfl) <|
  jcons (jL jC_3 dL_law_555 rfl) <|
  jcons (jL jC_3 dL_law_556 rfl) <|
  jcons (jL jC_3 dL_law_558 rfl) <|
  jcons (jL jC_3 dL_law_559 rfl) <|
  jcons (jL jC_3 dL_law_560 rfl) <|
  jcons (j4V jC_3 jY_3 dL_law_561 (jc_18 _) q917 pd_18 (Or.inl q916) (fun c r h1 h2 => js_21 c r h1 h2)) <|
  jcons (jL jC_3 dL_law_564 rfl) <|
  jcons (jL jC_3 dL_law_565 rfl) <|
  jcons (jL jC_3 dL_law_566 rfl) <|
  jcons (jL jC_3 dL_law_568 rfl) <|
  jcons (jL jC_3 dL_law_569 rfl) <|
  jcons (jL jC_3 dL_law_570 rfl) <|
  jcons (jL jC_3 dL_law_571 rfl) <|
  jcons (jL jC_3 dL_law_572 rfl) <|
  jcons (jL jC_3 dL_law_574 rfl) <|
  jcons (jL jC_3 dL_law_575 rfl) <|
  jnil
theorem jt_3_9 : ∀ q ∈ tcL_law_9, sJ jnw jao 3 q.1 q.2.1 q.2.2 :=
  jcons (jL jC_3 dL_law_576 rfl) <|
  jcons (j4V jC_3 jY_3 dL_law_577 (jc_118 _) q1677 pd_118 (Or.inl q1676) (fun c r h1 h2 => js_22 c r h1 h2)) <|
  jcons (jL jC_3 dL_law_580 rfl) <|
  jcons (jL jC_3 dL_law_583 rfl) <|
  jcons (jL jC_3 dL_law_584 rfl) <|
  jcons (jL jC_3 dL_law_585 rfl) <|
  jcons (jL jC_3 dL_law_586 rfl) <|
  jcons (jL jC_3 dL_law_587 rfl) <|
  jcons (jL jC_3 dL_law_589 rfl) <|
  jcons (jL jC_3 dL_law_590 rfl) <|
  jcons (jL jC_3 dL_law_591 rfl) <|
  jcons (jL jC_3 dL_law_592 rfl) <|
  jcons (jL jC_3 dL_law_593 rfl) <|
  jcons (jL jC_3 dL_law_595 rfl) <|
  jcons (jL jC_3 dL_law_596 rfl) <|
  jcons (jL jC_3 dL_law_597 rfl) <|
  jcons (j4V jC_3 jY_3 dL_law_598 (jc_20 _) q933 pd_20 (Or.inl q932) (fun c r h1 h2 => js_23 c r h1 h2)) <|
  jcons (jL jC_3 dL_law_601 rfl) <|
  jcons (jL jC_3 dL_law_602 rfl) <|
  jcons (jL jC_3 dL_law_603 rfl) <|
  jcons (jL jC_3 dL_law_605 rfl) <|
  jcons (jL jC_3 dL_law_606 rfl) <|
  jcons (jL jC_3 dL_law_607 rfl) <|
  jcons (jL jC_3 dL_law_608 rfl) <|
  jcons (jL jC_3 dL_law_609 rfl) <|
  jcons (jL jC_3 dL_law_611 rfl) <|
  jcons (jL jC_3 dL_law_612 rfl) <|
  jcons (jL jC_3 dL_law_613 rfl) <|
  jcons (j4V jC_3 jY_3 dL_law_614 (jc_120 _) q1685 pd_120 (Or.inl q1684) (fun c r h1 h2 => js_24 c r h1 h2)) <|
  jcons (jL jC_3 dL_law_617 rfl) <|
  jcons (jL jC_3 dL_law_620 rfl) <|
  jcons (jL jC_3 dL_law_621 rfl) <|
  jcons (jL jC_3 dL_law_622 rfl) <|
  jcons (jL jC_3 dL_law_623 rfl) <|
  jcons (jL jC_3 dL_law_624 rfl) <|
  jcons (jL jC_3 dL_law_626 rfl) <|
  jcons (jL jC_3 dL_law_627 rfl) <|
  jcons (jL jC_3 dL_law_628 rfl) <|
  jcons (j4V jC_3 jY_3 dL_law_629 (jc_21 _) q938 pd_21 (Or.inl q937) (fun c r h1 h2 => js_25 c r h1 h2)) <|
  jcons (jL jC_3 dL_law_632 rfl) <|
  jcons (jL jC_3 dL_law_633 rfl) <|
  jcons (jL jC_3 dL_law_634 rfl) <|
  jcons (jL jC_3 dL_law_636 rfl) <|
  jcons (jL jC_3 dL_law_637 rfl) <|
  jcons (jL jC_3 dL_law_638 rfl) <|
  jcons (j4V jC_3 jY_3 dL_law_639 (jc_121 _) q1689 pd_121 (Or.inl q1688) (fun c r h1 h2 => js_26 c r h1 h2)) <|
  jnil
theorem jt_3_10 : ∀ q ∈ tcL_law_10, sJ jnw jao 3 q.1 q.2.1 q.2.2 :=
  jcons (jL jC_3 dL_law_642 rfl) <|
  jcons (jL jC_3 dL_law_645 rfl) <|
  jcons (jL jC_3 dL_law_646 rfl) <|
  jcons (jL jC_3 dL_law_647 rfl) <|
  jcons (jL jC_3 dL_law_648 rfl) <|
  jcons (jL jC_3 dL_law_649 rfl) <|
  jcons (jL jC_3 dL_law_651 rfl) <|
  jcons (jL jC_3 dL_law_652 rfl) <|
  jcons (jL jC_3 dL_law_653 rfl) <|
  jcons (jL jC_3 dL_law_654 rfl) <|
  jcons (jL jC_3 dL_law_655 rfl) <|
  jcons (jL jC_3 dL_law_657 rfl) <|
  jcons (jL jC_3 dL_law_658 rfl) <|
  jcons (jL jC_3 dL_law_659 rfl) <|
  jcons (j4V jC_3 jY_3 dL_law_660 (jc_22 _) q942 pd_22 (Or.inl q941) (fun c r h1 h2 => js_27 c r h1 h2)) <|
  jcons (jL jC_3 dL_law_663 rfl) <|
  jcons (jL jC_3 dL_law_664 rfl) <|
  jcons (jL jC_3 dL_law_665 rfl) <|
  jcons (jL jC_3 dL_law_667 rfl) <|
  jcons (jL jC_3 dL_law_668 rfl) <|
  jcons (jL jC_3 dL_law_669 rfl) <|
  jcons (jL jC_3 dL_law_670 rfl) <|
  jcons (jL jC_3 dL_law_671 rfl) <|
  jcons (jL jC_3 dL_law_673 rfl) <|
  jcons (jL jC_3 dL_law_674 rfl) <|
  jcons (jL jC_3 dL_law_675 rfl) <|
  jcons (j4V jC_3 jY_3 dL_law_676 (jc_122 _) q1693 pd_122 (Or.inl q1692) (fun c r h1 h2 => js_28 c r h1 h2)) <|
  jcons (jL jC_3 dL_law_679 rfl) <|
  jcons (jL jC_3 dL_law_682 rfl) <|
  jcons (jL jC_3 dL_law_683 rfl) <|
  jcons (jL jC_3 dL_law_684 rfl) <|
  jcons (jL jC_3 dL_law_685 rfl) <|
  jcons (jL jC_3 dL_law_686 rfl) <|
  jcons (jL jC_3 dL_law_688 rfl) <|
  jcons (jL jC_3 dL_law_689 rfl) <|
  jcons (jL jC_3 dL_law_690 rfl) <|
  jcons (j4V jC_3 jY_3 dL_law_691 (jc_24 _) q952 pd_24 (Or.inl q951) (fun c r h1 h2 => js_29 c r h1 h2)) <|
  jcons (jL jC_3 dL_law_694 rfl) <|
  jcons (jL jC_3 dL_law_695 rfl) <|
  jcons (jL jC_3 dL_law_696 rfl) <|
  jcons (jL jC_3 dL_law_698 rfl) <|
  jcons (jL jC_3 dL_law_699 rfl) <|
  jcons (jL jC_3 dL_law_700 rfl) <|
  jcons (j4V jC_3 jY_3 dL_law_701 (jc_123 _) q1697 pd_123 (Or.inl q1696) (fun c r h1 h2 => js_30 c r h1 h2)) <|
  jnil
theorem jt_3_11 : ∀ q ∈ tcL_law_11, sJ jnw jao 3 q.1 q.2.1 q.2.2 :=
  jcons (jL jC_3 dL_law_704 rfl) <|
  jcons (jL jC_3 dL_law_707 rfl) <|
  jcons (jL jC_3 dL_law_708 rfl) <|
  jcons (jL jC_3 dL_law_709 rfl) <|
  jcons (jL jC_3 dL_law_710 rfl) <|
  jcons (jL jC_3 dL_law_711 rfl) <|
  jcons (jL jC_3 dL_law_713 rfl) <|
  jcons (jL jC_3 dL_law_714 rfl) <|
  jcons (jL jC_3 dL_law_715 rfl) <|
  jcons (jL jC_3 dL_law_716 rfl) <|
  jcons (jL jC_3 dL_law_717 rfl) <|
  jcons (jL jC_3 dL_law_719 rfl) <|
  jcons (jL jC_3 dL_law_720 rfl) <|
  jcons (jL jC_3 dL_law_721 rfl) <|
  jcons (jL jC_3 dL_law_722 rfl) <|
  jcons (jL jC_3 dL_law_723 rfl) <|
  jcons (jL jC_3 dL_law_725 rfl) <|
  jcons (jL jC_3 dL_law_726 rfl) <|
  jcons (jL jC_3 dL_law_727 rfl) <|
  jcons (j4V jC_3 jY_3 dL_law_728 (jc_25 _) q959 pd_25 (Or.inl q958) (fun c r h1 h2 => js_31 c r h1 h2)) <|
  jcons (jL jC_3 dL_law_731 rfl) <|
  jcons (jL jC_3 dL_law_732 rfl) <|
  jcons (jL jC_3 dL_law_733 rfl) <|
  jcons (jL jC_3 dL_law_735 rfl) <|
  jcons (jL jC_3 dL_law_736 rfl) <|
  jcons (jL jC_3 dL_law_737 rfl) <|
  jcons (jL jC_3 dL_law_738 rfl) <|
  jcons (jL jC_3 dL_law_739 rfl) <|
  jcons (jL jC_3 dL_law_741 rfl) <|
  jcons (jL jC_3 dL_law_742 rfl) <|
  jcons (jL jC_3 dL_law_743 rfl) <|
  jcons (jL jC_3 dL_law_744 rfl) <|
  jcons (jL jC_3 dL_law_745 rfl) <|
  jcons (jL jC_3 dL_law_747 rfl) <|
  jcons (jL jC_3 dL_law_748 rfl) <|
  jcons (jL jC_3 dL_law_749 rfl) <|
  jcons (j4V jC_3 jY_3 dL_law_750 (jc_130 _) q1725 pd_130 (Or.inl q1724) (fun c r h1 h2 => js_32 c r h1 h2)) <|
  jcons (jL jC_3 dL_law_753 rfl) <|
  jcons (jL jC_3 dL_law_756 rfl) <|
  jcons (jL jC_3 dL_law_757 rfl) <|
  jcons (jL jC_3 dL_law_758 rfl) <|
  jcons (jL jC_3 dL_law_759 rfl) <|
  jcons (jL jC_3 dL_law_760 rfl) <|
  jcons (jL jC_3 dL_law_762 rfl) <|
  jcons (jL jC_3 dL_law_763 rfl) <|
  jcons (jL jC_3 dL_law_764 rfl) <|
  jcons (j4V jC_3 jY_3 dL_law_765 (jc_26 _) q1002 pd_26 (Or.inl q1001) (fun c r h1 h2 => js_33 c r h1 h2)) <|
  jnil
theorem jt_3_12 : ∀ q ∈ tcL_law_12, sJ jnw jao 3 q.1 q.2.1 q.2.2 :=
  jcons (jL jC_3 dL_law_768 rfl) <|
  jcons (jL jC_3 dL_law_769 rfl) <|
  jcons (jL jC_3 dL_law_770 rfl) <|
  jcons (jL jC_3 dL_law_772 rfl) <|
  jcons (jL jC_3 dL_law_773 rfl) <|
  jcons (jL jC_3 dL_law_774 rfl) <|
  jcons (j4V jC_3 jY_3 dL_law_775 (jc_134 _) q1742 pd_134 (Or.inl q1741) (fun c r h1 h2 => js_34 c r h1 h2)) <|
  jcons (jL jC_3 dL_law_778 rfl) <|
  jcons (jL jC_3 dL_law_781 rfl) <|
  jcons (jL jC_3 dL_law_782 rfl) <|
  jcons (jL jC_3 dL_law_783 rfl) <|
  jcons (jL jC_3 dL_law_784 rfl) <|
  jcons (jL jC_3 dL_law_785 rfl) <|
  jcons (jL jC_3 dL_law_787 rfl) <|
  jcons (jL jC_3 dL_law_788 rfl) <|
  jcons (jL jC_3 dL_law_789 rfl) <|
  jcons (jL jC_3 dL_law_790 rfl) <|
  jcons (jL jC_3 dL_law_791 rfl) <|
  jcons (jL jC_3 dL_law_793 rfl) <|
  jcons (jL jC_3 dL_law_794 rfl) <|
  jcons (jL jC_3 dL_law_795 rfl) <|
  jcons (jL jC_3 dL_law_796 rfl) <|
  jcons (jL jC_3 dL_law_797 rfl) <|
  jcons (jL jC_3 dL_law_799 rfl) <|
  jcons (jL jC_3 dL_law_800 rfl) <|
  jcons (jL jC_3 dL_law_801 rfl) <|
  jcons (jL jC_3 dL_law_802 rfl) <|
  jcons (jL jC_3 dL_law_803 rfl) <|
  jcons (jL jC_3 dL_law_805 rfl) <|
  jcons (jL jC_3 dL_law_806 rfl) <|
  jcons (jL jC_3 dL_law_807 rfl) <|
  jcons (j4V jC_3 jY_3 dL_law_808 (jc_27 _) q1006 pd_27 (Or.inl q1005) (fun c r h1 h2 => js_35 c r h1 h2)) <|
  jcons (jL jC_3 dL_law_811 rfl) <|
  jcons (jL jC_3 dL_law_812 rfl) <|
  jcons (jL jC_3 dL_law_813 rfl) <|
  jcons (jL jC_3 dL_law_815 rfl) <|
  jcons (jL jC_3 dL_law_816 rfl) <|
  jcons (jL jC_3 dL_law_817 rfl) <|
  jcons (jL jC_3 dL_law_818 rfl) <|
  jcons (jL jC_3 dL_law_819 rfl) <|
  jcons (jL jC_3 dL_law_821 rfl) <|
  jcons (jL jC_3 dL_law_822 rfl) <|
  jcons (jL jC_3 dL_law_823 rfl) <|
  jcons (jL jC_3 dL_law_824 rfl) <|
  jcons (jL jC_3 dL_law_825 rfl) <|
  jcons (jL jC_3 dL_law_827 rfl) <|
  jcons (jL jC_3 dL_law_828 rfl) <|
  jcons (jL jC_3 dL_law_829 rfl) <|
  jcons (jL jC_3 dL_law_830 rfl) <|
  jcons (jL jC_3 dL_law_831 rfl) <|
  jnil
theorem jt_3_13 : ∀ q ∈ tcL_law_13, sJ jnw jao 3 q.1 q.2.1 q.2.2 :=
  jcons (jL jC_3 dL_law_833 rfl) <|
  jcons (jL jC_3 dL_law_834 rfl) <|
  jcons (jL jC_3 dL_law_835 rfl) <|
  jcons (j4V jC_3 jY_3 dL_law_836 (jc_128 _) q1717 pd_128 (Or.inl q1716) (fun c r h1 h2 => js_36 c r h1 h2)) <|
  jcons (jL jC_3 dL_law_839 rfl) <|
  jcons (jL jC_3 dL_law_842 rfl) <|
  jcons (jL jC_3 dL_law_843 rfl) <|
  jcons (jL jC_3 dL_law_844 rfl) <|
  jcons (jL jC_3 dL_law_845 rfl) <|
  jcons (jL jC_3 dL_law_846 rfl) <|
  jcons (jL jC_3 dL_law_848 rfl) <|
  jcons (jL jC_3 dL_law_849 rfl) <|
  jcons (jL jC_3 dL_law_850 rfl) <|
  jcons (jL jC_3 dL_law_851 rfl) <|
  jcons (jL jC_3 dL_law_852 rfl) <|
  jcons (jL jC_3 dL_law_854 rfl) <|
  jcons (jL jC_3 dL_law_855 rfl) <|
  jcons (jL jC_3 dL_law_856 rfl) <|
  jcons (j4V jC_3 jY_3 dL_law_857 (jc_28 _) q1016 pd_28 (Or.inl q1015) (fun c r h1 h2 => js_37 c r h1 h2)) <|
  jcons (jL jC_3 dL_law_860 rfl) <|
  jcons (jL jC_3 dL_law_861 rfl) <|
  jcons (jL jC_3 dL_law_862 rfl) <|
  jcons (jL jC_3 dL_law_864 rfl) <|
  jcons (jL jC_3 dL_law_865 rfl) <|
  jcons (jL jC_3 dL_law_866 rfl) <|
  jcons (jL jC_3 dL_law_867 rfl) <|
  jcons (jL jC_3 dL_law_868 rfl) <|
  jcons (jL jC_3 dL_law_870 rfl) <|
  jcons (jL jC_3 dL_law_871 rfl) <|
  jcons (jL jC_3 dL_law_872 rfl) <|
  jcons (j4V jC_3 jY_3 dL_law_873 (jc_135 _) q1747 pd_135 (Or.inl q1746) (fun c r h1 h2 => js_38 c r h1 h2)) <|
  jcons (jL jC_3 dL_law_876 rfl) <|
  jcons (jL jC_3 dL_law_879 rfl) <|
  jcons (jL jC_3 dL_law_880 rfl) <|
  jcons (jL jC_3 dL_law_881 rfl) <|
  jcons (jL jC_3 dL_law_882 rfl) <|
  jcons (jL jC_3 dL_law_883 rfl) <|
  jcons (jL jC_3 dL_law_885 rfl) <|
  jcons (jL jC_3 dL_law_886 rfl) <|
  jcons (jL jC_3 dL_law_887 rfl) <|
  jcons (jL jC_3 dL_law_888 rfl) <|
  jcons (jL jC_3 dL_law_889 rfl) <|
  jcons (jL jC_3 dL_law_891 rfl) <|
  jcons (jL jC_3 dL_law_892 rfl) <|
  jcons (jL jC_3 dL_law_893 rfl) <|
  jcons (jL jC_3 dL_law_894 rfl) <|
  jcons (jL jC_3 dL_law_895 rfl) <|
  jnil
theorem jt_3_14 : ∀ q ∈ tcL_law_14, sJ jnw jao 3 q.1 q.2.1 q.2.2 :=
  jcons (jL jC_3 dL_law_897 rfl) <|
  jcons (jL jC_3 dL_law_898 rfl) <|
  jcons (jL jC_3 dL_law_899 rfl) <|
  jcons (j4V jC_3 jY_3 dL_law_900 (jc_33 _) q1040 pd_33 (Or.inl q1039) (fun c r h1 h2 => js_39 c r h1 h2)) <|
  jcons (jL jC_3 dL_law_903 rfl) <|
  jcons (jL jC_3 dL_law_904 rfl) <|
  jcons (jL jC_3 dL_law_905 rfl) <|
  jcons (jL jC_3 dL_law_907 rfl) <|
  jcons (jL jC_3 dL_law_908 rfl) <|
  jcons (jL jC_3 dL_law_909 rfl) <|
  jcons (jL jC_3 dL_law_910 rfl) <|
  jcons (jL jC_3 dL_law_911 rfl) <|
  jcons (jL jC_3 dL_law_913 rfl) <|
  jcons (jL jC_3 dL_law_914 rfl) <|
  jcons (jL jC_3 dL_law_915 rfl) <|
  jcons (jL jC_3 dL_law_916 rfl) <|
  jcons (jL jC_3 dL_law_917 rfl) <|
  jcons (jL jC_3 dL_law_919 rfl) <|
  jcons (jL jC_3 dL_law_920 rfl) <|
  jcons (jL jC_3 dL_law_921 rfl) <|
  jcons (j4V jC_3 jY_3 dL_law_922 (jc_141 _) q1771 pd_141 (Or.inl q1770) (fun c r h1 h2 => js_40 c r h1 h2)) <|
  jcons (jL jC_3 dL_law_925 rfl) <|
  jcons (jL jC_3 dL_law_928 rfl) <|
  jcons (jL jC_3 dL_law_929 rfl) <|
  jcons (jL jC_3 dL_law_930 rfl) <|
  jcons (jL jC_3 dL_law_931 rfl) <|
  jcons (jL jC_3 dL_law_932 rfl) <|
  jcons (jL jC_3 dL_law_934 rfl) <|
  jcons (jL jC_3 dL_law_935 rfl) <|
  jcons (jL jC_3 dL_law_936 rfl) <|
  jcons (jL jC_3 dL_law_937 rfl) <|
  jcons (jL jC_3 dL_law_938 rfl) <|
  jcons (jL jC_3 dL_law_940 rfl) <|
  jcons (jL jC_3 dL_law_941 rfl) <|
  jcons (jL jC_3 dL_law_942 rfl) <|
  jcons (jL jC_3 dL_law_943 rfl) <|
  jcons (jL jC_3 dL_law_944 rfl) <|
  jcons (jL jC_3 dL_law_946 rfl) <|
  jcons (jL jC_3 dL_law_947 rfl) <|
  jcons (jL jC_3 dL_law_948 rfl) <|
  jcons (j4V jC_3 jY_3 dL_law_949 (jc_34 _) q1044 pd_34 (Or.inl q1043) (fun c r h1 h2 => js_41 c r h1 h2)) <|
  jcons (jL jC_3 dL_law_952 rfl) <|
  jcons (jL jC_3 dL_law_953 rfl) <|
  jcons (jL jC_3 dL_law_954 rfl) <|
  jcons (jL jC_3 dL_law_956 rfl) <|
  jcons (jL jC_3 dL_law_957 rfl) <|
  jcons (jL jC_3 dL_law_958 rfl) <|
  jcons (jL jC_3 dL_law_959 rfl) <|
  jnil
theorem jt_3_15 : ∀ q ∈ tcL_law_15, sJ jnw jao 3 q.1 q.2.1 q.2.2 :=
  jcons (jL jC_3 dL_law_960 rfl) <|
  jcons (jL jC_3 dL_law_962 rfl) <|
  jcons (jL jC_3 dL_law_963 rfl) <|
  jcons (jL jC_3 dL_law_964 rfl) <|
  jcons (jL jC_3 dL_law_965 rfl) <|
  jcons (jL jC_3 dL_law_966 rfl) <|
  jcons (jL jC_3 dL_law_968 rfl) <|
  jcons (jL jC_3 dL_law_969 rfl) <|
  jcons (jL jC_3 dL_law_970 rfl) <|
  jcons (j4V jC_3 jY_3 dL_law_971 (jc_142 _) q1775 pd_142 (Or.inl q1774) (fun c r h1 h2 => js_42 c r h1 h2)) <|
  jcons (jL jC_3 dL_law_974 rfl) <|
  jcons (jL jC_3 dL_law_977 rfl) <|
  jcons (jL jC_3 dL_law_978 rfl) <|
  jcons (jL jC_3 dL_law_979 rfl) <|
  jcons (jL jC_3 dL_law_980 rfl) <|
  jcons (jL jC_3 dL_law_981 rfl) <|
  jcons (jL jC_3 dL_law_983 rfl) <|
  jcons (jL jC_3 dL_law_984 rfl) <|
  jcons (jL jC_3 dL_law_985 rfl) <|
  jcons (j4V jC_3 jY_3 dL_law_986 (jc_36 _) q1054 pd_36 (Or.inl q1053) (fun c r h1 h2 => js_43 c r h1 h2)) <|
  jcons (jL jC_3 dL_law_989 rfl) <|
  jcons (jL jC_3 dL_law_990 rfl) <|
  jcons (jL jC_3 dL_law_991 rfl) <|
  jcons (jL jC_3 dL_law_993 rfl) <|
  jcons (jL jC_3 dL_law_994 rfl) <|
  jcons (jL jC_3 dL_law_995 rfl) <|
  jcons (j4V jC_3 jY_3 dL_law_996 (jc_144 _) q1784 pd_144 (Or.inl q1783) (fun c r h1 h2 => js_44 c r h1 h2)) <|
  jcons (jL jC_3 dL_law_999 rfl) <|
  jcons (jL jC_3 dL_law_1002 rfl) <|
  jcons (jL jC_3 dL_law_1003 rfl) <|
  jcons (jL jC_3 dL_law_1004 rfl) <|
  jcons (jL jC_3 dL_law_1005 rfl) <|
  jcons (jL jC_3 dL_law_1006 rfl) <|
  jcons (jL jC_3 dL_law_1008 rfl) <|
  jcons (jL jC_3 dL_law_1009 rfl) <|
  jcons (jL jC_3 dL_law_1010 rfl) <|
  jcons (j4V jC_3 jY_3 dL_law_1011 (jc_37 _) q1058 pd_37 (Or.inl q1057) (fun c r h1 h2 => js_45 c r h1 h2)) <|
  jcons (jL jC_3 dL_law_1014 rfl) <|
  jcons (jL jC_3 dL_law_1015 rfl) <|
  jcons (jL jC_3 dL_law_1016 rfl) <|
  jcons (jL jC_3 dL_law_1018 rfl) <|
  jcons (jL jC_3 dL_law_1019 rfl) <|
  jcons (jL jC_3 dL_law_1020 rfl) <|
  jcons (j4V jC_3 jY_3 dL_law_1021 (jc_145 _) q1788 pd_145 (Or.inl q1787) (fun c r h1 h2 => js_46 c r h1 h2)) <|
  jnil
theorem jt_3_16 : ∀ q ∈ tcL_law_16, sJ jnw jao 3 q.1 q.2.1 q.2.2 :=
  jcons (jL jC_3 dL_law_1024 rfl) <|
  jcons (jL jC_3 dL_law_1027 rfl) <|
  jcons (jL jC_3 dL_law_1028 rfl) <|
  jcons (jL jC_3 dL_law_1029 rfl) <|
  jcons (jL jC_3 dL_law_1030 rfl) <|
  jcons (jL jC_3 dL_law_1031 rfl) <|
  jcons (jL jC_3 dL_law_1033 rfl) <|
  jcons (jL jC_3 dL_law_1034 rfl) <|
  jcons (jL jC_3 dL_law_1035 rfl) <|
  jcons (jL jC_3 dL_law_1036 rfl) <|
  jcons (jL jC_3 dL_law_1037 rfl) <|
  jcons (jL jC_3 dL_law_1039 rfl) <|
  jcons (jL jC_3 dL_law_1040 rfl) <|
  jcons (jL jC_3 dL_law_1041 rfl) <|
  jcons (j4V jC_3 jY_3 dL_law_1042 (jc_38 _) q1073 pd_38 (Or.inl q1072) (fun c r h1 h2 => js_47 c r h1 h2)) <|
  jcons (jL jC_3 dL_law_1045 rfl) <|
  jcons (jL jC_3 dL_law_1046 rfl) <|
  jcons (jL jC_3 dL_law_1047 rfl) <|
  jcons (jL jC_3 dL_law_1049 rfl) <|
  jcons (jL jC_3 dL_law_1050 rfl) <|
  jcons (jL jC_3 dL_law_1051 rfl) <|
  jcons (jL jC_3 dL_law_1052 rfl) <|
  jcons (jL jC_3 dL_law_1053 rfl) <|
  jcons (jL jC_3 dL_law_1055 rfl) <|
  jcons (jL jC_3 dL_law_1056 rfl) <|
  jcons (jL jC_3 dL_law_1057 rfl) <|
  jcons (j4V jC_3 jY_3 dL_law_1058 (jc_147 _) q1796 pd_147 (Or.inl q1795) (fun c r h1 h2 => js_48 c r h1 h2)) <|
  jcons (jL jC_3 dL_law_1061 rfl) <|
  jcons (jL jC_3 dL_law_1064 rfl) <|
  jcons (jL jC_3 dL_law_1065 rfl) <|
  jcons (jL jC_3 dL_law_1066 rfl) <|
  jcons (jL jC_3 dL_law_1067 rfl) <|
  jcons (jL jC_3 dL_law_1068 rfl) <|
  jcons (jL jC_3 dL_law_1070 rfl) <|
  jcons (jL jC_3 dL_law_1071 rfl) <|
  jcons (jL jC_3 dL_law_1072 rfl) <|
  jcons (jL jC_3 dL_law_1073 rfl) <|
  jcons (jL jC_3 dL_law_1074 rfl) <|
  jcons (jL jC_3 dL_law_1076 rfl) <|
  jcons (jL jC_3 dL_law_1077 rfl) <|
  jcons (jL jC_3 dL_law_1078 rfl) <|
  jcons (jL jC_3 dL_law_1079 rfl) <|
  jcons (jL jC_3 dL_law_1080 rfl) <|
  jcons (jL jC_3 dL_law_1082 rfl) <|
  jcons (jL jC_3 dL_law_1083 rfl) <|
  jcons (jL jC_3 dL_law_1084 rfl) <|
  jcons (j4V jC_3 jY_3 dL_law_1085 (jc_42 _) q1099 pd_42 (Or.inl q1098) (fun c r h1 h2 => js_49 c r h1 h2)) <|
  jnil
theorem jt_3_17 : ∀ q ∈ tcL_law_17, sJ jnw jao 3 q.1 q.2.1 q.2.2 :=
  jcons (jL jC_3 dL_law_1088 rfl) <|
  jcons (jL jC_3 dL_law_1089 rfl) <|
  jcons (jL jC_3 dL_law_1090 rfl) <|
  jcons (jL jC_3 dL_law_1092 rfl) <|
  jcons (jL jC_3 dL_law_1093 rfl) <|
  jcons (jL jC_3 dL_law_1094 rfl) <|
  jcons (jL jC_3 dL_law_1095 rfl) <|
  jcons (jL jC_3 dL_law_1096 rfl) <|
  jcons (jL jC_3 dL_law_1098 rfl) <|
  jcons (jL jC_3 dL_law_1099 rfl) <|
  jcons (jL jC_3 dL_law_1100 rfl) <|
  jcons (jL jC_3 dL_law_1101 rfl) <|
  jcons (jL jC_3 dL_law_1102 rfl) <|
  jcons (jL jC_3 dL_law_1104 rfl) <|
  jcons (jL jC_3 dL_law_1105 rfl) <|
  jcons (jL jC_3 dL_law_1106 rfl) <|
  jcons (j4V jC_3 jY_3 dL_law_1107 (jc_152 _) q1816 pd_152 (Or.inl q1815) (fun c r h1 h2 => js_50 c r h1 h2)) <|
  jcons (jL jC_3 dL_law_1110 rfl) <|
  jcons (jL jC_3 dL_law_1113 rfl) <|
  jcons (jL jC_3 dL_law_1114 rfl) <|
  jcons (jL jC_3 dL_law_1115 rfl) <|
  jcons (jL jC_3 dL_law_1116 rfl) <|
  jcons (jL jC_3 dL_law_1117 rfl) <|
  jcons (jL jC_3 dL_law_1119 rfl) <|
  jcons (jL jC_3 dL_law_1120 rfl) <|
  jcons (jL jC_3 dL_law_1121 rfl) <|
  jcons (j4V jC_3 jY_3 dL_law_1122 (jc_44 _) q1108 pd_44 (Or.inl q1107) (fun c r h1 h2 => js_51 c r h1 h2)) <|
  jcons (jL jC_3 dL_law_1125 rfl) <|
  jcons (jL jC_3 dL_law_1126 rfl) <|
  jcons (jL jC_3 dL_law_1127 rfl) <|
  jcons (jL jC_3 dL_law_1129 rfl) <|
  jcons (jL jC_3 dL_law_1130 rfl) <|
  jcons (jL jC_3 dL_law_1131 rfl) <|
  jcons (j4V jC_3 jY_3 dL_law_1132 (jc_153 _) q1820 pd_153 (Or.inl q1819) (fun c r h1 h2 => js_52 c r h1 h2)) <|
  jcons (jL jC_3 dL_law_1135 rfl) <|
  jcons (jL jC_3 dL_law_1138 rfl) <|
  jcons (jL jC_3 dL_law_1139 rfl) <|
  jcons (jL jC_3 dL_law_1140 rfl) <|
  jcons (jL jC_3 dL_law_1141 rfl) <|
  jcons (jL jC_3 dL_law_1142 rfl) <|
  jcons (jL jC_3 dL_law_1144 rfl) <|
  jcons (jL jC_3 dL_law_1145 rfl) <|
  jcons (jL jC_3 dL_law_1146 rfl) <|
  jcons (jL jC_3 dL_law_1147 rfl) <|
  jcons (jL jC_3 dL_law_1148 rfl) <|
  jcons (jL jC_3 dL_law_1150 rfl) <|
  jcons (jL jC_3 dL_law_1151 rfl) <|
  jnil
theorem jt_3_18 : ∀ q ∈ tcL_law_18, sJ jnw jao 3 q.1 q.2.1 q.2.2 :=
  jcons (jL jC_3 dL_law_1152 rfl) <|
  jcons (j4V jC_3 jY_3 dL_law_1153 (jc_46 _) q1116 pd_46 (Or.inl q1115) (fun c r h1 h2 => js_53 c r h1 h2)) <|
  jcons (jL jC_3 dL_law_1156 rfl) <|
  jcons (jL jC_3 dL_law_1157 rfl) <|
  jcons (jL jC_3 dL_law_1158 rfl) <|
  jcons (jL jC_3 dL_law_1160 rfl) <|
  jcons (jL jC_3 dL_law_1161 rfl) <|
  jcons (jL jC_3 dL_law_1162 rfl) <|
  jcons (jL jC_3 dL_law_1163 rfl) <|
  jcons (jL jC_3 dL_law_1164 rfl) <|
  jcons (jL jC_3 dL_law_1166 rfl) <|
  jcons (jL jC_3 dL_law_1167 rfl) <|
  jcons (jL jC_3 dL_law_1168 rfl) <|
  jcons (j4V jC_3 jY_3 dL_law_1169 (jc_155 _) q1829 pd_155 (Or.inl q1828) (fun c r h1 h2 => js_54 c r h1 h2)) <|
  jcons (jL jC_3 dL_law_1172 rfl) <|
  jcons (jL jC_3 dL_law_1175 rfl) <|
  jcons (jL jC_3 dL_law_1176 rfl) <|
  jcons (jL jC_3 dL_law_1177 rfl) <|
  jcons (jL jC_3 dL_law_1178 rfl) <|
  jcons (jL jC_3 dL_law_1179 rfl) <|
  jcons (jL jC_3 dL_law_1181 rfl) <|
  jcons (jL jC_3 dL_law_1182 rfl) <|
  jcons (jL jC_3 dL_law_1183 rfl) <|
  jcons (jL jC_3 dL_law_1184 rfl) <|
  jcons (jL jC_3 dL_law_1185 rfl) <|
  jcons (jL jC_3 dL_law_1187 rfl) <|
  jcons (jL jC_3 dL_law_1188 rfl) <|
  jcons (jL jC_3 dL_law_1189 rfl) <|
  jcons (j4V jC_3 jY_3 dL_law_1190 (jc_47 _) q1120 pd_47 (Or.inl q1119) (fun c r h1 h2 => js_55 c r h1 h2)) <|
  jcons (jL jC_3 dL_law_1193 rfl) <|
  jcons (jL jC_3 dL_law_1194 rfl) <|
  jcons (jL jC_3 dL_law_1195 rfl) <|
  jcons (jL jC_3 dL_law_1197 rfl) <|
  jcons (jL jC_3 dL_law_1198 rfl) <|
  jcons (jL jC_3 dL_law_1199 rfl) <|
  jcons (jL jC_3 dL_law_1200 rfl) <|
  jcons (jL jC_3 dL_law_1201 rfl) <|
  jcons (jL jC_3 dL_law_1203 rfl) <|
  jcons (jL jC_3 dL_law_1204 rfl) <|
  jcons (jL jC_3 dL_law_1205 rfl) <|
  jcons (j4V jC_3 jY_3 dL_law_1206 (jc_156 _) q1833 pd_156 (Or.inl q1832) (fun c r h1 h2 => js_56 c r h1 h2)) <|
  jcons (jL jC_3 dL_law_1209 rfl) <|
  jcons (jL jC_3 dL_law_1212 rfl) <|
  jcons (jL jC_3 dL_law_1213 rfl) <|
  jcons (jL jC_3 dL_law_1214 rfl) <|
  jcons (jL jC_3 dL_law_1215 rfl) <|
  jnil
theorem jt_3_19 : ∀ q ∈ tcL_law_19, sJ jnw jao 3 q.1 q.2.1 q.2.2 :=
  jcons (jL jC_3 dL_law_1216 rfl) <|
  jcons (jL jC_3 dL_law_1218 rfl) <|
  jcons (jL jC_3 dL_law_1219 rfl) <|
  jcons (jL jC_3 dL_law_1220 rfl) <|
  jcons (jL jC_3 dL_law_1221 rfl) <|
  jcons (jL jC_3 dL_law_1222 rfl) <|
  jcons (jL jC_3 dL_law_1224 rfl) <|
  jcons (jL jC_3 dL_law_1225 rfl) <|
  jcons (jL jC_3 dL_law_1226 rfl) <|
  jcons (jL jC_3 dL_law_1227 rfl) <|
  jcons (jL jC_3 dL_law_1228 rfl) <|
  jcons (jL jC_3 dL_law_1230 rfl) <|
  jcons (jL jC_3 dL_law_1231 rfl) <|
  jcons (jL jC_3 dL_law_1232 rfl) <|
  jcons (j4V jC_3 jY_3 dL_law_1233 (jc_48 _) q1124 pd_48 (Or.inl q1123) (fun c r h1 h2 => js_57 c r h1 h2)) <|
  jcons (jL jC_3 dL_law_1236 rfl) <|
  jcons (jL jC_3 dL_law_1237 rfl) <|
  jcons (jL jC_3 dL_law_1238 rfl) <|
  jcons (jL jC_3 dL_law_1240 rfl) <|
  jcons (jL jC_3 dL_law_1241 rfl) <|
  jcons (jL jC_3 dL_law_1242 rfl) <|
  jcons (jL jC_3 dL_law_1243 rfl) <|
  jcons (jL jC_3 dL_law_1244 rfl) <|
  jcons (jL jC_3 dL_law_1246 rfl) <|
  jcons (jL jC_3 dL_law_1247 rfl) <|
  jcons (jL jC_3 dL_law_1248 rfl) <|
  jcons (jL jC_3 dL_law_1249 rfl) <|
  jcons (jL jC_3 dL_law_1250 rfl) <|
  jcons (jL jC_3 dL_law_1252 rfl) <|
  jcons (jL jC_3 dL_law_1253 rfl) <|
  jcons (jL jC_3 dL_law_1254 rfl) <|
  jcons (j4V jC_3 jY_3 dL_law_1255 (jc_157 _) q1837 pd_157 (Or.inl q1836) (fun c r h1 h2 => js_58 c r h1 h2)) <|
  jcons (jL jC_3 dL_law_1258 rfl) <|
  jcons (jL jC_3 dL_law_1261 rfl) <|
  jcons (jL jC_3 dL_law_1262 rfl) <|
  jcons (jL jC_3 dL_law_1263 rfl) <|
  jcons (j4V jC_3 jY_3 dL_law_1264 (jc_49 _) q1160 pd_49 (Or.inl q1159) (fun c r h1 h2 => js_59 c r h1 h2)) <|
  jcons (jL jC_3 dL_law_1267 rfl) <|
  jcons (j4V jC_3 jY_3 dL_law_1268 (jc_158 _) q1841 pd_158 (Or.inl q1840) (fun c r h1 h2 => js_60 c r h1 h2)) <|
  jcons (jL jC_3 dL_law_1271 rfl) <|
  jcons (jL jC_3 dL_law_1274 rfl) <|
  jcons (jL jC_3 dL_law_1275 rfl) <|
  jcons (jL jC_3 dL_law_1276 rfl) <|
  jcons (jL jC_3 dL_law_1277 rfl) <|
  jcons (jL jC_3 dL_law_1278 rfl) <|
  jnil
theorem jt_3_20 : ∀ q ∈ tcL_law_20, sJ jnw jao 3 q.1 q.2.1 q.2.2 :=
  jcons (jL jC_3 dL_law_1280 rfl) <|
  jcons (jL jC_3 dL_law_1281 rfl) <|
  jcons (jL jC_3 dL_law_1282 rfl) <|
  jcons (jL jC_3 dL_law_1283 rfl) <|
  jcons (jL jC_3 dL_law_1284 rfl) <|
  jcons (jL jC_3 dL_law_1286 rfl) <|
  jcons (jL jC_3 dL_law_1287 rfl) <|
  jcons (jL jC_3 dL_law_1288 rfl) <|
  jcons (jL jC_3 dL_law_1290 rfl) <|
  jcons (jL jC_3 dL_law_1291 rfl) <|
  jcons (jL jC_3 dL_law_1292 rfl) <|
  jcons (jL jC_3 dL_law_1293 rfl) <|
  jcons (j3 jC_3 jY_3 dL_law_1294 q1883) <|
  jcons (jL jC_3 dL_law_1297 rfl) <|
  jcons (jL jC_3 dL_law_1298 rfl) <|
  jcons (j4V jC_3 jY_3 dL_law_1299 (jc_50 _) q1164 pd_50 (Or.inl q1163) (fun c r h1 h2 => js_61 c r h1 h2)) <|
  jcons (jL jC_3 dL_law_1302 rfl) <|
  jcons (jL jC_3 dL_law_1303 rfl) <|
  jcons (jL jC_3 dL_law_1304 rfl) <|
  jcons (jL jC_3 dL_law_1306 rfl) <|
  jcons (jL jC_3 dL_law_1307 rfl) <|
  jcons (jL jC_3 dL_law_1308 rfl) <|
  jcons (jL jC_3 dL_law_1309 rfl) <|
  jcons (jL jC_3 dL_law_1310 rfl) <|
  jcons (jL jC_3 dL_law_1312 rfl) <|
  jcons (jL jC_3 dL_law_1313 rfl) <|
  jcons (jL jC_3 dL_law_1314 rfl) <|
  jcons (jL jC_3 dL_law_1316 rfl) <|
  jcons (jL jC_3 dL_law_1317 rfl) <|
  jcons (jL jC_3 dL_law_1318 rfl) <|
  jcons (jL jC_3 dL_law_1319 rfl) <|
  jcons (j3 jC_3 jY_3 dL_law_1320 q1883) <|
  jcons (jL jC_3 dL_law_1323 rfl) <|
  jcons (jL jC_3 dL_law_1324 rfl) <|
  jcons (j4V jC_3 jY_3 dL_law_1325 (jc_159 _) q1845 pd_159 (Or.inl q1844) (fun c r h1 h2 => js_62 c r h1 h2)) <|
  jcons (jL jC_3 dL_law_1328 rfl) <|
  jcons (jL jC_3 dL_law_1331 rfl) <|
  jcons (jL jC_3 dL_law_1332 rfl) <|
  jcons (jL jC_3 dL_law_1333 rfl) <|
  jcons (jL jC_3 dL_law_1334 rfl) <|
  jcons (jL jC_3 dL_law_1335 rfl) <|
  jcons (jL jC_3 dL_law_1337 rfl) <|
  jcons (jL jC_3 dL_law_1338 rfl) <|
  jcons (jL jC_3 dL_law_1339 rfl) <|
  jcons (jL jC_3 dL_law_1340 rfl) <|
  jcons (jL jC_3 dL_law_1341 rfl) <|
  jcons (jL jC_3 dL_law_1343 rfl) <|
  jnil
theorem jt_3_21 : ∀ q ∈ tcL_law_21, sJ jnw jao 3 q.1 q.2.1 q.2.2 :=
  jcons (jL jC_3 dL_law_1344 rfl) <|
  jcons (jL jC_3 dL_law_1345 rfl) <|
  jcons (jL jC_3 dL_law_1346 rfl) <|
  jcons (j4S jC_3 jY_3 dL_law_1347 (jc_1 _) q1292 pd_1 (Or.inl q1291)) <|
  jcons (jL jC_3 dL_law_1350 rfl) <|
  jcons (jL jC_3 dL_law_1352 rfl) <|
  jcons (jL jC_3 dL_law_1353 rfl) <|
  jcons (jL jC_3 dL_law_1354 rfl) <|
  jcons (jL jC_3 dL_law_1356 rfl) <|
  jcons (jL jC_3 dL_law_1357 rfl) <|
  jcons (jL jC_3 dL_law_1358 rfl) <|
  jcons (jL jC_3 dL_law_1359 rfl) <|
  jcons (jL jC_3 dL_law_1360 rfl) <|
  jcons (jL jC_3 dL_law_1362 rfl) <|
  jcons (jL jC_3 dL_law_1363 rfl) <|
  jcons (jL jC_3 dL_law_1364 rfl) <|
  jcons (j4V jC_3 jY_3 dL_law_1365 (jc_162 _) q1860 pd_162 (Or.inl q1859) (fun c r h1 h2 => js_63 c r h1 h2)) <|
  jcons (jL jC_3 dL_law_1368 rfl) <|
  jcons (jL jC_3 dL_law_1370 rfl) <|
  jcons (j4V jC_3 jY_3 dL_law_1371 (jc_67 _) q1472 pd_67 (Or.inl q1471) (fun c r h1 h2 => js_18 c r h1 h2)) <|
  jcons (jL jC_3 dL_law_1374 rfl) <|
  jcons (jL jC_3 dL_law_1376 rfl) <|
  jcons (jL jC_3 dL_law_1379 rfl) <|
  jcons (jL jC_3 dL_law_1380 rfl) <|
  jcons (jL jC_3 dL_law_1381 rfl) <|
  jcons (jL jC_3 dL_law_1383 rfl) <|
  jcons (jL jC_3 dL_law_1386 rfl) <|
  jcons (jL jC_3 dL_law_1387 rfl) <|
  jcons (jL jC_3 dL_law_1388 rfl) <|
  jcons (jL jC_3 dL_law_1389 rfl) <|
  jcons (jL jC_3 dL_law_1391 rfl) <|
  jcons (jL jC_3 dL_law_1392 rfl) <|
  jcons (jL jC_3 dL_law_1393 rfl) <|
  jcons (jL jC_3 dL_law_1396 rfl) <|
  jcons (jL jC_3 dL_law_1397 rfl) <|
  jcons (jL jC_3 dL_law_1398 rfl) <|
  jcons (jL jC_3 dL_law_1401 rfl) <|
  jcons (jL jC_3 dL_law_1402 rfl) <|
  jcons (jL jC_3 dL_law_1403 rfl) <|
  jcons (jL jC_3 dL_law_1405 rfl) <|
  jcons (jL jC_3 dL_law_1406 rfl) <|
  jcons (jL jC_3 dL_law_1407 rfl) <|
  jnil
theorem jt_3_22 : ∀ q ∈ tcL_law_22, sJ jnw jao 3 q.1 q.2.1 q.2.2 :=
  jcons (jL jC_3 dL_law_1408 rfl) <|
  jcons (jL jC_3 dL_law_1409 rfl) <|
  jcons (jL jC_3 dL_law_1411 rfl) <|
  jcons (jL jC_3 dL_law_1412 rfl) <|
  jcons (jL jC_3 dL_law_1413 rfl) <|
  jcons (jL jC_3 dL_law_1414 rfl) <|
  jcons (jL jC_3 dL_law_1415 rfl) <|
  jcons (jL jC_3 dL_law_1417 rfl) <|
  jcons (jL jC_3 dL_law_1418 rfl) <|
  jcons (jL jC_3 dL_law_1419 rfl) <|
  jcons (jL jC_3 dL_law_1420 rfl) <|
  jcons (jL jC_3 dL_law_1421 rfl) <|
  jcons (jL jC_3 dL_law_1423 rfl) <|
  jcons (jL jC_3 dL_law_1424 rfl) <|
  jcons (jL jC_3 dL_law_1425 rfl) <|
  jcons (jL jC_3 dL_law_1426 rfl) <|
  jcons (jL jC_3 dL_law_1427 rfl) <|
  jcons (jL jC_3 dL_law_1429 rfl) <|
  jcons (jL jC_3 dL_law_1430 rfl) <|
  jcons (jL jC_3 dL_law_1431 rfl) <|
  jcons (jL jC_3 dL_law_1432 rfl) <|
  jcons (jL jC_3 dL_law_1433 rfl) <|
  jcons (jL jC_3 dL_law_1435 rfl) <|
  jcons (jL jC_3 dL_law_1437 rfl) <|
  jcons (jL jC_3 dL_law_1438 rfl) <|
  jcons (jL jC_3 dL_law_1439 rfl) <|
  jcons (j4S jC_3 jY_3 dL_law_1440 (jc_2 _) q1300 pd_2 (Or.inl q1299)) <|
  jcons (jL jC_3 dL_law_1443 rfl) <|
  jcons (jL jC_3 dL_law_1445 rfl) <|
  jcons (jL jC_3 dL_law_1446 rfl) <|
  jcons (jL jC_3 dL_law_1447 rfl) <|
  jcons (jL jC_3 dL_law_1449 rfl) <|
  jcons (jL jC_3 dL_law_1450 rfl) <|
  jcons (jL jC_3 dL_law_1451 rfl) <|
  jcons (jL jC_3 dL_law_1452 rfl) <|
  jcons (jL jC_3 dL_law_1453 rfl) <|
  jcons (jL jC_3 dL_law_1455 rfl) <|
  jcons (jL jC_3 dL_law_1456 rfl) <|
  jcons (jL jC_3 dL_law_1457 rfl) <|
  jcons (jL jC_3 dL_law_1458 rfl) <|
  jcons (jL jC_3 dL_law_1459 rfl) <|
  jcons (jL jC_3 dL_law_1461 rfl) <|
  jcons (jL jC_3 dL_law_1462 rfl) <|
  jcons (jL jC_3 dL_law_1463 rfl) <|
  jcons (jL jC_3 dL_law_1464 rfl) <|
  jcons (jL jC_3 dL_law_1465 rfl) <|
  jcons (jL jC_3 dL_law_1467 rfl) <|
  jcons (jL jC_3 dL_law_1468 rfl) <|
  jcons (jL jC_3 dL_law_1469 rfl) <|
  jcons (jL jC_3 dL_law_1470 rfl) <|
  jcons (jL jC_3 dL_law_1471 rfl) <|
  jnil
theorem jt_3_23 : ∀ q ∈ tcL_law_23, sJ jnw jao 3 q.1 q.2.1 q.2.2 :=
  jcons (jL jC_3 dL_law_1473 rfl) <|
  jcons (jL jC_3 dL_law_1474 rfl) <|
  jcons (jL jC_3 dL_law_1475 rfl) <|
  jcons (jL jC_3 dL_law_1476 rfl) <|
  jcons (jL jC_3 dL_law_1477 rfl) <|
  jcons (jL jC_3 dL_law_1479 rfl) <|
  jcons (jL jC_3 dL_law_1481 rfl) <|
  jcons (jL jC_3 dL_law_1482 rfl) <|
  jcons (j4V jC_3 jY_3 dL_law_1483 (jc_102 _) q1610 pd_102 (Or.inl q1609) (fun c r h1 h2 => js_64 c r h1 h2)) <|
  jcons (jL jC_3 dL_law_1486 rfl) <|
  jcons (jL jC_3 dL_law_1488 rfl) <|
  jcons (j4V jC_3 jY_3 dL_law_1489 (jc_67 _) q1472 pd_67 (Or.inl q1471) (fun c r h1 h2 => js_18 c r h1 h2)) <|
  jcons (jL jC_3 dL_law_1492 rfl) <|
  jcons (jL jC_3 dL_law_1494 rfl) <|
  jcons (jL jC_3 dL_law_1497 rfl) <|
  jcons (jL jC_3 dL_law_1498 rfl) <|
  jcons (jL jC_3 dL_law_1499 rfl) <|
  jcons (jL jC_3 dL_law_1501 rfl) <|
  jcons (jL jC_3 dL_law_1504 rfl) <|
  jcons (jL jC_3 dL_law_1505 rfl) <|
  jcons (jL jC_3 dL_law_1506 rfl) <|
  jcons (jL jC_3 dL_law_1507 rfl) <|
  jcons (jL jC_3 dL_law_1509 rfl) <|
  jcons (jL jC_3 dL_law_1510 rfl) <|
  jcons (jL jC_3 dL_law_1511 rfl) <|
  jcons (jL jC_3 dL_law_1514 rfl) <|
  jcons (jL jC_3 dL_law_1515 rfl) <|
  jcons (jL jC_3 dL_law_1516 rfl) <|
  jcons (jL jC_3 dL_law_1519 rfl) <|
  jcons (jL jC_3 dL_law_1520 rfl) <|
  jcons (jL jC_3 dL_law_1521 rfl) <|
  jcons (jL jC_3 dL_law_1523 rfl) <|
  jcons (jL jC_3 dL_law_1524 rfl) <|
  jcons (jL jC_3 dL_law_1525 rfl) <|
  jcons (jL jC_3 dL_law_1526 rfl) <|
  jcons (jL jC_3 dL_law_1527 rfl) <|
  jcons (jL jC_3 dL_law_1529 rfl) <|
  jcons (jL jC_3 dL_law_1530 rfl) <|
  jcons (jL jC_3 dL_law_1531 rfl) <|
  jcons (jL jC_3 dL_law_1532 rfl) <|
  jcons (jL jC_3 dL_law_1533 rfl) <|
  jcons (jL jC_3 dL_law_1535 rfl) <|
  jnil
theorem jt_3_24 : ∀ q ∈ tcL_law_24, sJ jnw jao 3 q.1 q.2.1 q.2.2 :=
  jcons (jL jC_3 dL_law_1536 rfl) <|
  jcons (jL jC_3 dL_law_1537 rfl) <|
  jcons (jL jC_3 dL_law_1538 rfl) <|
  jcons (jL jC_3 dL_law_1539 rfl) <|
  jcons (jL jC_3 dL_law_1541 rfl) <|
  jcons (jL jC_3 dL_law_1542 rfl) <|
  jcons (jL jC_3 dL_law_1543 rfl) <|
  jcons (j4V jC_3 jY_3 dL_law_1544 (jc_55 _) q1191 pd_55 (Or.inl q1190) (fun c r h1 h2 => js_65 c r h1 h2)) <|
  jcons (jL jC_3 dL_law_1547 rfl) <|
  jcons (jL jC_3 dL_law_1548 rfl) <|
  jcons (jL jC_3 dL_law_1549 rfl) <|
  jcons (jL jC_3 dL_law_1551 rfl) <|
  jcons (jL jC_3 dL_law_1552 rfl) <|
  jcons (jL jC_3 dL_law_1553 rfl) <|
  jcons (jL jC_3 dL_law_1554 rfl) <|
  jcons (jL jC_3 dL_law_1555 rfl) <|
  jcons (jL jC_3 dL_law_1557 rfl) <|
  jcons (jL jC_3 dL_law_1558 rfl) <|
  jcons (jL jC_3 dL_law_1559 rfl) <|
  jcons (jL jC_3 dL_law_1560 rfl) <|
  jcons (jL jC_3 dL_law_1561 rfl) <|
  jcons (jL jC_3 dL_law_1563 rfl) <|
  jcons (jL jC_3 dL_law_1564 rfl) <|
  jcons (jL jC_3 dL_law_1565 rfl) <|
  jcons (jL jC_3 dL_law_1566 rfl) <|
  jcons (jL jC_3 dL_law_1567 rfl) <|
  jcons (jL jC_3 dL_law_1569 rfl) <|
  jcons (jL jC_3 dL_law_1570 rfl) <|
  jcons (jL jC_3 dL_law_1571 rfl) <|
  jcons (j4V jC_3 jY_3 dL_law_1572 (jc_163 _) q1864 pd_163 (Or.inl q1863) (fun c r h1 h2 => js_66 c r h1 h2)) <|
  jcons (jL jC_3 dL_law_1575 rfl) <|
  jcons (jL jC_3 dL_law_1578 rfl) <|
  jcons (jL jC_3 dL_law_1579 rfl) <|
  jcons (jL jC_3 dL_law_1580 rfl) <|
  jcons (jL jC_3 dL_law_1581 rfl) <|
  jcons (jL jC_3 dL_law_1582 rfl) <|
  jcons (jL jC_3 dL_law_1584 rfl) <|
  jcons (jL jC_3 dL_law_1585 rfl) <|
  jcons (jL jC_3 dL_law_1586 rfl) <|
  jcons (jL jC_3 dL_law_1587 rfl) <|
  jcons (jL jC_3 dL_law_1588 rfl) <|
  jcons (jL jC_3 dL_law_1590 rfl) <|
  jcons (jL jC_3 dL_law_1591 rfl) <|
  jcons (jL jC_3 dL_law_1592 rfl) <|
  jcons (jL jC_3 dL_law_1593 rfl) <|
  jcons (jL jC_3 dL_law_1594 rfl) <|
  jcons (jL jC_3 dL_law_1596 rfl) <|
  jcons (jL jC_3 dL_law_1597 rfl) <|
  jcons (jL jC_3 dL_law_1598 rfl) <|
  jcons (j4V jC_3 jY_3 dL_law_1599 (jc_60 _) q1254 pd_60 (Or.inl q1253) (fun c r h1 h2 => js_67 c r h1 h2)) <|
  jnil
theorem jt_3_25 : ∀ q ∈ tcL_law_25, sJ jnw jao 3 q.1 q.2.1 q.2.2 :=
  jcons (jL jC_3 dL_law_1602 rfl) <|
  jcons (jL jC_3 dL_law_1603 rfl) <|
  jcons (jL jC_3 dL_law_1604 rfl) <|
  jcons (jL jC_3 dL_law_1606 rfl) <|
  jcons (jL jC_3 dL_law_1607 rfl) <|
  jcons (jL jC_3 dL_law_1608 rfl) <|
  jcons (jL jC_3 dL_law_1609 rfl) <|
  jcons (jL jC_3 dL_law_1610 rfl) <|
  jcons (jL jC_3 dL_law_1612 rfl) <|
  jcons (jL jC_3 dL_law_1613 rfl) <|
  jcons (jL jC_3 dL_law_1614 rfl) <|
  jcons (jL jC_3 dL_law_1615 rfl) <|
  jcons (jL jC_3 dL_law_1616 rfl) <|
  jcons (jL jC_3 dL_law_1618 rfl) <|
  jcons (jL jC_3 dL_law_1619 rfl) <|
  jcons (jL jC_3 dL_law_1620 rfl) <|
  jcons (j4V jC_3 jY_3 dL_law_1621 (jc_166 _) q1876 pd_166 (Or.inl q1875) (fun c r h1 h2 => js_68 c r h1 h2)) <|
  jcons (jL jC_3 dL_law_1624 rfl) <|
  jcons (jL jC_3 dL_law_1627 rfl) <|
  jcons (jL jC_3 dL_law_1628 rfl) <|
  jcons (jL jC_3 dL_law_1629 rfl) <|
  jcons (jL jC_3 dL_law_1630 rfl) <|
  jcons (jL jC_3 dL_law_1631 rfl) <|
  jcons (jL jC_3 dL_law_1633 rfl) <|
  jcons (jL jC_3 dL_law_1634 rfl) <|
  jcons (jL jC_3 dL_law_1635 rfl) <|
  jcons (j4V jC_3 jY_3 dL_law_1636 (jc_61 _) q1258 pd_61 (Or.inl q1257) (fun c r h1 h2 => js_69 c r h1 h2)) <|
  jcons (jL jC_3 dL_law_1639 rfl) <|
  jcons (jL jC_3 dL_law_1640 rfl) <|
  jcons (jL jC_3 dL_law_1641 rfl) <|
  jcons (jL jC_3 dL_law_1643 rfl) <|
  jcons (jL jC_3 dL_law_1644 rfl) <|
  jcons (jL jC_3 dL_law_1645 rfl) <|
  jcons (j4V jC_3 jY_3 dL_law_1646 (jc_167 _) q1880 pd_167 (Or.inl q1879) (fun c r h1 h2 => js_70 c r h1 h2)) <|
  jcons (jL jC_3 dL_law_1649 rfl) <|
  jcons (jL jC_3 dL_law_1652 rfl) <|
  jcons (jL jC_3 dL_law_1653 rfl) <|
  jcons (jL jC_3 dL_law_1654 rfl) <|
  jcons (jL jC_3 dL_law_1657 rfl) <|
  jcons (jL jC_3 dL_law_1660 rfl) <|
  jcons (jL jC_3 dL_law_1661 rfl) <|
  jnil
theorem jm_3 : ∀ l ∈ tbL_law, ∀ q ∈ l, sJ jnw jao 3 q.1 q.2.1 q.2.2 := jmc jt_3_0 <| jmc jt_3_1 <| jmc jt_3_2 <| jmc jt_3_3 <| jmc jt_3_4 <| jmc jt_3_5 <| jmc jt_3_6 <| jmc jt_3_7 <| jmc jt_3_8 <| jmc jt_3_9 <| jmc jt_3_10 <| jmc jt_3_11 <| jmc jt_3_12 <| jmc jt_3_13 <| jmc jt_3_14 <| jmc jt_3_15 <| jmc jt_3_16 <| jmc jt_3_17 <| jmc jt_3_18 <| jmc jt_3_19 <| jmc jt_3_20 <| jmc jt_3_21 <| jmc jt_3_22 <| jmc jt_3_23 <| jmc jt_3_24 <| jmc jt_3_25 <| jmn
theorem jt_4_0 : ∀ q ∈ tcX1_init_0, sJ jnw jao 4 q.1 q.2.1 q.2.2 :=
  jcons (jL jC_4 dX1_init_0 rfl) <|
  jcons (j10 jC_4 jY_4 dX1_init_1 q140) <|
  jcons (jL jC_4 dX1_init_4 rfl) <|
  jcons (jL jC_4 dX1_init_5 rfl) <|
  jcons (j8 jC_4 jY_4 dX1_init_7 rfl (by decide) q143 (by decide)) <|
  jcons (jPf jC_4 jY_4 dX1_init_10 fk_1_0_X1 ap_1_0 fn_1_0 q165 rfl (tyX1_ok 0 (by decide)) (Or.inr (Or.inr (Or.inr ⟨rfl, jRf rfl⟩)))) <|
  jcons (jL jC_4 dX1_init_13 rfl) <|
  jcons (jL jC_4 dX1_init_14 rfl) <|
  jcons (j7_1 jC_4 dX1_init_17) <|
  jcons (jPf jC_4 jY_4 dX1_init_19 fk_1_2_X1 ap_1_2 fn_1_2 q169 rfl (tyX1_ok 2 (by decide)) (Or.inr (Or.inr (Or.inr ⟨rfl, jRf rfl⟩)))) <|
  jcons (jL jC_4 dX1_init_22 rfl) <|
  jcons (jL jC_4 dX1_init_23 rfl) <|
  jcons (j8 jC_4 jY_4 dX1_init_25 rfl (by decide) q145 (by decide)) <|
  jcons (jPf jC_4 jY_4 dX1_init_28 fk_1_4_X1 ap_1_4 fn_1_4 q172 rfl (tyX1_ok 4 (by decide)) (Or.inr (Or.inr (Or.inr ⟨rfl, jRf rfl⟩)))) <|
  jcons (jL jC_4 dX1_init_31 rfl) <|
  jcons (jL jC_4 dX1_init_32 rfl) <|
  jcons (j7_0 jC_4 dX1_init_34) <|
  jcons (jPf jC_4 jY_4 dX1_init_36 fk_1_6_X1 ap_1_6 fn_1_6 q174 rfl (tyX1_ok 6 (by decide)) (Or.inr (Or.inr (Or.inr ⟨rfl, jRf rfl⟩)))) <|
  jcons (jL jC_4 dX1_init_39 rfl) <|
  jcons (jL jC_4 dX1_init_40 rfl) <|
  jcons (j7_0 jC_4 dX1_init_43) <|
  jcons (jPf jC_4 jY_4 dX1_init_45 fk_1_7_X1 ap_1_7 fn_1_7 q175 rfl (tyX1_ok 7 (by decide)) (Or.inr (Or.inr (Or.inr ⟨rfl, jRf rfl⟩)))) <|
  jcons (jL jC_4 dX1_init_48 rfl) <|
  jcons (jL jC_4 dX1_init_49 rfl) <|
  jcons (j7_0 jC_4 dX1_init_52) <|
  jcons (jPf jC_4 jY_4 dX1_init_54 fk_1_8_X1 ap_1_8 fn_1_8 q176 rfl (tyX1_ok 8 (by decide)) (Or.inr (Or.inr (Or.inr ⟨rfl, jRf rfl⟩)))) <|
  jcons (jL jC_4 dX1_init_57 rfl) <|
  jcons (jL jC_4 dX1_init_58 rfl) <|
  jcons (j7_0 jC_4 dX1_init_61) <|
  jcons (jPf jC_4 jY_4 dX1_init_63 fk_1_9_X1 ap_1_9 fn_1_9 q177 rfl (tyX1_ok 9 (by decide)) (Or.inr (Or.inr (Or.inr ⟨rfl, jRf rfl⟩)))) <|
  jnil
theorem jt_4_1 : ∀ q ∈ tcX1_init_1, sJ jnw jao 4 q.1 q.2.1 q.2.2 :=
  jcons (jL jC_4 dX1_init_66 rfl) <|
  jcons (jL jC_4 dX1_init_67 rfl) <|
  jcons (j7_0 jC_4 dX1_init_69) <|
  jcons (jPf jC_4 jY_4 dX1_init_71 fk_1_10_X1 ap_1_10 fn_1_10 q178 rfl (tyX1_ok 10 (by decide)) (Or.inr (Or.inr (Or.inr ⟨rfl, jRf rfl⟩)))) <|
  jcons (jL jC_4 dX1_init_74 rfl) <|
  jcons (jL jC_4 dX1_init_75 rfl) <|
  jcons (j8 jC_4 jY_4 dX1_init_77 rfl (by decide) q147 (by decide)) <|
  jcons (jPf jC_4 jY_4 dX1_init_80 fk_1_11_X1 ap_1_11 fn_1_11 q179 rfl (tyX1_ok 11 (by decide)) (Or.inr (Or.inr (Or.inr ⟨rfl, jRf rfl⟩)))) <|
  jcons (jL jC_4 dX1_init_83 rfl) <|
  jcons (jL jC_4 dX1_init_84 rfl) <|
  jcons (jPu jC_4 jY_4 dX1_init_85 fk_1_14_X1 ap_1_14 (fn_1_14 _) (Or.inl q182) (tyX1_ok 14 (by decide)) (Or.inl ⟨rfl, rfl⟩)) <|
  jcons (jL jC_4 dX1_init_88 rfl) <|
  jcons (jL jC_4 dX1_init_89 rfl) <|
  jcons (j8 jC_4 jY_4 dX1_init_91 rfl (by decide) q149 (by decide)) <|
  jcons (jPf jC_4 jY_4 dX1_init_94 fk_1_18_X1 ap_1_18 fn_1_18 q186 rfl (tyX1_ok 18 (by decide)) (Or.inr (Or.inr (Or.inr ⟨rfl, jRf rfl⟩)))) <|
  jcons (jL jC_4 dX1_init_97 rfl) <|
  jcons (j6 jC_4 jY_4 dX1_init_98 rfl q151 q152 q104) <|
  jcons (jL jC_4 dX1_init_101 rfl) <|
  jcons (j4I jC_4 jY_4 dX1_init_102 (jc_65 _) rfl q154 ⟨_, _, q155⟩ pd_65 (Or.inr ⟨_, jw_q153⟩)) <|
  jcons (jPf jC_4 jY_4 dX1_init_105 fk_1_19_X1 ap_1_19 fn_1_19 q187 rfl (tyX1_ok 19 (by decide)) (Or.inr (Or.inr (Or.inr ⟨rfl, jRf rfl⟩)))) <|
  jcons (jL jC_4 dX1_init_108 rfl) <|
  jcons (jL jC_4 dX1_init_109 rfl) <|
  jcons (j7_0 jC_4 dX1_init_111) <|
  jcons (jPf jC_4 jY_4 dX1_init_113 fk_1_21_X1 ap_1_21 fn_1_21 q189 rfl (tyX1_ok 21 (by decide)) (Or.inr (Or.inr (Or.inr ⟨rfl, jRf rfl⟩)))) <|
  jcons (jL jC_4 dX1_init_116 rfl) <|
  jnil
theorem jm_4 : ∀ l ∈ tbX1_init, ∀ q ∈ l, sJ jnw jao 4 q.1 q.2.1 q.2.2 := jmc jt_4_0 <| jmc jt_4_1 <| jmn
theorem jt_5_0 : ∀ q ∈ tcX1_sort_0, sJ jnw jao 5 q.1 q.2.1 q.2.2 :=
  jcons (jL jC_5 dX1_sort_0 rfl) <|
  jcons (jG jC_5 jY_5 dX1_sort_1 fk_1_1_X1 (Or.inl q166)) <|
  jcons (jL jC_5 dX1_sort_4 rfl) <|
  jcons (jL jC_5 dX1_sort_6 rfl) <|
  jcons (jL jC_5 dX1_sort_9 rfl) <|
  jcons (jL jC_5 dX1_sort_10 rfl) <|
  jcons (j3 jC_5 jY_5 dX1_sort_11 q242) <|
  jcons (j3 jC_5 jY_5 dX1_sort_14 q243) <|
  jcons (j4S jC_5 jY_5 dX1_sort_17 (jc_6 _) q245 pd_6 (Or.inl q244)) <|
  jcons (jL jC_5 dX1_sort_20 rfl) <|
  jcons (jL jC_5 dX1_sort_23 rfl) <|
  jcons (jL jC_5 dX1_sort_24 rfl) <|
  jcons (jL jC_5 dX1_sort_25 rfl) <|
  jcons (j3 jC_5 jY_5 dX1_sort_26 q247) <|
  jcons (j4S jC_5 jY_5 dX1_sort_29 (jc_6 _) q245 pd_6 (Or.inl q244)) <|
  jcons (jL jC_5 dX1_sort_32 rfl) <|
  jcons (jL jC_5 dX1_sort_35 rfl) <|
  jcons (jL jC_5 dX1_sort_36 rfl) <|
  jcons (jL jC_5 dX1_sort_37 rfl) <|
  jcons (j3 jC_5 jY_5 dX1_sort_38 q248) <|
  jcons (j4S jC_5 jY_5 dX1_sort_41 (jc_6 _) q245 pd_6 (Or.inl q244)) <|
  jcons (jL jC_5 dX1_sort_44 rfl) <|
  jcons (jL jC_5 dX1_sort_47 rfl) <|
  jcons (jL jC_5 dX1_sort_48 rfl) <|
  jcons (jL jC_5 dX1_sort_49 rfl) <|
  jcons (jG jC_5 jY_5 dX1_sort_50 fk_1_0_X1 (Or.inl q165)) <|
  jcons (jL jC_5 dX1_sort_53 rfl) <|
  jcons (jG jC_5 jY_5 dX1_sort_54 fk_1_1_X1 (Or.inl q166)) <|
  jcons (j6 jC_5 jY_5 dX1_sort_57 rfl q143 q249 q106) <|
  jcons (jL jC_5 dX1_sort_60 rfl) <|
  jcons (jL jC_5 dX1_sort_61 rfl) <|
  jcons (jL jC_5 dX1_sort_62 rfl) <|
  jcons (jL jC_5 dX1_sort_63 rfl) <|
  jnil
theorem jt_5_1 : ∀ q ∈ tcX1_sort_1, sJ jnw jao 5 q.1 q.2.1 q.2.2 :=
  jcons (j4I jC_5 jY_5 dX1_sort_64 (jc_168 _) rfl q251 ⟨_, _, q252⟩ pd_168 (Or.inl q250)) <|
  jcons (jL jC_5 dX1_sort_67 rfl) <|
  jcons (jL jC_5 dX1_sort_68 rfl) <|
  jcons (jL jC_5 dX1_sort_69 rfl) <|
  jcons (jG jC_5 jY_5 dX1_sort_70 fk_1_1_X1 (Or.inl q166)) <|
  jcons (jL jC_5 dX1_sort_73 rfl) <|
  jcons (jL jC_5 dX1_sort_74 rfl) <|
  jcons (jPu jC_5 jY_5 dX1_sort_75 fk_1_1_X1 ap_1_1 (fn_1_1 _) (Or.inl q166) (tyX1_ok 1 (by decide)) (Or.inl ⟨rfl, rfl⟩)) <|
  jcons (jL jC_5 dX1_sort_78 rfl) <|
  jcons (jG jC_5 jY_5 dX1_sort_79 fk_1_1_X1 (Or.inl q166)) <|
  jcons (jL jC_5 dX1_sort_82 rfl) <|
  jcons (jL jC_5 dX1_sort_83 rfl) <|
  jcons (jL jC_5 dX1_sort_84 rfl) <|
  jnil
theorem jm_5 : ∀ l ∈ tbX1_sort, ∀ q ∈ l, sJ jnw jao 5 q.1 q.2.1 q.2.2 := jmc jt_5_0 <| jmc jt_5_1 <| jmn
theorem jt_6_0 : ∀ q ∈ tcX1_isIn_0, sJ jnw jao 6 q.1 q.2.1 q.2.2 :=
  jcons (jL jC_6 dX1_isIn_0 rfl) <|
  jcons (jL jC_6 dX1_isIn_1 rfl) <|
  jcons (jL jC_6 dX1_isIn_2 rfl) <|
  jcons (jL jC_6 dX1_isIn_3 rfl) <|
  jcons (jL jC_6 dX1_isIn_6 rfl) <|
  jcons (jL jC_6 dX1_isIn_7 rfl) <|
  jcons (jL jC_6 dX1_isIn_9 rfl) <|
  jcons (jL jC_6 dX1_isIn_10 rfl) <|
  jcons (jL jC_6 dX1_isIn_13 rfl) <|
  jcons (jL jC_6 dX1_isIn_14 rfl) <|
  jcons (jL jC_6 dX1_isIn_17 rfl) <|
  jcons (jL jC_6 dX1_isIn_18 rfl) <|
  jnil
theorem jm_6 : ∀ l ∈ tbX1_isIn, ∀ q ∈ l, sJ jnw jao 6 q.1 q.2.1 q.2.2 := jmc jt_6_0 <| jmn
theorem jt_7_0 : ∀ q ∈ tcX1_feed_0, sJ jnw jao 7 q.1 q.2.1 q.2.2 :=
  jcons (jL jC_7 dX1_feed_0 rfl) <|
  jcons (j4S jC_7 jY_7 dX1_feed_1 (jc_8 _) q281 pd_8 (Or.inl q280)) <|
  jcons (jL jC_7 dX1_feed_4 rfl) <|
  jcons (j4S jC_7 jY_7 dX1_feed_5 (jc_8 _) q281 pd_8 (Or.inl q280)) <|
  jcons (jL jC_7 dX1_feed_8 rfl) <|
  jcons (jL jC_7 dX1_feed_9 rfl) <|
  jcons (j4S jC_7 jY_7 dX1_feed_10 (jc_8 _) q281 pd_8 (Or.inl q280)) <|
  jcons (jL jC_7 dX1_feed_13 rfl) <|
  jcons (jL jC_7 dX1_feed_14 rfl) <|
  jcons (j4S jC_7 jY_7 dX1_feed_16 (jc_8 _) q281 pd_8 (Or.inl q280)) <|
  jcons (jL jC_7 dX1_feed_19 rfl) <|
  jcons (jL jC_7 dX1_feed_20 rfl) <|
  jcons (j4S jC_7 jY_7 dX1_feed_22 (jc_8 _) q281 pd_8 (Or.inl q280)) <|
  jcons (jL jC_7 dX1_feed_25 rfl) <|
  jcons (jL jC_7 dX1_feed_26 rfl) <|
  jcons (jL jC_7 dX1_feed_28 rfl) <|
  jcons (jG jC_7 jY_7 dX1_feed_29 fk_1_3_X1 (Or.inl q171)) <|
  jcons (jL jC_7 dX1_feed_32 rfl) <|
  jcons (jL jC_7 dX1_feed_34 rfl) <|
  jcons (jL jC_7 dX1_feed_35 rfl) <|
  jcons (jL jC_7 dX1_feed_38 rfl) <|
  jcons (jL jC_7 dX1_feed_41 rfl) <|
  jcons (jL jC_7 dX1_feed_42 rfl) <|
  jcons (jL jC_7 dX1_feed_43 rfl) <|
  jcons (jL jC_7 dX1_feed_44 rfl) <|
  jcons (j4V jC_7 jY_7 dX1_feed_45 (jc_9 _) q285 pd_9 (Or.inl q283) (fun c r h1 h2 => js_71 c r h1 h2)) <|
  jcons (jL jC_7 dX1_feed_48 rfl) <|
  jcons (jL jC_7 dX1_feed_49 rfl) <|
  jcons (j4V jC_7 jY_7 dX1_feed_50 (jc_9 _) q285 pd_9 (Or.inl q283) (fun c r h1 h2 => js_71 c r h1 h2)) <|
  jcons (jL jC_7 dX1_feed_53 rfl) <|
  jcons (jL jC_7 dX1_feed_54 rfl) <|
  jcons (j4V jC_7 jY_7 dX1_feed_55 (jc_9 _) q285 pd_9 (Or.inl q283) (fun c r h1 h2 => js_71 c r h1 h2)) <|
  jcons (jL jC_7 dX1_feed_58 rfl) <|
  jcons (jL jC_7 dX1_feed_59 rfl) <|
  jcons (j4V jC_7 jY_7 dX1_feed_61 (jc_9 _) q285 pd_9 (Or.inl q283) (fun c r h1 h2 => js_71 c r h1 h2)) <|
  jnil
theorem jt_7_1 : ∀ q ∈ tcX1_feed_1, sJ jnw jao 7 q.1 q.2.1 q.2.2 :=
  jcons (jL jC_7 dX1_feed_64 rfl) <|
  jcons (jL jC_7 dX1_feed_65 rfl) <|
  jcons (j4V jC_7 jY_7 dX1_feed_67 (jc_9 _) q285 pd_9 (Or.inl q283) (fun c r h1 h2 => js_71 c r h1 h2)) <|
  jcons (jL jC_7 dX1_feed_70 rfl) <|
  jcons (jG jC_7 jY_7 dX1_feed_71 fk_1_3_X1 (Or.inl q171)) <|
  jcons (jL jC_7 dX1_feed_74 rfl) <|
  jnil
theorem jm_7 : ∀ l ∈ tbX1_feed, ∀ q ∈ l, sJ jnw jao 7 q.1 q.2.1 q.2.2 := jmc jt_7_0 <| jmc jt_7_1 <| jmn
theorem jt_8_0 : ∀ q ∈ tcX1_bytes_0, sJ jnw jao 8 q.1 q.2.1 q.2.2 :=
  jcons (jL jC_8 dX1_bytes_0 rfl) <|
  jcons (jL jC_8 dX1_bytes_1 rfl) <|
  jcons (jL jC_8 dX1_bytes_2 rfl) <|
  jcons (jL jC_8 dX1_bytes_4 rfl) <|
  jcons (jL jC_8 dX1_bytes_5 rfl) <|
  jcons (jL jC_8 dX1_bytes_6 rfl) <|
  jcons (jL jC_8 dX1_bytes_9 rfl) <|
  jcons (jL jC_8 dX1_bytes_10 rfl) <|
  jcons (jL jC_8 dX1_bytes_11 rfl) <|
  jcons (jL jC_8 dX1_bytes_12 rfl) <|
  jcons (jL jC_8 dX1_bytes_13 rfl) <|
  jcons (jL jC_8 dX1_bytes_16 rfl) <|
  jcons (jL jC_8 dX1_bytes_17 rfl) <|
  jcons (jL jC_8 dX1_bytes_20 rfl) <|
  jcons (jL jC_8 dX1_bytes_21 rfl) <|
  jcons (jL jC_8 dX1_bytes_24 rfl) <|
  jcons (jL jC_8 dX1_bytes_25 rfl) <|
  jcons (jL jC_8 dX1_bytes_26 rfl) <|
  jcons (jL jC_8 dX1_bytes_27 rfl) <|
  jcons (jL jC_8 dX1_bytes_30 rfl) <|
  jcons (jL jC_8 dX1_bytes_33 rfl) <|
  jcons (jL jC_8 dX1_bytes_34 rfl) <|
  jnil
theorem jm_8 : ∀ l ∈ tbX1_bytes, ∀ q ∈ l, sJ jnw jao 8 q.1 q.2.1 q.2.2 := jmc jt_8_0 <| jmn
theorem jt_9_0 : ∀ q ∈ tcX1_bring_0, sJ jnw jao 9 q.1 q.2.1 q.2.2 :=
  jcons (jL jC_9 dX1_bring_0 rfl) <|
  jcons (jL jC_9 dX1_bring_2 rfl) <|
  jcons (jL jC_9 dX1_bring_3 rfl) <|
  jcons (jL jC_9 dX1_bring_4 rfl) <|
  jcons (jL jC_9 dX1_bring_7 rfl) <|
  jcons (jL jC_9 dX1_bring_8 rfl) <|
  jcons (jL jC_9 dX1_bring_9 rfl) <|
  jcons (jL jC_9 dX1_bring_10 rfl) <|
  jcons (jL jC_9 dX1_bring_13 rfl) <|
  jcons (jL jC_9 dX1_bring_14 rfl) <|
  jcons (jL jC_9 dX1_bring_17 rfl) <|
  jcons (jL jC_9 dX1_bring_20 rfl) <|
  jcons (jG jC_9 jY_9 dX1_bring_21 fk_1_2_X1 (Or.inl q169)) <|
  jcons (jL jC_9 dX1_bring_24 rfl) <|
  jcons (jG jC_9 jY_9 dX1_bring_25 fk_1_3_X1 (Or.inl q171)) <|
  jcons (jL jC_9 dX1_bring_28 rfl) <|
  jcons (jL jC_9 dX1_bring_29 rfl) <|
  jcons (jL jC_9 dX1_bring_30 rfl) <|
  jcons (jL jC_9 dX1_bring_31 rfl) <|
  jcons (jL jC_9 dX1_bring_32 rfl) <|
  jcons (jL jC_9 dX1_bring_33 rfl) <|
  jcons (jL jC_9 dX1_bring_34 rfl) <|
  jcons (jG jC_9 jY_9 dX1_bring_35 fk_1_3_X1 (Or.inl q171)) <|
  jcons (jL jC_9 dX1_bring_38 rfl) <|
  jcons (jL jC_9 dX1_bring_39 rfl) <|
  jcons (jPu jC_9 jY_9 dX1_bring_40 fk_1_3_X1 ap_1_3 (fn_1_3 _) (Or.inl q171) (tyX1_ok 3 (by decide)) (Or.inl ⟨rfl, rfl⟩)) <|
  jcons (jL jC_9 dX1_bring_43 rfl) <|
  jcons (jL jC_9 dX1_bring_46 rfl) <|
  jcons (jL jC_9 dX1_bring_49 rfl) <|
  jnil
theorem jm_9 : ∀ l ∈ tbX1_bring, ∀ q ∈ l, sJ jnw jao 9 q.1 q.2.1 q.2.2 := jmc jt_9_0 <| jmn
theorem jt_10_0 : ∀ q ∈ tcX1_end_0, sJ jnw jao 10 q.1 q.2.1 q.2.2 :=
  jcons (jL jC_10 dX1_end_0 rfl) <|
  jcons (jL jC_10 dX1_end_1 rfl) <|
  jcons (jL jC_10 dX1_end_4 rfl) <|
  jcons (jL jC_10 dX1_end_5 rfl) <|
  jcons (jG jC_10 jY_10 dX1_end_6 fk_1_3_X1 (Or.inl q171)) <|
  jcons (jL jC_10 dX1_end_9 rfl) <|
  jcons (jL jC_10 dX1_end_12 rfl) <|
  jcons (jL jC_10 dX1_end_13 rfl) <|
  jcons (jL jC_10 dX1_end_14 rfl) <|
  jcons (jL jC_10 dX1_end_15 rfl) <|
  jcons (jPu jC_10 jY_10 dX1_end_16 fk_1_3_X1 ap_1_3 (fn_1_3 _) (Or.inl q171) (tyX1_ok 3 (by decide)) (Or.inl ⟨rfl, rfl⟩)) <|
  jcons (jL jC_10 dX1_end_19 rfl) <|
  jcons (jL jC_10 dX1_end_20 rfl) <|
  jnil
theorem jm_10 : ∀ l ∈ tbX1_end, ∀ q ∈ l, sJ jnw jao 10 q.1 q.2.1 q.2.2 := jmc jt_10_0 <| jmn
theorem jt_11_0 : ∀ q ∈ tcX1_fault_0, sJ jnw jao 11 q.1 q.2.1 q.2.2 :=
  jcons (jL jC_11 dX1_fault_0 rfl) <|
  jcons (jL jC_11 dX1_fault_1 rfl) <|
  jcons (jL jC_11 dX1_fault_2 rfl) <|
  jcons (jL jC_11 dX1_fault_3 rfl) <|
  jcons (j4S jC_11 jY_11 dX1_fault_4 (jc_6 _) q245 pd_6 (Or.inl q244)) <|
  jcons (jL jC_11 dX1_fault_7 rfl) <|
  jcons (jL jC_11 dX1_fault_10 rfl) <|
  jcons (jL jC_11 dX1_fault_12 rfl) <|
  jcons (jL jC_11 dX1_fault_13 rfl) <|
  jcons (jL jC_11 dX1_fault_14 rfl) <|
  jcons (j6 jC_11 jY_11 dX1_fault_17 rfl q296 q297 q108) <|
  jcons (jL jC_11 dX1_fault_20 rfl) <|
  jcons (jL jC_11 dX1_fault_21 rfl) <|
  jcons (j11 jC_11 dX1_fault_22 rfl (Or.inl ⟨rfl, rfl⟩)) <|
  jcons (j4V jC_11 jY_11 dX1_fault_25 (jc_177 _) q329 pd_177 (Or.inl q328) (fun c r h1 h2 => js_72 c r h1 h2)) <|
  jcons (jL jC_11 dX1_fault_28 rfl) <|
  jcons (jL jC_11 dX1_fault_29 rfl) <|
  jcons (j6 jC_11 jY_11 dX1_fault_32 rfl q516 q517 q118) <|
  jcons (jL jC_11 dX1_fault_35 rfl) <|
  jcons (jL jC_11 dX1_fault_36 rfl) <|
  jcons (j11 jC_11 dX1_fault_37 rfl (Or.inr ⟨rfl, rfl⟩)) <|
  jcons (j4V jC_11 jY_11 dX1_fault_40 (jc_193 _) q530 pd_193 (Or.inl q529) (fun c r h1 h2 => js_73 c r h1 h2)) <|
  jcons (jL jC_11 dX1_fault_43 rfl) <|
  jcons (jL jC_11 dX1_fault_44 rfl) <|
  jcons (jL jC_11 dX1_fault_45 rfl) <|
  jcons (jL jC_11 dX1_fault_46 rfl) <|
  jcons (jL jC_11 dX1_fault_47 rfl) <|
  jcons (jG jC_11 jY_11 dX1_fault_48 fk_7_6_X7 (Or.inr ⟨_, jw_q407⟩)) <|
  jcons (jL jC_11 dX1_fault_51 rfl) <|
  jnil
theorem jm_11 : ∀ l ∈ tbX1_fault, ∀ q ∈ l, sJ jnw jao 11 q.1 q.2.1 q.2.2 := jmc jt_11_0 <| jmn
theorem jt_12_0 : ∀ q ∈ tcX1_figure_0, sJ jnw jao 12 q.1 q.2.1 q.2.2 :=
  jcons (jL jC_12 dX1_figure_0 rfl) <|
  jcons (jG jC_12 jY_12 dX1_figure_1 fk_1_5_X1 (Or.inl q173)) <|
  jcons (jL jC_12 dX1_figure_4 rfl) <|
  jcons (jL jC_12 dX1_figure_6 rfl) <|
  jcons (jL jC_12 dX1_figure_9 rfl) <|
  jcons (jL jC_12 dX1_figure_10 rfl) <|
  jcons (j6 jC_12 jY_12 dX1_figure_11 rfl q698 q699 q129) <|
  jcons (jL jC_12 dX1_figure_14 rfl) <|
  jcons (j4I jC_12 jY_12 dX1_figure_15 (jc_219 _) rfl q701 ⟨_, _, q702⟩ pd_219 (Or.inl q700)) <|
  jcons (jL jC_12 dX1_figure_18 rfl) <|
  jcons (j6 jC_12 jY_12 dX1_figure_19 rfl q296 q297 q108) <|
  jcons (jL jC_12 dX1_figure_22 rfl) <|
  jcons (jL jC_12 dX1_figure_23 rfl) <|
  jcons (j11 jC_12 dX1_figure_24 rfl (Or.inl ⟨rfl, rfl⟩)) <|
  jcons (j4V jC_12 jY_12 dX1_figure_27 (jc_177 _) q329 pd_177 (Or.inl q328) (fun c r h1 h2 => js_72 c r h1 h2)) <|
  jcons (jL jC_12 dX1_figure_30 rfl) <|
  jcons (j4V jC_12 jY_12 dX1_figure_31 (jc_184 _) q756 pd_184 (Or.inl q755) (fun c r h1 h2 => js_74 c r h1 h2)) <|
  jcons (jL jC_12 dX1_figure_34 rfl) <|
  jcons (jL jC_12 dX1_figure_37 rfl) <|
  jcons (jL jC_12 dX1_figure_38 rfl) <|
  jcons (jL jC_12 dX1_figure_39 rfl) <|
  jcons (jL jC_12 dX1_figure_40 rfl) <|
  jcons (jL jC_12 dX1_figure_41 rfl) <|
  jcons (jPu jC_12 jY_12 dX1_figure_42 fk_1_3_X1 ap_1_3 (fn_1_3 _) (Or.inl q171) (tyX1_ok 3 (by decide)) (Or.inl ⟨rfl, rfl⟩)) <|
  jcons (jL jC_12 dX1_figure_45 rfl) <|
  jcons (j6 jC_12 jY_12 dX1_figure_46 rfl q145 q819 q130) <|
  jcons (jL jC_12 dX1_figure_49 rfl) <|
  jcons (jL jC_12 dX1_figure_50 rfl) <|
  jcons (j4I jC_12 jY_12 dX1_figure_51 (jc_229 _) rfl q821 ⟨_, _, q822⟩ pd_229 (Or.inl q820)) <|
  jcons (j4V jC_12 jY_12 dX1_figure_54 (jc_13 _) q878 pd_13 (Or.inl q876) (fun c r h1 h2 => js_75 c r h1 h2)) <|
  jcons (jL jC_12 dX1_figure_57 rfl) <|
  jnil
theorem jm_12 : ∀ l ∈ tbX1_figure, ∀ q ∈ l, sJ jnw jao 12 q.1 q.2.1 q.2.2 := jmc jt_12_0 <| jmn
theorem jt_13_0 : ∀ q ∈ tcX1_keep_0, sJ jnw jao 13 q.1 q.2.1 q.2.2 :=
  jcons (jL jC_13 dX1_keep_0 rfl) <|
  jcons (jG jC_13 jY_13 dX1_keep_1 fk_1_4_X1 (Or.inl q172)) <|
  jcons (jL jC_13 dX1_keep_4 rfl) <|
  jcons (jG jC_13 jY_13 dX1_keep_5 fk_1_5_X1 (Or.inl q173)) <|
  jcons (jL jC_13 dX1_keep_8 rfl) <|
  jcons (jL jC_13 dX1_keep_9 rfl) <|
  jcons (jL jC_13 dX1_keep_10 rfl) <|
  jcons (jL jC_13 dX1_keep_11 rfl) <|
  jcons (jG jC_13 jY_13 dX1_keep_12 fk_1_5_X1 (Or.inl q173)) <|
  jcons (jL jC_13 dX1_keep_15 rfl) <|
  jcons (jL jC_13 dX1_keep_16 rfl) <|
  jcons (jPu jC_13 jY_13 dX1_keep_17 fk_1_5_X1 ap_1_5 (fn_1_5 _) (Or.inl q173) (tyX1_ok 5 (by decide)) (Or.inl ⟨rfl, rfl⟩)) <|
  jcons (jL jC_13 dX1_keep_20 rfl) <|
  jcons (jG jC_13 jY_13 dX1_keep_21 fk_1_5_X1 (Or.inl q173)) <|
  jcons (jL jC_13 dX1_keep_24 rfl) <|
  jcons (jL jC_13 dX1_keep_25 rfl) <|
  jcons (jL jC_13 dX1_keep_26 rfl) <|
  jnil
theorem jm_13 : ∀ l ∈ tbX1_keep, ∀ q ∈ l, sJ jnw jao 13 q.1 q.2.1 q.2.2 := jmc jt_13_0 <| jmn
theorem jt_14_0 : ∀ q ∈ tcX1_many_0, sJ jnw jao 14 q.1 q.2.1 q.2.2 :=
  jcons (jL jC_14 dX1_many_0 rfl) <|
  jcons (jL jC_14 dX1_many_1 rfl) <|
  jcons (j4V jC_14 jY_14 dX1_many_2 (jc_15 _) q886 pd_15 (Or.inl q884) (fun c r h1 h2 => js_76 c r h1 h2)) <|
  jcons (jL jC_14 dX1_many_5 rfl) <|
  jcons (jL jC_14 dX1_many_8 rfl) <|
  jcons (jL jC_14 dX1_many_9 rfl) <|
  jcons (jL jC_14 dX1_many_10 rfl) <|
  jcons (jG jC_14 jY_14 dX1_many_11 fk_1_4_X1 (Or.inl q172)) <|
  jcons (jL jC_14 dX1_many_14 rfl) <|
  jcons (jL jC_14 dX1_many_15 rfl) <|
  jcons (jL jC_14 dX1_many_16 rfl) <|
  jcons (jL jC_14 dX1_many_17 rfl) <|
  jcons (jL jC_14 dX1_many_18 rfl) <|
  jcons (jL jC_14 dX1_many_56 rfl) <|
  jcons (jG jC_14 jY_14 dX1_many_57 fk_24_7_X24 (Or.inr ⟨_, jw_q850⟩)) <|
  jcons (jL jC_14 dX1_many_60 rfl) <|
  jcons (jL jC_14 dX1_many_61 rfl) <|
  jcons (jG jC_14 jY_14 dX1_many_62 fk_24_6_X24 (Or.inr ⟨_, jw_q847⟩)) <|
  jnil
theorem jt_14_1 : ∀ q ∈ tcX1_many_1, sJ jnw jao 14 q.1 q.2.1 q.2.2 :=
  jcons (jL jC_14 dX1_many_65 rfl) <|
  jcons (jL jC_14 dX1_many_66 rfl) <|
  jcons (jG jC_14 jY_14 dX1_many_67 fk_24_8_X24 (Or.inr ⟨_, jw_q852⟩)) <|
  jcons (jL jC_14 dX1_many_70 rfl) <|
  jcons (jL jC_14 dX1_many_71 rfl) <|
  jcons (j4V jC_14 jY_14 dX1_many_72 (jc_230 _) q889 pd_230 (Or.inl q888) (fun c r h1 h2 => js_77 c r h1 h2)) <|
  jcons (jL jC_14 dX1_many_75 rfl) <|
  jcons (jL jC_14 dX1_many_76 rfl) <|
  jcons (j4V jC_14 jY_14 dX1_many_77 (jc_232 _) q897 pd_232 (Or.inl q896) (fun c r h1 h2 => js_78 c r h1 h2)) <|
  jcons (jL jC_14 dX1_many_80 rfl) <|
  jcons (jL jC_14 dX1_many_81 rfl) <|
  jcons (j4V jC_14 jY_14 dX1_many_82 (jc_234 _) q905 pd_234 (Or.inl q904) (fun c r h1 h2 => js_79 c r h1 h2)) <|
  jcons (jL jC_14 dX1_many_85 rfl) <|
  jcons (jL jC_14 dX1_many_86 rfl) <|
  jcons (jL jC_14 dX1_many_87 rfl) <|
  jnil
theorem jm_14 : ∀ l ∈ tbX1_many, ∀ q ∈ l, sJ jnw jao 14 q.1 q.2.1 q.2.2 := jmc jt_14_0 <| jmc jt_14_1 <| jmn
theorem jt_15_0 : ∀ q ∈ tcX1_isFigure_0, sJ jnw jao 15 q.1 q.2.1 q.2.2 :=
  jcons (jL jC_15 dX1_isFigure_0 rfl) <|
  jcons (jL jC_15 dX1_isFigure_1 rfl) <|
  jcons (jL jC_15 dX1_isFigure_4 rfl) <|
  jcons (jL jC_15 dX1_isFigure_5 rfl) <|
  jcons (jG jC_15 jY_15 dX1_isFigure_6 fk_1_5_X1 (Or.inl q173)) <|
  jcons (jL jC_15 dX1_isFigure_9 rfl) <|
  jcons (jL jC_15 dX1_isFigure_12 rfl) <|
  jcons (jL jC_15 dX1_isFigure_13 rfl) <|
  jcons (jL jC_15 dX1_isFigure_16 rfl) <|
  jcons (jL jC_15 dX1_isFigure_17 rfl) <|
  jnil
theorem jm_15 : ∀ l ∈ tbX1_isFigure, ∀ q ∈ l, sJ jnw jao 15 q.1 q.2.1 q.2.2 := jmc jt_15_0 <| jmn
theorem jt_16_0 : ∀ q ∈ tcX1_ends_0, sJ jnw jao 16 q.1 q.2.1 q.2.2 :=
  jcons (jL jC_16 dX1_ends_0 rfl) <|
  jcons (jL jC_16 dX1_ends_1 rfl) <|
  jcons (jL jC_16 dX1_ends_2 rfl) <|
  jcons (j4V jC_16 jY_16 dX1_ends_3 (jc_17 _) q914 pd_17 (Or.inl q912) (fun c r h1 h2 => js_80 c r h1 h2)) <|
  jcons (jL jC_16 dX1_ends_6 rfl) <|
  jcons (jL jC_16 dX1_ends_9 rfl) <|
  jcons (jG jC_16 jY_16 dX1_ends_10 fk_1_4_X1 (Or.inl q172)) <|
  jcons (jL jC_16 dX1_ends_13 rfl) <|
  jcons (jL jC_16 dX1_ends_14 rfl) <|
  jcons (jG jC_16 jY_16 dX1_ends_15 fk_24_5_X24 (Or.inr ⟨_, jw_q844⟩)) <|
  jcons (jL jC_16 dX1_ends_18 rfl) <|
  jcons (jL jC_16 dX1_ends_19 rfl) <|
  jcons (jL jC_16 dX1_ends_20 rfl) <|
  jcons (jL jC_16 dX1_ends_23 rfl) <|
  jcons (jL jC_16 dX1_ends_24 rfl) <|
  jnil
theorem jm_16 : ∀ l ∈ tbX1_ends, ∀ q ∈ l, sJ jnw jao 16 q.1 q.2.1 q.2.2 := jmc jt_16_0 <| jmn
theorem jt_17_0 : ∀ q ∈ tcX1_isPoint_0, sJ jnw jao 17 q.1 q.2.1 q.2.2 :=
  jcons (jL jC_17 dX1_isPoint_0 rfl) <|
  jcons (jL jC_17 dX1_isPoint_1 rfl) <|
  jcons (j4V jC_17 jY_17 dX1_isPoint_2 (jc_15 _) q886 pd_15 (Or.inl q884) (fun c r h1 h2 => js_76 c r h1 h2)) <|
  jcons (jL jC_17 dX1_isPoint_5 rfl) <|
  jcons (jL jC_17 dX1_isPoint_8 rfl) <|
  jcons (jL jC_17 dX1_isPoint_9 rfl) <|
  jcons (jL jC_17 dX1_isPoint_10 rfl) <|
  jcons (jL jC_17 dX1_isPoint_11 rfl) <|
  jcons (jG jC_17 jY_17 dX1_isPoint_12 fk_1_4_X1 (Or.inl q172)) <|
  jcons (jL jC_17 dX1_isPoint_15 rfl) <|
  jcons (jL jC_17 dX1_isPoint_16 rfl) <|
  jcons (jG jC_17 jY_17 dX1_isPoint_17 fk_24_8_X24 (Or.inr ⟨_, jw_q852⟩)) <|
  jcons (jL jC_17 dX1_isPoint_20 rfl) <|
  jcons (jL jC_17 dX1_isPoint_21 rfl) <|
  jcons (jL jC_17 dX1_isPoint_22 rfl) <|
  jcons (j4S jC_17 jY_17 dX1_isPoint_23 (jc_6 _) q245 pd_6 (Or.inl q244)) <|
  jcons (jL jC_17 dX1_isPoint_26 rfl) <|
  jcons (jL jC_17 dX1_isPoint_29 rfl) <|
  jcons (jL jC_17 dX1_isPoint_30 rfl) <|
  jcons (jL jC_17 dX1_isPoint_33 rfl) <|
  jcons (jL jC_17 dX1_isPoint_34 rfl) <|
  jnil
theorem jm_17 : ∀ l ∈ tbX1_isPoint, ∀ q ∈ l, sJ jnw jao 17 q.1 q.2.1 q.2.2 := jmc jt_17_0 <| jmn
theorem jt_18_0 : ∀ q ∈ tcX1_bursts_0, sJ jnw jao 18 q.1 q.2.1 q.2.2 :=
  jcons (jL jC_18 dX1_bursts_0 rfl) <|
  jcons (jL jC_18 dX1_bursts_1 rfl) <|
  jcons (jL jC_18 dX1_bursts_2 rfl) <|
  jcons (j4V jC_18 jY_18 dX1_bursts_3 (jc_19 _) q922 pd_19 (Or.inl q920) (fun c r h1 h2 => js_81 c r h1 h2)) <|
  jcons (jL jC_18 dX1_bursts_6 rfl) <|
  jcons (jL jC_18 dX1_bursts_9 rfl) <|
  jcons (jL jC_18 dX1_bursts_10 rfl) <|
  jcons (jL jC_18 dX1_bursts_11 rfl) <|
  jcons (jG jC_18 jY_18 dX1_bursts_12 fk_1_4_X1 (Or.inl q172)) <|
  jcons (jL jC_18 dX1_bursts_15 rfl) <|
  jcons (jL jC_18 dX1_bursts_16 rfl) <|
  jcons (jL jC_18 dX1_bursts_17 rfl) <|
  jcons (jL jC_18 dX1_bursts_18 rfl) <|
  jcons (jG jC_18 jY_18 dX1_bursts_19 fk_1_0_X1 (Or.inl q165)) <|
  jcons (jL jC_18 dX1_bursts_22 rfl) <|
  jcons (jG jC_18 jY_18 dX1_bursts_23 fk_24_4_X24 (Or.inr ⟨_, jw_q842⟩)) <|
  jcons (jL jC_18 dX1_bursts_26 rfl) <|
  jcons (jL jC_18 dX1_bursts_27 rfl) <|
  jcons (jL jC_18 dX1_bursts_28 rfl) <|
  jcons (jL jC_18 dX1_bursts_29 rfl) <|
  jcons (jL jC_18 dX1_bursts_31 rfl) <|
  jcons (jL jC_18 dX1_bursts_32 rfl) <|
  jcons (jL jC_18 dX1_bursts_34 rfl) <|
  jcons (jL jC_18 dX1_bursts_36 rfl) <|
  jcons (jG jC_18 jY_18 dX1_bursts_37 fk_24_6_X24 (Or.inr ⟨_, jw_q847⟩)) <|
  jcons (jL jC_18 dX1_bursts_40 rfl) <|
  jcons (jL jC_18 dX1_bursts_43 rfl) <|
  jcons (jG jC_18 jY_18 dX1_bursts_44 fk_24_3_X24 (Or.inr ⟨_, jw_q839⟩)) <|
  jcons (jL jC_18 dX1_bursts_47 rfl) <|
  jcons (jL jC_18 dX1_bursts_49 rfl) <|
  jcons (jL jC_18 dX1_bursts_50 rfl) <|
  jcons (jL jC_18 dX1_bursts_51 rfl) <|
  jcons (jL jC_18 dX1_bursts_54 rfl) <|
  jcons (jL jC_18 dX1_bursts_55 rfl) <|
  jcons (jL jC_18 dX1_bursts_56 rfl) <|
  jcons (jL jC_18 dX1_bursts_58 rfl) <|
  jcons (j4V jC_18 jY_18 dX1_bursts_60 (jc_235 _) q925 pd_235 (Or.inl q924) (fun c r h1 h2 => js_82 c r h1 h2)) <|
  jcons (jL jC_18 dX1_bursts_63 rfl) <|
  jnil
theorem jt_18_1 : ∀ q ∈ tcX1_bursts_1, sJ jnw jao 18 q.1 q.2.1 q.2.2 :=
  jcons (jG jC_18 jY_18 dX1_bursts_65 fk_4_0_X4 (Or.inr ⟨_, jw_q255⟩)) <|
  jcons (jL jC_18 dX1_bursts_68 rfl) <|
  jcons (jL jC_18 dX1_bursts_71 rfl) <|
  jcons (jL jC_18 dX1_bursts_73 rfl) <|
  jcons (jL jC_18 dX1_bursts_74 rfl) <|
  jcons (jL jC_18 dX1_bursts_77 rfl) <|
  jcons (jL jC_18 dX1_bursts_80 rfl) <|
  jcons (jL jC_18 dX1_bursts_81 rfl) <|
  jnil
theorem jm_18 : ∀ l ∈ tbX1_bursts, ∀ q ∈ l, sJ jnw jao 18 q.1 q.2.1 q.2.2 := jmc jt_18_0 <| jmc jt_18_1 <| jmn
theorem jt_19_0 : ∀ q ∈ tcX1_isBalloon_0, sJ jnw jao 19 q.1 q.2.1 q.2.2 :=
  jcons (jL jC_19 dX1_isBalloon_0 rfl) <|
  jcons (jL jC_19 dX1_isBalloon_1 rfl) <|
  jcons (j4V jC_19 jY_19 dX1_isBalloon_2 (jc_15 _) q886 pd_15 (Or.inl q884) (fun c r h1 h2 => js_76 c r h1 h2)) <|
  jcons (jL jC_19 dX1_isBalloon_5 rfl) <|
  jcons (jL jC_19 dX1_isBalloon_8 rfl) <|
  jcons (jL jC_19 dX1_isBalloon_9 rfl) <|
  jcons (jL jC_19 dX1_isBalloon_10 rfl) <|
  jcons (jL jC_19 dX1_isBalloon_11 rfl) <|
  jcons (jG jC_19 jY_19 dX1_isBalloon_12 fk_1_4_X1 (Or.inl q172)) <|
  jcons (jL jC_19 dX1_isBalloon_15 rfl) <|
  jcons (jL jC_19 dX1_isBalloon_16 rfl) <|
  jcons (jG jC_19 jY_19 dX1_isBalloon_17 fk_24_7_X24 (Or.inr ⟨_, jw_q850⟩)) <|
  jcons (jL jC_19 dX1_isBalloon_20 rfl) <|
  jcons (jL jC_19 dX1_isBalloon_21 rfl) <|
  jcons (jL jC_19 dX1_isBalloon_22 rfl) <|
  jcons (j4S jC_19 jY_19 dX1_isBalloon_23 (jc_6 _) q245 pd_6 (Or.inl q244)) <|
  jcons (jL jC_19 dX1_isBalloon_26 rfl) <|
  jcons (jL jC_19 dX1_isBalloon_29 rfl) <|
  jcons (jL jC_19 dX1_isBalloon_30 rfl) <|
  jcons (jL jC_19 dX1_isBalloon_33 rfl) <|
  jcons (jL jC_19 dX1_isBalloon_34 rfl) <|
  jnil
theorem jm_19 : ∀ l ∈ tbX1_isBalloon, ∀ q ∈ l, sJ jnw jao 19 q.1 q.2.1 q.2.2 := jmc jt_19_0 <| jmn
theorem jt_20_0 : ∀ q ∈ tcX1_rest_0, sJ jnw jao 20 q.1 q.2.1 q.2.2 :=
  jcons (jL jC_20 dX1_rest_0 rfl) <|
  jcons (jL jC_20 dX1_rest_1 rfl) <|
  jcons (jL jC_20 dX1_rest_2 rfl) <|
  jcons (j4V jC_20 jY_20 dX1_rest_3 (jc_19 _) q922 pd_19 (Or.inl q920) (fun c r h1 h2 => js_81 c r h1 h2)) <|
  jcons (jL jC_20 dX1_rest_6 rfl) <|
  jcons (jL jC_20 dX1_rest_9 rfl) <|
  jcons (jL jC_20 dX1_rest_10 rfl) <|
  jcons (jL jC_20 dX1_rest_11 rfl) <|
  jcons (jG jC_20 jY_20 dX1_rest_12 fk_1_4_X1 (Or.inl q172)) <|
  jcons (jL jC_20 dX1_rest_15 rfl) <|
  jcons (jL jC_20 dX1_rest_16 rfl) <|
  jcons (jL jC_20 dX1_rest_17 rfl) <|
  jcons (jL jC_20 dX1_rest_18 rfl) <|
  jcons (jG jC_20 jY_20 dX1_rest_19 fk_1_0_X1 (Or.inl q165)) <|
  jcons (jL jC_20 dX1_rest_22 rfl) <|
  jcons (jG jC_20 jY_20 dX1_rest_23 fk_24_4_X24 (Or.inr ⟨_, jw_q842⟩)) <|
  jcons (jL jC_20 dX1_rest_26 rfl) <|
  jcons (jL jC_20 dX1_rest_27 rfl) <|
  jcons (jL jC_20 dX1_rest_28 rfl) <|
  jcons (jL jC_20 dX1_rest_29 rfl) <|
  jcons (jL jC_20 dX1_rest_31 rfl) <|
  jcons (jL jC_20 dX1_rest_32 rfl) <|
  jcons (jG jC_20 jY_20 dX1_rest_34 fk_4_0_X4 (Or.inr ⟨_, jw_q255⟩)) <|
  jcons (jL jC_20 dX1_rest_37 rfl) <|
  jcons (jL jC_20 dX1_rest_38 rfl) <|
  jcons (jL jC_20 dX1_rest_39 rfl) <|
  jcons (jG jC_20 jY_20 dX1_rest_40 fk_24_6_X24 (Or.inr ⟨_, jw_q847⟩)) <|
  jcons (jL jC_20 dX1_rest_43 rfl) <|
  jcons (jL jC_20 dX1_rest_44 rfl) <|
  jcons (jL jC_20 dX1_rest_45 rfl) <|
  jcons (j4V jC_20 jY_20 dX1_rest_47 (jc_235 _) q925 pd_235 (Or.inl q924) (fun c r h1 h2 => js_82 c r h1 h2)) <|
  jcons (jL jC_20 dX1_rest_50 rfl) <|
  jcons (j14 jC_20 jY_20 dX1_rest_51 q936) <|
  jcons (jL jC_20 dX1_rest_54 rfl) <|
  jnil
theorem jm_20 : ∀ l ∈ tbX1_rest, ∀ q ∈ l, sJ jnw jao 20 q.1 q.2.1 q.2.2 := jmc jt_20_0 <| jmn
theorem jt_21_0 : ∀ q ∈ tcX1_hands_0, sJ jnw jao 21 q.1 q.2.1 q.2.2 :=
  jcons (jL jC_21 dX1_hands_0 rfl) <|
  jcons (jL jC_21 dX1_hands_1 rfl) <|
  jcons (j4V jC_21 jY_21 dX1_hands_2 (jc_15 _) q886 pd_15 (Or.inl q884) (fun c r h1 h2 => js_76 c r h1 h2)) <|
  jcons (jL jC_21 dX1_hands_5 rfl) <|
  jcons (jL jC_21 dX1_hands_8 rfl) <|
  jcons (jG jC_21 jY_21 dX1_hands_9 fk_1_4_X1 (Or.inl q172)) <|
  jcons (jL jC_21 dX1_hands_12 rfl) <|
  jcons (jL jC_21 dX1_hands_13 rfl) <|
  jcons (jG jC_21 jY_21 dX1_hands_14 fk_24_9_X24 (Or.inr ⟨_, jw_q854⟩)) <|
  jcons (jL jC_21 dX1_hands_17 rfl) <|
  jcons (jL jC_21 dX1_hands_20 rfl) <|
  jcons (jL jC_21 dX1_hands_21 rfl) <|
  jnil
theorem jm_21 : ∀ l ∈ tbX1_hands, ∀ q ∈ l, sJ jnw jao 21 q.1 q.2.1 q.2.2 := jmc jt_21_0 <| jmn
theorem jt_22_0 : ∀ q ∈ tcX1_holds_0, sJ jnw jao 22 q.1 q.2.1 q.2.2 :=
  jcons (jL jC_22 dX1_holds_0 rfl) <|
  jcons (jL jC_22 dX1_holds_1 rfl) <|
  jcons (jL jC_22 dX1_holds_2 rfl) <|
  jcons (j4V jC_22 jY_22 dX1_holds_3 (jc_23 _) q947 pd_23 (Or.inl q945) (fun c r h1 h2 => js_83 c r h1 h2)) <|
  jcons (jL jC_22 dX1_holds_6 rfl) <|
  jcons (jL jC_22 dX1_holds_9 rfl) <|
  jcons (jG jC_22 jY_22 dX1_holds_10 fk_1_4_X1 (Or.inl q172)) <|
  jcons (jL jC_22 dX1_holds_13 rfl) <|
  jcons (jL jC_22 dX1_holds_14 rfl) <|
  jcons (jL jC_22 dX1_holds_15 rfl) <|
  jcons (j4V jC_22 jY_22 dX1_holds_16 (jc_231 _) q893 pd_231 (Or.inl q949) (fun c r h1 h2 => js_84 c r h1 h2)) <|
  jcons (jL jC_22 dX1_holds_19 rfl) <|
  jcons (jL jC_22 dX1_holds_22 rfl) <|
  jcons (jG jC_22 jY_22 dX1_holds_23 fk_1_4_X1 (Or.inl q172)) <|
  jcons (jL jC_22 dX1_holds_26 rfl) <|
  jcons (jL jC_22 dX1_holds_27 rfl) <|
  jcons (jL jC_22 dX1_holds_28 rfl) <|
  jcons (j4V jC_22 jY_22 dX1_holds_29 (jc_233 _) q901 pd_233 (Or.inl q950) (fun c r h1 h2 => js_85 c r h1 h2)) <|
  jcons (jL jC_22 dX1_holds_32 rfl) <|
  jcons (jL jC_22 dX1_holds_35 rfl) <|
  jcons (jL jC_22 dX1_holds_36 rfl) <|
  jcons (jL jC_22 dX1_holds_39 rfl) <|
  jcons (jL jC_22 dX1_holds_40 rfl) <|
  jcons (jL jC_22 dX1_holds_43 rfl) <|
  jcons (jL jC_22 dX1_holds_44 rfl) <|
  jnil
theorem jm_22 : ∀ l ∈ tbX1_holds, ∀ q ∈ l, sJ jnw jao 22 q.1 q.2.1 q.2.2 := jmc jt_22_0 <| jmn
theorem jt_23_0 : ∀ q ∈ tcX1_isBubble_0, sJ jnw jao 23 q.1 q.2.1 q.2.2 :=
  jcons (jL jC_23 dX1_isBubble_0 rfl) <|
  jcons (jL jC_23 dX1_isBubble_1 rfl) <|
  jcons (j4V jC_23 jY_23 dX1_isBubble_2 (jc_15 _) q886 pd_15 (Or.inl q884) (fun c r h1 h2 => js_76 c r h1 h2)) <|
  jcons (jL jC_23 dX1_isBubble_5 rfl) <|
  jcons (jL jC_23 dX1_isBubble_8 rfl) <|
  jcons (jL jC_23 dX1_isBubble_9 rfl) <|
  jcons (jL jC_23 dX1_isBubble_10 rfl) <|
  jcons (jL jC_23 dX1_isBubble_11 rfl) <|
  jcons (jG jC_23 jY_23 dX1_isBubble_12 fk_1_4_X1 (Or.inl q172)) <|
  jcons (jL jC_23 dX1_isBubble_15 rfl) <|
  jcons (jL jC_23 dX1_isBubble_16 rfl) <|
  jcons (jG jC_23 jY_23 dX1_isBubble_17 fk_24_6_X24 (Or.inr ⟨_, jw_q847⟩)) <|
  jcons (jL jC_23 dX1_isBubble_20 rfl) <|
  jcons (jL jC_23 dX1_isBubble_21 rfl) <|
  jcons (jL jC_23 dX1_isBubble_22 rfl) <|
  jcons (j4S jC_23 jY_23 dX1_isBubble_23 (jc_6 _) q245 pd_6 (Or.inl q244)) <|
  jcons (jL jC_23 dX1_isBubble_26 rfl) <|
  jcons (jL jC_23 dX1_isBubble_29 rfl) <|
  jcons (jL jC_23 dX1_isBubble_30 rfl) <|
  jcons (jL jC_23 dX1_isBubble_33 rfl) <|
  jcons (jL jC_23 dX1_isBubble_34 rfl) <|
  jnil
theorem jm_23 : ∀ l ∈ tbX1_isBubble, ∀ q ∈ l, sJ jnw jao 23 q.1 q.2.1 q.2.2 := jmc jt_23_0 <| jmn
theorem jt_24_0 : ∀ q ∈ tcX1_plain_0, sJ jnw jao 24 q.1 q.2.1 q.2.2 :=
  jcons (jL jC_24 dX1_plain_0 rfl) <|
  jcons (jL jC_24 dX1_plain_1 rfl) <|
  jcons (j4V jC_24 jY_24 dX1_plain_2 (jc_15 _) q886 pd_15 (Or.inl q884) (fun c r h1 h2 => js_76 c r h1 h2)) <|
  jcons (jL jC_24 dX1_plain_5 rfl) <|
  jcons (jL jC_24 dX1_plain_8 rfl) <|
  jcons (jG jC_24 jY_24 dX1_plain_9 fk_1_5_X1 (Or.inl q173)) <|
  jcons (jL jC_24 dX1_plain_12 rfl) <|
  jcons (jL jC_24 dX1_plain_14 rfl) <|
  jcons (jL jC_24 dX1_plain_17 rfl) <|
  jcons (jL jC_24 dX1_plain_18 rfl) <|
  jcons (jL jC_24 dX1_plain_19 rfl) <|
  jcons (jG jC_24 jY_24 dX1_plain_20 fk_1_4_X1 (Or.inl q172)) <|
  jcons (jL jC_24 dX1_plain_23 rfl) <|
  jcons (jL jC_24 dX1_plain_24 rfl) <|
  jcons (jL jC_24 dX1_plain_25 rfl) <|
  jcons (jL jC_24 dX1_plain_26 rfl) <|
  jcons (jL jC_24 dX1_plain_27 rfl) <|
  jcons (jL jC_24 dX1_plain_28 rfl) <|
  jcons (jL jC_24 dX1_plain_29 rfl) <|
  jcons (jL jC_24 dX1_plain_31 rfl) <|
  jcons (jL jC_24 dX1_plain_33 rfl) <|
  jcons (jG jC_24 jY_24 dX1_plain_34 fk_24_6_X24 (Or.inr ⟨_, jw_q847⟩)) <|
  jcons (jL jC_24 dX1_plain_37 rfl) <|
  jcons (jL jC_24 dX1_plain_40 rfl) <|
  jcons (jL jC_24 dX1_plain_41 rfl) <|
  jcons (j4V jC_24 jY_24 dX1_plain_43 (jc_231 _) q893 pd_231 (Or.inl q949) (fun c r h1 h2 => js_84 c r h1 h2)) <|
  jcons (jL jC_24 dX1_plain_46 rfl) <|
  jcons (jL jC_24 dX1_plain_49 rfl) <|
  jcons (jL jC_24 dX1_plain_50 rfl) <|
  jcons (j4V jC_24 jY_24 dX1_plain_52 (jc_233 _) q901 pd_233 (Or.inl q950) (fun c r h1 h2 => js_85 c r h1 h2)) <|
  jcons (jL jC_24 dX1_plain_55 rfl) <|
  jcons (jL jC_24 dX1_plain_58 rfl) <|
  jcons (jL jC_24 dX1_plain_59 rfl) <|
  jcons (jL jC_24 dX1_plain_60 rfl) <|
  jcons (jG jC_24 jY_24 dX1_plain_61 fk_24_1_X24 (Or.inr ⟨_, jw_q833⟩)) <|
  jnil
theorem jt_24_1 : ∀ q ∈ tcX1_plain_1, sJ jnw jao 24 q.1 q.2.1 q.2.2 :=
  jcons (jL jC_24 dX1_plain_64 rfl) <|
  jcons (jL jC_24 dX1_plain_66 rfl) <|
  jcons (jL jC_24 dX1_plain_67 rfl) <|
  jcons (jL jC_24 dX1_plain_68 rfl) <|
  jcons (jL jC_24 dX1_plain_69 rfl) <|
  jcons (jL jC_24 dX1_plain_70 rfl) <|
  jcons (jL jC_24 dX1_plain_73 rfl) <|
  jcons (j6 jC_24 jY_24 dX1_plain_76 rfl q698 q699 q129) <|
  jcons (jL jC_24 dX1_plain_79 rfl) <|
  jcons (j4I jC_24 jY_24 dX1_plain_80 (jc_219 _) rfl q701 ⟨_, _, q702⟩ pd_219 (Or.inl q700)) <|
  jcons (jL jC_24 dX1_plain_83 rfl) <|
  jcons (jL jC_24 dX1_plain_85 rfl) <|
  jcons (j7_0 jC_24 dX1_plain_87) <|
  jcons (jL jC_24 dX1_plain_89 rfl) <|
  jcons (jL jC_24 dX1_plain_91 rfl) <|
  jcons (jL jC_24 dX1_plain_92 rfl) <|
  jcons (jL jC_24 dX1_plain_94 rfl) <|
  jcons (jL jC_24 dX1_plain_96 rfl) <|
  jcons (jG jC_24 jY_24 dX1_plain_97 fk_24_8_X24 (Or.inr ⟨_, jw_q852⟩)) <|
  jcons (jL jC_24 dX1_plain_100 rfl) <|
  jcons (jL jC_24 dX1_plain_103 rfl) <|
  jcons (jL jC_24 dX1_plain_104 rfl) <|
  jcons (jL jC_24 dX1_plain_106 rfl) <|
  jcons (jL jC_24 dX1_plain_107 rfl) <|
  jcons (jL jC_24 dX1_plain_108 rfl) <|
  jcons (jL jC_24 dX1_plain_109 rfl) <|
  jcons (jL jC_24 dX1_plain_112 rfl) <|
  jcons (jL jC_24 dX1_plain_114 rfl) <|
  jcons (jL jC_24 dX1_plain_116 rfl) <|
  jcons (j4V jC_24 jY_24 dX1_plain_118 (jc_221 _) q774 pd_221 (Or.inl q955) (fun c r h1 h2 => js_86 c r h1 h2)) <|
  jcons (jL jC_24 dX1_plain_121 rfl) <|
  jcons (jL jC_24 dX1_plain_122 rfl) <|
  jcons (jL jC_24 dX1_plain_125 rfl) <|
  jnil
theorem jt_24_2 : ∀ q ∈ tcX1_plain_2, sJ jnw jao 24 q.1 q.2.1 q.2.2 :=
  jcons (jL jC_24 dX1_plain_128 rfl) <|
  jcons (jG jC_24 jY_24 dX1_plain_129 fk_24_4_X24 (Or.inr ⟨_, jw_q842⟩)) <|
  jcons (jL jC_24 dX1_plain_132 rfl) <|
  jcons (jL jC_24 dX1_plain_133 rfl) <|
  jcons (jG jC_24 jY_24 dX1_plain_135 fk_23_6_X23 (Or.inr ⟨_, jw_q717⟩)) <|
  jcons (jL jC_24 dX1_plain_138 rfl) <|
  jcons (jL jC_24 dX1_plain_139 rfl) <|
  jcons (jG jC_24 jY_24 dX1_plain_140 fk_24_7_X24 (Or.inr ⟨_, jw_q850⟩)) <|
  jcons (j9 jC_24 jY_24 dX1_plain_143 q956) <|
  jcons (jL jC_24 dX1_plain_146 rfl) <|
  jcons (jL jC_24 dX1_plain_148 rfl) <|
  jcons (jG jC_24 jY_24 dX1_plain_149 fk_24_7_X24 (Or.inr ⟨_, jw_q850⟩)) <|
  jcons (jPu jC_24 jY_24 dX1_plain_152 fk_23_10_X23 ap_23_10 (fn_23_10 _) (Or.inr ⟨_, jw_q727⟩) (tyX23_ok 10 (by decide)) (Or.inl ⟨rfl, rfl⟩)) <|
  jcons (jL jC_24 dX1_plain_155 rfl) <|
  jcons (jL jC_24 dX1_plain_156 rfl) <|
  jcons (jL jC_24 dX1_plain_158 rfl) <|
  jcons (jL jC_24 dX1_plain_159 rfl) <|
  jcons (jL jC_24 dX1_plain_161 rfl) <|
  jcons (jL jC_24 dX1_plain_162 rfl) <|
  jcons (jL jC_24 dX1_plain_164 rfl) <|
  jcons (jL jC_24 dX1_plain_166 rfl) <|
  jcons (jG jC_24 jY_24 dX1_plain_167 fk_24_6_X24 (Or.inr ⟨_, jw_q847⟩)) <|
  jcons (jL jC_24 dX1_plain_170 rfl) <|
  jcons (jL jC_24 dX1_plain_173 rfl) <|
  jcons (jL jC_24 dX1_plain_175 rfl) <|
  jcons (jG jC_24 jY_24 dX1_plain_176 fk_24_2_X24 (Or.inr ⟨_, jw_q836⟩)) <|
  jcons (jL jC_24 dX1_plain_179 rfl) <|
  jcons (jL jC_24 dX1_plain_181 rfl) <|
  jcons (jL jC_24 dX1_plain_182 rfl) <|
  jcons (jL jC_24 dX1_plain_183 rfl) <|
  jcons (jL jC_24 dX1_plain_185 rfl) <|
  jcons (jL jC_24 dX1_plain_186 rfl) <|
  jcons (j4V jC_24 jY_24 dX1_plain_188 (jc_231 _) q893 pd_231 (Or.inl q949) (fun c r h1 h2 => js_84 c r h1 h2)) <|
  jcons (jL jC_24 dX1_plain_191 rfl) <|
  jnil
theorem jt_24_3 : ∀ q ∈ tcX1_plain_3, sJ jnw jao 24 q.1 q.2.1 q.2.2 :=
  jcons (jL jC_24 dX1_plain_194 rfl) <|
  jcons (jL jC_24 dX1_plain_195 rfl) <|
  jcons (j4V jC_24 jY_24 dX1_plain_197 (jc_233 _) q901 pd_233 (Or.inl q950) (fun c r h1 h2 => js_85 c r h1 h2)) <|
  jcons (jL jC_24 dX1_plain_200 rfl) <|
  jcons (jL jC_24 dX1_plain_203 rfl) <|
  jcons (jL jC_24 dX1_plain_206 rfl) <|
  jcons (jL jC_24 dX1_plain_208 rfl) <|
  jcons (jL jC_24 dX1_plain_210 rfl) <|
  jcons (jL jC_24 dX1_plain_212 rfl) <|
  jcons (jG jC_24 jY_24 dX1_plain_213 fk_24_0_X24 (Or.inr ⟨_, jw_q830⟩)) <|
  jcons (jL jC_24 dX1_plain_216 rfl) <|
  jcons (jL jC_24 dX1_plain_218 rfl) <|
  jcons (jL jC_24 dX1_plain_219 rfl) <|
  jcons (jL jC_24 dX1_plain_220 rfl) <|
  jcons (jL jC_24 dX1_plain_222 rfl) <|
  jcons (jG jC_24 jY_24 dX1_plain_223 fk_24_1_X24 (Or.inr ⟨_, jw_q833⟩)) <|
  jcons (jL jC_24 dX1_plain_226 rfl) <|
  jcons (jL jC_24 dX1_plain_228 rfl) <|
  jcons (jL jC_24 dX1_plain_229 rfl) <|
  jcons (jL jC_24 dX1_plain_230 rfl) <|
  jcons (jG jC_24 jY_24 dX1_plain_231 fk_24_3_X24 (Or.inr ⟨_, jw_q839⟩)) <|
  jcons (jL jC_24 dX1_plain_234 rfl) <|
  jcons (jL jC_24 dX1_plain_236 rfl) <|
  jcons (j4V jC_24 jY_24 dX1_plain_237 (jc_222 _) q778 pd_222 (Or.inl q957) (fun c r h1 h2 => js_87 c r h1 h2)) <|
  jcons (jL jC_24 dX1_plain_240 rfl) <|
  jcons (jL jC_24 dX1_plain_242 rfl) <|
  jcons (jL jC_24 dX1_plain_243 rfl) <|
  jcons (jL jC_24 dX1_plain_244 rfl) <|
  jcons (jL jC_24 dX1_plain_246 rfl) <|
  jcons (jL jC_24 dX1_plain_247 rfl) <|
  jcons (jL jC_24 dX1_plain_249 rfl) <|
  jcons (jL jC_24 dX1_plain_252 rfl) <|
  jcons (jL jC_24 dX1_plain_255 rfl) <|
  jnil
theorem jt_24_4 : ∀ q ∈ tcX1_plain_4, sJ jnw jao 24 q.1 q.2.1 q.2.2 :=
  jcons (j6 jC_24 jY_24 dX1_plain_256 rfl q145 q819 q130) <|
  jcons (jL jC_24 dX1_plain_259 rfl) <|
  jcons (jL jC_24 dX1_plain_260 rfl) <|
  jcons (j4I jC_24 jY_24 dX1_plain_262 (jc_229 _) rfl q821 ⟨_, _, q822⟩ pd_229 (Or.inl q820)) <|
  jcons (j4V jC_24 jY_24 dX1_plain_265 (jc_13 _) q878 pd_13 (Or.inl q876) (fun c r h1 h2 => js_75 c r h1 h2)) <|
  jcons (jL jC_24 dX1_plain_268 rfl) <|
  jnil
theorem jm_24 : ∀ l ∈ tbX1_plain, ∀ q ∈ l, sJ jnw jao 24 q.1 q.2.1 q.2.2 := jmc jt_24_0 <| jmc jt_24_1 <| jmc jt_24_2 <| jmc jt_24_3 <| jmc jt_24_4 <| jmn
theorem jt_25_0 : ∀ q ∈ tcX1_pop_0, sJ jnw jao 25 q.1 q.2.1 q.2.2 :=
  jcons (jL jC_25 dX1_pop_0 rfl) <|
  jcons (jL jC_25 dX1_pop_1 rfl) <|
  jcons (jL jC_25 dX1_pop_2 rfl) <|
  jcons (j4V jC_25 jY_25 dX1_pop_3 (jc_23 _) q947 pd_23 (Or.inl q945) (fun c r h1 h2 => js_83 c r h1 h2)) <|
  jcons (jL jC_25 dX1_pop_6 rfl) <|
  jcons (jL jC_25 dX1_pop_9 rfl) <|
  jcons (jL jC_25 dX1_pop_10 rfl) <|
  jcons (jL jC_25 dX1_pop_11 rfl) <|
  jcons (j3 jC_25 jY_25 dX1_pop_12 q962) <|
  jcons (j4S jC_25 jY_25 dX1_pop_15 (jc_6 _) q245 pd_6 (Or.inl q244)) <|
  jcons (jL jC_25 dX1_pop_18 rfl) <|
  jcons (jL jC_25 dX1_pop_21 rfl) <|
  jcons (jL jC_25 dX1_pop_22 rfl) <|
  jcons (jL jC_25 dX1_pop_23 rfl) <|
  jcons (jG jC_25 jY_25 dX1_pop_24 fk_1_4_X1 (Or.inl q172)) <|
  jcons (jL jC_25 dX1_pop_27 rfl) <|
  jcons (jL jC_25 dX1_pop_28 rfl) <|
  jcons (jL jC_25 dX1_pop_29 rfl) <|
  jcons (jL jC_25 dX1_pop_31 rfl) <|
  jcons (jL jC_25 dX1_pop_33 rfl) <|
  jcons (j4V jC_25 jY_25 dX1_pop_34 (jc_236 _) q964 pd_236 (Or.inl q963) (fun c r h1 h2 => js_88 c r h1 h2)) <|
  jcons (jL jC_25 dX1_pop_37 rfl) <|
  jcons (jL jC_25 dX1_pop_39 rfl) <|
  jcons (jL jC_25 dX1_pop_40 rfl) <|
  jcons (jL jC_25 dX1_pop_43 rfl) <|
  jcons (jL jC_25 dX1_pop_45 rfl) <|
  jcons (jL jC_25 dX1_pop_48 rfl) <|
  jcons (jL jC_25 dX1_pop_49 rfl) <|
  jcons (jL jC_25 dX1_pop_50 rfl) <|
  jcons (jL jC_25 dX1_pop_53 rfl) <|
  jcons (j4S jC_25 jY_25 dX1_pop_55 (jc_254 _) q976 pd_254 (Or.inl q975)) <|
  jcons (jL jC_25 dX1_pop_58 rfl) <|
  jcons (jL jC_25 dX1_pop_61 rfl) <|
  jcons (jL jC_25 dX1_pop_63 rfl) <|
  jnil
theorem jt_25_1 : ∀ q ∈ tcX1_pop_1, sJ jnw jao 25 q.1 q.2.1 q.2.2 :=
  jcons (j4V jC_25 jY_25 dX1_pop_65 (jc_239 _) q982 pd_239 (Or.inl q981) (fun c r h1 h2 => js_89 c r h1 h2)) <|
  jcons (jL jC_25 dX1_pop_68 rfl) <|
  jcons (jL jC_25 dX1_pop_70 rfl) <|
  jcons (jL jC_25 dX1_pop_71 rfl) <|
  jcons (jL jC_25 dX1_pop_72 rfl) <|
  jcons (j4V jC_25 jY_25 dX1_pop_73 (jc_240 _) q986 pd_240 (Or.inl q985) (fun c r h1 h2 => js_90 c r h1 h2)) <|
  jcons (jL jC_25 dX1_pop_76 rfl) <|
  jnil
theorem jm_25 : ∀ l ∈ tbX1_pop, ∀ q ∈ l, sJ jnw jao 25 q.1 q.2.1 q.2.2 := jmc jt_25_0 <| jmc jt_25_1 <| jmn
theorem jt_26_0 : ∀ q ∈ tcX1_weakest_0, sJ jnw jao 26 q.1 q.2.1 q.2.2 :=
  jcons (jL jC_26 dX1_weakest_0 rfl) <|
  jcons (jL jC_26 dX1_weakest_1 rfl) <|
  jcons (j4V jC_26 jY_26 dX1_weakest_2 (jc_15 _) q886 pd_15 (Or.inl q884) (fun c r h1 h2 => js_76 c r h1 h2)) <|
  jcons (jL jC_26 dX1_weakest_5 rfl) <|
  jcons (jL jC_26 dX1_weakest_8 rfl) <|
  jcons (jL jC_26 dX1_weakest_9 rfl) <|
  jcons (jL jC_26 dX1_weakest_10 rfl) <|
  jcons (jG jC_26 jY_26 dX1_weakest_11 fk_1_4_X1 (Or.inl q172)) <|
  jcons (jL jC_26 dX1_weakest_14 rfl) <|
  jcons (jL jC_26 dX1_weakest_15 rfl) <|
  jcons (jL jC_26 dX1_weakest_16 rfl) <|
  jcons (jL jC_26 dX1_weakest_17 rfl) <|
  jcons (jL jC_26 dX1_weakest_18 rfl) <|
  jcons (jL jC_26 dX1_weakest_19 rfl) <|
  jcons (jL jC_26 dX1_weakest_20 rfl) <|
  jcons (jL jC_26 dX1_weakest_22 rfl) <|
  jcons (jL jC_26 dX1_weakest_23 rfl) <|
  jcons (jL jC_26 dX1_weakest_25 rfl) <|
  jcons (jL jC_26 dX1_weakest_27 rfl) <|
  jcons (jG jC_26 jY_26 dX1_weakest_28 fk_24_6_X24 (Or.inr ⟨_, jw_q847⟩)) <|
  jcons (jL jC_26 dX1_weakest_31 rfl) <|
  jcons (jL jC_26 dX1_weakest_34 rfl) <|
  jcons (jL jC_26 dX1_weakest_35 rfl) <|
  jcons (j4V jC_26 jY_26 dX1_weakest_37 (jc_236 _) q964 pd_236 (Or.inl q963) (fun c r h1 h2 => js_88 c r h1 h2)) <|
  jcons (j4S jC_26 jY_26 dX1_weakest_40 (jc_254 _) q976 pd_254 (Or.inl q975)) <|
  jcons (jL jC_26 dX1_weakest_43 rfl) <|
  jcons (jL jC_26 dX1_weakest_45 rfl) <|
  jcons (jL jC_26 dX1_weakest_47 rfl) <|
  jcons (jL jC_26 dX1_weakest_49 rfl) <|
  jcons (jL jC_26 dX1_weakest_52 rfl) <|
  jcons (jL jC_26 dX1_weakest_55 rfl) <|
  jcons (jL jC_26 dX1_weakest_57 rfl) <|
  jcons (jL jC_26 dX1_weakest_59 rfl) <|
  jcons (jL jC_26 dX1_weakest_61 rfl) <|
  jcons (jL jC_26 dX1_weakest_62 rfl) <|
  jnil
theorem jt_26_1 : ∀ q ∈ tcX1_weakest_1, sJ jnw jao 26 q.1 q.2.1 q.2.2 :=
  jcons (jL jC_26 dX1_weakest_65 rfl) <|
  jcons (jL jC_26 dX1_weakest_68 rfl) <|
  jcons (jL jC_26 dX1_weakest_69 rfl) <|
  jnil
theorem jm_26 : ∀ l ∈ tbX1_weakest, ∀ q ∈ l, sJ jnw jao 26 q.1 q.2.1 q.2.2 := jmc jt_26_0 <| jmc jt_26_1 <| jmn
theorem jt_27_0 : ∀ q ∈ tcX1_add_0, sJ jnw jao 27 q.1 q.2.1 q.2.2 :=
  jcons (jL jC_27 dX1_add_0 rfl) <|
  jcons (jL jC_27 dX1_add_1 rfl) <|
  jcons (jL jC_27 dX1_add_2 rfl) <|
  jcons (j4V jC_27 jY_27 dX1_add_3 (jc_17 _) q914 pd_17 (Or.inl q912) (fun c r h1 h2 => js_80 c r h1 h2)) <|
  jcons (jL jC_27 dX1_add_6 rfl) <|
  jcons (jL jC_27 dX1_add_9 rfl) <|
  jcons (jL jC_27 dX1_add_10 rfl) <|
  jcons (jL jC_27 dX1_add_11 rfl) <|
  jcons (j4V jC_27 jY_27 dX1_add_13 (jc_17 _) q914 pd_17 (Or.inl q912) (fun c r h1 h2 => js_80 c r h1 h2)) <|
  jcons (jL jC_27 dX1_add_16 rfl) <|
  jcons (jL jC_27 dX1_add_19 rfl) <|
  jcons (jG jC_27 jY_27 dX1_add_20 fk_1_5_X1 (Or.inl q173)) <|
  jcons (jL jC_27 dX1_add_23 rfl) <|
  jcons (jL jC_27 dX1_add_25 rfl) <|
  jcons (jL jC_27 dX1_add_28 rfl) <|
  jcons (jL jC_27 dX1_add_29 rfl) <|
  jcons (jL jC_27 dX1_add_30 rfl) <|
  jcons (jG jC_27 jY_27 dX1_add_31 fk_1_4_X1 (Or.inl q172)) <|
  jcons (jL jC_27 dX1_add_34 rfl) <|
  jcons (jL jC_27 dX1_add_35 rfl) <|
  jcons (jL jC_27 dX1_add_36 rfl) <|
  jcons (jL jC_27 dX1_add_38 rfl) <|
  jcons (jG jC_27 jY_27 dX1_add_39 fk_1_4_X1 (Or.inl q172)) <|
  jcons (jL jC_27 dX1_add_42 rfl) <|
  jcons (jL jC_27 dX1_add_43 rfl) <|
  jcons (jL jC_27 dX1_add_44 rfl) <|
  jcons (jL jC_27 dX1_add_46 rfl) <|
  jcons (jG jC_27 jY_27 dX1_add_48 fk_24_6_X24 (Or.inr ⟨_, jw_q847⟩)) <|
  jcons (jL jC_27 dX1_add_51 rfl) <|
  jcons (jG jC_27 jY_27 dX1_add_53 fk_24_6_X24 (Or.inr ⟨_, jw_q847⟩)) <|
  jcons (jL jC_27 dX1_add_56 rfl) <|
  jcons (jL jC_27 dX1_add_57 rfl) <|
  jcons (jL jC_27 dX1_add_59 rfl) <|
  jcons (jL jC_27 dX1_add_62 rfl) <|
  jnil
theorem jt_27_1 : ∀ q ∈ tcX1_add_1, sJ jnw jao 27 q.1 q.2.1 q.2.2 :=
  jcons (jG jC_27 jY_27 dX1_add_64 fk_24_7_X24 (Or.inr ⟨_, jw_q850⟩)) <|
  jcons (jL jC_27 dX1_add_67 rfl) <|
  jcons (jG jC_27 jY_27 dX1_add_69 fk_24_7_X24 (Or.inr ⟨_, jw_q850⟩)) <|
  jcons (jL jC_27 dX1_add_72 rfl) <|
  jcons (jL jC_27 dX1_add_73 rfl) <|
  jcons (jL jC_27 dX1_add_75 rfl) <|
  jcons (jL jC_27 dX1_add_78 rfl) <|
  jcons (jL jC_27 dX1_add_79 rfl) <|
  jcons (j6 jC_27 jY_27 dX1_add_80 rfl q698 q699 q129) <|
  jcons (jL jC_27 dX1_add_83 rfl) <|
  jcons (j4I jC_27 jY_27 dX1_add_84 (jc_219 _) rfl q701 ⟨_, _, q702⟩ pd_219 (Or.inl q700)) <|
  jcons (jL jC_27 dX1_add_87 rfl) <|
  jcons (jL jC_27 dX1_add_89 rfl) <|
  jcons (jL jC_27 dX1_add_90 rfl) <|
  jcons (jL jC_27 dX1_add_92 rfl) <|
  jcons (jL jC_27 dX1_add_94 rfl) <|
  jcons (jG jC_27 jY_27 dX1_add_96 fk_24_8_X24 (Or.inr ⟨_, jw_q852⟩)) <|
  jcons (jL jC_27 dX1_add_99 rfl) <|
  jcons (jG jC_27 jY_27 dX1_add_101 fk_24_8_X24 (Or.inr ⟨_, jw_q852⟩)) <|
  jcons (jL jC_27 dX1_add_104 rfl) <|
  jcons (jL jC_27 dX1_add_105 rfl) <|
  jcons (jL jC_27 dX1_add_108 rfl) <|
  jcons (j4V jC_27 jY_27 dX1_add_110 (jc_221 _) q774 pd_221 (Or.inl q955) (fun c r h1 h2 => js_86 c r h1 h2)) <|
  jcons (jL jC_27 dX1_add_113 rfl) <|
  jcons (jL jC_27 dX1_add_115 rfl) <|
  jcons (jL jC_27 dX1_add_118 rfl) <|
  jcons (jL jC_27 dX1_add_121 rfl) <|
  jcons (jL jC_27 dX1_add_123 rfl) <|
  jcons (jL jC_27 dX1_add_124 rfl) <|
  jcons (jG jC_27 jY_27 dX1_add_126 fk_24_8_X24 (Or.inr ⟨_, jw_q852⟩)) <|
  jnil
theorem jt_27_2 : ∀ q ∈ tcX1_add_2, sJ jnw jao 27 q.1 q.2.1 q.2.2 :=
  jcons (jL jC_27 dX1_add_129 rfl) <|
  jcons (jL jC_27 dX1_add_131 rfl) <|
  jcons (j4V jC_27 jY_27 dX1_add_132 (jc_227 _) q808 pd_227 (Or.inl q1009) (fun c r h1 h2 => js_91 c r h1 h2)) <|
  jcons (jL jC_27 dX1_add_135 rfl) <|
  jcons (jL jC_27 dX1_add_137 rfl) <|
  jcons (jL jC_27 dX1_add_139 rfl) <|
  jcons (j4V jC_27 jY_27 dX1_add_140 (jc_228 _) q1011 pd_228 (Or.inl q1010) (fun c r h1 h2 => js_92 c r h1 h2)) <|
  jcons (jL jC_27 dX1_add_143 rfl) <|
  jcons (jL jC_27 dX1_add_145 rfl) <|
  jcons (jL jC_27 dX1_add_147 rfl) <|
  jcons (jG jC_27 jY_27 dX1_add_149 fk_24_8_X24 (Or.inr ⟨_, jw_q852⟩)) <|
  jcons (j4V jC_27 jY_27 dX1_add_152 (jc_228 _) q1011 pd_228 (Or.inl q1010) (fun c r h1 h2 => js_92 c r h1 h2)) <|
  jcons (jL jC_27 dX1_add_155 rfl) <|
  jcons (j6 jC_27 jY_27 dX1_add_156 rfl q145 q819 q130) <|
  jcons (jL jC_27 dX1_add_159 rfl) <|
  jcons (jL jC_27 dX1_add_160 rfl) <|
  jcons (j4I jC_27 jY_27 dX1_add_162 (jc_229 _) rfl q821 ⟨_, _, q822⟩ pd_229 (Or.inl q820)) <|
  jcons (j4V jC_27 jY_27 dX1_add_165 (jc_13 _) q878 pd_13 (Or.inl q876) (fun c r h1 h2 => js_75 c r h1 h2)) <|
  jcons (jL jC_27 dX1_add_168 rfl) <|
  jnil
theorem jm_27 : ∀ l ∈ tbX1_add, ∀ q ∈ l, sJ jnw jao 27 q.1 q.2.1 q.2.2 := jmc jt_27_0 <| jmc jt_27_1 <| jmc jt_27_2 <| jmn
theorem jt_28_0 : ∀ q ∈ tcX1_alike_0, sJ jnw jao 28 q.1 q.2.1 q.2.2 :=
  jcons (jL jC_28 dX1_alike_0 rfl) <|
  jcons (jL jC_28 dX1_alike_1 rfl) <|
  jcons (j4V jC_28 jY_28 dX1_alike_2 (jc_29 _) q1021 pd_29 (Or.inl q1019) (fun c r h1 h2 => js_93 c r h1 h2)) <|
  jcons (jL jC_28 dX1_alike_5 rfl) <|
  jcons (jL jC_28 dX1_alike_8 rfl) <|
  jcons (jL jC_28 dX1_alike_9 rfl) <|
  jcons (j4V jC_28 jY_28 dX1_alike_10 (jc_29 _) q1021 pd_29 (Or.inl q1019) (fun c r h1 h2 => js_93 c r h1 h2)) <|
  jcons (jL jC_28 dX1_alike_13 rfl) <|
  jcons (jL jC_28 dX1_alike_16 rfl) <|
  jcons (jL jC_28 dX1_alike_17 rfl) <|
  jcons (jL jC_28 dX1_alike_18 rfl) <|
  jcons (j4V jC_28 jY_28 dX1_alike_19 (jc_30 _) q1025 pd_30 (Or.inl q1023) (fun c r h1 h2 => js_94 c r h1 h2)) <|
  jcons (jL jC_28 dX1_alike_22 rfl) <|
  jcons (jL jC_28 dX1_alike_25 rfl) <|
  jcons (jL jC_28 dX1_alike_26 rfl) <|
  jcons (jL jC_28 dX1_alike_29 rfl) <|
  jcons (jL jC_28 dX1_alike_30 rfl) <|
  jcons (jL jC_28 dX1_alike_33 rfl) <|
  jcons (jL jC_28 dX1_alike_34 rfl) <|
  jnil
theorem jm_28 : ∀ l ∈ tbX1_alike, ∀ q ∈ l, sJ jnw jao 28 q.1 q.2.1 q.2.2 := jmc jt_28_0 <| jmn
theorem jt_29_0 : ∀ q ∈ tcX1_isMatched_0, sJ jnw jao 29 q.1 q.2.1 q.2.2 :=
  jcons (jL jC_29 dX1_isMatched_0 rfl) <|
  jcons (jL jC_29 dX1_isMatched_1 rfl) <|
  jcons (j4V jC_29 jY_29 dX1_isMatched_2 (jc_15 _) q886 pd_15 (Or.inl q884) (fun c r h1 h2 => js_76 c r h1 h2)) <|
  jcons (jL jC_29 dX1_isMatched_5 rfl) <|
  jcons (jL jC_29 dX1_isMatched_8 rfl) <|
  jcons (jG jC_29 jY_29 dX1_isMatched_9 fk_1_4_X1 (Or.inl q172)) <|
  jcons (jL jC_29 dX1_isMatched_12 rfl) <|
  jcons (jL jC_29 dX1_isMatched_13 rfl) <|
  jcons (jG jC_29 jY_29 dX1_isMatched_14 fk_24_8_X24 (Or.inr ⟨_, jw_q852⟩)) <|
  jcons (jL jC_29 dX1_isMatched_17 rfl) <|
  jcons (jL jC_29 dX1_isMatched_19 rfl) <|
  jcons (jL jC_29 dX1_isMatched_22 rfl) <|
  jcons (jL jC_29 dX1_isMatched_23 rfl) <|
  jcons (jL jC_29 dX1_isMatched_26 rfl) <|
  jcons (jL jC_29 dX1_isMatched_27 rfl) <|
  jnil
theorem jm_29 : ∀ l ∈ tbX1_isMatched, ∀ q ∈ l, sJ jnw jao 29 q.1 q.2.1 q.2.2 := jmc jt_29_0 <| jmn
theorem jt_30_0 : ∀ q ∈ tcX1_areAlike_0, sJ jnw jao 30 q.1 q.2.1 q.2.2 :=
  jcons (jL jC_30 dX1_areAlike_0 rfl) <|
  jcons (jG jC_30 jY_30 dX1_areAlike_1 fk_1_4_X1 (Or.inl q172)) <|
  jcons (jL jC_30 dX1_areAlike_4 rfl) <|
  jcons (jL jC_30 dX1_areAlike_5 rfl) <|
  jcons (jL jC_30 dX1_areAlike_6 rfl) <|
  jcons (jL jC_30 dX1_areAlike_7 rfl) <|
  jcons (jG jC_30 jY_30 dX1_areAlike_8 fk_1_4_X1 (Or.inl q172)) <|
  jcons (jL jC_30 dX1_areAlike_11 rfl) <|
  jcons (jL jC_30 dX1_areAlike_12 rfl) <|
  jcons (jL jC_30 dX1_areAlike_13 rfl) <|
  jcons (jL jC_30 dX1_areAlike_15 rfl) <|
  jcons (jG jC_30 jY_30 dX1_areAlike_16 fk_24_8_X24 (Or.inr ⟨_, jw_q852⟩)) <|
  jcons (jL jC_30 dX1_areAlike_19 rfl) <|
  jcons (jG jC_30 jY_30 dX1_areAlike_21 fk_24_8_X24 (Or.inr ⟨_, jw_q852⟩)) <|
  jcons (jL jC_30 dX1_areAlike_24 rfl) <|
  jcons (jL jC_30 dX1_areAlike_27 rfl) <|
  jcons (jG jC_30 jY_30 dX1_areAlike_28 fk_24_6_X24 (Or.inr ⟨_, jw_q847⟩)) <|
  jcons (jL jC_30 dX1_areAlike_31 rfl) <|
  jcons (jG jC_30 jY_30 dX1_areAlike_33 fk_24_6_X24 (Or.inr ⟨_, jw_q847⟩)) <|
  jcons (jL jC_30 dX1_areAlike_36 rfl) <|
  jcons (jL jC_30 dX1_areAlike_39 rfl) <|
  jcons (jL jC_30 dX1_areAlike_40 rfl) <|
  jcons (jL jC_30 dX1_areAlike_41 rfl) <|
  jcons (jL jC_30 dX1_areAlike_43 rfl) <|
  jcons (jL jC_30 dX1_areAlike_44 rfl) <|
  jcons (j4V jC_30 jY_30 dX1_areAlike_45 (jc_31 _) q1029 pd_31 (Or.inl q1027) (fun c r h1 h2 => js_95 c r h1 h2)) <|
  jcons (jL jC_30 dX1_areAlike_48 rfl) <|
  jcons (jL jC_30 dX1_areAlike_51 rfl) <|
  jcons (jL jC_30 dX1_areAlike_52 rfl) <|
  jcons (jL jC_30 dX1_areAlike_55 rfl) <|
  jcons (jL jC_30 dX1_areAlike_56 rfl) <|
  jnil
theorem jm_30 : ∀ l ∈ tbX1_areAlike, ∀ q ∈ l, sJ jnw jao 30 q.1 q.2.1 q.2.2 := jmc jt_30_0 <| jmn
theorem jt_31_0 : ∀ q ∈ tcX1_matches_0, sJ jnw jao 31 q.1 q.2.1 q.2.2 :=
  jcons (jL jC_31 dX1_matches_0 rfl) <|
  jcons (jL jC_31 dX1_matches_1 rfl) <|
  jcons (jG jC_31 jY_31 dX1_matches_2 fk_24_8_X24 (Or.inr ⟨_, jw_q852⟩)) <|
  jcons (jL jC_31 dX1_matches_5 rfl) <|
  jcons (jL jC_31 dX1_matches_8 rfl) <|
  jcons (jL jC_31 dX1_matches_9 rfl) <|
  jcons (jL jC_31 dX1_matches_10 rfl) <|
  jcons (jL jC_31 dX1_matches_11 rfl) <|
  jcons (jL jC_31 dX1_matches_13 rfl) <|
  jcons (jL jC_31 dX1_matches_15 rfl) <|
  jcons (jG jC_31 jY_31 dX1_matches_16 fk_24_8_X24 (Or.inr ⟨_, jw_q852⟩)) <|
  jcons (jL jC_31 dX1_matches_19 rfl) <|
  jcons (jL jC_31 dX1_matches_22 rfl) <|
  jcons (jL jC_31 dX1_matches_24 rfl) <|
  jcons (jL jC_31 dX1_matches_26 rfl) <|
  jcons (jL jC_31 dX1_matches_27 rfl) <|
  jcons (jL jC_31 dX1_matches_28 rfl) <|
  jcons (jL jC_31 dX1_matches_29 rfl) <|
  jcons (jL jC_31 dX1_matches_32 rfl) <|
  jcons (jG jC_31 jY_31 dX1_matches_33 fk_24_5_X24 (Or.inr ⟨_, jw_q844⟩)) <|
  jcons (jL jC_31 dX1_matches_36 rfl) <|
  jcons (jL jC_31 dX1_matches_37 rfl) <|
  jcons (jL jC_31 dX1_matches_38 rfl) <|
  jcons (jG jC_31 jY_31 dX1_matches_39 fk_24_5_X24 (Or.inr ⟨_, jw_q844⟩)) <|
  jcons (jL jC_31 dX1_matches_42 rfl) <|
  jcons (jL jC_31 dX1_matches_44 rfl) <|
  jcons (jL jC_31 dX1_matches_45 rfl) <|
  jcons (jL jC_31 dX1_matches_48 rfl) <|
  jcons (jL jC_31 dX1_matches_49 rfl) <|
  jcons (jL jC_31 dX1_matches_50 rfl) <|
  jcons (jL jC_31 dX1_matches_51 rfl) <|
  jcons (jL jC_31 dX1_matches_52 rfl) <|
  jcons (j4V jC_31 jY_31 dX1_matches_54 (jc_32 _) q1033 pd_32 (Or.inl q1031) (fun c r h1 h2 => js_96 c r h1 h2)) <|
  jcons (jL jC_31 dX1_matches_57 rfl) <|
  jcons (jL jC_31 dX1_matches_60 rfl) <|
  jcons (jL jC_31 dX1_matches_61 rfl) <|
  jcons (jL jC_31 dX1_matches_62 rfl) <|
  jcons (jL jC_31 dX1_matches_63 rfl) <|
  jnil
theorem jt_31_1 : ∀ q ∈ tcX1_matches_1, sJ jnw jao 31 q.1 q.2.1 q.2.2 :=
  jcons (jL jC_31 dX1_matches_64 rfl) <|
  jcons (jL jC_31 dX1_matches_65 rfl) <|
  jcons (jL jC_31 dX1_matches_66 rfl) <|
  jcons (jL jC_31 dX1_matches_68 rfl) <|
  jcons (jL jC_31 dX1_matches_69 rfl) <|
  jcons (jL jC_31 dX1_matches_71 rfl) <|
  jcons (jL jC_31 dX1_matches_72 rfl) <|
  jcons (j4V jC_31 jY_31 dX1_matches_73 (jc_31 _) q1029 pd_31 (Or.inl q1027) (fun c r h1 h2 => js_95 c r h1 h2)) <|
  jcons (jL jC_31 dX1_matches_76 rfl) <|
  jcons (jL jC_31 dX1_matches_79 rfl) <|
  jcons (jL jC_31 dX1_matches_80 rfl) <|
  jcons (jL jC_31 dX1_matches_81 rfl) <|
  jcons (jL jC_31 dX1_matches_84 rfl) <|
  jcons (jL jC_31 dX1_matches_87 rfl) <|
  jcons (jL jC_31 dX1_matches_88 rfl) <|
  jnil
theorem jm_31 : ∀ l ∈ tbX1_matches, ∀ q ∈ l, sJ jnw jao 31 q.1 q.2.1 q.2.2 := jmc jt_31_0 <| jmc jt_31_1 <| jmn
theorem jt_32_0 : ∀ q ∈ tcX1_fits_0, sJ jnw jao 32 q.1 q.2.1 q.2.2 :=
  jcons (jL jC_32 dX1_fits_0 rfl) <|
  jcons (jG jC_32 jY_32 dX1_fits_1 fk_1_6_X1 (Or.inl q174)) <|
  jcons (jL jC_32 dX1_fits_4 rfl) <|
  jcons (jL jC_32 dX1_fits_5 rfl) <|
  jcons (jL jC_32 dX1_fits_7 rfl) <|
  jcons (jL jC_32 dX1_fits_8 rfl) <|
  jcons (jL jC_32 dX1_fits_9 rfl) <|
  jcons (jL jC_32 dX1_fits_11 rfl) <|
  jcons (jL jC_32 dX1_fits_13 rfl) <|
  jcons (jG jC_32 jY_32 dX1_fits_14 fk_24_6_X24 (Or.inr ⟨_, jw_q847⟩)) <|
  jcons (jL jC_32 dX1_fits_17 rfl) <|
  jcons (jL jC_32 dX1_fits_20 rfl) <|
  jcons (jL jC_32 dX1_fits_21 rfl) <|
  jcons (jL jC_32 dX1_fits_23 rfl) <|
  jcons (jL jC_32 dX1_fits_25 rfl) <|
  jcons (jL jC_32 dX1_fits_26 rfl) <|
  jcons (jL jC_32 dX1_fits_29 rfl) <|
  jcons (jL jC_32 dX1_fits_30 rfl) <|
  jcons (jL jC_32 dX1_fits_32 rfl) <|
  jcons (jL jC_32 dX1_fits_33 rfl) <|
  jcons (jG jC_32 jY_32 dX1_fits_34 fk_24_2_X24 (Or.inr ⟨_, jw_q836⟩)) <|
  jcons (jL jC_32 dX1_fits_37 rfl) <|
  jcons (jL jC_32 dX1_fits_39 rfl) <|
  jcons (j4V jC_32 jY_32 dX1_fits_40 (jc_243 _) q1036 pd_243 (Or.inl q1035) (fun c r h1 h2 => js_97 c r h1 h2)) <|
  jcons (jL jC_32 dX1_fits_43 rfl) <|
  jcons (jL jC_32 dX1_fits_44 rfl) <|
  jcons (jG jC_32 jY_32 dX1_fits_45 fk_1_6_X1 (Or.inl q174)) <|
  jcons (jL jC_32 dX1_fits_48 rfl) <|
  jcons (jL jC_32 dX1_fits_50 rfl) <|
  jcons (jL jC_32 dX1_fits_51 rfl) <|
  jcons (jL jC_32 dX1_fits_53 rfl) <|
  jcons (jG jC_32 jY_32 dX1_fits_54 fk_24_2_X24 (Or.inr ⟨_, jw_q836⟩)) <|
  jcons (jL jC_32 dX1_fits_57 rfl) <|
  jcons (jL jC_32 dX1_fits_59 rfl) <|
  jcons (j4V jC_32 jY_32 dX1_fits_60 (jc_243 _) q1036 pd_243 (Or.inl q1035) (fun c r h1 h2 => js_97 c r h1 h2)) <|
  jcons (jL jC_32 dX1_fits_63 rfl) <|
  jnil
theorem jt_32_1 : ∀ q ∈ tcX1_fits_1, sJ jnw jao 32 q.1 q.2.1 q.2.2 :=
  jcons (jL jC_32 dX1_fits_66 rfl) <|
  jcons (jL jC_32 dX1_fits_67 rfl) <|
  jcons (jL jC_32 dX1_fits_68 rfl) <|
  jcons (jL jC_32 dX1_fits_71 rfl) <|
  jcons (jL jC_32 dX1_fits_74 rfl) <|
  jcons (jL jC_32 dX1_fits_77 rfl) <|
  jcons (jL jC_32 dX1_fits_80 rfl) <|
  jcons (jL jC_32 dX1_fits_81 rfl) <|
  jnil
theorem jm_32 : ∀ l ∈ tbX1_fits, ∀ q ∈ l, sJ jnw jao 32 q.1 q.2.1 q.2.2 := jmc jt_32_0 <| jmc jt_32_1 <| jmn
theorem jt_33_0 : ∀ q ∈ tcX1_match_0, sJ jnw jao 33 q.1 q.2.1 q.2.2 :=
  jcons (jL jC_33 dX1_match_0 rfl) <|
  jcons (jL jC_33 dX1_match_1 rfl) <|
  jcons (j4V jC_33 jY_33 dX1_match_2 (jc_29 _) q1021 pd_29 (Or.inl q1019) (fun c r h1 h2 => js_93 c r h1 h2)) <|
  jcons (jL jC_33 dX1_match_5 rfl) <|
  jcons (jL jC_33 dX1_match_8 rfl) <|
  jcons (jL jC_33 dX1_match_9 rfl) <|
  jcons (j4V jC_33 jY_33 dX1_match_10 (jc_29 _) q1021 pd_29 (Or.inl q1019) (fun c r h1 h2 => js_93 c r h1 h2)) <|
  jcons (jL jC_33 dX1_match_13 rfl) <|
  jcons (jL jC_33 dX1_match_16 rfl) <|
  jcons (jL jC_33 dX1_match_17 rfl) <|
  jcons (jL jC_33 dX1_match_18 rfl) <|
  jcons (j4V jC_33 jY_33 dX1_match_19 (jc_17 _) q914 pd_17 (Or.inl q912) (fun c r h1 h2 => js_80 c r h1 h2)) <|
  jcons (jL jC_33 dX1_match_22 rfl) <|
  jcons (jL jC_33 dX1_match_25 rfl) <|
  jcons (jL jC_33 dX1_match_26 rfl) <|
  jcons (jL jC_33 dX1_match_27 rfl) <|
  jcons (j4V jC_33 jY_33 dX1_match_28 (jc_30 _) q1025 pd_30 (Or.inl q1023) (fun c r h1 h2 => js_94 c r h1 h2)) <|
  jcons (jL jC_33 dX1_match_31 rfl) <|
  jcons (jL jC_33 dX1_match_34 rfl) <|
  jcons (jG jC_33 jY_33 dX1_match_35 fk_1_6_X1 (Or.inl q174)) <|
  jcons (jL jC_33 dX1_match_38 rfl) <|
  jcons (jL jC_33 dX1_match_39 rfl) <|
  jcons (jL jC_33 dX1_match_40 rfl) <|
  jcons (jL jC_33 dX1_match_43 rfl) <|
  jcons (jL jC_33 dX1_match_44 rfl) <|
  jnil
theorem jm_33 : ∀ l ∈ tbX1_match, ∀ q ∈ l, sJ jnw jao 33 q.1 q.2.1 q.2.2 := jmc jt_33_0 <| jmn
theorem jt_34_0 : ∀ q ∈ tcX1_far_0, sJ jnw jao 34 q.1 q.2.1 q.2.2 :=
  jcons (jL jC_34 dX1_far_0 rfl) <|
  jcons (jL jC_34 dX1_far_1 rfl) <|
  jcons (jL jC_34 dX1_far_2 rfl) <|
  jcons (j4V jC_34 jY_34 dX1_far_3 (jc_17 _) q914 pd_17 (Or.inl q912) (fun c r h1 h2 => js_80 c r h1 h2)) <|
  jcons (jL jC_34 dX1_far_6 rfl) <|
  jcons (jL jC_34 dX1_far_9 rfl) <|
  jcons (jL jC_34 dX1_far_10 rfl) <|
  jcons (jL jC_34 dX1_far_11 rfl) <|
  jcons (j4V jC_34 jY_34 dX1_far_12 (jc_17 _) q914 pd_17 (Or.inl q912) (fun c r h1 h2 => js_80 c r h1 h2)) <|
  jcons (jL jC_34 dX1_far_15 rfl) <|
  jcons (jL jC_34 dX1_far_18 rfl) <|
  jcons (jL jC_34 dX1_far_19 rfl) <|
  jcons (jL jC_34 dX1_far_20 rfl) <|
  jcons (jL jC_34 dX1_far_21 rfl) <|
  jcons (jG jC_34 jY_34 dX1_far_22 fk_1_4_X1 (Or.inl q172)) <|
  jcons (jL jC_34 dX1_far_25 rfl) <|
  jcons (jL jC_34 dX1_far_26 rfl) <|
  jcons (j4V jC_34 jY_34 dX1_far_27 (jc_35 _) q1049 pd_35 (Or.inl q1047) (fun c r h1 h2 => js_98 c r h1 h2)) <|
  jcons (jL jC_34 dX1_far_30 rfl) <|
  jcons (jG jC_34 jY_34 dX1_far_31 fk_1_7_X1 (Or.inl q175)) <|
  jcons (jL jC_34 dX1_far_34 rfl) <|
  jcons (jL jC_34 dX1_far_36 rfl) <|
  jcons (jL jC_34 dX1_far_37 rfl) <|
  jcons (jL jC_34 dX1_far_38 rfl) <|
  jcons (jL jC_34 dX1_far_39 rfl) <|
  jcons (jL jC_34 dX1_far_40 rfl) <|
  jcons (j2 jC_34 jY_34 dX1_far_41 q1051) <|
  jcons (jL jC_34 dX1_far_44 rfl) <|
  jcons (jL jC_34 dX1_far_47 rfl) <|
  jcons (jG jC_34 jY_34 dX1_far_48 fk_1_7_X1 (Or.inl q175)) <|
  jcons (jL jC_34 dX1_far_51 rfl) <|
  jcons (jL jC_34 dX1_far_53 rfl) <|
  jcons (jL jC_34 dX1_far_54 rfl) <|
  jcons (jL jC_34 dX1_far_55 rfl) <|
  jcons (jL jC_34 dX1_far_56 rfl) <|
  jcons (jL jC_34 dX1_far_57 rfl) <|
  jcons (jL jC_34 dX1_far_58 rfl) <|
  jcons (jL jC_34 dX1_far_61 rfl) <|
  jcons (jL jC_34 dX1_far_62 rfl) <|
  jnil
theorem jm_34 : ∀ l ∈ tbX1_far, ∀ q ∈ l, sJ jnw jao 34 q.1 q.2.1 q.2.2 := jmc jt_34_0 <| jmn
theorem jt_35_0 : ∀ q ∈ tcX1_layFars_0, sJ jnw jao 35 q.1 q.2.1 q.2.2 :=
  jcons (jL jC_35 dX1_layFars_0 rfl) <|
  jcons (jL jC_35 dX1_layFars_1 rfl) <|
  jcons (jL jC_35 dX1_layFars_2 rfl) <|
  jcons (jL jC_35 dX1_layFars_3 rfl) <|
  jcons (jG jC_35 jY_35 dX1_layFars_4 fk_24_8_X24 (Or.inr ⟨_, jw_q852⟩)) <|
  jcons (jL jC_35 dX1_layFars_7 rfl) <|
  jcons (jL jC_35 dX1_layFars_10 rfl) <|
  jcons (jL jC_35 dX1_layFars_11 rfl) <|
  jcons (jL jC_35 dX1_layFars_12 rfl) <|
  jcons (jL jC_35 dX1_layFars_13 rfl) <|
  jcons (jG jC_35 jY_35 dX1_layFars_14 fk_24_8_X24 (Or.inr ⟨_, jw_q852⟩)) <|
  jcons (jL jC_35 dX1_layFars_17 rfl) <|
  jcons (jL jC_35 dX1_layFars_20 rfl) <|
  jcons (jG jC_35 jY_35 dX1_layFars_21 fk_1_7_X1 (Or.inl q175)) <|
  jcons (jL jC_35 dX1_layFars_24 rfl) <|
  jcons (jL jC_35 dX1_layFars_26 rfl) <|
  jcons (jL jC_35 dX1_layFars_27 rfl) <|
  jcons (jL jC_35 dX1_layFars_28 rfl) <|
  jcons (jL jC_35 dX1_layFars_29 rfl) <|
  jcons (jL jC_35 dX1_layFars_30 rfl) <|
  jcons (jL jC_35 dX1_layFars_31 rfl) <|
  jcons (jL jC_35 dX1_layFars_32 rfl) <|
  jcons (jL jC_35 dX1_layFars_35 rfl) <|
  jcons (jL jC_35 dX1_layFars_36 rfl) <|
  jcons (j2 jC_35 jY_35 dX1_layFars_39 q1051) <|
  jcons (jL jC_35 dX1_layFars_42 rfl) <|
  jcons (jL jC_35 dX1_layFars_43 rfl) <|
  jcons (jL jC_35 dX1_layFars_46 rfl) <|
  jcons (jL jC_35 dX1_layFars_49 rfl) <|
  jcons (jL jC_35 dX1_layFars_52 rfl) <|
  jcons (jL jC_35 dX1_layFars_55 rfl) <|
  jcons (jL jC_35 dX1_layFars_56 rfl) <|
  jcons (jL jC_35 dX1_layFars_57 rfl) <|
  jcons (jL jC_35 dX1_layFars_58 rfl) <|
  jcons (jG jC_35 jY_35 dX1_layFars_59 fk_24_6_X24 (Or.inr ⟨_, jw_q847⟩)) <|
  jcons (jL jC_35 dX1_layFars_62 rfl) <|
  jnil
theorem jt_35_1 : ∀ q ∈ tcX1_layFars_1, sJ jnw jao 35 q.1 q.2.1 q.2.2 :=
  jcons (jL jC_35 dX1_layFars_65 rfl) <|
  jcons (jL jC_35 dX1_layFars_67 rfl) <|
  jcons (jG jC_35 jY_35 dX1_layFars_68 fk_24_0_X24 (Or.inr ⟨_, jw_q830⟩)) <|
  jcons (jL jC_35 dX1_layFars_71 rfl) <|
  jcons (jL jC_35 dX1_layFars_72 rfl) <|
  jcons (jL jC_35 dX1_layFars_73 rfl) <|
  jcons (jL jC_35 dX1_layFars_74 rfl) <|
  jcons (jG jC_35 jY_35 dX1_layFars_75 fk_24_1_X24 (Or.inr ⟨_, jw_q833⟩)) <|
  jcons (jL jC_35 dX1_layFars_78 rfl) <|
  jcons (jL jC_35 dX1_layFars_79 rfl) <|
  jcons (jL jC_35 dX1_layFars_80 rfl) <|
  jcons (jL jC_35 dX1_layFars_81 rfl) <|
  jcons (jL jC_35 dX1_layFars_82 rfl) <|
  jcons (jL jC_35 dX1_layFars_84 rfl) <|
  jcons (jG jC_35 jY_35 dX1_layFars_85 fk_24_1_X24 (Or.inr ⟨_, jw_q833⟩)) <|
  jcons (jL jC_35 dX1_layFars_88 rfl) <|
  jcons (jL jC_35 dX1_layFars_89 rfl) <|
  jcons (jL jC_35 dX1_layFars_90 rfl) <|
  jcons (jL jC_35 dX1_layFars_91 rfl) <|
  jcons (jG jC_35 jY_35 dX1_layFars_92 fk_24_0_X24 (Or.inr ⟨_, jw_q830⟩)) <|
  jcons (jL jC_35 dX1_layFars_95 rfl) <|
  jcons (jL jC_35 dX1_layFars_96 rfl) <|
  jcons (jL jC_35 dX1_layFars_97 rfl) <|
  jcons (jL jC_35 dX1_layFars_98 rfl) <|
  jcons (jL jC_35 dX1_layFars_100 rfl) <|
  jcons (jG jC_35 jY_35 dX1_layFars_101 fk_1_7_X1 (Or.inl q175)) <|
  jcons (jL jC_35 dX1_layFars_104 rfl) <|
  jcons (jL jC_35 dX1_layFars_105 rfl) <|
  jcons (jG jC_35 jY_35 dX1_layFars_106 fk_1_7_X1 (Or.inl q175)) <|
  jcons (jL jC_35 dX1_layFars_109 rfl) <|
  jcons (jL jC_35 dX1_layFars_110 rfl) <|
  jcons (jL jC_35 dX1_layFars_111 rfl) <|
  jcons (jG jC_35 jY_35 dX1_layFars_112 fk_24_2_X24 (Or.inr ⟨_, jw_q836⟩)) <|
  jcons (jL jC_35 dX1_layFars_115 rfl) <|
  jcons (jL jC_35 dX1_layFars_116 rfl) <|
  jcons (j14 jC_35 jY_35 dX1_layFars_117 q1052) <|
  jcons (jL jC_35 dX1_layFars_120 rfl) <|
  jcons (jL jC_35 dX1_layFars_121 rfl) <|
  jcons (jG jC_35 jY_35 dX1_layFars_122 fk_1_7_X1 (Or.inl q175)) <|
  jcons (jL jC_35 dX1_layFars_125 rfl) <|
  jcons (jL jC_35 dX1_layFars_127 rfl) <|
  jnil
theorem jt_35_2 : ∀ q ∈ tcX1_layFars_2, sJ jnw jao 35 q.1 q.2.1 q.2.2 :=
  jcons (jG jC_35 jY_35 dX1_layFars_128 fk_1_7_X1 (Or.inl q175)) <|
  jcons (jL jC_35 dX1_layFars_131 rfl) <|
  jcons (jL jC_35 dX1_layFars_132 rfl) <|
  jcons (jL jC_35 dX1_layFars_133 rfl) <|
  jcons (jL jC_35 dX1_layFars_134 rfl) <|
  jcons (jL jC_35 dX1_layFars_137 rfl) <|
  jcons (jL jC_35 dX1_layFars_140 rfl) <|
  jcons (jL jC_35 dX1_layFars_141 rfl) <|
  jcons (jL jC_35 dX1_layFars_142 rfl) <|
  jcons (jL jC_35 dX1_layFars_143 rfl) <|
  jcons (jG jC_35 jY_35 dX1_layFars_144 fk_24_8_X24 (Or.inr ⟨_, jw_q852⟩)) <|
  jcons (jL jC_35 dX1_layFars_147 rfl) <|
  jcons (jL jC_35 dX1_layFars_150 rfl) <|
  jcons (jL jC_35 dX1_layFars_151 rfl) <|
  jcons (jL jC_35 dX1_layFars_152 rfl) <|
  jcons (jL jC_35 dX1_layFars_153 rfl) <|
  jcons (jG jC_35 jY_35 dX1_layFars_154 fk_24_8_X24 (Or.inr ⟨_, jw_q852⟩)) <|
  jcons (jL jC_35 dX1_layFars_157 rfl) <|
  jcons (jL jC_35 dX1_layFars_160 rfl) <|
  jcons (jL jC_35 dX1_layFars_161 rfl) <|
  jcons (jL jC_35 dX1_layFars_163 rfl) <|
  jcons (jL jC_35 dX1_layFars_165 rfl) <|
  jcons (jG jC_35 jY_35 dX1_layFars_166 fk_24_8_X24 (Or.inr ⟨_, jw_q852⟩)) <|
  jcons (jL jC_35 dX1_layFars_169 rfl) <|
  jcons (jL jC_35 dX1_layFars_172 rfl) <|
  jcons (jG jC_35 jY_35 dX1_layFars_173 fk_1_7_X1 (Or.inl q175)) <|
  jcons (jL jC_35 dX1_layFars_176 rfl) <|
  jcons (jL jC_35 dX1_layFars_178 rfl) <|
  jcons (jL jC_35 dX1_layFars_179 rfl) <|
  jcons (jL jC_35 dX1_layFars_180 rfl) <|
  jcons (jL jC_35 dX1_layFars_182 rfl) <|
  jcons (jL jC_35 dX1_layFars_183 rfl) <|
  jcons (jG jC_35 jY_35 dX1_layFars_184 fk_1_7_X1 (Or.inl q175)) <|
  jcons (jL jC_35 dX1_layFars_187 rfl) <|
  jcons (jL jC_35 dX1_layFars_189 rfl) <|
  jcons (jL jC_35 dX1_layFars_190 rfl) <|
  jcons (jL jC_35 dX1_layFars_191 rfl) <|
  jnil
theorem jt_35_3 : ∀ q ∈ tcX1_layFars_3, sJ jnw jao 35 q.1 q.2.1 q.2.2 :=
  jcons (jL jC_35 dX1_layFars_193 rfl) <|
  jcons (jL jC_35 dX1_layFars_194 rfl) <|
  jcons (jL jC_35 dX1_layFars_195 rfl) <|
  jcons (jG jC_35 jY_35 dX1_layFars_196 fk_1_7_X1 (Or.inl q175)) <|
  jcons (jL jC_35 dX1_layFars_199 rfl) <|
  jcons (jL jC_35 dX1_layFars_201 rfl) <|
  jcons (jL jC_35 dX1_layFars_202 rfl) <|
  jcons (jL jC_35 dX1_layFars_203 rfl) <|
  jcons (jL jC_35 dX1_layFars_204 rfl) <|
  jcons (jL jC_35 dX1_layFars_205 rfl) <|
  jcons (jL jC_35 dX1_layFars_206 rfl) <|
  jcons (jG jC_35 jY_35 dX1_layFars_207 fk_1_7_X1 (Or.inl q175)) <|
  jcons (jL jC_35 dX1_layFars_210 rfl) <|
  jcons (jL jC_35 dX1_layFars_212 rfl) <|
  jcons (jL jC_35 dX1_layFars_213 rfl) <|
  jcons (jL jC_35 dX1_layFars_214 rfl) <|
  jcons (jL jC_35 dX1_layFars_216 rfl) <|
  jcons (jL jC_35 dX1_layFars_217 rfl) <|
  jcons (jL jC_35 dX1_layFars_218 rfl) <|
  jcons (j14 jC_35 jY_35 dX1_layFars_219 q1052) <|
  jcons (jL jC_35 dX1_layFars_222 rfl) <|
  jcons (jL jC_35 dX1_layFars_223 rfl) <|
  jcons (jL jC_35 dX1_layFars_226 rfl) <|
  jcons (jL jC_35 dX1_layFars_229 rfl) <|
  jcons (jL jC_35 dX1_layFars_232 rfl) <|
  jcons (jL jC_35 dX1_layFars_235 rfl) <|
  jcons (jL jC_35 dX1_layFars_238 rfl) <|
  jcons (jL jC_35 dX1_layFars_241 rfl) <|
  jnil
theorem jm_35 : ∀ l ∈ tbX1_layFars, ∀ q ∈ l, sJ jnw jao 35 q.1 q.2.1 q.2.2 := jmc jt_35_0 <| jmc jt_35_1 <| jmc jt_35_2 <| jmc jt_35_3 <| jmn
theorem jt_36_0 : ∀ q ∈ tcX1_span_0, sJ jnw jao 36 q.1 q.2.1 q.2.2 :=
  jcons (jL jC_36 dX1_span_0 rfl) <|
  jcons (jL jC_36 dX1_span_1 rfl) <|
  jcons (j4V jC_36 jY_36 dX1_span_2 (jc_15 _) q886 pd_15 (Or.inl q884) (fun c r h1 h2 => js_76 c r h1 h2)) <|
  jcons (jL jC_36 dX1_span_5 rfl) <|
  jcons (jL jC_36 dX1_span_8 rfl) <|
  jcons (jL jC_36 dX1_span_9 rfl) <|
  jcons (jL jC_36 dX1_span_10 rfl) <|
  jcons (jG jC_36 jY_36 dX1_span_11 fk_1_4_X1 (Or.inl q172)) <|
  jcons (jL jC_36 dX1_span_14 rfl) <|
  jcons (jL jC_36 dX1_span_15 rfl) <|
  jcons (jL jC_36 dX1_span_16 rfl) <|
  jcons (jL jC_36 dX1_span_17 rfl) <|
  jcons (jL jC_36 dX1_span_18 rfl) <|
  jcons (j4V jC_36 jY_36 dX1_span_19 (jc_35 _) q1049 pd_35 (Or.inl q1047) (fun c r h1 h2 => js_98 c r h1 h2)) <|
  jcons (jL jC_36 dX1_span_22 rfl) <|
  jcons (jL jC_36 dX1_span_23 rfl) <|
  jcons (jL jC_36 dX1_span_24 rfl) <|
  jcons (jL jC_36 dX1_span_25 rfl) <|
  jcons (jL jC_36 dX1_span_27 rfl) <|
  jcons (jL jC_36 dX1_span_29 rfl) <|
  jcons (jG jC_36 jY_36 dX1_span_30 fk_24_8_X24 (Or.inr ⟨_, jw_q852⟩)) <|
  jcons (jL jC_36 dX1_span_33 rfl) <|
  jcons (jL jC_36 dX1_span_36 rfl) <|
  jcons (jL jC_36 dX1_span_37 rfl) <|
  jcons (jL jC_36 dX1_span_39 rfl) <|
  jcons (jL jC_36 dX1_span_41 rfl) <|
  jcons (jG jC_36 jY_36 dX1_span_42 fk_24_8_X24 (Or.inr ⟨_, jw_q852⟩)) <|
  jcons (jL jC_36 dX1_span_45 rfl) <|
  jcons (jL jC_36 dX1_span_48 rfl) <|
  jcons (jG jC_36 jY_36 dX1_span_49 fk_1_7_X1 (Or.inl q175)) <|
  jcons (jL jC_36 dX1_span_52 rfl) <|
  jcons (jL jC_36 dX1_span_54 rfl) <|
  jcons (jL jC_36 dX1_span_56 rfl) <|
  jcons (jL jC_36 dX1_span_57 rfl) <|
  jcons (jL jC_36 dX1_span_59 rfl) <|
  jcons (jL jC_36 dX1_span_60 rfl) <|
  jcons (j2 jC_36 jY_36 dX1_span_61 q1051) <|
  jnil
theorem jt_36_1 : ∀ q ∈ tcX1_span_1, sJ jnw jao 36 q.1 q.2.1 q.2.2 :=
  jcons (jL jC_36 dX1_span_64 rfl) <|
  jcons (jL jC_36 dX1_span_67 rfl) <|
  jcons (jL jC_36 dX1_span_68 rfl) <|
  jcons (jG jC_36 jY_36 dX1_span_69 fk_1_7_X1 (Or.inl q175)) <|
  jcons (jL jC_36 dX1_span_72 rfl) <|
  jcons (jL jC_36 dX1_span_74 rfl) <|
  jcons (jL jC_36 dX1_span_76 rfl) <|
  jcons (jL jC_36 dX1_span_77 rfl) <|
  jcons (jL jC_36 dX1_span_79 rfl) <|
  jcons (jL jC_36 dX1_span_80 rfl) <|
  jcons (j14 jC_36 jY_36 dX1_span_81 q936) <|
  jcons (jL jC_36 dX1_span_84 rfl) <|
  jcons (jL jC_36 dX1_span_85 rfl) <|
  jcons (jL jC_36 dX1_span_88 rfl) <|
  jcons (jL jC_36 dX1_span_91 rfl) <|
  jcons (jL jC_36 dX1_span_94 rfl) <|
  jcons (jL jC_36 dX1_span_97 rfl) <|
  jcons (jL jC_36 dX1_span_98 rfl) <|
  jnil
theorem jm_36 : ∀ l ∈ tbX1_span, ∀ q ∈ l, sJ jnw jao 36 q.1 q.2.1 q.2.2 := jmc jt_36_0 <| jmc jt_36_1 <| jmn
theorem jt_37_0 : ∀ q ∈ tcX1_strokes_0, sJ jnw jao 37 q.1 q.2.1 q.2.2 :=
  jcons (jL jC_37 dX1_strokes_0 rfl) <|
  jcons (jL jC_37 dX1_strokes_1 rfl) <|
  jcons (j4V jC_37 jY_37 dX1_strokes_2 (jc_15 _) q886 pd_15 (Or.inl q884) (fun c r h1 h2 => js_76 c r h1 h2)) <|
  jcons (jL jC_37 dX1_strokes_5 rfl) <|
  jcons (jL jC_37 dX1_strokes_8 rfl) <|
  jcons (jG jC_37 jY_37 dX1_strokes_9 fk_1_4_X1 (Or.inl q172)) <|
  jcons (jL jC_37 dX1_strokes_12 rfl) <|
  jcons (jL jC_37 dX1_strokes_13 rfl) <|
  jcons (j4V jC_37 jY_37 dX1_strokes_14 (jc_244 _) q1062 pd_244 (Or.inl q1061) (fun c r h1 h2 => js_99 c r h1 h2)) <|
  jcons (jL jC_37 dX1_strokes_17 rfl) <|
  jcons (jL jC_37 dX1_strokes_20 rfl) <|
  jcons (jL jC_37 dX1_strokes_21 rfl) <|
  jnil
theorem jm_37 : ∀ l ∈ tbX1_strokes, ∀ q ∈ l, sJ jnw jao 37 q.1 q.2.1 q.2.2 := jmc jt_37_0 <| jmn
theorem jt_38_0 : ∀ q ∈ tcX1_made_0, sJ jnw jao 38 q.1 q.2.1 q.2.2 :=
  jcons (jL jC_38 dX1_made_0 rfl) <|
  jcons (jL jC_38 dX1_made_1 rfl) <|
  jcons (jL jC_38 dX1_made_2 rfl) <|
  jcons (j4V jC_38 jY_38 dX1_made_3 (jc_39 _) q1078 pd_39 (Or.inl q1076) (fun c r h1 h2 => js_100 c r h1 h2)) <|
  jcons (jL jC_38 dX1_made_6 rfl) <|
  jcons (jL jC_38 dX1_made_9 rfl) <|
  jcons (jL jC_38 dX1_made_10 rfl) <|
  jcons (jL jC_38 dX1_made_11 rfl) <|
  jcons (jG jC_38 jY_38 dX1_made_12 fk_1_4_X1 (Or.inl q172)) <|
  jcons (jL jC_38 dX1_made_15 rfl) <|
  jcons (jL jC_38 dX1_made_16 rfl) <|
  jcons (jL jC_38 dX1_made_17 rfl) <|
  jcons (jL jC_38 dX1_made_18 rfl) <|
  jcons (jL jC_38 dX1_made_19 rfl) <|
  jcons (jL jC_38 dX1_made_20 rfl) <|
  jcons (jG jC_38 jY_38 dX1_made_21 fk_1_0_X1 (Or.inl q165)) <|
  jcons (jL jC_38 dX1_made_24 rfl) <|
  jcons (jL jC_38 dX1_made_25 rfl) <|
  jcons (j4V jC_38 jY_38 dX1_made_26 (jc_41 _) q1086 pd_41 (Or.inl q1084) (fun c r h1 h2 => js_101 c r h1 h2)) <|
  jcons (jL jC_38 dX1_made_29 rfl) <|
  jcons (jG jC_38 jY_38 dX1_made_30 fk_1_8_X1 (Or.inl q176)) <|
  jcons (jL jC_38 dX1_made_33 rfl) <|
  jcons (j4V jC_38 jY_38 dX1_made_34 (jc_239 _) q982 pd_239 (Or.inl q981) (fun c r h1 h2 => js_89 c r h1 h2)) <|
  jcons (jL jC_38 dX1_made_37 rfl) <|
  jcons (jL jC_38 dX1_made_38 rfl) <|
  jcons (jL jC_38 dX1_made_40 rfl) <|
  jcons (jL jC_38 dX1_made_43 rfl) <|
  jcons (jG jC_38 jY_38 dX1_made_44 fk_1_8_X1 (Or.inl q176)) <|
  jcons (jL jC_38 dX1_made_47 rfl) <|
  jcons (j4V jC_38 jY_38 dX1_made_48 (jc_239 _) q982 pd_239 (Or.inl q981) (fun c r h1 h2 => js_89 c r h1 h2)) <|
  jcons (jL jC_38 dX1_made_51 rfl) <|
  jcons (jL jC_38 dX1_made_52 rfl) <|
  jcons (jL jC_38 dX1_made_55 rfl) <|
  jcons (jL jC_38 dX1_made_56 rfl) <|
  jnil
theorem jm_38 : ∀ l ∈ tbX1_made, ∀ q ∈ l, sJ jnw jao 38 q.1 q.2.1 q.2.2 := jmc jt_38_0 <| jmn
theorem jt_39_0 : ∀ q ∈ tcX1_isMaking_0, sJ jnw jao 39 q.1 q.2.1 q.2.2 :=
  jcons (jL jC_39 dX1_isMaking_0 rfl) <|
  jcons (jL jC_39 dX1_isMaking_1 rfl) <|
  jcons (j4V jC_39 jY_39 dX1_isMaking_2 (jc_15 _) q886 pd_15 (Or.inl q884) (fun c r h1 h2 => js_76 c r h1 h2)) <|
  jcons (jL jC_39 dX1_isMaking_5 rfl) <|
  jcons (jL jC_39 dX1_isMaking_8 rfl) <|
  jcons (jL jC_39 dX1_isMaking_9 rfl) <|
  jcons (j4V jC_39 jY_39 dX1_isMaking_10 (jc_40 _) q1082 pd_40 (Or.inl q1080) (fun c r h1 h2 => js_102 c r h1 h2)) <|
  jcons (jL jC_39 dX1_isMaking_13 rfl) <|
  jcons (jL jC_39 dX1_isMaking_16 rfl) <|
  jcons (jG jC_39 jY_39 dX1_isMaking_17 fk_1_4_X1 (Or.inl q172)) <|
  jcons (jL jC_39 dX1_isMaking_20 rfl) <|
  jcons (jL jC_39 dX1_isMaking_21 rfl) <|
  jcons (jG jC_39 jY_39 dX1_isMaking_22 fk_24_6_X24 (Or.inr ⟨_, jw_q847⟩)) <|
  jcons (jL jC_39 dX1_isMaking_25 rfl) <|
  jcons (jL jC_39 dX1_isMaking_27 rfl) <|
  jcons (jL jC_39 dX1_isMaking_30 rfl) <|
  jcons (jL jC_39 dX1_isMaking_31 rfl) <|
  jcons (jL jC_39 dX1_isMaking_34 rfl) <|
  jcons (jL jC_39 dX1_isMaking_35 rfl) <|
  jnil
theorem jm_39 : ∀ l ∈ tbX1_isMaking, ∀ q ∈ l, sJ jnw jao 39 q.1 q.2.1 q.2.2 := jmc jt_39_0 <| jmn
theorem jt_40_0 : ∀ q ∈ tcX1_isSort_0, sJ jnw jao 40 q.1 q.2.1 q.2.2 :=
  jcons (jL jC_40 dX1_isSort_0 rfl) <|
  jcons (jL jC_40 dX1_isSort_1 rfl) <|
  jcons (jL jC_40 dX1_isSort_4 rfl) <|
  jcons (jL jC_40 dX1_isSort_5 rfl) <|
  jcons (jG jC_40 jY_40 dX1_isSort_6 fk_1_1_X1 (Or.inl q166)) <|
  jcons (jL jC_40 dX1_isSort_9 rfl) <|
  jcons (jL jC_40 dX1_isSort_12 rfl) <|
  jcons (jL jC_40 dX1_isSort_13 rfl) <|
  jcons (jL jC_40 dX1_isSort_16 rfl) <|
  jcons (jL jC_40 dX1_isSort_17 rfl) <|
  jnil
theorem jm_40 : ∀ l ∈ tbX1_isSort, ∀ q ∈ l, sJ jnw jao 40 q.1 q.2.1 q.2.2 := jmc jt_40_0 <| jmn
theorem jt_41_0 : ∀ q ∈ tcX1_layMade_0, sJ jnw jao 41 q.1 q.2.1 q.2.2 :=
  jcons (jL jC_41 dX1_layMade_0 rfl) <|
  jcons (jL jC_41 dX1_layMade_1 rfl) <|
  jcons (jL jC_41 dX1_layMade_2 rfl) <|
  jcons (jL jC_41 dX1_layMade_3 rfl) <|
  jcons (j4V jC_41 jY_41 dX1_layMade_4 (jc_239 _) q982 pd_239 (Or.inl q981) (fun c r h1 h2 => js_89 c r h1 h2)) <|
  jcons (jL jC_41 dX1_layMade_7 rfl) <|
  jcons (jL jC_41 dX1_layMade_10 rfl) <|
  jcons (jG jC_41 jY_41 dX1_layMade_11 fk_1_9_X1 (Or.inl q177)) <|
  jcons (jL jC_41 dX1_layMade_14 rfl) <|
  jcons (jL jC_41 dX1_layMade_15 rfl) <|
  jcons (jL jC_41 dX1_layMade_16 rfl) <|
  jcons (j4V jC_41 jY_41 dX1_layMade_17 (jc_246 _) q1089 pd_246 (Or.inl q1088) (fun c r h1 h2 => js_103 c r h1 h2)) <|
  jcons (jL jC_41 dX1_layMade_20 rfl) <|
  jcons (jL jC_41 dX1_layMade_21 rfl) <|
  jcons (j4S jC_41 jY_41 dX1_layMade_22 (jc_254 _) q976 pd_254 (Or.inl q975)) <|
  jcons (j4V jC_41 jY_41 dX1_layMade_25 (jc_169 _) q929 pd_169 (Or.inl q1092) (fun c r h1 h2 => js_104 c r h1 h2)) <|
  jcons (jL jC_41 dX1_layMade_28 rfl) <|
  jcons (jL jC_41 dX1_layMade_29 rfl) <|
  jcons (jG jC_41 jY_41 dX1_layMade_30 fk_4_0_X4 (Or.inr ⟨_, jw_q255⟩)) <|
  jcons (jL jC_41 dX1_layMade_33 rfl) <|
  jcons (jL jC_41 dX1_layMade_36 rfl) <|
  jcons (jL jC_41 dX1_layMade_37 rfl) <|
  jcons (j4V jC_41 jY_41 dX1_layMade_38 (jc_247 _) q1094 pd_247 (Or.inl q1093) (fun c r h1 h2 => js_105 c r h1 h2)) <|
  jcons (jL jC_41 dX1_layMade_41 rfl) <|
  jcons (jL jC_41 dX1_layMade_44 rfl) <|
  jcons (jL jC_41 dX1_layMade_45 rfl) <|
  jcons (jL jC_41 dX1_layMade_48 rfl) <|
  jcons (jL jC_41 dX1_layMade_49 rfl) <|
  jcons (jL jC_41 dX1_layMade_50 rfl) <|
  jcons (jL jC_41 dX1_layMade_53 rfl) <|
  jcons (jL jC_41 dX1_layMade_56 rfl) <|
  jcons (jG jC_41 jY_41 dX1_layMade_57 fk_1_8_X1 (Or.inl q176)) <|
  jcons (jL jC_41 dX1_layMade_60 rfl) <|
  jcons (jL jC_41 dX1_layMade_61 rfl) <|
  jcons (jL jC_41 dX1_layMade_62 rfl) <|
  jcons (jL jC_41 dX1_layMade_63 rfl) <|
  jnil
theorem jt_41_1 : ∀ q ∈ tcX1_layMade_1, sJ jnw jao 41 q.1 q.2.1 q.2.2 :=
  jcons (jL jC_41 dX1_layMade_64 rfl) <|
  jcons (jL jC_41 dX1_layMade_65 rfl) <|
  jcons (jL jC_41 dX1_layMade_66 rfl) <|
  jcons (j4V jC_41 jY_41 dX1_layMade_67 (jc_239 _) q982 pd_239 (Or.inl q981) (fun c r h1 h2 => js_89 c r h1 h2)) <|
  jcons (jL jC_41 dX1_layMade_70 rfl) <|
  jcons (jL jC_41 dX1_layMade_73 rfl) <|
  jcons (jG jC_41 jY_41 dX1_layMade_74 fk_1_8_X1 (Or.inl q176)) <|
  jcons (jL jC_41 dX1_layMade_77 rfl) <|
  jcons (jL jC_41 dX1_layMade_78 rfl) <|
  jcons (jL jC_41 dX1_layMade_80 rfl) <|
  jcons (jL jC_41 dX1_layMade_81 rfl) <|
  jcons (jL jC_41 dX1_layMade_82 rfl) <|
  jcons (jL jC_41 dX1_layMade_83 rfl) <|
  jcons (jL jC_41 dX1_layMade_84 rfl) <|
  jcons (jL jC_41 dX1_layMade_85 rfl) <|
  jcons (jL jC_41 dX1_layMade_87 rfl) <|
  jcons (jL jC_41 dX1_layMade_88 rfl) <|
  jcons (jL jC_41 dX1_layMade_90 rfl) <|
  jcons (jL jC_41 dX1_layMade_92 rfl) <|
  jcons (jL jC_41 dX1_layMade_95 rfl) <|
  jcons (jL jC_41 dX1_layMade_97 rfl) <|
  jcons (jL jC_41 dX1_layMade_99 rfl) <|
  jcons (jL jC_41 dX1_layMade_100 rfl) <|
  jcons (jL jC_41 dX1_layMade_103 rfl) <|
  jcons (jG jC_41 jY_41 dX1_layMade_104 fk_1_9_X1 (Or.inl q177)) <|
  jcons (jL jC_41 dX1_layMade_107 rfl) <|
  jcons (jL jC_41 dX1_layMade_109 rfl) <|
  jcons (jL jC_41 dX1_layMade_110 rfl) <|
  jcons (jL jC_41 dX1_layMade_111 rfl) <|
  jcons (jL jC_41 dX1_layMade_114 rfl) <|
  jcons (jG jC_41 jY_41 dX1_layMade_115 fk_1_8_X1 (Or.inl q176)) <|
  jcons (jL jC_41 dX1_layMade_118 rfl) <|
  jcons (jL jC_41 dX1_layMade_119 rfl) <|
  jcons (jG jC_41 jY_41 dX1_layMade_120 fk_1_8_X1 (Or.inl q176)) <|
  jcons (jL jC_41 dX1_layMade_123 rfl) <|
  jcons (jL jC_41 dX1_layMade_124 rfl) <|
  jcons (jL jC_41 dX1_layMade_125 rfl) <|
  jcons (jL jC_41 dX1_layMade_126 rfl) <|
  jcons (jG jC_41 jY_41 dX1_layMade_127 fk_1_8_X1 (Or.inl q176)) <|
  jnil
theorem jt_41_2 : ∀ q ∈ tcX1_layMade_2, sJ jnw jao 41 q.1 q.2.1 q.2.2 :=
  jcons (jL jC_41 dX1_layMade_130 rfl) <|
  jcons (jL jC_41 dX1_layMade_131 rfl) <|
  jcons (jL jC_41 dX1_layMade_133 rfl) <|
  jcons (jL jC_41 dX1_layMade_134 rfl) <|
  jcons (jL jC_41 dX1_layMade_135 rfl) <|
  jcons (jL jC_41 dX1_layMade_136 rfl) <|
  jcons (jL jC_41 dX1_layMade_137 rfl) <|
  jcons (j14 jC_41 jY_41 dX1_layMade_138 q1052) <|
  jcons (jL jC_41 dX1_layMade_141 rfl) <|
  jcons (jL jC_41 dX1_layMade_142 rfl) <|
  jcons (jL jC_41 dX1_layMade_144 rfl) <|
  jcons (jL jC_41 dX1_layMade_145 rfl) <|
  jcons (jL jC_41 dX1_layMade_146 rfl) <|
  jcons (jL jC_41 dX1_layMade_147 rfl) <|
  jcons (jL jC_41 dX1_layMade_148 rfl) <|
  jcons (jL jC_41 dX1_layMade_150 rfl) <|
  jcons (jL jC_41 dX1_layMade_153 rfl) <|
  jcons (jL jC_41 dX1_layMade_156 rfl) <|
  jcons (jL jC_41 dX1_layMade_159 rfl) <|
  jnil
theorem jm_41 : ∀ l ∈ tbX1_layMade, ∀ q ∈ l, sJ jnw jao 41 q.1 q.2.1 q.2.2 := jmc jt_41_0 <| jmc jt_41_1 <| jmc jt_41_2 <| jmn
theorem jt_42_0 : ∀ q ∈ tcX1_set_0, sJ jnw jao 42 q.1 q.2.1 q.2.2 :=
  jcons (jL jC_42 dX1_set_0 rfl) <|
  jcons (jL jC_42 dX1_set_1 rfl) <|
  jcons (jL jC_42 dX1_set_2 rfl) <|
  jcons (j4V jC_42 jY_42 dX1_set_3 (jc_38 _) q1073 pd_38 (Or.inl q1102) (fun c r h1 h2 => js_47 c r h1 h2)) <|
  jcons (jL jC_42 dX1_set_6 rfl) <|
  jcons (jL jC_42 dX1_set_8 rfl) <|
  jcons (jL jC_42 dX1_set_10 rfl) <|
  jcons (jL jC_42 dX1_set_11 rfl) <|
  jcons (jL jC_42 dX1_set_14 rfl) <|
  jcons (jL jC_42 dX1_set_15 rfl) <|
  jcons (jL jC_42 dX1_set_16 rfl) <|
  jcons (jL jC_42 dX1_set_17 rfl) <|
  jcons (jL jC_42 dX1_set_19 rfl) <|
  jcons (jL jC_42 dX1_set_20 rfl) <|
  jcons (jL jC_42 dX1_set_21 rfl) <|
  jcons (j4S jC_42 jY_42 dX1_set_22 (jc_6 _) q245 pd_6 (Or.inl q244)) <|
  jcons (jL jC_42 dX1_set_25 rfl) <|
  jcons (jL jC_42 dX1_set_28 rfl) <|
  jcons (jL jC_42 dX1_set_29 rfl) <|
  jcons (jL jC_42 dX1_set_30 rfl) <|
  jcons (jG jC_42 jY_42 dX1_set_31 fk_1_4_X1 (Or.inl q172)) <|
  jcons (jL jC_42 dX1_set_34 rfl) <|
  jcons (jL jC_42 dX1_set_35 rfl) <|
  jcons (j4V jC_42 jY_42 dX1_set_36 (jc_239 _) q982 pd_239 (Or.inl q981) (fun c r h1 h2 => js_89 c r h1 h2)) <|
  jcons (jL jC_42 dX1_set_39 rfl) <|
  jcons (jL jC_42 dX1_set_41 rfl) <|
  jcons (jL jC_42 dX1_set_42 rfl) <|
  jcons (jL jC_42 dX1_set_44 rfl) <|
  jcons (jL jC_42 dX1_set_46 rfl) <|
  jcons (jL jC_42 dX1_set_47 rfl) <|
  jcons (jL jC_42 dX1_set_50 rfl) <|
  jcons (jL jC_42 dX1_set_52 rfl) <|
  jcons (jL jC_42 dX1_set_53 rfl) <|
  jcons (j4V jC_42 jY_42 dX1_set_55 (jc_43 _) q1105 pd_43 (Or.inl q1103) (fun c r h1 h2 => js_106 c r h1 h2)) <|
  jcons (jL jC_42 dX1_set_58 rfl) <|
  jcons (jL jC_42 dX1_set_59 rfl) <|
  jcons (jL jC_42 dX1_set_60 rfl) <|
  jcons (jL jC_42 dX1_set_61 rfl) <|
  jcons (jL jC_42 dX1_set_63 rfl) <|
  jnil
theorem jt_42_1 : ∀ q ∈ tcX1_set_1, sJ jnw jao 42 q.1 q.2.1 q.2.2 :=
  jcons (jL jC_42 dX1_set_66 rfl) <|
  jcons (jL jC_42 dX1_set_69 rfl) <|
  jcons (jL jC_42 dX1_set_70 rfl) <|
  jcons (j4V jC_42 jY_42 dX1_set_72 (jc_43 _) q1105 pd_43 (Or.inl q1103) (fun c r h1 h2 => js_106 c r h1 h2)) <|
  jcons (jL jC_42 dX1_set_75 rfl) <|
  jnil
theorem jm_42 : ∀ l ∈ tbX1_set, ∀ q ∈ l, sJ jnw jao 42 q.1 q.2.1 q.2.2 := jmc jt_42_0 <| jmc jt_42_1 <| jmn
theorem jt_43_0 : ∀ q ∈ tcX1_firstOf_0, sJ jnw jao 43 q.1 q.2.1 q.2.2 :=
  jcons (jL jC_43 dX1_firstOf_0 rfl) <|
  jcons (jL jC_43 dX1_firstOf_1 rfl) <|
  jcons (jL jC_43 dX1_firstOf_2 rfl) <|
  jcons (jL jC_43 dX1_firstOf_3 rfl) <|
  jcons (jL jC_43 dX1_firstOf_4 rfl) <|
  jcons (jL jC_43 dX1_firstOf_5 rfl) <|
  jcons (jL jC_43 dX1_firstOf_6 rfl) <|
  jcons (jL jC_43 dX1_firstOf_7 rfl) <|
  jcons (jL jC_43 dX1_firstOf_8 rfl) <|
  jcons (jL jC_43 dX1_firstOf_9 rfl) <|
  jcons (jL jC_43 dX1_firstOf_12 rfl) <|
  jcons (jL jC_43 dX1_firstOf_13 rfl) <|
  jcons (jL jC_43 dX1_firstOf_14 rfl) <|
  jcons (jL jC_43 dX1_firstOf_15 rfl) <|
  jcons (jL jC_43 dX1_firstOf_16 rfl) <|
  jcons (jL jC_43 dX1_firstOf_17 rfl) <|
  jcons (jL jC_43 dX1_firstOf_20 rfl) <|
  jcons (jL jC_43 dX1_firstOf_21 rfl) <|
  jcons (jL jC_43 dX1_firstOf_22 rfl) <|
  jcons (jL jC_43 dX1_firstOf_23 rfl) <|
  jcons (jL jC_43 dX1_firstOf_26 rfl) <|
  jcons (jG jC_43 jY_43 dX1_firstOf_27 fk_1_9_X1 (Or.inl q177)) <|
  jcons (jL jC_43 dX1_firstOf_30 rfl) <|
  jcons (jL jC_43 dX1_firstOf_31 rfl) <|
  jcons (jL jC_43 dX1_firstOf_32 rfl) <|
  jcons (jL jC_43 dX1_firstOf_33 rfl) <|
  jcons (jL jC_43 dX1_firstOf_36 rfl) <|
  jcons (jL jC_43 dX1_firstOf_37 rfl) <|
  jcons (jG jC_43 jY_43 dX1_firstOf_38 fk_1_8_X1 (Or.inl q176)) <|
  jcons (jL jC_43 dX1_firstOf_41 rfl) <|
  jcons (jL jC_43 dX1_firstOf_42 rfl) <|
  jcons (jL jC_43 dX1_firstOf_43 rfl) <|
  jcons (jL jC_43 dX1_firstOf_44 rfl) <|
  jcons (jL jC_43 dX1_firstOf_45 rfl) <|
  jcons (jL jC_43 dX1_firstOf_46 rfl) <|
  jcons (jL jC_43 dX1_firstOf_47 rfl) <|
  jcons (jL jC_43 dX1_firstOf_48 rfl) <|
  jcons (jG jC_43 jY_43 dX1_firstOf_49 fk_1_8_X1 (Or.inl q176)) <|
  jcons (jL jC_43 dX1_firstOf_52 rfl) <|
  jcons (jL jC_43 dX1_firstOf_53 rfl) <|
  jcons (jL jC_43 dX1_firstOf_54 rfl) <|
  jcons (jL jC_43 dX1_firstOf_57 rfl) <|
  jcons (jL jC_43 dX1_firstOf_58 rfl) <|
  jcons (jL jC_43 dX1_firstOf_59 rfl) <|
  jcons (jL jC_43 dX1_firstOf_62 rfl) <|
  jnil
theorem jt_43_1 : ∀ q ∈ tcX1_firstOf_1, sJ jnw jao 43 q.1 q.2.1 q.2.2 :=
  jcons (jL jC_43 dX1_firstOf_65 rfl) <|
  jcons (jL jC_43 dX1_firstOf_66 rfl) <|
  jnil
theorem jm_43 : ∀ l ∈ tbX1_firstOf, ∀ q ∈ l, sJ jnw jao 43 q.1 q.2.1 q.2.2 := jmc jt_43_0 <| jmc jt_43_1 <| jmn
theorem jt_44_0 : ∀ q ∈ tcX1_twice_0, sJ jnw jao 44 q.1 q.2.1 q.2.2 :=
  jcons (jL jC_44 dX1_twice_0 rfl) <|
  jcons (jL jC_44 dX1_twice_1 rfl) <|
  jcons (j4V jC_44 jY_44 dX1_twice_2 (jc_15 _) q886 pd_15 (Or.inl q884) (fun c r h1 h2 => js_76 c r h1 h2)) <|
  jcons (jL jC_44 dX1_twice_5 rfl) <|
  jcons (jL jC_44 dX1_twice_8 rfl) <|
  jcons (jG jC_44 jY_44 dX1_twice_9 fk_1_4_X1 (Or.inl q172)) <|
  jcons (jL jC_44 dX1_twice_12 rfl) <|
  jcons (jL jC_44 dX1_twice_13 rfl) <|
  jcons (jG jC_44 jY_44 dX1_twice_14 fk_24_6_X24 (Or.inr ⟨_, jw_q847⟩)) <|
  jcons (jL jC_44 dX1_twice_17 rfl) <|
  jcons (jL jC_44 dX1_twice_19 rfl) <|
  jcons (jL jC_44 dX1_twice_22 rfl) <|
  jcons (jG jC_44 jY_44 dX1_twice_23 fk_1_4_X1 (Or.inl q172)) <|
  jcons (jL jC_44 dX1_twice_26 rfl) <|
  jcons (jL jC_44 dX1_twice_27 rfl) <|
  jcons (jL jC_44 dX1_twice_28 rfl) <|
  jcons (jG jC_44 jY_44 dX1_twice_29 fk_1_4_X1 (Or.inl q172)) <|
  jcons (jL jC_44 dX1_twice_32 rfl) <|
  jcons (jL jC_44 dX1_twice_33 rfl) <|
  jcons (j4V jC_44 jY_44 dX1_twice_34 (jc_239 _) q982 pd_239 (Or.inl q981) (fun c r h1 h2 => js_89 c r h1 h2)) <|
  jcons (j4V jC_44 jY_44 dX1_twice_37 (jc_240 _) q986 pd_240 (Or.inl q985) (fun c r h1 h2 => js_90 c r h1 h2)) <|
  jcons (jL jC_44 dX1_twice_40 rfl) <|
  jcons (jL jC_44 dX1_twice_41 rfl) <|
  jcons (jL jC_44 dX1_twice_44 rfl) <|
  jcons (jL jC_44 dX1_twice_45 rfl) <|
  jcons (jL jC_44 dX1_twice_46 rfl) <|
  jcons (jG jC_44 jY_44 dX1_twice_47 fk_1_4_X1 (Or.inl q172)) <|
  jcons (jL jC_44 dX1_twice_50 rfl) <|
  jcons (jL jC_44 dX1_twice_51 rfl) <|
  jcons (jL jC_44 dX1_twice_52 rfl) <|
  jcons (jL jC_44 dX1_twice_53 rfl) <|
  jcons (jL jC_44 dX1_twice_54 rfl) <|
  jcons (j4V jC_44 jY_44 dX1_twice_55 (jc_35 _) q1049 pd_35 (Or.inl q1047) (fun c r h1 h2 => js_98 c r h1 h2)) <|
  jcons (jL jC_44 dX1_twice_58 rfl) <|
  jcons (jL jC_44 dX1_twice_59 rfl) <|
  jcons (jL jC_44 dX1_twice_60 rfl) <|
  jcons (jL jC_44 dX1_twice_61 rfl) <|
  jcons (jL jC_44 dX1_twice_63 rfl) <|
  jnil
theorem jt_44_1 : ∀ q ∈ tcX1_twice_1, sJ jnw jao 44 q.1 q.2.1 q.2.2 :=
  jcons (jL jC_44 dX1_twice_65 rfl) <|
  jcons (jG jC_44 jY_44 dX1_twice_66 fk_24_8_X24 (Or.inr ⟨_, jw_q852⟩)) <|
  jcons (jL jC_44 dX1_twice_69 rfl) <|
  jcons (jL jC_44 dX1_twice_72 rfl) <|
  jcons (jG jC_44 jY_44 dX1_twice_73 fk_24_5_X24 (Or.inr ⟨_, jw_q844⟩)) <|
  jcons (jL jC_44 dX1_twice_76 rfl) <|
  jcons (jL jC_44 dX1_twice_78 rfl) <|
  jcons (jL jC_44 dX1_twice_79 rfl) <|
  jcons (jL jC_44 dX1_twice_80 rfl) <|
  jcons (jL jC_44 dX1_twice_81 rfl) <|
  jcons (jL jC_44 dX1_twice_84 rfl) <|
  jcons (jL jC_44 dX1_twice_87 rfl) <|
  jcons (jG jC_44 jY_44 dX1_twice_88 fk_1_10_X1 (Or.inl q178)) <|
  jcons (jL jC_44 dX1_twice_91 rfl) <|
  jcons (jL jC_44 dX1_twice_92 rfl) <|
  jcons (jL jC_44 dX1_twice_94 rfl) <|
  jcons (jL jC_44 dX1_twice_95 rfl) <|
  jcons (jL jC_44 dX1_twice_98 rfl) <|
  jcons (jL jC_44 dX1_twice_101 rfl) <|
  jcons (jL jC_44 dX1_twice_104 rfl) <|
  jcons (jL jC_44 dX1_twice_105 rfl) <|
  jcons (jL jC_44 dX1_twice_106 rfl) <|
  jcons (jL jC_44 dX1_twice_107 rfl) <|
  jcons (jL jC_44 dX1_twice_108 rfl) <|
  jcons (j14 jC_44 jY_44 dX1_twice_109 q1052) <|
  jcons (j4V jC_44 jY_44 dX1_twice_112 (jc_45 _) q1113 pd_45 (Or.inl q1111) (fun c r h1 h2 => js_107 c r h1 h2)) <|
  jcons (jL jC_44 dX1_twice_115 rfl) <|
  jnil
theorem jm_44 : ∀ l ∈ tbX1_twice, ∀ q ∈ l, sJ jnw jao 44 q.1 q.2.1 q.2.2 := jmc jt_44_0 <| jmc jt_44_1 <| jmn
theorem jt_45_0 : ∀ q ∈ tcX1_paired_0, sJ jnw jao 45 q.1 q.2.1 q.2.2 :=
  jcons (jL jC_45 dX1_paired_0 rfl) <|
  jcons (jL jC_45 dX1_paired_1 rfl) <|
  jcons (jL jC_45 dX1_paired_3 rfl) <|
  jcons (jL jC_45 dX1_paired_5 rfl) <|
  jcons (jL jC_45 dX1_paired_6 rfl) <|
  jcons (jL jC_45 dX1_paired_9 rfl) <|
  jcons (jL jC_45 dX1_paired_10 rfl) <|
  jcons (jL jC_45 dX1_paired_12 rfl) <|
  jcons (jL jC_45 dX1_paired_13 rfl) <|
  jcons (jL jC_45 dX1_paired_14 rfl) <|
  jcons (jL jC_45 dX1_paired_15 rfl) <|
  jcons (jL jC_45 dX1_paired_16 rfl) <|
  jcons (jL jC_45 dX1_paired_19 rfl) <|
  jcons (jL jC_45 dX1_paired_22 rfl) <|
  jcons (jL jC_45 dX1_paired_25 rfl) <|
  jcons (jL jC_45 dX1_paired_27 rfl) <|
  jcons (jL jC_45 dX1_paired_28 rfl) <|
  jcons (jL jC_45 dX1_paired_31 rfl) <|
  jcons (jL jC_45 dX1_paired_32 rfl) <|
  jcons (jL jC_45 dX1_paired_33 rfl) <|
  jcons (jL jC_45 dX1_paired_34 rfl) <|
  jcons (jL jC_45 dX1_paired_37 rfl) <|
  jcons (jL jC_45 dX1_paired_38 rfl) <|
  jcons (jL jC_45 dX1_paired_39 rfl) <|
  jcons (jL jC_45 dX1_paired_40 rfl) <|
  jcons (jL jC_45 dX1_paired_41 rfl) <|
  jcons (jL jC_45 dX1_paired_43 rfl) <|
  jcons (jL jC_45 dX1_paired_44 rfl) <|
  jcons (jL jC_45 dX1_paired_45 rfl) <|
  jcons (jL jC_45 dX1_paired_46 rfl) <|
  jcons (jL jC_45 dX1_paired_47 rfl) <|
  jcons (j4V jC_45 jY_45 dX1_paired_48 (jc_45 _) q1113 pd_45 (Or.inl q1111) (fun c r h1 h2 => js_107 c r h1 h2)) <|
  jcons (jL jC_45 dX1_paired_51 rfl) <|
  jcons (j2 jC_45 jY_45 dX1_paired_54 q1051) <|
  jcons (jL jC_45 dX1_paired_57 rfl) <|
  jcons (jL jC_45 dX1_paired_59 rfl) <|
  jcons (jL jC_45 dX1_paired_61 rfl) <|
  jcons (jL jC_45 dX1_paired_62 rfl) <|
  jcons (jL jC_45 dX1_paired_63 rfl) <|
  jnil
theorem jt_45_1 : ∀ q ∈ tcX1_paired_1, sJ jnw jao 45 q.1 q.2.1 q.2.2 :=
  jcons (jL jC_45 dX1_paired_65 rfl) <|
  jcons (jL jC_45 dX1_paired_67 rfl) <|
  jcons (jL jC_45 dX1_paired_68 rfl) <|
  jcons (jL jC_45 dX1_paired_71 rfl) <|
  jcons (jL jC_45 dX1_paired_72 rfl) <|
  jcons (jL jC_45 dX1_paired_74 rfl) <|
  jcons (jL jC_45 dX1_paired_75 rfl) <|
  jcons (jL jC_45 dX1_paired_76 rfl) <|
  jcons (jL jC_45 dX1_paired_77 rfl) <|
  jcons (jL jC_45 dX1_paired_80 rfl) <|
  jcons (jL jC_45 dX1_paired_82 rfl) <|
  jcons (jG jC_45 jY_45 dX1_paired_83 fk_1_7_X1 (Or.inl q175)) <|
  jcons (jL jC_45 dX1_paired_86 rfl) <|
  jcons (jL jC_45 dX1_paired_88 rfl) <|
  jcons (jG jC_45 jY_45 dX1_paired_89 fk_1_10_X1 (Or.inl q178)) <|
  jcons (jL jC_45 dX1_paired_92 rfl) <|
  jcons (jL jC_45 dX1_paired_94 rfl) <|
  jcons (jL jC_45 dX1_paired_95 rfl) <|
  jcons (jL jC_45 dX1_paired_96 rfl) <|
  jcons (jG jC_45 jY_45 dX1_paired_97 fk_1_10_X1 (Or.inl q178)) <|
  jcons (jL jC_45 dX1_paired_100 rfl) <|
  jcons (jL jC_45 dX1_paired_102 rfl) <|
  jcons (jL jC_45 dX1_paired_103 rfl) <|
  jcons (jL jC_45 dX1_paired_104 rfl) <|
  jcons (jL jC_45 dX1_paired_105 rfl) <|
  jcons (jL jC_45 dX1_paired_106 rfl) <|
  jcons (jL jC_45 dX1_paired_107 rfl) <|
  jcons (jL jC_45 dX1_paired_108 rfl) <|
  jcons (jL jC_45 dX1_paired_109 rfl) <|
  jcons (jL jC_45 dX1_paired_111 rfl) <|
  jcons (jL jC_45 dX1_paired_112 rfl) <|
  jcons (jL jC_45 dX1_paired_113 rfl) <|
  jcons (jL jC_45 dX1_paired_114 rfl) <|
  jcons (jL jC_45 dX1_paired_116 rfl) <|
  jcons (jL jC_45 dX1_paired_117 rfl) <|
  jcons (jL jC_45 dX1_paired_118 rfl) <|
  jcons (j4V jC_45 jY_45 dX1_paired_119 (jc_45 _) q1113 pd_45 (Or.inl q1111) (fun c r h1 h2 => js_107 c r h1 h2)) <|
  jcons (jL jC_45 dX1_paired_122 rfl) <|
  jcons (j14 jC_45 jY_45 dX1_paired_123 q1052) <|
  jcons (jL jC_45 dX1_paired_126 rfl) <|
  jnil
theorem jt_45_2 : ∀ q ∈ tcX1_paired_2, sJ jnw jao 45 q.1 q.2.1 q.2.2 :=
  jcons (jL jC_45 dX1_paired_128 rfl) <|
  jcons (jL jC_45 dX1_paired_131 rfl) <|
  jcons (jL jC_45 dX1_paired_134 rfl) <|
  jcons (jL jC_45 dX1_paired_136 rfl) <|
  jnil
theorem jm_45 : ∀ l ∈ tbX1_paired, ∀ q ∈ l, sJ jnw jao 45 q.1 q.2.1 q.2.2 := jmc jt_45_0 <| jmc jt_45_1 <| jmc jt_45_2 <| jmn
theorem jt_46_0 : ∀ q ∈ tcX1_stock_0, sJ jnw jao 46 q.1 q.2.1 q.2.2 :=
  jcons (jL jC_46 dX1_stock_0 rfl) <|
  jcons (jL jC_46 dX1_stock_1 rfl) <|
  jcons (j4V jC_46 jY_46 dX1_stock_2 (jc_40 _) q1082 pd_40 (Or.inl q1080) (fun c r h1 h2 => js_102 c r h1 h2)) <|
  jcons (jL jC_46 dX1_stock_5 rfl) <|
  jcons (jL jC_46 dX1_stock_8 rfl) <|
  jcons (jL jC_46 dX1_stock_9 rfl) <|
  jcons (jL jC_46 dX1_stock_10 rfl) <|
  jcons (j3 jC_46 jY_46 dX1_stock_11 q248) <|
  jcons (j4S jC_46 jY_46 dX1_stock_14 (jc_6 _) q245 pd_6 (Or.inl q244)) <|
  jcons (jL jC_46 dX1_stock_17 rfl) <|
  jcons (jL jC_46 dX1_stock_20 rfl) <|
  jcons (jL jC_46 dX1_stock_21 rfl) <|
  jcons (jL jC_46 dX1_stock_22 rfl) <|
  jcons (jG jC_46 jY_46 dX1_stock_23 fk_1_0_X1 (Or.inl q165)) <|
  jcons (jL jC_46 dX1_stock_26 rfl) <|
  jcons (jL jC_46 dX1_stock_27 rfl) <|
  jcons (jL jC_46 dX1_stock_28 rfl) <|
  jcons (jPu jC_46 jY_46 dX1_stock_29 fk_4_3_X4 ap_4_3 (fn_4_3 _) (Or.inr ⟨_, jw_q260⟩) (tyX4_ok 3 (by decide)) (Or.inl ⟨rfl, rfl⟩)) <|
  jcons (jL jC_46 dX1_stock_32 rfl) <|
  jcons (jL jC_46 dX1_stock_33 rfl) <|
  jnil
theorem jm_46 : ∀ l ∈ tbX1_stock, ∀ q ∈ l, sJ jnw jao 46 q.1 q.2.1 q.2.2 := jmc jt_46_0 <| jmn
theorem jt_47_0 : ∀ q ∈ tcX1_pace_0, sJ jnw jao 47 q.1 q.2.1 q.2.2 :=
  jcons (jL jC_47 dX1_pace_0 rfl) <|
  jcons (jL jC_47 dX1_pace_1 rfl) <|
  jcons (jL jC_47 dX1_pace_2 rfl) <|
  jcons (j3 jC_47 jY_47 dX1_pace_3 q247) <|
  jcons (j4S jC_47 jY_47 dX1_pace_6 (jc_6 _) q245 pd_6 (Or.inl q244)) <|
  jcons (jL jC_47 dX1_pace_9 rfl) <|
  jcons (jL jC_47 dX1_pace_12 rfl) <|
  jcons (jL jC_47 dX1_pace_13 rfl) <|
  jcons (jL jC_47 dX1_pace_14 rfl) <|
  jcons (j3 jC_47 jY_47 dX1_pace_15 q247) <|
  jcons (j4S jC_47 jY_47 dX1_pace_18 (jc_6 _) q245 pd_6 (Or.inl q244)) <|
  jcons (jL jC_47 dX1_pace_21 rfl) <|
  jcons (jL jC_47 dX1_pace_24 rfl) <|
  jcons (jL jC_47 dX1_pace_25 rfl) <|
  jcons (jL jC_47 dX1_pace_26 rfl) <|
  jcons (jL jC_47 dX1_pace_27 rfl) <|
  jcons (jPu jC_47 jY_47 dX1_pace_28 fk_1_14_X1 ap_1_14 (fn_1_14 _) (Or.inl q182) (tyX1_ok 14 (by decide)) (Or.inl ⟨rfl, rfl⟩)) <|
  jcons (jL jC_47 dX1_pace_31 rfl) <|
  jcons (jL jC_47 dX1_pace_32 rfl) <|
  jcons (jPu jC_47 jY_47 dX1_pace_33 fk_1_15_X1 ap_1_15 (fn_1_15 _) (Or.inl q183) (tyX1_ok 15 (by decide)) (Or.inl ⟨rfl, rfl⟩)) <|
  jcons (jL jC_47 dX1_pace_36 rfl) <|
  jcons (jL jC_47 dX1_pace_37 rfl) <|
  jnil
theorem jm_47 : ∀ l ∈ tbX1_pace, ∀ q ∈ l, sJ jnw jao 47 q.1 q.2.1 q.2.2 := jmc jt_47_0 <| jmn
theorem jt_48_0 : ∀ q ∈ tcX1_comes_0, sJ jnw jao 48 q.1 q.2.1 q.2.2 :=
  jcons (jL jC_48 dX1_comes_0 rfl) <|
  jcons (jG jC_48 jY_48 dX1_comes_1 fk_1_12_X1 (Or.inl q180)) <|
  jcons (jL jC_48 dX1_comes_4 rfl) <|
  jcons (jL jC_48 dX1_comes_6 rfl) <|
  jcons (jL jC_48 dX1_comes_9 rfl) <|
  jcons (jL jC_48 dX1_comes_10 rfl) <|
  jcons (j4V jC_48 jY_48 dX1_comes_11 (jc_15 _) q886 pd_15 (Or.inl q884) (fun c r h1 h2 => js_76 c r h1 h2)) <|
  jcons (jL jC_48 dX1_comes_14 rfl) <|
  jcons (jL jC_48 dX1_comes_17 rfl) <|
  jcons (jL jC_48 dX1_comes_18 rfl) <|
  jcons (jL jC_48 dX1_comes_19 rfl) <|
  jcons (jG jC_48 jY_48 dX1_comes_20 fk_1_16_X1 (Or.inl q184)) <|
  jcons (jL jC_48 dX1_comes_23 rfl) <|
  jcons (j3 jC_48 jY_48 dX1_comes_24 q1127) <|
  jcons (j4S jC_48 jY_48 dX1_comes_27 (jc_6 _) q245 pd_6 (Or.inl q244)) <|
  jcons (jL jC_48 dX1_comes_30 rfl) <|
  jcons (jL jC_48 dX1_comes_33 rfl) <|
  jcons (jL jC_48 dX1_comes_34 rfl) <|
  jcons (jL jC_48 dX1_comes_35 rfl) <|
  jcons (j3 jC_48 jY_48 dX1_comes_36 q1128) <|
  jcons (j4S jC_48 jY_48 dX1_comes_39 (jc_6 _) q245 pd_6 (Or.inl q244)) <|
  jcons (jL jC_48 dX1_comes_42 rfl) <|
  jcons (jL jC_48 dX1_comes_45 rfl) <|
  jcons (jL jC_48 dX1_comes_46 rfl) <|
  jcons (jL jC_48 dX1_comes_47 rfl) <|
  jcons (jG jC_48 jY_48 dX1_comes_48 fk_1_11_X1 (Or.inl q179)) <|
  jcons (jL jC_48 dX1_comes_51 rfl) <|
  jcons (jG jC_48 jY_48 dX1_comes_52 fk_1_12_X1 (Or.inl q180)) <|
  jcons (j6 jC_48 jY_48 dX1_comes_55 rfl q147 q1129 q134) <|
  jcons (jL jC_48 dX1_comes_58 rfl) <|
  jcons (jL jC_48 dX1_comes_59 rfl) <|
  jcons (jG jC_48 jY_48 dX1_comes_60 fk_1_4_X1 (Or.inl q172)) <|
  jcons (jL jC_48 dX1_comes_63 rfl) <|
  jnil
theorem jt_48_1 : ∀ q ∈ tcX1_comes_1, sJ jnw jao 48 q.1 q.2.1 q.2.2 :=
  jcons (jL jC_48 dX1_comes_64 rfl) <|
  jcons (jL jC_48 dX1_comes_65 rfl) <|
  jcons (jL jC_48 dX1_comes_66 rfl) <|
  jcons (j4I jC_48 jY_48 dX1_comes_67 (jc_249 _) rfl q1131 ⟨_, _, q1132⟩ pd_249 (Or.inl q1130)) <|
  jcons (jL jC_48 dX1_comes_70 rfl) <|
  jcons (jL jC_48 dX1_comes_71 rfl) <|
  jcons (jL jC_48 dX1_comes_72 rfl) <|
  jcons (jPu jC_48 jY_48 dX1_comes_73 fk_1_16_X1 ap_1_16 (fn_1_16 _) (Or.inl q184) (tyX1_ok 16 (by decide)) (Or.inl ⟨rfl, rfl⟩)) <|
  jcons (jL jC_48 dX1_comes_76 rfl) <|
  jcons (jL jC_48 dX1_comes_77 rfl) <|
  jcons (jG jC_48 jY_48 dX1_comes_78 fk_1_12_X1 (Or.inl q180)) <|
  jcons (jL jC_48 dX1_comes_81 rfl) <|
  jcons (jL jC_48 dX1_comes_82 rfl) <|
  jcons (jPu jC_48 jY_48 dX1_comes_83 fk_1_12_X1 ap_1_12 (fn_1_12 _) (Or.inl q180) (tyX1_ok 12 (by decide)) (Or.inl ⟨rfl, rfl⟩)) <|
  jcons (jL jC_48 dX1_comes_86 rfl) <|
  jcons (jG jC_48 jY_48 dX1_comes_87 fk_1_12_X1 (Or.inl q180)) <|
  jcons (jL jC_48 dX1_comes_90 rfl) <|
  jcons (jL jC_48 dX1_comes_91 rfl) <|
  jcons (jL jC_48 dX1_comes_92 rfl) <|
  jnil
theorem jm_48 : ∀ l ∈ tbX1_comes, ∀ q ∈ l, sJ jnw jao 48 q.1 q.2.1 q.2.2 := jmc jt_48_0 <| jmc jt_48_1 <| jmn
theorem jt_49_0 : ∀ q ∈ tcX1_close_0, sJ jnw jao 49 q.1 q.2.1 q.2.2 :=
  jcons (jL jC_49 dX1_close_0 rfl) <|
  jcons (jG jC_49 jY_49 dX1_close_1 fk_1_12_X1 (Or.inl q180)) <|
  jcons (jL jC_49 dX1_close_4 rfl) <|
  jcons (jL jC_49 dX1_close_5 rfl) <|
  jcons (jL jC_49 dX1_close_6 rfl) <|
  jcons (jPu jC_49 jY_49 dX1_close_7 fk_1_12_X1 ap_1_12 (fn_1_12 _) (Or.inl q180) (tyX1_ok 12 (by decide)) (Or.inl ⟨rfl, rfl⟩)) <|
  jcons (jL jC_49 dX1_close_10 rfl) <|
  jcons (jL jC_49 dX1_close_11 rfl) <|
  jcons (jPu jC_49 jY_49 dX1_close_12 fk_1_13_X1 ap_1_13 (fn_1_13 _) (Or.inl q181) (tyX1_ok 13 (by decide)) (Or.inl ⟨rfl, rfl⟩)) <|
  jcons (jL jC_49 dX1_close_15 rfl) <|
  jcons (jL jC_49 dX1_close_16 rfl) <|
  jcons (jPu jC_49 jY_49 dX1_close_17 fk_1_16_X1 ap_1_16 (fn_1_16 _) (Or.inl q184) (tyX1_ok 16 (by decide)) (Or.inl ⟨rfl, rfl⟩)) <|
  jcons (jL jC_49 dX1_close_20 rfl) <|
  jcons (jL jC_49 dX1_close_21 rfl) <|
  jnil
theorem jm_49 : ∀ l ∈ tbX1_close, ∀ q ∈ l, sJ jnw jao 49 q.1 q.2.1 q.2.2 := jmc jt_49_0 <| jmn
theorem jt_50_0 : ∀ q ∈ tcX1_run_0, sJ jnw jao 50 q.1 q.2.1 q.2.2 :=
  jcons (jL jC_50 dX1_run_0 rfl) <|
  jcons (jL jC_50 dX1_run_1 rfl) <|
  jcons (jPu jC_50 jY_50 dX1_run_2 fk_1_17_X1 ap_1_17 (fn_1_17 _) (Or.inl q185) (tyX1_ok 17 (by decide)) (Or.inr (Or.inl ⟨rfl, rfl⟩))) <|
  jcons (jL jC_50 dX1_run_5 rfl) <|
  jcons (jL jC_50 dX1_run_6 rfl) <|
  jcons (jL jC_50 dX1_run_7 rfl) <|
  jcons (jL jC_50 dX1_run_8 rfl) <|
  jcons (jG jC_50 jY_50 dX1_run_9 fk_1_1_X1 (Or.inl q166)) <|
  jcons (jL jC_50 dX1_run_12 rfl) <|
  jcons (jL jC_50 dX1_run_15 rfl) <|
  jcons (jG jC_50 jY_50 dX1_run_16 fk_1_0_X1 (Or.inl q165)) <|
  jcons (jL jC_50 dX1_run_19 rfl) <|
  jcons (jL jC_50 dX1_run_20 rfl) <|
  jcons (jL jC_50 dX1_run_21 rfl) <|
  jcons (jG jC_50 jY_50 dX1_run_22 fk_1_0_X1 (Or.inl q165)) <|
  jcons (jL jC_50 dX1_run_25 rfl) <|
  jcons (jL jC_50 dX1_run_26 rfl) <|
  jcons (jG jC_50 jY_50 dX1_run_27 fk_4_3_X4 (Or.inr ⟨_, jw_q260⟩)) <|
  jcons (jPu jC_50 jY_50 dX1_run_30 fk_4_4_X4 ap_4_4 (fn_4_4 _) (Or.inr ⟨_, jw_q261⟩) (tyX4_ok 4 (by decide)) (Or.inl ⟨rfl, rfl⟩)) <|
  jcons (jL jC_50 dX1_run_33 rfl) <|
  jcons (jL jC_50 dX1_run_36 rfl) <|
  jcons (jL jC_50 dX1_run_39 rfl) <|
  jcons (jL jC_50 dX1_run_40 rfl) <|
  jcons (jL jC_50 dX1_run_41 rfl) <|
  jcons (jL jC_50 dX1_run_42 rfl) <|
  jcons (jL jC_50 dX1_run_44 rfl) <|
  jcons (jL jC_50 dX1_run_45 rfl) <|
  jcons (jL jC_50 dX1_run_47 rfl) <|
  jcons (jL jC_50 dX1_run_49 rfl) <|
  jcons (jG jC_50 jY_50 dX1_run_50 fk_1_12_X1 (Or.inl q180)) <|
  jcons (jL jC_50 dX1_run_53 rfl) <|
  jcons (jL jC_50 dX1_run_56 rfl) <|
  jcons (jL jC_50 dX1_run_57 rfl) <|
  jcons (jG jC_50 jY_50 dX1_run_58 fk_1_11_X1 (Or.inl q179)) <|
  jcons (jL jC_50 dX1_run_61 rfl) <|
  jcons (jL jC_50 dX1_run_63 rfl) <|
  jnil
theorem jt_50_1 : ∀ q ∈ tcX1_run_1, sJ jnw jao 50 q.1 q.2.1 q.2.2 :=
  jcons (jL jC_50 dX1_run_64 rfl) <|
  jcons (j4V jC_50 jY_50 dX1_run_65 (jc_51 _) q1169 pd_51 (Or.inl q1167) (fun c r h1 h2 => js_108 c r h1 h2)) <|
  jcons (jL jC_50 dX1_run_68 rfl) <|
  jcons (jG jC_50 jY_50 dX1_run_69 fk_1_11_X1 (Or.inl q179)) <|
  jcons (jL jC_50 dX1_run_72 rfl) <|
  jcons (jL jC_50 dX1_run_74 rfl) <|
  jcons (jG jC_50 jY_50 dX1_run_75 fk_25_5_X25 (Or.inr ⟨_, jw_q1142⟩)) <|
  jcons (jL jC_50 dX1_run_78 rfl) <|
  jcons (jL jC_50 dX1_run_79 rfl) <|
  jcons (jL jC_50 dX1_run_81 rfl) <|
  jcons (jG jC_50 jY_50 dX1_run_82 fk_1_11_X1 (Or.inl q179)) <|
  jcons (jL jC_50 dX1_run_85 rfl) <|
  jcons (jL jC_50 dX1_run_87 rfl) <|
  jcons (jG jC_50 jY_50 dX1_run_88 fk_25_3_X25 (Or.inr ⟨_, jw_q1140⟩)) <|
  jcons (jL jC_50 dX1_run_91 rfl) <|
  jcons (jL jC_50 dX1_run_94 rfl) <|
  jcons (jL jC_50 dX1_run_95 rfl) <|
  jcons (jL jC_50 dX1_run_98 rfl) <|
  jcons (jL jC_50 dX1_run_99 rfl) <|
  jcons (jL jC_50 dX1_run_100 rfl) <|
  jcons (jL jC_50 dX1_run_102 rfl) <|
  jcons (jL jC_50 dX1_run_105 rfl) <|
  jcons (jL jC_50 dX1_run_108 rfl) <|
  jcons (jL jC_50 dX1_run_109 rfl) <|
  jcons (jG jC_50 jY_50 dX1_run_110 fk_1_12_X1 (Or.inl q180)) <|
  jcons (jPu jC_50 jY_50 dX1_run_113 fk_1_13_X1 ap_1_13 (fn_1_13 _) (Or.inl q181) (tyX1_ok 13 (by decide)) (Or.inl ⟨rfl, rfl⟩)) <|
  jcons (jL jC_50 dX1_run_116 rfl) <|
  jcons (jL jC_50 dX1_run_118 rfl) <|
  jnil
theorem jm_50 : ∀ l ∈ tbX1_run, ∀ q ∈ l, sJ jnw jao 50 q.1 q.2.1 q.2.2 := jmc jt_50_0 <| jmc jt_50_1 <| jmn
theorem jt_51_0 : ∀ q ∈ tcX1_serves_0, sJ jnw jao 51 q.1 q.2.1 q.2.2 :=
  jcons (jL jC_51 dX1_serves_0 rfl) <|
  jcons (jL jC_51 dX1_serves_1 rfl) <|
  jcons (jL jC_51 dX1_serves_2 rfl) <|
  jcons (jG jC_51 jY_51 dX1_serves_3 fk_25_1_X25 (Or.inr ⟨_, jw_q1137⟩)) <|
  jcons (j14 jC_51 jY_51 dX1_serves_6 q936) <|
  jcons (jPu jC_51 jY_51 dX1_serves_9 fk_25_4_X25 ap_25_4 (fn_25_4 _) (Or.inr ⟨_, jw_q1141⟩) (tyX25_ok 4 (by decide)) (Or.inl ⟨rfl, rfl⟩)) <|
  jcons (jL jC_51 dX1_serves_12 rfl) <|
  jcons (jL jC_51 dX1_serves_13 rfl) <|
  jcons (jG jC_51 jY_51 dX1_serves_14 fk_25_4_X25 (Or.inr ⟨_, jw_q1141⟩)) <|
  jcons (jPu jC_51 jY_51 dX1_serves_17 fk_25_5_X25 ap_25_5 (fn_25_5 _) (Or.inr ⟨_, jw_q1142⟩) (tyX25_ok 5 (by decide)) (Or.inl ⟨rfl, rfl⟩)) <|
  jcons (jL jC_51 dX1_serves_20 rfl) <|
  jcons (jL jC_51 dX1_serves_21 rfl) <|
  jcons (jPu jC_51 jY_51 dX1_serves_22 fk_25_6_X25 ap_25_6 (fn_25_6 _) (Or.inr ⟨_, jw_q1143⟩) (tyX25_ok 6 (by decide)) (Or.inl ⟨rfl, rfl⟩)) <|
  jcons (jL jC_51 dX1_serves_25 rfl) <|
  jcons (jL jC_51 dX1_serves_26 rfl) <|
  jcons (jG jC_51 jY_51 dX1_serves_27 fk_25_4_X25 (Or.inr ⟨_, jw_q1141⟩)) <|
  jcons (jL jC_51 dX1_serves_30 rfl) <|
  jcons (jG jC_51 jY_51 dX1_serves_31 fk_25_1_X25 (Or.inr ⟨_, jw_q1137⟩)) <|
  jcons (jL jC_51 dX1_serves_34 rfl) <|
  jcons (jL jC_51 dX1_serves_35 rfl) <|
  jcons (jG jC_51 jY_51 dX1_serves_36 fk_25_2_X25 (Or.inr ⟨_, jw_q1139⟩)) <|
  jcons (jL jC_51 dX1_serves_39 rfl) <|
  jcons (jL jC_51 dX1_serves_42 rfl) <|
  jcons (jL jC_51 dX1_serves_43 rfl) <|
  jcons (jL jC_51 dX1_serves_46 rfl) <|
  jcons (jL jC_51 dX1_serves_47 rfl) <|
  jcons (jG jC_51 jY_51 dX1_serves_48 fk_25_0_X25 (Or.inr ⟨_, jw_q1135⟩)) <|
  jcons (j4V jC_51 jY_51 dX1_serves_51 (jc_52 _) q1173 pd_52 (Or.inl q1171) (fun c r h1 h2 => js_109 c r h1 h2)) <|
  jcons (jL jC_51 dX1_serves_54 rfl) <|
  jcons (jL jC_51 dX1_serves_57 rfl) <|
  jcons (jL jC_51 dX1_serves_58 rfl) <|
  jcons (jL jC_51 dX1_serves_61 rfl) <|
  jcons (jPu jC_51 jY_51 dX1_serves_62 fk_25_3_X25 ap_25_3 (fn_25_3 _) (Or.inr ⟨_, jw_q1140⟩) (tyX25_ok 3 (by decide)) (Or.inl ⟨rfl, rfl⟩)) <|
  jnil
theorem jt_51_1 : ∀ q ∈ tcX1_serves_1, sJ jnw jao 51 q.1 q.2.1 q.2.2 :=
  jcons (jL jC_51 dX1_serves_65 rfl) <|
  jcons (jL jC_51 dX1_serves_66 rfl) <|
  jcons (jL jC_51 dX1_serves_67 rfl) <|
  jcons (jL jC_51 dX1_serves_68 rfl) <|
  jcons (jG jC_51 jY_51 dX1_serves_69 fk_25_0_X25 (Or.inr ⟨_, jw_q1135⟩)) <|
  jcons (jG jC_51 jY_51 dX1_serves_72 fk_24_7_X24 (Or.inr ⟨_, jw_q850⟩)) <|
  jcons (jL jC_51 dX1_serves_75 rfl) <|
  jcons (jL jC_51 dX1_serves_78 rfl) <|
  jcons (jG jC_51 jY_51 dX1_serves_79 fk_25_3_X25 (Or.inr ⟨_, jw_q1140⟩)) <|
  jcons (jL jC_51 dX1_serves_82 rfl) <|
  jcons (jL jC_51 dX1_serves_85 rfl) <|
  jcons (jL jC_51 dX1_serves_86 rfl) <|
  jcons (jL jC_51 dX1_serves_87 rfl) <|
  jcons (j4V jC_51 jY_51 dX1_serves_88 (jc_53 _) q1177 pd_53 (Or.inl q1175) (fun c r h1 h2 => js_110 c r h1 h2)) <|
  jcons (jL jC_51 dX1_serves_91 rfl) <|
  jcons (jL jC_51 dX1_serves_94 rfl) <|
  jcons (jL jC_51 dX1_serves_95 rfl) <|
  jcons (jPu jC_51 jY_51 dX1_serves_96 fk_25_3_X25 ap_25_3 (fn_25_3 _) (Or.inr ⟨_, jw_q1140⟩) (tyX25_ok 3 (by decide)) (Or.inl ⟨rfl, rfl⟩)) <|
  jcons (jL jC_51 dX1_serves_99 rfl) <|
  jcons (jL jC_51 dX1_serves_102 rfl) <|
  jcons (jL jC_51 dX1_serves_105 rfl) <|
  jnil
theorem jm_51 : ∀ l ∈ tbX1_serves, ∀ q ∈ l, sJ jnw jao 51 q.1 q.2.1 q.2.2 := jmc jt_51_0 <| jmc jt_51_1 <| jmn
theorem jt_52_0 : ∀ q ∈ tcX1_hasFor_0, sJ jnw jao 52 q.1 q.2.1 q.2.2 :=
  jcons (jL jC_52 dX1_hasFor_0 rfl) <|
  jcons (jL jC_52 dX1_hasFor_1 rfl) <|
  jcons (jL jC_52 dX1_hasFor_2 rfl) <|
  jcons (jL jC_52 dX1_hasFor_3 rfl) <|
  jcons (jG jC_52 jY_52 dX1_hasFor_4 fk_1_1_X1 (Or.inl q166)) <|
  jcons (jL jC_52 dX1_hasFor_7 rfl) <|
  jcons (jL jC_52 dX1_hasFor_10 rfl) <|
  jcons (jG jC_52 jY_52 dX1_hasFor_11 fk_1_0_X1 (Or.inl q165)) <|
  jcons (jL jC_52 dX1_hasFor_14 rfl) <|
  jcons (jL jC_52 dX1_hasFor_15 rfl) <|
  jcons (jL jC_52 dX1_hasFor_16 rfl) <|
  jcons (jPu jC_52 jY_52 dX1_hasFor_17 fk_4_5_X4 ap_4_5 (fn_4_5 _) (Or.inr ⟨_, jw_q262⟩) (tyX4_ok 5 (by decide)) (Or.inl ⟨rfl, rfl⟩)) <|
  jcons (jL jC_52 dX1_hasFor_20 rfl) <|
  jcons (jL jC_52 dX1_hasFor_23 rfl) <|
  jcons (jL jC_52 dX1_hasFor_26 rfl) <|
  jcons (jL jC_52 dX1_hasFor_27 rfl) <|
  jcons (jL jC_52 dX1_hasFor_28 rfl) <|
  jcons (jL jC_52 dX1_hasFor_29 rfl) <|
  jcons (jG jC_52 jY_52 dX1_hasFor_30 fk_24_7_X24 (Or.inr ⟨_, jw_q850⟩)) <|
  jcons (jL jC_52 dX1_hasFor_33 rfl) <|
  jcons (jL jC_52 dX1_hasFor_36 rfl) <|
  jcons (jG jC_52 jY_52 dX1_hasFor_37 fk_1_0_X1 (Or.inl q165)) <|
  jcons (jL jC_52 dX1_hasFor_40 rfl) <|
  jcons (jG jC_52 jY_52 dX1_hasFor_41 fk_24_4_X24 (Or.inr ⟨_, jw_q842⟩)) <|
  jcons (jL jC_52 dX1_hasFor_44 rfl) <|
  jcons (jL jC_52 dX1_hasFor_45 rfl) <|
  jcons (jL jC_52 dX1_hasFor_46 rfl) <|
  jcons (jL jC_52 dX1_hasFor_47 rfl) <|
  jcons (jG jC_52 jY_52 dX1_hasFor_48 fk_4_5_X4 (Or.inr ⟨_, jw_q262⟩)) <|
  jcons (jL jC_52 dX1_hasFor_51 rfl) <|
  jcons (jL jC_52 dX1_hasFor_52 rfl) <|
  jcons (jPu jC_52 jY_52 dX1_hasFor_53 fk_4_5_X4 ap_4_5 (fn_4_5 _) (Or.inr ⟨_, jw_q262⟩) (tyX4_ok 5 (by decide)) (Or.inl ⟨rfl, rfl⟩)) <|
  jcons (jL jC_52 dX1_hasFor_56 rfl) <|
  jcons (jL jC_52 dX1_hasFor_59 rfl) <|
  jcons (jL jC_52 dX1_hasFor_62 rfl) <|
  jcons (jL jC_52 dX1_hasFor_63 rfl) <|
  jnil
theorem jt_52_1 : ∀ q ∈ tcX1_hasFor_1, sJ jnw jao 52 q.1 q.2.1 q.2.2 :=
  jcons (jL jC_52 dX1_hasFor_64 rfl) <|
  jcons (jL jC_52 dX1_hasFor_65 rfl) <|
  jcons (jG jC_52 jY_52 dX1_hasFor_66 fk_1_1_X1 (Or.inl q166)) <|
  jcons (jL jC_52 dX1_hasFor_69 rfl) <|
  jcons (jL jC_52 dX1_hasFor_72 rfl) <|
  jcons (jG jC_52 jY_52 dX1_hasFor_73 fk_1_0_X1 (Or.inl q165)) <|
  jcons (jL jC_52 dX1_hasFor_76 rfl) <|
  jcons (jL jC_52 dX1_hasFor_77 rfl) <|
  jcons (jG jC_52 jY_52 dX1_hasFor_78 fk_4_4_X4 (Or.inr ⟨_, jw_q261⟩)) <|
  jcons (jL jC_52 dX1_hasFor_81 rfl) <|
  jcons (jG jC_52 jY_52 dX1_hasFor_82 fk_1_0_X1 (Or.inl q165)) <|
  jcons (jL jC_52 dX1_hasFor_85 rfl) <|
  jcons (jL jC_52 dX1_hasFor_86 rfl) <|
  jcons (jG jC_52 jY_52 dX1_hasFor_87 fk_4_5_X4 (Or.inr ⟨_, jw_q262⟩)) <|
  jcons (jL jC_52 dX1_hasFor_90 rfl) <|
  jcons (jL jC_52 dX1_hasFor_93 rfl) <|
  jcons (jL jC_52 dX1_hasFor_94 rfl) <|
  jcons (jL jC_52 dX1_hasFor_95 rfl) <|
  jcons (jL jC_52 dX1_hasFor_98 rfl) <|
  jcons (jL jC_52 dX1_hasFor_101 rfl) <|
  jcons (jL jC_52 dX1_hasFor_102 rfl) <|
  jnil
theorem jm_52 : ∀ l ∈ tbX1_hasFor, ∀ q ∈ l, sJ jnw jao 52 q.1 q.2.1 q.2.2 := jmc jt_52_0 <| jmc jt_52_1 <| jmn
theorem jt_53_0 : ∀ q ∈ tcX1_makes_0, sJ jnw jao 53 q.1 q.2.1 q.2.2 :=
  jcons (jL jC_53 dX1_makes_0 rfl) <|
  jcons (jG jC_53 jY_53 dX1_makes_1 fk_1_0_X1 (Or.inl q165)) <|
  jcons (jL jC_53 dX1_makes_4 rfl) <|
  jcons (jG jC_53 jY_53 dX1_makes_5 fk_25_0_X25 (Or.inr ⟨_, jw_q1135⟩)) <|
  jcons (jG jC_53 jY_53 dX1_makes_8 fk_24_4_X24 (Or.inr ⟨_, jw_q842⟩)) <|
  jcons (jL jC_53 dX1_makes_11 rfl) <|
  jcons (jL jC_53 dX1_makes_12 rfl) <|
  jcons (jL jC_53 dX1_makes_13 rfl) <|
  jcons (jL jC_53 dX1_makes_14 rfl) <|
  jcons (jL jC_53 dX1_makes_15 rfl) <|
  jcons (jL jC_53 dX1_makes_16 rfl) <|
  jcons (jL jC_53 dX1_makes_18 rfl) <|
  jcons (jL jC_53 dX1_makes_20 rfl) <|
  jcons (jL jC_53 dX1_makes_23 rfl) <|
  jcons (jG jC_53 jY_53 dX1_makes_24 fk_4_4_X4 (Or.inr ⟨_, jw_q261⟩)) <|
  jcons (jL jC_53 dX1_makes_27 rfl) <|
  jcons (jL jC_53 dX1_makes_30 rfl) <|
  jcons (jL jC_53 dX1_makes_31 rfl) <|
  jcons (jL jC_53 dX1_makes_32 rfl) <|
  jcons (jL jC_53 dX1_makes_33 rfl) <|
  jcons (jG jC_53 jY_53 dX1_makes_34 fk_4_4_X4 (Or.inr ⟨_, jw_q261⟩)) <|
  jcons (jL jC_53 dX1_makes_37 rfl) <|
  jcons (jL jC_53 dX1_makes_38 rfl) <|
  jcons (jPu jC_53 jY_53 dX1_makes_39 fk_4_4_X4 ap_4_4 (fn_4_4 _) (Or.inr ⟨_, jw_q261⟩) (tyX4_ok 4 (by decide)) (Or.inl ⟨rfl, rfl⟩)) <|
  jcons (jL jC_53 dX1_makes_42 rfl) <|
  jcons (jL jC_53 dX1_makes_43 rfl) <|
  jcons (jG jC_53 jY_53 dX1_makes_44 fk_25_6_X25 (Or.inr ⟨_, jw_q1143⟩)) <|
  jcons (jL jC_53 dX1_makes_47 rfl) <|
  jcons (jL jC_53 dX1_makes_48 rfl) <|
  jcons (jPu jC_53 jY_53 dX1_makes_49 fk_25_6_X25 ap_25_6 (fn_25_6 _) (Or.inr ⟨_, jw_q1143⟩) (tyX25_ok 6 (by decide)) (Or.inl ⟨rfl, rfl⟩)) <|
  jcons (jL jC_53 dX1_makes_52 rfl) <|
  jcons (jL jC_53 dX1_makes_53 rfl) <|
  jcons (jG jC_53 jY_53 dX1_makes_54 fk_25_5_X25 (Or.inr ⟨_, jw_q1142⟩)) <|
  jcons (jL jC_53 dX1_makes_57 rfl) <|
  jcons (jG jC_53 jY_53 dX1_makes_58 fk_1_15_X1 (Or.inl q183)) <|
  jcons (jL jC_53 dX1_makes_61 rfl) <|
  jcons (jG jC_53 jY_53 dX1_makes_62 fk_1_14_X1 (Or.inl q182)) <|
  jnil
theorem jt_53_1 : ∀ q ∈ tcX1_makes_1, sJ jnw jao 53 q.1 q.2.1 q.2.2 :=
  jcons (jL jC_53 dX1_makes_65 rfl) <|
  jcons (jG jC_53 jY_53 dX1_makes_66 fk_25_0_X25 (Or.inr ⟨_, jw_q1135⟩)) <|
  jcons (jL jC_53 dX1_makes_69 rfl) <|
  jcons (j4V jC_53 jY_53 dX1_makes_70 (jc_248 _) q1180 pd_248 (Or.inl q1179) (fun c r h1 h2 => js_111 c r h1 h2)) <|
  jcons (jL jC_53 dX1_makes_73 rfl) <|
  jcons (jL jC_53 dX1_makes_74 rfl) <|
  jcons (jL jC_53 dX1_makes_75 rfl) <|
  jcons (jPu jC_53 jY_53 dX1_makes_76 fk_25_5_X25 ap_25_5 (fn_25_5 _) (Or.inr ⟨_, jw_q1142⟩) (tyX25_ok 5 (by decide)) (Or.inl ⟨rfl, rfl⟩)) <|
  jcons (jL jC_53 dX1_makes_79 rfl) <|
  jcons (jL jC_53 dX1_makes_80 rfl) <|
  jcons (jG jC_53 jY_53 dX1_makes_81 fk_1_17_X1 (Or.inl q185)) <|
  jcons (j3 jC_53 jY_53 dX1_makes_84 q1183) <|
  jcons (jL jC_53 dX1_makes_87 rfl) <|
  jcons (j3 jC_53 jY_53 dX1_makes_88 q1184) <|
  jcons (jL jC_53 dX1_makes_91 rfl) <|
  jcons (jPu jC_53 jY_53 dX1_makes_92 fk_1_17_X1 ap_1_17 (fn_1_17 _) (Or.inl q185) (tyX1_ok 17 (by decide)) (Or.inr (Or.inl ⟨rfl, rfl⟩))) <|
  jcons (jL jC_53 dX1_makes_95 rfl) <|
  jcons (jG jC_53 jY_53 dX1_makes_96 fk_1_17_X1 (Or.inl q185)) <|
  jcons (jL jC_53 dX1_makes_99 rfl) <|
  jcons (jL jC_53 dX1_makes_101 rfl) <|
  jcons (j3 jC_53 jY_53 dX1_makes_102 q1185) <|
  jcons (jL jC_53 dX1_makes_105 rfl) <|
  jcons (jL jC_53 dX1_makes_106 rfl) <|
  jcons (jG jC_53 jY_53 dX1_makes_107 fk_4_2_X4 (Or.inr ⟨_, jw_q259⟩)) <|
  jcons (jL jC_53 dX1_makes_110 rfl) <|
  jcons (jL jC_53 dX1_makes_111 rfl) <|
  jcons (jL jC_53 dX1_makes_112 rfl) <|
  jcons (jL jC_53 dX1_makes_115 rfl) <|
  jcons (jL jC_53 dX1_makes_116 rfl) <|
  jcons (jL jC_53 dX1_makes_119 rfl) <|
  jcons (jL jC_53 dX1_makes_120 rfl) <|
  jcons (jL jC_53 dX1_makes_122 rfl) <|
  jcons (jL jC_53 dX1_makes_125 rfl) <|
  jcons (jL jC_53 dX1_makes_126 rfl) <|
  jnil
theorem jm_53 : ∀ l ∈ tbX1_makes, ∀ q ∈ l, sJ jnw jao 53 q.1 q.2.1 q.2.2 := jmc jt_53_0 <| jmc jt_53_1 <| jmn
theorem jt_54_0 : ∀ q ∈ tcX1_rule_0, sJ jnw jao 54 q.1 q.2.1 q.2.2 :=
  jcons (jL jC_54 dX1_rule_0 rfl) <|
  jcons (jG jC_54 jY_54 dX1_rule_1 fk_1_20_X1 (Or.inl q188)) <|
  jcons (jL jC_54 dX1_rule_4 rfl) <|
  jcons (jL jC_54 dX1_rule_6 rfl) <|
  jcons (jL jC_54 dX1_rule_9 rfl) <|
  jcons (jL jC_54 dX1_rule_10 rfl) <|
  jcons (jL jC_54 dX1_rule_11 rfl) <|
  jcons (jG jC_54 jY_54 dX1_rule_12 fk_1_18_X1 (Or.inl q186)) <|
  jcons (jL jC_54 dX1_rule_15 rfl) <|
  jcons (jG jC_54 jY_54 dX1_rule_16 fk_1_20_X1 (Or.inl q188)) <|
  jcons (j6 jC_54 jY_54 dX1_rule_19 rfl q516 q517 q118) <|
  jcons (jL jC_54 dX1_rule_22 rfl) <|
  jcons (jL jC_54 dX1_rule_23 rfl) <|
  jcons (j11 jC_54 dX1_rule_24 rfl (Or.inr ⟨rfl, rfl⟩)) <|
  jcons (j4V jC_54 jY_54 dX1_rule_27 (jc_193 _) q530 pd_193 (Or.inl q529) (fun c r h1 h2 => js_73 c r h1 h2)) <|
  jcons (jL jC_54 dX1_rule_30 rfl) <|
  jcons (jL jC_54 dX1_rule_31 rfl) <|
  jcons (jL jC_54 dX1_rule_34 rfl) <|
  jcons (jL jC_54 dX1_rule_35 rfl) <|
  jcons (jL jC_54 dX1_rule_36 rfl) <|
  jcons (jL jC_54 dX1_rule_37 rfl) <|
  jcons (jL jC_54 dX1_rule_38 rfl) <|
  jcons (jPu jC_54 jY_54 dX1_rule_39 fk_1_3_X1 ap_1_3 (fn_1_3 _) (Or.inl q171) (tyX1_ok 3 (by decide)) (Or.inl ⟨rfl, rfl⟩)) <|
  jcons (jL jC_54 dX1_rule_42 rfl) <|
  jcons (jL jC_54 dX1_rule_43 rfl) <|
  jcons (jG jC_54 jY_54 dX1_rule_44 fk_1_20_X1 (Or.inl q188)) <|
  jcons (jL jC_54 dX1_rule_47 rfl) <|
  jcons (jL jC_54 dX1_rule_48 rfl) <|
  jcons (jPu jC_54 jY_54 dX1_rule_49 fk_1_20_X1 ap_1_20 (fn_1_20 _) (Or.inl q188) (tyX1_ok 20 (by decide)) (Or.inl ⟨rfl, rfl⟩)) <|
  jcons (jL jC_54 dX1_rule_52 rfl) <|
  jcons (jG jC_54 jY_54 dX1_rule_53 fk_1_20_X1 (Or.inl q188)) <|
  jcons (jL jC_54 dX1_rule_56 rfl) <|
  jcons (jL jC_54 dX1_rule_57 rfl) <|
  jcons (jL jC_54 dX1_rule_58 rfl) <|
  jnil
theorem jm_54 : ∀ l ∈ tbX1_rule, ∀ q ∈ l, sJ jnw jao 54 q.1 q.2.1 q.2.2 := jmc jt_54_0 <| jmn
