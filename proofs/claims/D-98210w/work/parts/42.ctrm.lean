set_option maxRecDepth 100000
/-! ROWS of the tables (printed by gen/csx.py) -/
theorem gw_0_56_0 {fs : List Value} {K : Value → Prop} : gE 0 56 (some (.inl (0, fs))) K = aE fs 0 K := gE_o fpk_0_56_0
theorem gw_0_70_0 {fs : List Value} {K : Value → Prop} : gE 0 70 (some (.inl (0, fs))) K = aE fs 1 K := gE_o fpk_0_70_0
theorem gw_0_77_0 {fs : List Value} {K : Value → Prop} : gE 0 77 (some (.inl (0, fs))) K = aE fs 2 K := gE_o fpk_0_77_0
theorem gw_0_81_0 {fs : List Value} {K : Value → Prop} : gE 0 81 (some (.inl (0, fs))) K = aE fs 3 K := gE_o fpk_0_81_0
theorem gw_0_89_0 {fs : List Value} {K : Value → Prop} : gE 0 89 (some (.inl (0, fs))) K = aE fs 4 K := gE_o fpk_0_89_0
theorem gw_0_96_0 {fs : List Value} {K : Value → Prop} : gE 0 96 (some (.inl (0, fs))) K = aE fs 7 K := gE_o fpk_0_96_0
theorem gw_0_100_0 {fs : List Value} {K : Value → Prop} : gE 0 100 (some (.inl (0, fs))) K = aE fs 8 K := gE_o fpk_0_100_0
theorem gw_0_106_0 {fs : List Value} {K : Value → Prop} : gE 0 106 (some (.inl (0, fs))) K = aE fs 9 K := gE_o fpk_0_106_0
theorem gw_0_113_0 {fs : List Value} {K : Value → Prop} : gE 0 113 (some (.inl (0, fs))) K = aE fs 10 K := gE_o fpk_0_113_0
theorem gw_0_119_0 {fs : List Value} {K : Value → Prop} : gE 0 119 (some (.inl (0, fs))) K = aE fs 12 K := gE_o fpk_0_119_0
theorem gw_0_127_1 {fs : List Value} {K : Value → Prop} : gE 0 127 (some (.inl (1, fs))) K = aE fs 10 K := gE_o fpk_0_127_1
theorem gw_0_140_35 {fs : List Value} {K : Value → Prop} : gE 0 140 (some (.inl (35, fs))) K = aE fs 6 K := gE_o fpk_0_140_35
theorem gw_0_149_2 {fs : List Value} {K : Value → Prop} : gE 0 149 (some (.inl (2, fs))) K = aE fs 0 K := gE_o fpk_0_149_2
theorem gw_0_152_3 {fs : List Value} {K : Value → Prop} : gE 0 152 (some (.inl (3, fs))) K = aE fs 0 K := gE_o fpk_0_152_3
theorem gw_0_177_12 {fs : List Value} {K : Value → Prop} : gE 0 177 (some (.inl (12, fs))) K = aE fs 2 K := gE_o fpk_0_177_12
theorem gw_0_177_13 {fs : List Value} {K : Value → Prop} : gE 0 177 (some (.inl (13, fs))) K = aE fs 2 K := gE_o fpk_0_177_13
theorem gw_0_177_14 {fs : List Value} {K : Value → Prop} : gE 0 177 (some (.inl (14, fs))) K = aE fs 2 K := gE_o fpk_0_177_14
theorem gw_0_177_15 {fs : List Value} {K : Value → Prop} : gE 0 177 (some (.inl (15, fs))) K = aE fs 2 K := gE_o fpk_0_177_15
theorem gw_0_177_16 {fs : List Value} {K : Value → Prop} : gE 0 177 (some (.inl (16, fs))) K = aE fs 2 K := gE_o fpk_0_177_16
theorem gw_0_183_12 {fs : List Value} {K : Value → Prop} : gE 0 183 (some (.inl (12, fs))) K = aE fs 1 K := gE_o fpk_0_183_12
theorem gw_0_183_13 {fs : List Value} {K : Value → Prop} : gE 0 183 (some (.inl (13, fs))) K = aE fs 1 K := gE_o fpk_0_183_13
theorem gw_0_183_14 {fs : List Value} {K : Value → Prop} : gE 0 183 (some (.inl (14, fs))) K = aE fs 1 K := gE_o fpk_0_183_14
theorem gw_0_183_15 {fs : List Value} {K : Value → Prop} : gE 0 183 (some (.inl (15, fs))) K = aE fs 1 K := gE_o fpk_0_183_15
theorem gw_0_183_16 {fs : List Value} {K : Value → Prop} : gE 0 183 (some (.inl (16, fs))) K = aE fs 1 K := gE_o fpk_0_183_16
theorem gw_0_189_2 {fs : List Value} {K : Value → Prop} : gE 0 189 (some (.inl (2, fs))) K = aE fs 3 K := gE_o fpk_0_189_2
theorem gw_0_193_5 {fs : List Value} {K : Value → Prop} : gE 0 193 (some (.inl (5, fs))) K = aE fs 0 K := gE_o fpk_0_193_5
theorem gw_0_202_5 {fs : List Value} {K : Value → Prop} : gE 0 202 (some (.inl (5, fs))) K = aE fs 1 K := gE_o fpk_0_202_5
theorem gw_0_205_5 {fs : List Value} {K : Value → Prop} : gE 0 205 (some (.inl (5, fs))) K = aE fs 2 K := gE_o fpk_0_205_5
theorem gw_0_208_5 {fs : List Value} {K : Value → Prop} : gE 0 208 (some (.inl (5, fs))) K = aE fs 5 K := gE_o fpk_0_208_5
theorem gw_0_211_5 {fs : List Value} {K : Value → Prop} : gE 0 211 (some (.inl (5, fs))) K = aE fs 6 K := gE_o fpk_0_211_5
theorem gw_0_214_5 {fs : List Value} {K : Value → Prop} : gE 0 214 (some (.inl (5, fs))) K = aE fs 3 K := gE_o fpk_0_214_5
theorem gw_0_265_29 {fs : List Value} {K : Value → Prop} : gE 0 265 (some (.inl (29, fs))) K = aE fs 0 K := gE_o fpk_0_265_29
theorem gw_0_268_29 {fs : List Value} {K : Value → Prop} : gE 0 268 (some (.inl (29, fs))) K = aE fs 1 K := gE_o fpk_0_268_29
theorem gw_0_275_2 {fs : List Value} {K : Value → Prop} : gE 0 275 (some (.inl (2, fs))) K = aE fs 1 K := gE_o fpk_0_275_2
theorem gw_0_278_2 {fs : List Value} {K : Value → Prop} : gE 0 278 (some (.inl (2, fs))) K = aE fs 2 K := gE_o fpk_0_278_2
theorem gw_0_298_3 {fs : List Value} {K : Value → Prop} : gE 0 298 (some (.inl (3, fs))) K = aE fs 6 K := gE_o fpk_0_298_3
theorem gw_0_301_3 {fs : List Value} {K : Value → Prop} : gE 0 301 (some (.inl (3, fs))) K = aE fs 7 K := gE_o fpk_0_301_3
theorem gw_0_307_31 {fs : List Value} {K : Value → Prop} : gE 0 307 (some (.inl (31, fs))) K = aE fs 0 K := gE_o fpk_0_307_31
theorem gw_0_307_32 {fs : List Value} {K : Value → Prop} : gE 0 307 (some (.inl (32, fs))) K = aE fs 0 K := gE_o fpk_0_307_32
theorem gw_0_310_0 {fs : List Value} {K : Value → Prop} : gE 0 310 (some (.inl (0, fs))) K = aE fs 5 K := gE_o fpk_0_310_0
theorem gw_0_313_0 {fs : List Value} {K : Value → Prop} : gE 0 313 (some (.inl (0, fs))) K = aE fs 6 K := gE_o fpk_0_313_0
theorem gw_0_326_33 {fs : List Value} {K : Value → Prop} : gE 0 326 (some (.inl (33, fs))) K = aE fs 3 K := gE_o fpk_0_326_33
theorem gw_0_329_33 {fs : List Value} {K : Value → Prop} : gE 0 329 (some (.inl (33, fs))) K = aE fs 4 K := gE_o fpk_0_329_33
theorem gw_0_334_28 {fs : List Value} {K : Value → Prop} : gE 0 334 (some (.inl (28, fs))) K = aE fs 0 K := gE_o fpk_0_334_28
theorem gw_0_340_28 {fs : List Value} {K : Value → Prop} : gE 0 340 (some (.inl (28, fs))) K = aE fs 1 K := gE_o fpk_0_340_28
theorem gw_0_341_28 {fs : List Value} {K : Value → Prop} : gE 0 341 (some (.inl (28, fs))) K = aE fs 2 K := gE_o fpk_0_341_28
theorem gw_0_368_31 {fs : List Value} {K : Value → Prop} : gE 0 368 (some (.inl (31, fs))) K = aE fs 0 K := gE_o fpk_0_368_31
theorem gw_0_368_32 {fs : List Value} {K : Value → Prop} : gE 0 368 (some (.inl (32, fs))) K = aE fs 0 K := gE_o fpk_0_368_32
theorem gw_0_381_0 {fs : List Value} {K : Value → Prop} : gE 0 381 (some (.inl (0, fs))) K = aE fs 11 K := gE_o fpk_0_381_0
theorem gw_0_408_30 {fs : List Value} {K : Value → Prop} : gE 0 408 (some (.inl (30, fs))) K = aE fs 0 K := gE_o fpk_0_408_30
theorem gw_0_409_30 {fs : List Value} {K : Value → Prop} : gE 0 409 (some (.inl (30, fs))) K = aE fs 1 K := gE_o fpk_0_409_30
theorem gw_0_410_3 {fs : List Value} {K : Value → Prop} : gE 0 410 (some (.inl (3, fs))) K = aE fs 4 K := gE_o fpk_0_410_3
theorem gw_0_413_3 {fs : List Value} {K : Value → Prop} : gE 0 413 (some (.inl (3, fs))) K = aE fs 5 K := gE_o fpk_0_413_3
theorem iN_0_14 : iT 0 14 = none := rfl
theorem iN_0_20 : iT 0 20 = none := rfl
theorem iN_0_23 : iT 0 23 = none := rfl
theorem iN_0_26 : iT 0 26 = none := rfl
theorem iN_0_29 : iT 0 29 = none := rfl
theorem iN_0_32 : iT 0 32 = none := rfl
theorem iN_0_37 : iT 0 37 = none := rfl
theorem iN_0_40 : iT 0 40 = none := rfl
theorem iN_0_43 : iT 0 43 = none := rfl
theorem iN_0_46 : iT 0 46 = none := rfl
theorem iN_0_49 : iT 0 49 = none := rfl
theorem iN_0_62 : iT 0 62 = none := rfl
theorem iN_0_76 : iT 0 76 = none := rfl
theorem iN_0_248 : iT 0 248 = none := rfl
theorem iN_0_405 : iT 0 405 = none := rfl
theorem iN_0_159 : iT 0 159 = none := rfl
theorem iN_0_320 : iT 0 320 = none := rfl
theorem iN_0_361 : iT 0 361 = none := rfl
theorem iN_0_364 : iT 0 364 = none := rfl
theorem iN_0_66 : iT 0 66 = none := rfl
theorem iN_0_123 : iT 0 123 = none := rfl
theorem iN_0_131 : iT 0 131 = none := rfl
theorem iN_0_135 : iT 0 135 = none := rfl
theorem iN_0_143 : iT 0 143 = none := rfl
theorem iN_0_146 : iT 0 146 = none := rfl
theorem iN_0_155 : iT 0 155 = none := rfl
theorem iN_0_163 : iT 0 163 = none := rfl
theorem iN_0_166 : iT 0 166 = none := rfl
theorem iN_0_170 : iT 0 170 = none := rfl
theorem iN_0_174 : iT 0 174 = none := rfl
theorem iN_0_180 : iT 0 180 = none := rfl
theorem iN_0_186 : iT 0 186 = none := rfl
theorem iN_0_199 : iT 0 199 = none := rfl
theorem iN_0_217 : iT 0 217 = none := rfl
theorem iN_0_221 : iT 0 221 = none := rfl
theorem iN_0_225 : iT 0 225 = none := rfl
theorem iN_0_232 : iT 0 232 = none := rfl
theorem iN_0_236 : iT 0 236 = none := rfl
theorem iN_0_239 : iT 0 239 = none := rfl
theorem iN_0_244 : iT 0 244 = none := rfl
theorem iN_0_251 : iT 0 251 = none := rfl
theorem iN_0_255 : iT 0 255 = none := rfl
theorem iN_0_259 : iT 0 259 = none := rfl
theorem iN_0_261 : iT 0 261 = none := rfl
theorem iN_0_272 : iT 0 272 = none := rfl
theorem iN_0_281 : iT 0 281 = none := rfl
theorem iN_0_285 : iT 0 285 = none := rfl
theorem iN_0_288 : iT 0 288 = none := rfl
theorem iN_0_291 : iT 0 291 = none := rfl
theorem iN_0_295 : iT 0 295 = none := rfl
theorem iN_0_304 : iT 0 304 = none := rfl
theorem iN_0_316 : iT 0 316 = none := rfl
theorem iN_0_323 : iT 0 323 = none := rfl
theorem iN_0_337 : iT 0 337 = none := rfl
theorem iN_0_344 : iT 0 344 = none := rfl
theorem iN_0_348 : iT 0 348 = none := rfl
theorem iN_0_352 : iT 0 352 = none := rfl
theorem iN_0_367 : iT 0 367 = none := rfl
theorem iN_0_369 : iT 0 369 = none := rfl
theorem iN_0_372 : iT 0 372 = none := rfl
theorem iN_0_375 : iT 0 375 = none := rfl
theorem iN_0_378 : iT 0 378 = none := rfl
theorem iN_0_393 : iT 0 393 = none := rfl
theorem iN_0_399 : iT 0 399 = none := rfl
theorem iN_0_402 : iT 0 402 = none := rfl
theorem cSz_13 : cSz 13 = 4 := rfl
theorem cDf_13 : cDf 13 = [.long 0, .null, .int 0, .int 0] := rfl
theorem cSz_14 : cSz 14 = 4 := rfl
theorem cDf_14 : cDf 14 = [.long 0, .null, .int 0, .int 0] := rfl
theorem cSz_15 : cSz 15 = 4 := rfl
theorem cDf_15 : cDf 15 = [.long 0, .null, .int 0, .int 0] := rfl
theorem cSz_16 : cSz 16 = 4 := rfl
theorem cDf_16 : cDf 16 = [.long 0, .null, .int 0, .int 0] := rfl
theorem cSz_12 : cSz 12 = 4 := rfl
theorem cDf_12 : cDf 12 = [.long 0, .null, .int 0, .int 0] := rfl
theorem cSz_9 : cSz 9 = 2 := rfl
theorem cDf_9 : cDf 9 = [.null, .int 0] := rfl
theorem cSz_10 : cSz 10 = 1 := rfl
theorem cDf_10 : cDf 10 = [.null] := rfl
theorem cSz_7 : cSz 7 = 2 := rfl
theorem cDf_7 : cDf 7 = [.null, .int 0] := rfl
theorem cSz_8 : cSz 8 = 2 := rfl
theorem cDf_8 : cDf 8 = [.null, .int 0] := rfl
theorem cSz_11 : cSz 11 = 0 := rfl
theorem cDf_11 : cDf 11 = [] := rfl
theorem cSz_6 : cSz 6 = 2 := rfl
theorem cDf_6 : cDf 6 = [.null, .int 0] := rfl
theorem cSz_2 : cSz 2 = 8 := rfl
theorem cDf_2 : cDf 2 = [.null, .int 0, .int 0, .null, .null, .null, .null, .null] := rfl
theorem cSz_36 : cSz 36 = 3 := rfl
theorem cDf_36 : cDf 36 = [.int 0, .null, .int 0] := rfl
theorem cSz_30 : cSz 30 = 2 := rfl
theorem cDf_30 : cDf 30 = [.null, .null] := rfl
theorem cSz_29 : cSz 29 = 2 := rfl
theorem cDf_29 : cDf 29 = [.int 0, .null] := rfl
theorem cSz_38 : cSz 38 = 6 := rfl
theorem cDf_38 : cDf 38 = [.null, .null, .null, .null, .null, .int 0] := rfl
theorem pw_0_0_70_0 {x : Nat} {a : Nat} {σ : CM} {fs : List Value} {K : CM → Prop} : pE 0 0 70 a (.ref x) σ (some (.inl (0, fs))) K ↔ vin fs 1 = true ∧ K (pC σ a (.inl (0, fs.set 1 (.ref x)))) := pE_O fpk_0_70_0 rfl rfl (by decide)
theorem pn_0_0_70_0 {a : Nat} {σ : CM} {fs : List Value} {K : CM → Prop} : pE 0 0 70 a .null σ (some (.inl (0, fs))) K ↔ vin fs 1 = true ∧ K (pC σ a (.inl (0, fs.set 1 .null))) := pE_ON fpk_0_70_0 rfl rfl (by decide)
theorem pw_0_0_77_0 {x : Nat} {a : Nat} {σ : CM} {fs : List Value} {K : CM → Prop} : pE 0 0 77 a (.ref x) σ (some (.inl (0, fs))) K ↔ vin fs 2 = true ∧ K (pC σ a (.inl (0, fs.set 2 (.ref x)))) := pE_O fpk_0_77_0 rfl rfl (by decide)
theorem pn_0_0_77_0 {a : Nat} {σ : CM} {fs : List Value} {K : CM → Prop} : pE 0 0 77 a .null σ (some (.inl (0, fs))) K ↔ vin fs 2 = true ∧ K (pC σ a (.inl (0, fs.set 2 .null))) := pE_ON fpk_0_77_0 rfl rfl (by decide)
theorem pw_0_0_202_5 {x : Int32} {a : Nat} {σ : CM} {fs : List Value} {K : CM → Prop} : pE 0 0 202 a (.int x) σ (some (.inl (5, fs))) K ↔ vin fs 1 = true ∧ K (pC σ a (.inl (5, fs.set 1 (.int x)))) := pE_I fpk_0_202_5 rfl rfl (by decide)
theorem pw_0_0_310_0 {x : Int32} {a : Nat} {σ : CM} {fs : List Value} {K : CM → Prop} : pE 0 0 310 a (.int x) σ (some (.inl (0, fs))) K ↔ vin fs 5 = true ∧ K (pC σ a (.inl (0, fs.set 5 (.int x)))) := pE_I fpk_0_310_0 rfl rfl (by decide)
theorem pw_0_0_313_0 {x : Int32} {a : Nat} {σ : CM} {fs : List Value} {K : CM → Prop} : pE 0 0 313 a (.int x) σ (some (.inl (0, fs))) K ↔ vin fs 6 = true ∧ K (pC σ a (.inl (0, fs.set 6 (.int x)))) := pE_I fpk_0_313_0 rfl rfl (by decide)
theorem pw_0_0_381_0 {x : Int64} {a : Nat} {σ : CM} {fs : List Value} {K : CM → Prop} : pE 0 0 381 a (.long x) σ (some (.inl (0, fs))) K ↔ vin fs 11 = true ∧ K (pC σ a (.inl (0, fs.set 11 (.long x)))) := pE_L fpk_0_381_0 rfl rfl (by decide)
theorem iN_0_55 : iT 0 55 = none := rfl
theorem iN_0_65 : iT 0 65 = none := rfl
theorem iN_0_86 : iT 0 86 = none := rfl
theorem iN_0_95 : iT 0 95 = none := rfl
theorem iN_0_105 : iT 0 105 = none := rfl
theorem iN_0_112 : iT 0 112 = none := rfl
theorem cSz_1 : cSz 1 = 16 := rfl
theorem cDf_1 : cDf 1 = [.null, .null, .null, .null, .null, .null, .null, .int 0, .null, .null, .int 0, .null, .null, .null, .int 0, .int 0] := rfl
theorem cSz_3 : cSz 3 = 12 := rfl
theorem cDf_3 : cDf 3 = [.null, .null, .null, .null, .null, .int 0, .int 0, .int 0, .int 0, .null, .null, .null] := rfl
theorem cSz_31 : cSz 31 = 5 := rfl
theorem cDf_31 : cDf 31 = [.null, .null, .null, .int 0, .null] := rfl
theorem cSz_33 : cSz 33 = 6 := rfl
theorem cDf_33 : cDf 33 = [.null, .null, .null, .int 0, .int 0, .null] := rfl
theorem cSz_32 : cSz 32 = 4 := rfl
theorem cDf_32 : cDf 32 = [.null, .null, .null, .null] := rfl
theorem cSz_34 : cSz 34 = 3 := rfl
theorem cDf_34 : cDf 34 = [.null, .null, .null] := rfl
theorem pw_0_9_56_0 {x : Nat} {a : Nat} {σ : CM} {fs : List Value} {K : CM → Prop} : pE 0 9 56 a (.ref x) σ (some (.inl (0, fs))) K ↔ vin fs 0 = true ∧ K (pC σ a (.inl (0, fs.set 0 (.ref x)))) := pE_O fpk_0_56_0 rfl rfl (by decide)
theorem pn_0_9_56_0 {a : Nat} {σ : CM} {fs : List Value} {K : CM → Prop} : pE 0 9 56 a .null σ (some (.inl (0, fs))) K ↔ vin fs 0 = true ∧ K (pC σ a (.inl (0, fs.set 0 .null))) := pE_ON fpk_0_56_0 rfl rfl (by decide)
theorem pw_0_9_70_0 {x : Nat} {a : Nat} {σ : CM} {fs : List Value} {K : CM → Prop} : pE 0 9 70 a (.ref x) σ (some (.inl (0, fs))) K ↔ vin fs 1 = true ∧ K (pC σ a (.inl (0, fs.set 1 (.ref x)))) := pE_O fpk_0_70_0 rfl rfl (by decide)
theorem pn_0_9_70_0 {a : Nat} {σ : CM} {fs : List Value} {K : CM → Prop} : pE 0 9 70 a .null σ (some (.inl (0, fs))) K ↔ vin fs 1 = true ∧ K (pC σ a (.inl (0, fs.set 1 .null))) := pE_ON fpk_0_70_0 rfl rfl (by decide)
theorem pw_0_9_77_0 {x : Nat} {a : Nat} {σ : CM} {fs : List Value} {K : CM → Prop} : pE 0 9 77 a (.ref x) σ (some (.inl (0, fs))) K ↔ vin fs 2 = true ∧ K (pC σ a (.inl (0, fs.set 2 (.ref x)))) := pE_O fpk_0_77_0 rfl rfl (by decide)
theorem pn_0_9_77_0 {a : Nat} {σ : CM} {fs : List Value} {K : CM → Prop} : pE 0 9 77 a .null σ (some (.inl (0, fs))) K ↔ vin fs 2 = true ∧ K (pC σ a (.inl (0, fs.set 2 .null))) := pE_ON fpk_0_77_0 rfl rfl (by decide)
theorem pw_0_9_81_0 {x : Nat} {a : Nat} {σ : CM} {fs : List Value} {K : CM → Prop} : pE 0 9 81 a (.ref x) σ (some (.inl (0, fs))) K ↔ vin fs 3 = true ∧ K (pC σ a (.inl (0, fs.set 3 (.ref x)))) := pE_O fpk_0_81_0 rfl rfl (by decide)
theorem pn_0_9_81_0 {a : Nat} {σ : CM} {fs : List Value} {K : CM → Prop} : pE 0 9 81 a .null σ (some (.inl (0, fs))) K ↔ vin fs 3 = true ∧ K (pC σ a (.inl (0, fs.set 3 .null))) := pE_ON fpk_0_81_0 rfl rfl (by decide)
theorem pw_0_9_89_0 {x : Nat} {a : Nat} {σ : CM} {fs : List Value} {K : CM → Prop} : pE 0 9 89 a (.ref x) σ (some (.inl (0, fs))) K ↔ vin fs 4 = true ∧ K (pC σ a (.inl (0, fs.set 4 (.ref x)))) := pE_O fpk_0_89_0 rfl rfl (by decide)
theorem pn_0_9_89_0 {a : Nat} {σ : CM} {fs : List Value} {K : CM → Prop} : pE 0 9 89 a .null σ (some (.inl (0, fs))) K ↔ vin fs 4 = true ∧ K (pC σ a (.inl (0, fs.set 4 .null))) := pE_ON fpk_0_89_0 rfl rfl (by decide)
theorem pw_0_9_96_0 {x : Nat} {a : Nat} {σ : CM} {fs : List Value} {K : CM → Prop} : pE 0 9 96 a (.ref x) σ (some (.inl (0, fs))) K ↔ vin fs 7 = true ∧ K (pC σ a (.inl (0, fs.set 7 (.ref x)))) := pE_O fpk_0_96_0 rfl rfl (by decide)
theorem pn_0_9_96_0 {a : Nat} {σ : CM} {fs : List Value} {K : CM → Prop} : pE 0 9 96 a .null σ (some (.inl (0, fs))) K ↔ vin fs 7 = true ∧ K (pC σ a (.inl (0, fs.set 7 .null))) := pE_ON fpk_0_96_0 rfl rfl (by decide)
theorem pw_0_9_100_0 {x : Nat} {a : Nat} {σ : CM} {fs : List Value} {K : CM → Prop} : pE 0 9 100 a (.ref x) σ (some (.inl (0, fs))) K ↔ vin fs 8 = true ∧ K (pC σ a (.inl (0, fs.set 8 (.ref x)))) := pE_O fpk_0_100_0 rfl rfl (by decide)
theorem pn_0_9_100_0 {a : Nat} {σ : CM} {fs : List Value} {K : CM → Prop} : pE 0 9 100 a .null σ (some (.inl (0, fs))) K ↔ vin fs 8 = true ∧ K (pC σ a (.inl (0, fs.set 8 .null))) := pE_ON fpk_0_100_0 rfl rfl (by decide)
theorem pw_0_9_106_0 {x : Nat} {a : Nat} {σ : CM} {fs : List Value} {K : CM → Prop} : pE 0 9 106 a (.ref x) σ (some (.inl (0, fs))) K ↔ vin fs 9 = true ∧ K (pC σ a (.inl (0, fs.set 9 (.ref x)))) := pE_O fpk_0_106_0 rfl rfl (by decide)
theorem pn_0_9_106_0 {a : Nat} {σ : CM} {fs : List Value} {K : CM → Prop} : pE 0 9 106 a .null σ (some (.inl (0, fs))) K ↔ vin fs 9 = true ∧ K (pC σ a (.inl (0, fs.set 9 .null))) := pE_ON fpk_0_106_0 rfl rfl (by decide)
theorem pw_0_9_113_0 {x : Nat} {a : Nat} {σ : CM} {fs : List Value} {K : CM → Prop} : pE 0 9 113 a (.ref x) σ (some (.inl (0, fs))) K ↔ vin fs 10 = true ∧ K (pC σ a (.inl (0, fs.set 10 (.ref x)))) := pE_O fpk_0_113_0 rfl rfl (by decide)
theorem pn_0_9_113_0 {a : Nat} {σ : CM} {fs : List Value} {K : CM → Prop} : pE 0 9 113 a .null σ (some (.inl (0, fs))) K ↔ vin fs 10 = true ∧ K (pC σ a (.inl (0, fs.set 10 .null))) := pE_ON fpk_0_113_0 rfl rfl (by decide)
theorem pw_0_9_119_0 {x : Nat} {a : Nat} {σ : CM} {fs : List Value} {K : CM → Prop} : pE 0 9 119 a (.ref x) σ (some (.inl (0, fs))) K ↔ vin fs 12 = true ∧ K (pC σ a (.inl (0, fs.set 12 (.ref x)))) := pE_A fpk_0_119_0 rfl rfl (by decide)
theorem gw_1_23_1 {fs : List Value} {K : Value → Prop} : gE 1 23 (some (.inl (1, fs))) K = aE fs 0 K := gE_o fpk_1_23_1
theorem gw_1_33_1 {fs : List Value} {K : Value → Prop} : gE 1 33 (some (.inl (1, fs))) K = aE fs 1 K := gE_o fpk_1_33_1
theorem gw_1_46_1 {fs : List Value} {K : Value → Prop} : gE 1 46 (some (.inl (1, fs))) K = aE fs 2 K := gE_o fpk_1_46_1
theorem gw_1_61_1 {fs : List Value} {K : Value → Prop} : gE 1 61 (some (.inl (1, fs))) K = aE fs 3 K := gE_o fpk_1_61_1
theorem gw_1_92_1 {fs : List Value} {K : Value → Prop} : gE 1 92 (some (.inl (1, fs))) K = aE fs 4 K := gE_o fpk_1_92_1
theorem gw_1_97_1 {fs : List Value} {K : Value → Prop} : gE 1 97 (some (.inl (1, fs))) K = aE fs 5 K := gE_o fpk_1_97_1
theorem gw_1_100_1 {fs : List Value} {K : Value → Prop} : gE 1 100 (some (.inl (1, fs))) K = aE fs 8 K := gE_o fpk_1_100_1
theorem gw_1_103_1 {fs : List Value} {K : Value → Prop} : gE 1 103 (some (.inl (1, fs))) K = aE fs 9 K := gE_o fpk_1_103_1
theorem gw_1_107_1 {fs : List Value} {K : Value → Prop} : gE 1 107 (some (.inl (1, fs))) K = aE fs 11 K := gE_o fpk_1_107_1
theorem gw_1_110_1 {fs : List Value} {K : Value → Prop} : gE 1 110 (some (.inl (1, fs))) K = aE fs 12 K := gE_o fpk_1_110_1
theorem gw_1_114_1 {fs : List Value} {K : Value → Prop} : gE 1 114 (some (.inl (1, fs))) K = aE fs 13 K := gE_o fpk_1_114_1
theorem gw_1_123_1 {fs : List Value} {K : Value → Prop} : gE 1 123 (some (.inl (1, fs))) K = aE fs 10 K := gE_o fpk_1_123_1
theorem gw_1_156_1 {fs : List Value} {K : Value → Prop} : gE 1 156 (some (.inl (1, fs))) K = aE fs 14 K := gE_o fpk_1_156_1
theorem gw_1_191_1 {fs : List Value} {K : Value → Prop} : gE 1 191 (some (.inl (1, fs))) K = aE fs 6 K := gE_o fpk_1_191_1
theorem gw_1_195_1 {fs : List Value} {K : Value → Prop} : gE 1 195 (some (.inl (1, fs))) K = aE fs 7 K := gE_o fpk_1_195_1
theorem gw_1_235_3 {fs : List Value} {K : Value → Prop} : gE 1 235 (some (.inl (3, fs))) K = aE fs 0 K := gE_o fpk_1_235_3
theorem gw_1_258_12 {fs : List Value} {K : Value → Prop} : gE 1 258 (some (.inl (12, fs))) K = aE fs 1 K := gE_o fpk_1_258_12
theorem gw_1_258_13 {fs : List Value} {K : Value → Prop} : gE 1 258 (some (.inl (13, fs))) K = aE fs 1 K := gE_o fpk_1_258_13
theorem gw_1_258_14 {fs : List Value} {K : Value → Prop} : gE 1 258 (some (.inl (14, fs))) K = aE fs 1 K := gE_o fpk_1_258_14
theorem gw_1_258_15 {fs : List Value} {K : Value → Prop} : gE 1 258 (some (.inl (15, fs))) K = aE fs 1 K := gE_o fpk_1_258_15
theorem gw_1_258_16 {fs : List Value} {K : Value → Prop} : gE 1 258 (some (.inl (16, fs))) K = aE fs 1 K := gE_o fpk_1_258_16
theorem gw_1_273_3 {fs : List Value} {K : Value → Prop} : gE 1 273 (some (.inl (3, fs))) K = aE fs 2 K := gE_o fpk_1_273_3
theorem gw_1_276_3 {fs : List Value} {K : Value → Prop} : gE 1 276 (some (.inl (3, fs))) K = aE fs 3 K := gE_o fpk_1_276_3
theorem gw_1_278_3 {fs : List Value} {K : Value → Prop} : gE 1 278 (some (.inl (3, fs))) K = aE fs 1 K := gE_o fpk_1_278_3
theorem gw_1_290_3 {fs : List Value} {K : Value → Prop} : gE 1 290 (some (.inl (3, fs))) K = aE fs 4 K := gE_o fpk_1_290_3
theorem gw_1_296_3 {fs : List Value} {K : Value → Prop} : gE 1 296 (some (.inl (3, fs))) K = aE fs 8 K := gE_o fpk_1_296_3
theorem gw_1_299_3 {fs : List Value} {K : Value → Prop} : gE 1 299 (some (.inl (3, fs))) K = aE fs 6 K := gE_o fpk_1_299_3
theorem gw_1_309_3 {fs : List Value} {K : Value → Prop} : gE 1 309 (some (.inl (3, fs))) K = aE fs 9 K := gE_o fpk_1_309_3
theorem gw_1_316_3 {fs : List Value} {K : Value → Prop} : gE 1 316 (some (.inl (3, fs))) K = aE fs 10 K := gE_o fpk_1_316_3
theorem gw_1_335_1 {fs : List Value} {K : Value → Prop} : gE 1 335 (some (.inl (1, fs))) K = aE fs 15 K := gE_o fpk_1_335_1
theorem gw_1_353_20 {fs : List Value} {K : Value → Prop} : gE 1 353 (some (.inl (20, fs))) K = aE fs 1 K := gE_o fpk_1_353_20
theorem iN_1_161 : iT 1 161 = none := rfl
theorem iN_1_190 : iT 1 190 = none := rfl
theorem iN_1_318 : iT 1 318 = none := rfl
theorem iN_1_325 : iT 1 325 = none := rfl
theorem iN_1_343 : iT 1 343 = none := rfl
theorem iN_1_358 : iT 1 358 = none := rfl
theorem iN_1_361 : iT 1 361 = none := rfl
theorem iN_1_367 : iT 1 367 = none := rfl
theorem iN_1_370 : iT 1 370 = none := rfl
theorem iN_1_376 : iT 1 376 = none := rfl
theorem iN_1_379 : iT 1 379 = none := rfl
theorem iN_1_385 : iT 1 385 = none := rfl
theorem iN_1_388 : iT 1 388 = none := rfl
theorem iN_1_391 : iT 1 391 = none := rfl
theorem iN_1_394 : iT 1 394 = none := rfl
theorem iN_1_119 : iT 1 119 = none := rfl
theorem iN_1_139 : iT 1 139 = none := rfl
theorem iN_1_143 : iT 1 143 = none := rfl
theorem iN_1_164 : iT 1 164 = none := rfl
theorem iN_1_263 : iT 1 263 = none := rfl
theorem iN_1_349 : iT 1 349 = none := rfl
theorem iN_1_168 : iT 1 168 = none := rfl
theorem iN_1_172 : iT 1 172 = none := rfl
theorem iN_1_175 : iT 1 175 = none := rfl
theorem iN_1_178 : iT 1 178 = none := rfl
theorem iN_1_182 : iT 1 182 = none := rfl
theorem iN_1_185 : iT 1 185 = none := rfl
theorem iN_1_199 : iT 1 199 = none := rfl
theorem iN_1_201 : iT 1 201 = none := rfl
theorem iN_1_203 : iT 1 203 = none := rfl
theorem iN_1_205 : iT 1 205 = none := rfl
theorem iN_1_207 : iT 1 207 = none := rfl
theorem iN_1_209 : iT 1 209 = none := rfl
theorem iN_1_211 : iT 1 211 = none := rfl
theorem iN_1_213 : iT 1 213 = none := rfl
theorem iN_1_216 : iT 1 216 = none := rfl
theorem iN_1_220 : iT 1 220 = none := rfl
theorem iN_1_224 : iT 1 224 = none := rfl
theorem iN_1_228 : iT 1 228 = none := rfl
theorem iN_1_232 : iT 1 232 = none := rfl
theorem iN_1_239 : iT 1 239 = none := rfl
theorem iN_1_244 : iT 1 244 = none := rfl
theorem iN_1_248 : iT 1 248 = none := rfl
theorem iN_1_252 : iT 1 252 = none := rfl
theorem iN_1_260 : iT 1 260 = none := rfl
theorem iN_1_266 : iT 1 266 = none := rfl
theorem iN_1_270 : iT 1 270 = none := rfl
theorem iN_1_287 : iT 1 287 = none := rfl
theorem iN_1_305 : iT 1 305 = none := rfl
theorem iN_1_312 : iT 1 312 = none := rfl
theorem iN_1_328 : iT 1 328 = none := rfl
theorem iN_1_332 : iT 1 332 = none := rfl
theorem iN_1_338 : iT 1 338 = none := rfl
theorem iN_1_346 : iT 1 346 = none := rfl
theorem iN_1_362 : iT 1 362 = none := rfl
theorem iN_1_371 : iT 1 371 = none := rfl
theorem iN_1_380 : iT 1 380 = none := rfl
theorem scp_17 : scp 17 = some 3 := rfl
theorem scp_64 : scp 64 = some 19 := rfl
theorem scp_66 : scp 66 = some 20 := rfl
theorem scp_68 : scp 68 = some 21 := rfl
theorem scp_70 : scp 70 = some 22 := rfl
theorem scp_72 : scp 72 = some 23 := rfl
theorem scp_74 : scp 74 = some 24 := rfl
theorem scp_76 : scp 76 = some 25 := rfl
theorem scp_78 : scp 78 = some 26 := rfl
theorem scp_80 : scp 80 = some 27 := rfl
theorem scp_82 : scp 82 = some 28 := rfl
theorem scp_84 : scp 84 = some 29 := rfl
theorem scp_86 : scp 86 = some 30 := rfl
theorem scp_88 : scp 88 = some 31 := rfl
theorem scp_90 : scp 90 = some 32 := rfl
theorem scp_150 : scp 150 = some 34 := rfl
theorem scp_319 : scp 319 = some 35 := rfl
theorem scp_321 : scp 321 = some 36 := rfl
theorem cSz_35 : cSz 35 = 7 := rfl
theorem cDf_35 : cDf 35 = [.null, .null, .null, .null, .null, .int 0, .int 0] := rfl
theorem cSz_28 : cSz 28 = 3 := rfl
theorem cDf_28 : cDf 28 = [.int 0, .int 0, .int 0] := rfl
theorem cSz_20 : cSz 20 = 2 := rfl
theorem cDf_20 : cDf 20 = [.null, .null] := rfl
theorem cSz_24 : cSz 24 = 1 := rfl
theorem cDf_24 : cDf 24 = [.null] := rfl
theorem cSz_25 : cSz 25 = 1 := rfl
theorem cDf_25 : cDf 25 = [.null] := rfl
theorem cSz_26 : cSz 26 = 1 := rfl
theorem cDf_26 : cDf 26 = [.null] := rfl
theorem cSz_27 : cSz 27 = 1 := rfl
theorem cDf_27 : cDf 27 = [.null] := rfl
theorem cSz_21 : cSz 21 = 1 := rfl
theorem cDf_21 : cDf 21 = [.null] := rfl
theorem cSz_22 : cSz 22 = 1 := rfl
theorem cDf_22 : cDf 22 = [.null] := rfl
theorem cSz_23 : cSz 23 = 1 := rfl
theorem cDf_23 : cDf 23 = [.null] := rfl
theorem cSz_18 : cSz 18 = 1 := rfl
theorem cDf_18 : cDf 18 = [.int 0] := rfl
theorem cSz_17 : cSz 17 = 1 := rfl
theorem cDf_17 : cDf 17 = [.int 0] := rfl
theorem cSz_19 : cSz 19 = 1 := rfl
theorem cDf_19 : cDf 19 = [.null] := rfl
theorem pw_1_0_100_1 {x : Nat} {a : Nat} {σ : CM} {fs : List Value} {K : CM → Prop} : pE 1 0 100 a (.ref x) σ (some (.inl (1, fs))) K ↔ vin fs 8 = true ∧ K (pC σ a (.inl (1, fs.set 8 (.ref x)))) := pE_A fpk_1_100_1 rfl rfl (by decide)
theorem pw_1_0_123_1 {x : Int32} {a : Nat} {σ : CM} {fs : List Value} {K : CM → Prop} : pE 1 0 123 a (.int x) σ (some (.inl (1, fs))) K ↔ vin fs 10 = true ∧ K (pC σ a (.inl (1, fs.set 10 (.int x)))) := pE_I fpk_1_123_1 rfl rfl (by decide)
theorem pw_1_0_156_1 {x : Int32} {a : Nat} {σ : CM} {fs : List Value} {K : CM → Prop} : pE 1 0 156 a (.int x) σ (some (.inl (1, fs))) K ↔ vin fs 14 = true ∧ K (pC σ a (.inl (1, fs.set 14 (.int x)))) := pE_I fpk_1_156_1 rfl rfl (by decide)
theorem pw_1_0_191_1 {x : Nat} {a : Nat} {σ : CM} {fs : List Value} {K : CM → Prop} : pE 1 0 191 a (.ref x) σ (some (.inl (1, fs))) K ↔ vin fs 6 = true ∧ K (pC σ a (.inl (1, fs.set 6 (.ref x)))) := pE_O fpk_1_191_1 rfl rfl (by decide)
theorem pn_1_0_191_1 {a : Nat} {σ : CM} {fs : List Value} {K : CM → Prop} : pE 1 0 191 a .null σ (some (.inl (1, fs))) K ↔ vin fs 6 = true ∧ K (pC σ a (.inl (1, fs.set 6 .null))) := pE_ON fpk_1_191_1 rfl rfl (by decide)
theorem pw_1_0_195_1 {x : Int32} {a : Nat} {σ : CM} {fs : List Value} {K : CM → Prop} : pE 1 0 195 a (.int x) σ (some (.inl (1, fs))) K ↔ (x = 0 ∨ x = 1) ∧ vin fs 7 = true ∧ K (pC σ a (.inl (1, fs.set 7 (.int x)))) := pE_Z fpk_1_195_1 rfl rfl (by decide)
theorem pw_1_0_294_3 {x : Int32} {a : Nat} {σ : CM} {fs : List Value} {K : CM → Prop} : pE 1 0 294 a (.int x) σ (some (.inl (3, fs))) K ↔ vin fs 5 = true ∧ K (pC σ a (.inl (3, fs.set 5 (.int x)))) := pE_I fpk_1_294_3 rfl rfl (by decide)
theorem pw_1_0_296_3 {x : Int32} {a : Nat} {σ : CM} {fs : List Value} {K : CM → Prop} : pE 1 0 296 a (.int x) σ (some (.inl (3, fs))) K ↔ (x = 0 ∨ x = 1) ∧ vin fs 8 = true ∧ K (pC σ a (.inl (3, fs.set 8 (.int x)))) := pE_Z fpk_1_296_3 rfl rfl (by decide)
theorem pw_1_0_299_3 {x : Int32} {a : Nat} {σ : CM} {fs : List Value} {K : CM → Prop} : pE 1 0 299 a (.int x) σ (some (.inl (3, fs))) K ↔ vin fs 6 = true ∧ K (pC σ a (.inl (3, fs.set 6 (.int x)))) := pE_I fpk_1_299_3 rfl rfl (by decide)
theorem pw_1_0_302_3 {x : Int32} {a : Nat} {σ : CM} {fs : List Value} {K : CM → Prop} : pE 1 0 302 a (.int x) σ (some (.inl (3, fs))) K ↔ vin fs 7 = true ∧ K (pC σ a (.inl (3, fs.set 7 (.int x)))) := pE_I fpk_1_302_3 rfl rfl (by decide)
theorem pw_1_0_309_3 {x : Nat} {a : Nat} {σ : CM} {fs : List Value} {K : CM → Prop} : pE 1 0 309 a (.ref x) σ (some (.inl (3, fs))) K ↔ vin fs 9 = true ∧ K (pC σ a (.inl (3, fs.set 9 (.ref x)))) := pE_O fpk_1_309_3 rfl rfl (by decide)
theorem pn_1_0_309_3 {a : Nat} {σ : CM} {fs : List Value} {K : CM → Prop} : pE 1 0 309 a .null σ (some (.inl (3, fs))) K ↔ vin fs 9 = true ∧ K (pC σ a (.inl (3, fs.set 9 .null))) := pE_ON fpk_1_309_3 rfl rfl (by decide)
theorem pw_1_0_316_3 {x : Nat} {a : Nat} {σ : CM} {fs : List Value} {K : CM → Prop} : pE 1 0 316 a (.ref x) σ (some (.inl (3, fs))) K ↔ vin fs 10 = true ∧ K (pC σ a (.inl (3, fs.set 10 (.ref x)))) := pE_O fpk_1_316_3 rfl rfl (by decide)
theorem pn_1_0_316_3 {a : Nat} {σ : CM} {fs : List Value} {K : CM → Prop} : pE 1 0 316 a .null σ (some (.inl (3, fs))) K ↔ vin fs 10 = true ∧ K (pC σ a (.inl (3, fs.set 10 .null))) := pE_ON fpk_1_316_3 rfl rfl (by decide)
theorem pw_1_0_335_1 {x : Int32} {a : Nat} {σ : CM} {fs : List Value} {K : CM → Prop} : pE 1 0 335 a (.int x) σ (some (.inl (1, fs))) K ↔ vin fs 15 = true ∧ K (pC σ a (.inl (1, fs.set 15 (.int x)))) := pE_I fpk_1_335_1 rfl rfl (by decide)
theorem scp_11 : scp 11 = some 0 := rfl
theorem scp_13 : scp 13 = some 1 := rfl
theorem scp_15 : scp 15 = some 2 := rfl
theorem scp_19 : scp 19 = some 4 := rfl
theorem scp_21 : scp 21 = some 5 := rfl
theorem scp_29 : scp 29 = some 6 := rfl
theorem scp_31 : scp 31 = some 7 := rfl
theorem scp_36 : scp 36 = some 8 := rfl
theorem scp_38 : scp 38 = some 9 := rfl
theorem scp_40 : scp 40 = some 10 := rfl
theorem scp_42 : scp 42 = some 11 := rfl
theorem scp_44 : scp 44 = some 12 := rfl
theorem scp_49 : scp 49 = some 13 := rfl
theorem scp_51 : scp 51 = some 14 := rfl
theorem scp_53 : scp 53 = some 15 := rfl
theorem scp_55 : scp 55 = some 16 := rfl
theorem scp_57 : scp 57 = some 17 := rfl
theorem scp_59 : scp 59 = some 18 := rfl
theorem scp_95 : scp 95 = some 33 := rfl
theorem pw_1_9_23_1 {x : Nat} {a : Nat} {σ : CM} {fs : List Value} {K : CM → Prop} : pE 1 9 23 a (.ref x) σ (some (.inl (1, fs))) K ↔ vin fs 0 = true ∧ K (pC σ a (.inl (1, fs.set 0 (.ref x)))) := pE_A fpk_1_23_1 rfl rfl (by decide)
theorem pw_1_9_33_1 {x : Nat} {a : Nat} {σ : CM} {fs : List Value} {K : CM → Prop} : pE 1 9 33 a (.ref x) σ (some (.inl (1, fs))) K ↔ vin fs 1 = true ∧ K (pC σ a (.inl (1, fs.set 1 (.ref x)))) := pE_A fpk_1_33_1 rfl rfl (by decide)
theorem pw_1_9_46_1 {x : Nat} {a : Nat} {σ : CM} {fs : List Value} {K : CM → Prop} : pE 1 9 46 a (.ref x) σ (some (.inl (1, fs))) K ↔ vin fs 2 = true ∧ K (pC σ a (.inl (1, fs.set 2 (.ref x)))) := pE_A fpk_1_46_1 rfl rfl (by decide)
theorem pw_1_9_61_1 {x : Nat} {a : Nat} {σ : CM} {fs : List Value} {K : CM → Prop} : pE 1 9 61 a (.ref x) σ (some (.inl (1, fs))) K ↔ vin fs 3 = true ∧ K (pC σ a (.inl (1, fs.set 3 (.ref x)))) := pE_A fpk_1_61_1 rfl rfl (by decide)
theorem pw_1_9_92_1 {x : Nat} {a : Nat} {σ : CM} {fs : List Value} {K : CM → Prop} : pE 1 9 92 a (.ref x) σ (some (.inl (1, fs))) K ↔ vin fs 4 = true ∧ K (pC σ a (.inl (1, fs.set 4 (.ref x)))) := pE_A fpk_1_92_1 rfl rfl (by decide)
theorem pw_1_9_97_1 {x : Nat} {a : Nat} {σ : CM} {fs : List Value} {K : CM → Prop} : pE 1 9 97 a (.ref x) σ (some (.inl (1, fs))) K ↔ vin fs 5 = true ∧ K (pC σ a (.inl (1, fs.set 5 (.ref x)))) := pE_A fpk_1_97_1 rfl rfl (by decide)
theorem pw_1_9_100_1 {x : Nat} {a : Nat} {σ : CM} {fs : List Value} {K : CM → Prop} : pE 1 9 100 a (.ref x) σ (some (.inl (1, fs))) K ↔ vin fs 8 = true ∧ K (pC σ a (.inl (1, fs.set 8 (.ref x)))) := pE_A fpk_1_100_1 rfl rfl (by decide)
theorem pw_1_9_103_1 {x : Nat} {a : Nat} {σ : CM} {fs : List Value} {K : CM → Prop} : pE 1 9 103 a (.ref x) σ (some (.inl (1, fs))) K ↔ vin fs 9 = true ∧ K (pC σ a (.inl (1, fs.set 9 (.ref x)))) := pE_A fpk_1_103_1 rfl rfl (by decide)
theorem pw_1_9_107_1 {x : Nat} {a : Nat} {σ : CM} {fs : List Value} {K : CM → Prop} : pE 1 9 107 a (.ref x) σ (some (.inl (1, fs))) K ↔ vin fs 11 = true ∧ K (pC σ a (.inl (1, fs.set 11 (.ref x)))) := pE_A fpk_1_107_1 rfl rfl (by decide)
theorem pw_1_9_110_1 {x : Nat} {a : Nat} {σ : CM} {fs : List Value} {K : CM → Prop} : pE 1 9 110 a (.ref x) σ (some (.inl (1, fs))) K ↔ vin fs 12 = true ∧ K (pC σ a (.inl (1, fs.set 12 (.ref x)))) := pE_A fpk_1_110_1 rfl rfl (by decide)
theorem pw_1_9_114_1 {x : Nat} {a : Nat} {σ : CM} {fs : List Value} {K : CM → Prop} : pE 1 9 114 a (.ref x) σ (some (.inl (1, fs))) K ↔ vin fs 13 = true ∧ K (pC σ a (.inl (1, fs.set 13 (.ref x)))) := pE_A fpk_1_114_1 rfl rfl (by decide)
theorem gw_2_11_2 {fs : List Value} {K : Value → Prop} : gE 2 11 (some (.inl (2, fs))) K = aE fs 3 K := gE_o fpk_2_11_2
theorem gw_2_17_2 {fs : List Value} {K : Value → Prop} : gE 2 17 (some (.inl (2, fs))) K = aE fs 4 K := gE_o fpk_2_17_2
theorem gw_2_20_2 {fs : List Value} {K : Value → Prop} : gE 2 20 (some (.inl (2, fs))) K = aE fs 5 K := gE_o fpk_2_20_2
theorem gw_2_26_2 {fs : List Value} {K : Value → Prop} : gE 2 26 (some (.inl (2, fs))) K = aE fs 6 K := gE_o fpk_2_26_2
theorem gw_2_29_2 {fs : List Value} {K : Value → Prop} : gE 2 29 (some (.inl (2, fs))) K = aE fs 7 K := gE_o fpk_2_29_2
theorem gw_2_33_2 {fs : List Value} {K : Value → Prop} : gE 2 33 (some (.inl (2, fs))) K = aE fs 0 K := gE_o fpk_2_33_2
theorem gw_2_37_2 {fs : List Value} {K : Value → Prop} : gE 2 37 (some (.inl (2, fs))) K = aE fs 1 K := gE_o fpk_2_37_2
theorem gw_2_41_2 {fs : List Value} {K : Value → Prop} : gE 2 41 (some (.inl (2, fs))) K = aE fs 2 K := gE_o fpk_2_41_2
theorem gw_2_50_3 {fs : List Value} {K : Value → Prop} : gE 2 50 (some (.inl (3, fs))) K = aE fs 2 K := gE_o fpk_2_50_3
theorem gw_2_53_3 {fs : List Value} {K : Value → Prop} : gE 2 53 (some (.inl (3, fs))) K = aE fs 3 K := gE_o fpk_2_53_3
theorem gw_2_76_3 {fs : List Value} {K : Value → Prop} : gE 2 76 (some (.inl (3, fs))) K = aE fs 0 K := gE_o fpk_2_76_3
theorem gw_2_92_12 {fs : List Value} {K : Value → Prop} : gE 2 92 (some (.inl (12, fs))) K = aE fs 1 K := gE_o fpk_2_92_12
theorem gw_2_92_13 {fs : List Value} {K : Value → Prop} : gE 2 92 (some (.inl (13, fs))) K = aE fs 1 K := gE_o fpk_2_92_13
theorem gw_2_92_14 {fs : List Value} {K : Value → Prop} : gE 2 92 (some (.inl (14, fs))) K = aE fs 1 K := gE_o fpk_2_92_14
theorem gw_2_92_15 {fs : List Value} {K : Value → Prop} : gE 2 92 (some (.inl (15, fs))) K = aE fs 1 K := gE_o fpk_2_92_15
theorem gw_2_92_16 {fs : List Value} {K : Value → Prop} : gE 2 92 (some (.inl (16, fs))) K = aE fs 1 K := gE_o fpk_2_92_16
theorem gw_2_118_5 {fs : List Value} {K : Value → Prop} : gE 2 118 (some (.inl (5, fs))) K = aE fs 0 K := gE_o fpk_2_118_5
theorem gw_2_126_3 {fs : List Value} {K : Value → Prop} : gE 2 126 (some (.inl (3, fs))) K = aE fs 4 K := gE_o fpk_2_126_3
theorem gw_2_133_3 {fs : List Value} {K : Value → Prop} : gE 2 133 (some (.inl (3, fs))) K = aE fs 5 K := gE_o fpk_2_133_3
theorem iN_2_64 : iT 2 64 = none := rfl
theorem iN_2_71 : iT 2 71 = none := rfl
theorem iN_2_60 : iT 2 60 = none := rfl
theorem iN_2_95 : iT 2 95 = none := rfl
theorem iN_2_44 : iT 2 44 = none := rfl
theorem iN_2_56 : iT 2 56 = none := rfl
theorem iN_2_67 : iT 2 67 = none := rfl
theorem iN_2_72 : iT 2 72 = none := rfl
theorem iN_2_80 : iT 2 80 = none := rfl
theorem iN_2_88 : iT 2 88 = none := rfl
theorem iN_2_99 : iT 2 99 = none := rfl
theorem iN_2_102 : iT 2 102 = none := rfl
theorem iN_2_106 : iT 2 106 = none := rfl
theorem iN_2_110 : iT 2 110 = none := rfl
theorem iN_2_114 : iT 2 114 = none := rfl
theorem iN_2_117 : iT 2 117 = none := rfl
theorem iN_2_121 : iT 2 121 = none := rfl
theorem iN_2_129 : iT 2 129 = none := rfl
theorem iN_2_136 : iT 2 136 = none := rfl
theorem cSz_5 : cSz 5 = 7 := rfl
theorem cDf_5 : cDf 5 = [.null, .int 0, .int 0, .int 0, .int 0, .int 0, .int 0] := rfl
theorem pw_2_0_33_2 {x : Nat} {a : Nat} {σ : CM} {fs : List Value} {K : CM → Prop} : pE 2 0 33 a (.ref x) σ (some (.inl (2, fs))) K ↔ vin fs 0 = true ∧ K (pC σ a (.inl (2, fs.set 0 (.ref x)))) := pE_O fpk_2_33_2 rfl rfl (by decide)
theorem pn_2_0_33_2 {a : Nat} {σ : CM} {fs : List Value} {K : CM → Prop} : pE 2 0 33 a .null σ (some (.inl (2, fs))) K ↔ vin fs 0 = true ∧ K (pC σ a (.inl (2, fs.set 0 .null))) := pE_ON fpk_2_33_2 rfl rfl (by decide)
theorem pw_2_0_37_2 {x : Int32} {a : Nat} {σ : CM} {fs : List Value} {K : CM → Prop} : pE 2 0 37 a (.int x) σ (some (.inl (2, fs))) K ↔ vin fs 1 = true ∧ K (pC σ a (.inl (2, fs.set 1 (.int x)))) := pE_I fpk_2_37_2 rfl rfl (by decide)
theorem pw_2_0_41_2 {x : Int32} {a : Nat} {σ : CM} {fs : List Value} {K : CM → Prop} : pE 2 0 41 a (.int x) σ (some (.inl (2, fs))) K ↔ vin fs 2 = true ∧ K (pC σ a (.inl (2, fs.set 2 (.int x)))) := pE_I fpk_2_41_2 rfl rfl (by decide)
theorem pw_2_9_11_2 {x : Nat} {a : Nat} {σ : CM} {fs : List Value} {K : CM → Prop} : pE 2 9 11 a (.ref x) σ (some (.inl (2, fs))) K ↔ vin fs 3 = true ∧ K (pC σ a (.inl (2, fs.set 3 (.ref x)))) := pE_A fpk_2_11_2 rfl rfl (by decide)
theorem pw_2_9_17_2 {x : Nat} {a : Nat} {σ : CM} {fs : List Value} {K : CM → Prop} : pE 2 9 17 a (.ref x) σ (some (.inl (2, fs))) K ↔ vin fs 4 = true ∧ K (pC σ a (.inl (2, fs.set 4 (.ref x)))) := pE_A fpk_2_17_2 rfl rfl (by decide)
theorem pw_2_9_20_2 {x : Nat} {a : Nat} {σ : CM} {fs : List Value} {K : CM → Prop} : pE 2 9 20 a (.ref x) σ (some (.inl (2, fs))) K ↔ vin fs 5 = true ∧ K (pC σ a (.inl (2, fs.set 5 (.ref x)))) := pE_A fpk_2_20_2 rfl rfl (by decide)
theorem pw_2_9_26_2 {x : Nat} {a : Nat} {σ : CM} {fs : List Value} {K : CM → Prop} : pE 2 9 26 a (.ref x) σ (some (.inl (2, fs))) K ↔ vin fs 6 = true ∧ K (pC σ a (.inl (2, fs.set 6 (.ref x)))) := pE_A fpk_2_26_2 rfl rfl (by decide)
theorem pw_2_9_29_2 {x : Nat} {a : Nat} {σ : CM} {fs : List Value} {K : CM → Prop} : pE 2 9 29 a (.ref x) σ (some (.inl (2, fs))) K ↔ vin fs 7 = true ∧ K (pC σ a (.inl (2, fs.set 7 (.ref x)))) := pE_A fpk_2_29_2 rfl rfl (by decide)
theorem gw_3_14_3 {fs : List Value} {K : Value → Prop} : gE 3 14 (some (.inl (3, fs))) K = aE fs 0 K := gE_o fpk_3_14_3
theorem gw_3_20_3 {fs : List Value} {K : Value → Prop} : gE 3 20 (some (.inl (3, fs))) K = aE fs 1 K := gE_o fpk_3_20_3
theorem gw_3_43_3 {fs : List Value} {K : Value → Prop} : gE 3 43 (some (.inl (3, fs))) K = aE fs 11 K := gE_o fpk_3_43_3
theorem gw_3_57_12 {fs : List Value} {K : Value → Prop} : gE 3 57 (some (.inl (12, fs))) K = aE fs 0 K := gE_o fpk_3_57_12
theorem gw_3_57_13 {fs : List Value} {K : Value → Prop} : gE 3 57 (some (.inl (13, fs))) K = aE fs 0 K := gE_o fpk_3_57_13
theorem gw_3_57_14 {fs : List Value} {K : Value → Prop} : gE 3 57 (some (.inl (14, fs))) K = aE fs 0 K := gE_o fpk_3_57_14
theorem gw_3_57_15 {fs : List Value} {K : Value → Prop} : gE 3 57 (some (.inl (15, fs))) K = aE fs 0 K := gE_o fpk_3_57_15
theorem gw_3_57_16 {fs : List Value} {K : Value → Prop} : gE 3 57 (some (.inl (16, fs))) K = aE fs 0 K := gE_o fpk_3_57_16
theorem gw_3_67_3 {fs : List Value} {K : Value → Prop} : gE 3 67 (some (.inl (3, fs))) K = aE fs 10 K := gE_o fpk_3_67_3
theorem gw_3_75_4 {fs : List Value} {K : Value → Prop} : gE 3 75 (some (.inl (4, fs))) K = aE fs 0 K := gE_o fpk_3_75_4
theorem gw_3_87_3 {fs : List Value} {K : Value → Prop} : gE 3 87 (some (.inl (3, fs))) K = aE fs 9 K := gE_o fpk_3_87_3
theorem iN_3_83 : iT 3 83 = none := rfl
theorem iN_3_47 : iT 3 47 = none := rfl
theorem iN_3_51 : iT 3 51 = none := rfl
theorem iN_3_63 : iT 3 63 = none := rfl
theorem iN_3_71 : iT 3 71 = none := rfl
theorem iN_3_78 : iT 3 78 = none := rfl
theorem iN_3_11 : iT 3 11 = none := rfl
theorem iN_3_42 : iT 3 42 = none := rfl
theorem cSz_4 : cSz 4 = 1 := rfl
theorem cDf_4 : cDf 4 = [.null] := rfl
theorem pw_3_9_14_3 {x : Nat} {a : Nat} {σ : CM} {fs : List Value} {K : CM → Prop} : pE 3 9 14 a (.ref x) σ (some (.inl (3, fs))) K ↔ vin fs 0 = true ∧ K (pC σ a (.inl (3, fs.set 0 (.ref x)))) := pE_O fpk_3_14_3 rfl rfl (by decide)
theorem pn_3_9_14_3 {a : Nat} {σ : CM} {fs : List Value} {K : CM → Prop} : pE 3 9 14 a .null σ (some (.inl (3, fs))) K ↔ vin fs 0 = true ∧ K (pC σ a (.inl (3, fs.set 0 .null))) := pE_ON fpk_3_14_3 rfl rfl (by decide)
theorem pw_3_9_20_3 {x : Nat} {a : Nat} {σ : CM} {fs : List Value} {K : CM → Prop} : pE 3 9 20 a (.ref x) σ (some (.inl (3, fs))) K ↔ vin fs 1 = true ∧ K (pC σ a (.inl (3, fs.set 1 (.ref x)))) := pE_O fpk_3_20_3 rfl rfl (by decide)
theorem pn_3_9_20_3 {a : Nat} {σ : CM} {fs : List Value} {K : CM → Prop} : pE 3 9 20 a .null σ (some (.inl (3, fs))) K ↔ vin fs 1 = true ∧ K (pC σ a (.inl (3, fs.set 1 .null))) := pE_ON fpk_3_20_3 rfl rfl (by decide)
theorem pw_3_9_23_3 {x : Nat} {a : Nat} {σ : CM} {fs : List Value} {K : CM → Prop} : pE 3 9 23 a (.ref x) σ (some (.inl (3, fs))) K ↔ vin fs 2 = true ∧ K (pC σ a (.inl (3, fs.set 2 (.ref x)))) := pE_A fpk_3_23_3 rfl rfl (by decide)
theorem pw_3_9_27_3 {x : Nat} {a : Nat} {σ : CM} {fs : List Value} {K : CM → Prop} : pE 3 9 27 a (.ref x) σ (some (.inl (3, fs))) K ↔ vin fs 3 = true ∧ K (pC σ a (.inl (3, fs.set 3 (.ref x)))) := pE_A fpk_3_27_3 rfl rfl (by decide)
theorem pw_3_9_30_3 {x : Nat} {a : Nat} {σ : CM} {fs : List Value} {K : CM → Prop} : pE 3 9 30 a (.ref x) σ (some (.inl (3, fs))) K ↔ vin fs 4 = true ∧ K (pC σ a (.inl (3, fs.set 4 (.ref x)))) := pE_O fpk_3_30_3 rfl rfl (by decide)
theorem pn_3_9_30_3 {a : Nat} {σ : CM} {fs : List Value} {K : CM → Prop} : pE 3 9 30 a .null σ (some (.inl (3, fs))) K ↔ vin fs 4 = true ∧ K (pC σ a (.inl (3, fs.set 4 .null))) := pE_ON fpk_3_30_3 rfl rfl (by decide)
theorem pw_3_9_33_3 {x : Int32} {a : Nat} {σ : CM} {fs : List Value} {K : CM → Prop} : pE 3 9 33 a (.int x) σ (some (.inl (3, fs))) K ↔ vin fs 6 = true ∧ K (pC σ a (.inl (3, fs.set 6 (.int x)))) := pE_I fpk_3_33_3 rfl rfl (by decide)
theorem pw_3_9_37_3 {x : Int32} {a : Nat} {σ : CM} {fs : List Value} {K : CM → Prop} : pE 3 9 37 a (.int x) σ (some (.inl (3, fs))) K ↔ vin fs 7 = true ∧ K (pC σ a (.inl (3, fs.set 7 (.int x)))) := pE_I fpk_3_37_3 rfl rfl (by decide)
theorem pw_3_9_43_3 {x : Nat} {a : Nat} {σ : CM} {fs : List Value} {K : CM → Prop} : pE 3 9 43 a (.ref x) σ (some (.inl (3, fs))) K ↔ vin fs 11 = true ∧ K (pC σ a (.inl (3, fs.set 11 (.ref x)))) := pE_O fpk_3_43_3 rfl rfl (by decide)
theorem pn_3_9_43_3 {a : Nat} {σ : CM} {fs : List Value} {K : CM → Prop} : pE 3 9 43 a .null σ (some (.inl (3, fs))) K ↔ vin fs 11 = true ∧ K (pC σ a (.inl (3, fs.set 11 .null))) := pE_ON fpk_3_43_3 rfl rfl (by decide)
theorem gw_4_9_4 {fs : List Value} {K : Value → Prop} : gE 4 9 (some (.inl (4, fs))) K = aE fs 0 K := gE_o fpk_4_9_4
theorem pw_4_9_9_4 {x : Nat} {a : Nat} {σ : CM} {fs : List Value} {K : CM → Prop} : pE 4 9 9 a (.ref x) σ (some (.inl (4, fs))) K ↔ vin fs 0 = true ∧ K (pC σ a (.inl (4, fs.set 0 (.ref x)))) := pE_A fpk_4_9_4 rfl rfl (by decide)
theorem gw_5_7_5 {fs : List Value} {K : Value → Prop} : gE 5 7 (some (.inl (5, fs))) K = aE fs 0 K := gE_o fpk_5_7_5
theorem gw_5_13_5 {fs : List Value} {K : Value → Prop} : gE 5 13 (some (.inl (5, fs))) K = aE fs 1 K := gE_o fpk_5_13_5
theorem gw_5_22_5 {fs : List Value} {K : Value → Prop} : gE 5 22 (some (.inl (5, fs))) K = aE fs 2 K := gE_o fpk_5_22_5
theorem gw_5_25_5 {fs : List Value} {K : Value → Prop} : gE 5 25 (some (.inl (5, fs))) K = aE fs 3 K := gE_o fpk_5_25_5
theorem gw_5_28_5 {fs : List Value} {K : Value → Prop} : gE 5 28 (some (.inl (5, fs))) K = aE fs 4 K := gE_o fpk_5_28_5
theorem gw_5_32_5 {fs : List Value} {K : Value → Prop} : gE 5 32 (some (.inl (5, fs))) K = aE fs 5 K := gE_o fpk_5_32_5
theorem gw_5_35_5 {fs : List Value} {K : Value → Prop} : gE 5 35 (some (.inl (5, fs))) K = aE fs 6 K := gE_o fpk_5_35_5
theorem iN_5_51 : iT 5 51 = none := rfl
theorem iN_5_46 : iT 5 46 = none := rfl
theorem iN_5_17 : iT 5 17 = none := rfl
theorem iN_5_38 : iT 5 38 = none := rfl
theorem iN_5_42 : iT 5 42 = none := rfl
theorem iN_5_54 : iT 5 54 = none := rfl
theorem iN_5_57 : iT 5 57 = none := rfl
theorem iN_5_61 : iT 5 61 = none := rfl
theorem iN_5_66 : iT 5 66 = none := rfl
theorem iN_5_70 : iT 5 70 = none := rfl
theorem iN_5_74 : iT 5 74 = none := rfl
theorem iN_5_77 : iT 5 77 = none := rfl
theorem iN_5_80 : iT 5 80 = none := rfl
theorem iN_5_86 : iT 5 86 = none := rfl
theorem iN_5_89 : iT 5 89 = none := rfl
theorem iN_5_93 : iT 5 93 = none := rfl
theorem pw_5_0_13_5 {x : Int32} {a : Nat} {σ : CM} {fs : List Value} {K : CM → Prop} : pE 5 0 13 a (.int x) σ (some (.inl (5, fs))) K ↔ vin fs 1 = true ∧ K (pC σ a (.inl (5, fs.set 1 (.int x)))) := pE_I fpk_5_13_5 rfl rfl (by decide)
theorem pw_5_0_22_5 {x : Int32} {a : Nat} {σ : CM} {fs : List Value} {K : CM → Prop} : pE 5 0 22 a (.int x) σ (some (.inl (5, fs))) K ↔ vin fs 2 = true ∧ K (pC σ a (.inl (5, fs.set 2 (.int x)))) := pE_I fpk_5_22_5 rfl rfl (by decide)
theorem pw_5_0_25_5 {x : Int32} {a : Nat} {σ : CM} {fs : List Value} {K : CM → Prop} : pE 5 0 25 a (.int x) σ (some (.inl (5, fs))) K ↔ vin fs 3 = true ∧ K (pC σ a (.inl (5, fs.set 3 (.int x)))) := pE_I fpk_5_25_5 rfl rfl (by decide)
theorem pw_5_0_28_5 {x : Int32} {a : Nat} {σ : CM} {fs : List Value} {K : CM → Prop} : pE 5 0 28 a (.int x) σ (some (.inl (5, fs))) K ↔ (x = 0 ∨ x = 1) ∧ vin fs 4 = true ∧ K (pC σ a (.inl (5, fs.set 4 (.int x)))) := pE_Z fpk_5_28_5 rfl rfl (by decide)
theorem pw_5_0_32_5 {x : Int32} {a : Nat} {σ : CM} {fs : List Value} {K : CM → Prop} : pE 5 0 32 a (.int x) σ (some (.inl (5, fs))) K ↔ vin fs 5 = true ∧ K (pC σ a (.inl (5, fs.set 5 (.int x)))) := pE_I fpk_5_32_5 rfl rfl (by decide)
theorem pw_5_0_35_5 {x : Int32} {a : Nat} {σ : CM} {fs : List Value} {K : CM → Prop} : pE 5 0 35 a (.int x) σ (some (.inl (5, fs))) K ↔ vin fs 6 = true ∧ K (pC σ a (.inl (5, fs.set 6 (.int x)))) := pE_I fpk_5_35_5 rfl rfl (by decide)
theorem pw_5_9_7_5 {x : Nat} {a : Nat} {σ : CM} {fs : List Value} {K : CM → Prop} : pE 5 9 7 a (.ref x) σ (some (.inl (5, fs))) K ↔ vin fs 0 = true ∧ K (pC σ a (.inl (5, fs.set 0 (.ref x)))) := pE_O fpk_5_7_5 rfl rfl (by decide)
theorem pn_5_9_7_5 {a : Nat} {σ : CM} {fs : List Value} {K : CM → Prop} : pE 5 9 7 a .null σ (some (.inl (5, fs))) K ↔ vin fs 0 = true ∧ K (pC σ a (.inl (5, fs.set 0 .null))) := pE_ON fpk_5_7_5 rfl rfl (by decide)
theorem pw_5_9_13_5 {x : Int32} {a : Nat} {σ : CM} {fs : List Value} {K : CM → Prop} : pE 5 9 13 a (.int x) σ (some (.inl (5, fs))) K ↔ vin fs 1 = true ∧ K (pC σ a (.inl (5, fs.set 1 (.int x)))) := pE_I fpk_5_13_5 rfl rfl (by decide)
theorem gw_6_9_6 {fs : List Value} {K : Value → Prop} : gE 6 9 (some (.inl (6, fs))) K = aE fs 0 K := gE_o fpk_6_9_6
theorem gw_6_9_7 {fs : List Value} {K : Value → Prop} : gE 6 9 (some (.inl (7, fs))) K = aE fs 0 K := gE_o fpk_6_9_7
theorem gw_6_9_8 {fs : List Value} {K : Value → Prop} : gE 6 9 (some (.inl (8, fs))) K = aE fs 0 K := gE_o fpk_6_9_8
theorem gw_6_15_6 {fs : List Value} {K : Value → Prop} : gE 6 15 (some (.inl (6, fs))) K = aE fs 1 K := gE_o fpk_6_15_6
theorem gw_6_15_7 {fs : List Value} {K : Value → Prop} : gE 6 15 (some (.inl (7, fs))) K = aE fs 1 K := gE_o fpk_6_15_7
theorem gw_6_15_8 {fs : List Value} {K : Value → Prop} : gE 6 15 (some (.inl (8, fs))) K = aE fs 1 K := gE_o fpk_6_15_8
theorem iN_6_37 : iT 6 37 = none := rfl
theorem pw_6_0_15_6 {x : Int32} {a : Nat} {σ : CM} {fs : List Value} {K : CM → Prop} : pE 6 0 15 a (.int x) σ (some (.inl (6, fs))) K ↔ vin fs 1 = true ∧ K (pC σ a (.inl (6, fs.set 1 (.int x)))) := pE_I fpk_6_15_6 rfl rfl (by decide)
theorem pw_6_0_15_7 {x : Int32} {a : Nat} {σ : CM} {fs : List Value} {K : CM → Prop} : pE 6 0 15 a (.int x) σ (some (.inl (7, fs))) K ↔ vin fs 1 = true ∧ K (pC σ a (.inl (7, fs.set 1 (.int x)))) := pE_I fpk_6_15_7 rfl rfl (by decide)
theorem pw_6_0_15_8 {x : Int32} {a : Nat} {σ : CM} {fs : List Value} {K : CM → Prop} : pE 6 0 15 a (.int x) σ (some (.inl (8, fs))) K ↔ vin fs 1 = true ∧ K (pC σ a (.inl (8, fs.set 1 (.int x)))) := pE_I fpk_6_15_8 rfl rfl (by decide)
theorem iN_6_3 : iT 6 3 = none := rfl
theorem pw_6_9_9_6 {x : Nat} {a : Nat} {σ : CM} {fs : List Value} {K : CM → Prop} : pE 6 9 9 a (.ref x) σ (some (.inl (6, fs))) K ↔ vin fs 0 = true ∧ K (pC σ a (.inl (6, fs.set 0 (.ref x)))) := pE_A fpk_6_9_6 rfl rfl (by decide)
theorem pw_6_9_9_7 {x : Nat} {a : Nat} {σ : CM} {fs : List Value} {K : CM → Prop} : pE 6 9 9 a (.ref x) σ (some (.inl (7, fs))) K ↔ vin fs 0 = true ∧ K (pC σ a (.inl (7, fs.set 0 (.ref x)))) := pE_A fpk_6_9_7 rfl rfl (by decide)
theorem pw_6_9_9_8 {x : Nat} {a : Nat} {σ : CM} {fs : List Value} {K : CM → Prop} : pE 6 9 9 a (.ref x) σ (some (.inl (8, fs))) K ↔ vin fs 0 = true ∧ K (pC σ a (.inl (8, fs.set 0 (.ref x)))) := pE_A fpk_6_9_8 rfl rfl (by decide)
theorem iN_7_7 : iT 7 7 = none := rfl
theorem iN_7_1 : iT 7 1 = none := rfl
theorem iN_8_1 : iT 8 1 = none := rfl
theorem gw_9_9_9 {fs : List Value} {K : Value → Prop} : gE 9 9 (some (.inl (9, fs))) K = aE fs 0 K := gE_o fpk_9_9_9
theorem gw_9_15_9 {fs : List Value} {K : Value → Prop} : gE 9 15 (some (.inl (9, fs))) K = aE fs 1 K := gE_o fpk_9_15_9
theorem iN_9_35 : iT 9 35 = none := rfl
theorem pw_9_0_15_9 {x : Int32} {a : Nat} {σ : CM} {fs : List Value} {K : CM → Prop} : pE 9 0 15 a (.int x) σ (some (.inl (9, fs))) K ↔ vin fs 1 = true ∧ K (pC σ a (.inl (9, fs.set 1 (.int x)))) := pE_I fpk_9_15_9 rfl rfl (by decide)
theorem iN_9_3 : iT 9 3 = none := rfl
theorem pw_9_9_9_9 {x : Nat} {a : Nat} {σ : CM} {fs : List Value} {K : CM → Prop} : pE 9 9 9 a (.ref x) σ (some (.inl (9, fs))) K ↔ vin fs 0 = true ∧ K (pC σ a (.inl (9, fs.set 0 (.ref x)))) := pE_A fpk_9_9_9 rfl rfl (by decide)
theorem gw_10_9_10 {fs : List Value} {K : Value → Prop} : gE 10 9 (some (.inl (10, fs))) K = aE fs 0 K := gE_o fpk_10_9_10
theorem iN_10_27 : iT 10 27 = none := rfl
theorem iN_10_3 : iT 10 3 = none := rfl
theorem pw_10_9_9_10 {x : Nat} {a : Nat} {σ : CM} {fs : List Value} {K : CM → Prop} : pE 10 9 9 a (.ref x) σ (some (.inl (10, fs))) K ↔ vin fs 0 = true ∧ K (pC σ a (.inl (10, fs.set 0 (.ref x)))) := pE_A fpk_10_9_10 rfl rfl (by decide)
theorem iN_11_3 : iT 11 3 = none := rfl
theorem gw_12_21_12 {fs : List Value} {K : Value → Prop} : gE 12 21 (some (.inl (12, fs))) K = aE fs 3 K := gE_o fpk_12_21_12
theorem gw_12_21_13 {fs : List Value} {K : Value → Prop} : gE 12 21 (some (.inl (13, fs))) K = aE fs 3 K := gE_o fpk_12_21_13
theorem gw_12_21_14 {fs : List Value} {K : Value → Prop} : gE 12 21 (some (.inl (14, fs))) K = aE fs 3 K := gE_o fpk_12_21_14
theorem gw_12_21_15 {fs : List Value} {K : Value → Prop} : gE 12 21 (some (.inl (15, fs))) K = aE fs 3 K := gE_o fpk_12_21_15
theorem gw_12_21_16 {fs : List Value} {K : Value → Prop} : gE 12 21 (some (.inl (16, fs))) K = aE fs 3 K := gE_o fpk_12_21_16
theorem pw_12_9_7_12 {x : Int64} {a : Nat} {σ : CM} {fs : List Value} {K : CM → Prop} : pE 12 9 7 a (.long x) σ (some (.inl (12, fs))) K ↔ vin fs 0 = true ∧ K (pC σ a (.inl (12, fs.set 0 (.long x)))) := pE_L fpk_12_7_12 rfl rfl (by decide)
theorem pw_12_9_7_13 {x : Int64} {a : Nat} {σ : CM} {fs : List Value} {K : CM → Prop} : pE 12 9 7 a (.long x) σ (some (.inl (13, fs))) K ↔ vin fs 0 = true ∧ K (pC σ a (.inl (13, fs.set 0 (.long x)))) := pE_L fpk_12_7_13 rfl rfl (by decide)
theorem pw_12_9_7_14 {x : Int64} {a : Nat} {σ : CM} {fs : List Value} {K : CM → Prop} : pE 12 9 7 a (.long x) σ (some (.inl (14, fs))) K ↔ vin fs 0 = true ∧ K (pC σ a (.inl (14, fs.set 0 (.long x)))) := pE_L fpk_12_7_14 rfl rfl (by decide)
theorem pw_12_9_7_15 {x : Int64} {a : Nat} {σ : CM} {fs : List Value} {K : CM → Prop} : pE 12 9 7 a (.long x) σ (some (.inl (15, fs))) K ↔ vin fs 0 = true ∧ K (pC σ a (.inl (15, fs.set 0 (.long x)))) := pE_L fpk_12_7_15 rfl rfl (by decide)
theorem pw_12_9_7_16 {x : Int64} {a : Nat} {σ : CM} {fs : List Value} {K : CM → Prop} : pE 12 9 7 a (.long x) σ (some (.inl (16, fs))) K ↔ vin fs 0 = true ∧ K (pC σ a (.inl (16, fs.set 0 (.long x)))) := pE_L fpk_12_7_16 rfl rfl (by decide)
theorem pw_12_9_13_12 {x : Nat} {a : Nat} {σ : CM} {fs : List Value} {K : CM → Prop} : pE 12 9 13 a (.ref x) σ (some (.inl (12, fs))) K ↔ vin fs 1 = true ∧ K (pC σ a (.inl (12, fs.set 1 (.ref x)))) := pE_A fpk_12_13_12 rfl rfl (by decide)
theorem pw_12_9_13_13 {x : Nat} {a : Nat} {σ : CM} {fs : List Value} {K : CM → Prop} : pE 12 9 13 a (.ref x) σ (some (.inl (13, fs))) K ↔ vin fs 1 = true ∧ K (pC σ a (.inl (13, fs.set 1 (.ref x)))) := pE_A fpk_12_13_13 rfl rfl (by decide)
theorem pw_12_9_13_14 {x : Nat} {a : Nat} {σ : CM} {fs : List Value} {K : CM → Prop} : pE 12 9 13 a (.ref x) σ (some (.inl (14, fs))) K ↔ vin fs 1 = true ∧ K (pC σ a (.inl (14, fs.set 1 (.ref x)))) := pE_A fpk_12_13_14 rfl rfl (by decide)
theorem pw_12_9_13_15 {x : Nat} {a : Nat} {σ : CM} {fs : List Value} {K : CM → Prop} : pE 12 9 13 a (.ref x) σ (some (.inl (15, fs))) K ↔ vin fs 1 = true ∧ K (pC σ a (.inl (15, fs.set 1 (.ref x)))) := pE_A fpk_12_13_15 rfl rfl (by decide)
theorem pw_12_9_13_16 {x : Nat} {a : Nat} {σ : CM} {fs : List Value} {K : CM → Prop} : pE 12 9 13 a (.ref x) σ (some (.inl (16, fs))) K ↔ vin fs 1 = true ∧ K (pC σ a (.inl (16, fs.set 1 (.ref x)))) := pE_A fpk_12_13_16 rfl rfl (by decide)
theorem pw_12_9_17_12 {x : Int32} {a : Nat} {σ : CM} {fs : List Value} {K : CM → Prop} : pE 12 9 17 a (.int x) σ (some (.inl (12, fs))) K ↔ vin fs 2 = true ∧ K (pC σ a (.inl (12, fs.set 2 (.int x)))) := pE_I fpk_12_17_12 rfl rfl (by decide)
theorem pw_12_9_17_13 {x : Int32} {a : Nat} {σ : CM} {fs : List Value} {K : CM → Prop} : pE 12 9 17 a (.int x) σ (some (.inl (13, fs))) K ↔ vin fs 2 = true ∧ K (pC σ a (.inl (13, fs.set 2 (.int x)))) := pE_I fpk_12_17_13 rfl rfl (by decide)
theorem pw_12_9_17_14 {x : Int32} {a : Nat} {σ : CM} {fs : List Value} {K : CM → Prop} : pE 12 9 17 a (.int x) σ (some (.inl (14, fs))) K ↔ vin fs 2 = true ∧ K (pC σ a (.inl (14, fs.set 2 (.int x)))) := pE_I fpk_12_17_14 rfl rfl (by decide)
theorem pw_12_9_17_15 {x : Int32} {a : Nat} {σ : CM} {fs : List Value} {K : CM → Prop} : pE 12 9 17 a (.int x) σ (some (.inl (15, fs))) K ↔ vin fs 2 = true ∧ K (pC σ a (.inl (15, fs.set 2 (.int x)))) := pE_I fpk_12_17_15 rfl rfl (by decide)
theorem pw_12_9_17_16 {x : Int32} {a : Nat} {σ : CM} {fs : List Value} {K : CM → Prop} : pE 12 9 17 a (.int x) σ (some (.inl (16, fs))) K ↔ vin fs 2 = true ∧ K (pC σ a (.inl (16, fs.set 2 (.int x)))) := pE_I fpk_12_17_16 rfl rfl (by decide)
theorem pw_12_9_21_12 {x : Int32} {a : Nat} {σ : CM} {fs : List Value} {K : CM → Prop} : pE 12 9 21 a (.int x) σ (some (.inl (12, fs))) K ↔ vin fs 3 = true ∧ K (pC σ a (.inl (12, fs.set 3 (.int x)))) := pE_I fpk_12_21_12 rfl rfl (by decide)
theorem pw_12_9_21_13 {x : Int32} {a : Nat} {σ : CM} {fs : List Value} {K : CM → Prop} : pE 12 9 21 a (.int x) σ (some (.inl (13, fs))) K ↔ vin fs 3 = true ∧ K (pC σ a (.inl (13, fs.set 3 (.int x)))) := pE_I fpk_12_21_13 rfl rfl (by decide)
theorem pw_12_9_21_14 {x : Int32} {a : Nat} {σ : CM} {fs : List Value} {K : CM → Prop} : pE 12 9 21 a (.int x) σ (some (.inl (14, fs))) K ↔ vin fs 3 = true ∧ K (pC σ a (.inl (14, fs.set 3 (.int x)))) := pE_I fpk_12_21_14 rfl rfl (by decide)
theorem pw_12_9_21_15 {x : Int32} {a : Nat} {σ : CM} {fs : List Value} {K : CM → Prop} : pE 12 9 21 a (.int x) σ (some (.inl (15, fs))) K ↔ vin fs 3 = true ∧ K (pC σ a (.inl (15, fs.set 3 (.int x)))) := pE_I fpk_12_21_15 rfl rfl (by decide)
theorem pw_12_9_21_16 {x : Int32} {a : Nat} {σ : CM} {fs : List Value} {K : CM → Prop} : pE 12 9 21 a (.int x) σ (some (.inl (16, fs))) K ↔ vin fs 3 = true ∧ K (pC σ a (.inl (16, fs.set 3 (.int x)))) := pE_I fpk_12_21_16 rfl rfl (by decide)
theorem iN_13_7 : iT 13 7 = none := rfl
theorem iN_13_1 : iT 13 1 = none := rfl
theorem iN_14_1 : iT 14 1 = none := rfl
theorem iN_15_1 : iT 15 1 = none := rfl
theorem gw_16_7_12 {fs : List Value} {K : Value → Prop} : gE 16 7 (some (.inl (12, fs))) K = aE fs 3 K := gE_o fpk_16_7_12
theorem gw_16_7_13 {fs : List Value} {K : Value → Prop} : gE 16 7 (some (.inl (13, fs))) K = aE fs 3 K := gE_o fpk_16_7_13
theorem gw_16_7_14 {fs : List Value} {K : Value → Prop} : gE 16 7 (some (.inl (14, fs))) K = aE fs 3 K := gE_o fpk_16_7_14
theorem gw_16_7_15 {fs : List Value} {K : Value → Prop} : gE 16 7 (some (.inl (15, fs))) K = aE fs 3 K := gE_o fpk_16_7_15
theorem gw_16_7_16 {fs : List Value} {K : Value → Prop} : gE 16 7 (some (.inl (16, fs))) K = aE fs 3 K := gE_o fpk_16_7_16
theorem iN_16_1 : iT 16 1 = none := rfl
theorem gw_17_7_17 {fs : List Value} {K : Value → Prop} : gE 17 7 (some (.inl (17, fs))) K = aE fs 0 K := gE_o fpk_17_7_17
theorem iN_17_1 : iT 17 1 = none := rfl
theorem pw_17_9_7_17 {x : Int32} {a : Nat} {σ : CM} {fs : List Value} {K : CM → Prop} : pE 17 9 7 a (.int x) σ (some (.inl (17, fs))) K ↔ vin fs 0 = true ∧ K (pC σ a (.inl (17, fs.set 0 (.int x)))) := pE_I fpk_17_7_17 rfl rfl (by decide)
theorem gw_18_7_18 {fs : List Value} {K : Value → Prop} : gE 18 7 (some (.inl (18, fs))) K = aE fs 0 K := gE_o fpk_18_7_18
theorem gw_18_13_4 {fs : List Value} {K : Value → Prop} : gE 18 13 (some (.inl (4, fs))) K = aE fs 0 K := gE_o fpk_18_13_4
theorem iN_18_1 : iT 18 1 = none := rfl
theorem pw_18_9_7_18 {x : Int32} {a : Nat} {σ : CM} {fs : List Value} {K : CM → Prop} : pE 18 9 7 a (.int x) σ (some (.inl (18, fs))) K ↔ vin fs 0 = true ∧ K (pC σ a (.inl (18, fs.set 0 (.int x)))) := pE_I fpk_18_7_18 rfl rfl (by decide)
theorem gw_19_7_19 {fs : List Value} {K : Value → Prop} : gE 19 7 (some (.inl (19, fs))) K = aE fs 0 K := gE_o fpk_19_7_19
theorem iN_19_13 : iT 19 13 = none := rfl
theorem iN_19_1 : iT 19 1 = none := rfl
theorem pw_19_9_7_19 {x : Nat} {a : Nat} {σ : CM} {fs : List Value} {K : CM → Prop} : pE 19 9 7 a (.ref x) σ (some (.inl (19, fs))) K ↔ vin fs 0 = true ∧ K (pC σ a (.inl (19, fs.set 0 (.ref x)))) := pE_O fpk_19_7_19 rfl rfl (by decide)
theorem pn_19_9_7_19 {a : Nat} {σ : CM} {fs : List Value} {K : CM → Prop} : pE 19 9 7 a .null σ (some (.inl (19, fs))) K ↔ vin fs 0 = true ∧ K (pC σ a (.inl (19, fs.set 0 .null))) := pE_ON fpk_19_7_19 rfl rfl (by decide)
theorem gw_20_12_20 {fs : List Value} {K : Value → Prop} : gE 20 12 (some (.inl (20, fs))) K = aE fs 1 K := gE_o fpk_20_12_20
theorem gw_20_18_20 {fs : List Value} {K : Value → Prop} : gE 20 18 (some (.inl (20, fs))) K = aE fs 0 K := gE_o fpk_20_18_20
theorem iN_20_22 : iT 20 22 = none := rfl
theorem iN_20_26 : iT 20 26 = none := rfl
theorem iN_20_30 : iT 20 30 = none := rfl
theorem iN_20_36 : iT 20 36 = none := rfl
theorem iN_20_1 : iT 20 1 = none := rfl
theorem iN_20_9 : iT 20 9 = none := rfl
theorem pw_20_9_12_20 {x : Nat} {a : Nat} {σ : CM} {fs : List Value} {K : CM → Prop} : pE 20 9 12 a (.ref x) σ (some (.inl (20, fs))) K ↔ vin fs 1 = true ∧ K (pC σ a (.inl (20, fs.set 1 (.ref x)))) := pE_O fpk_20_12_20 rfl rfl (by decide)
theorem pn_20_9_12_20 {a : Nat} {σ : CM} {fs : List Value} {K : CM → Prop} : pE 20 9 12 a .null σ (some (.inl (20, fs))) K ↔ vin fs 1 = true ∧ K (pC σ a (.inl (20, fs.set 1 .null))) := pE_ON fpk_20_12_20 rfl rfl (by decide)
theorem pw_20_9_18_20 {x : Nat} {a : Nat} {σ : CM} {fs : List Value} {K : CM → Prop} : pE 20 9 18 a (.ref x) σ (some (.inl (20, fs))) K ↔ vin fs 0 = true ∧ K (pC σ a (.inl (20, fs.set 0 (.ref x)))) := pE_O fpk_20_18_20 rfl rfl (by decide)
theorem pn_20_9_18_20 {a : Nat} {σ : CM} {fs : List Value} {K : CM → Prop} : pE 20 9 18 a .null σ (some (.inl (20, fs))) K ↔ vin fs 0 = true ∧ K (pC σ a (.inl (20, fs.set 0 .null))) := pE_ON fpk_20_18_20 rfl rfl (by decide)
theorem iN_21_1 : iT 21 1 = none := rfl
theorem iN_22_1 : iT 22 1 = none := rfl
theorem iN_23_1 : iT 23 1 = none := rfl
theorem iN_24_1 : iT 24 1 = none := rfl
theorem iN_25_1 : iT 25 1 = none := rfl
theorem iN_26_1 : iT 26 1 = none := rfl
theorem iN_27_1 : iT 27 1 = none := rfl
theorem pw_28_9_7_28 {x : Int32} {a : Nat} {σ : CM} {fs : List Value} {K : CM → Prop} : pE 28 9 7 a (.int x) σ (some (.inl (28, fs))) K ↔ vin fs 0 = true ∧ K (pC σ a (.inl (28, fs.set 0 (.int x)))) := pE_I fpk_28_7_28 rfl rfl (by decide)
theorem pw_28_9_13_28 {x : Int32} {a : Nat} {σ : CM} {fs : List Value} {K : CM → Prop} : pE 28 9 13 a (.int x) σ (some (.inl (28, fs))) K ↔ vin fs 1 = true ∧ K (pC σ a (.inl (28, fs.set 1 (.int x)))) := pE_I fpk_28_13_28 rfl rfl (by decide)
theorem pw_28_9_16_28 {x : Int32} {a : Nat} {σ : CM} {fs : List Value} {K : CM → Prop} : pE 28 9 16 a (.int x) σ (some (.inl (28, fs))) K ↔ (x = 0 ∨ x = 1) ∧ vin fs 2 = true ∧ K (pC σ a (.inl (28, fs.set 2 (.int x)))) := pE_Z fpk_28_16_28 rfl rfl (by decide)
theorem pw_29_9_7_29 {x : Int32} {a : Nat} {σ : CM} {fs : List Value} {K : CM → Prop} : pE 29 9 7 a (.int x) σ (some (.inl (29, fs))) K ↔ vin fs 0 = true ∧ K (pC σ a (.inl (29, fs.set 0 (.int x)))) := pE_I fpk_29_7_29 rfl rfl (by decide)
theorem pw_29_9_13_29 {x : Nat} {a : Nat} {σ : CM} {fs : List Value} {K : CM → Prop} : pE 29 9 13 a (.ref x) σ (some (.inl (29, fs))) K ↔ vin fs 1 = true ∧ K (pC σ a (.inl (29, fs.set 1 (.ref x)))) := pE_O fpk_29_13_29 rfl rfl (by decide)
theorem pn_29_9_13_29 {a : Nat} {σ : CM} {fs : List Value} {K : CM → Prop} : pE 29 9 13 a .null σ (some (.inl (29, fs))) K ↔ vin fs 1 = true ∧ K (pC σ a (.inl (29, fs.set 1 .null))) := pE_ON fpk_29_13_29 rfl rfl (by decide)
theorem pw_30_9_7_30 {x : Nat} {a : Nat} {σ : CM} {fs : List Value} {K : CM → Prop} : pE 30 9 7 a (.ref x) σ (some (.inl (30, fs))) K ↔ vin fs 0 = true ∧ K (pC σ a (.inl (30, fs.set 0 (.ref x)))) := pE_O fpk_30_7_30 rfl rfl (by decide)
theorem pn_30_9_7_30 {a : Nat} {σ : CM} {fs : List Value} {K : CM → Prop} : pE 30 9 7 a .null σ (some (.inl (30, fs))) K ↔ vin fs 0 = true ∧ K (pC σ a (.inl (30, fs.set 0 .null))) := pE_ON fpk_30_7_30 rfl rfl (by decide)
theorem pw_30_9_13_30 {x : Nat} {a : Nat} {σ : CM} {fs : List Value} {K : CM → Prop} : pE 30 9 13 a (.ref x) σ (some (.inl (30, fs))) K ↔ vin fs 1 = true ∧ K (pC σ a (.inl (30, fs.set 1 (.ref x)))) := pE_O fpk_30_13_30 rfl rfl (by decide)
theorem pn_30_9_13_30 {a : Nat} {σ : CM} {fs : List Value} {K : CM → Prop} : pE 30 9 13 a .null σ (some (.inl (30, fs))) K ↔ vin fs 1 = true ∧ K (pC σ a (.inl (30, fs.set 1 .null))) := pE_ON fpk_30_13_30 rfl rfl (by decide)
theorem gw_31_3_31 {fs : List Value} {K : Value → Prop} : gE 31 3 (some (.inl (31, fs))) K = aE fs 4 K := gE_o fpk_31_3_31
theorem gw_31_15_31 {fs : List Value} {K : Value → Prop} : gE 31 15 (some (.inl (31, fs))) K = aE fs 3 K := gE_o fpk_31_15_31
theorem gw_31_27_31 {fs : List Value} {K : Value → Prop} : gE 31 27 (some (.inl (31, fs))) K = aE fs 1 K := gE_o fpk_31_27_31
theorem gw_31_27_32 {fs : List Value} {K : Value → Prop} : gE 31 27 (some (.inl (32, fs))) K = aE fs 1 K := gE_o fpk_31_27_32
theorem gw_31_39_3 {fs : List Value} {K : Value → Prop} : gE 31 39 (some (.inl (3, fs))) K = aE fs 0 K := gE_o fpk_31_39_3
theorem gw_31_53_12 {fs : List Value} {K : Value → Prop} : gE 31 53 (some (.inl (12, fs))) K = aE fs 2 K := gE_o fpk_31_53_12
theorem gw_31_53_13 {fs : List Value} {K : Value → Prop} : gE 31 53 (some (.inl (13, fs))) K = aE fs 2 K := gE_o fpk_31_53_13
theorem gw_31_53_14 {fs : List Value} {K : Value → Prop} : gE 31 53 (some (.inl (14, fs))) K = aE fs 2 K := gE_o fpk_31_53_14
theorem gw_31_53_15 {fs : List Value} {K : Value → Prop} : gE 31 53 (some (.inl (15, fs))) K = aE fs 2 K := gE_o fpk_31_53_15
theorem gw_31_53_16 {fs : List Value} {K : Value → Prop} : gE 31 53 (some (.inl (16, fs))) K = aE fs 2 K := gE_o fpk_31_53_16
theorem gw_31_56_31 {fs : List Value} {K : Value → Prop} : gE 31 56 (some (.inl (31, fs))) K = aE fs 0 K := gE_o fpk_31_56_31
theorem gw_31_56_32 {fs : List Value} {K : Value → Prop} : gE 31 56 (some (.inl (32, fs))) K = aE fs 0 K := gE_o fpk_31_56_32
theorem iN_31_19 : iT 31 19 = none := rfl
theorem iN_31_23 : iT 31 23 = none := rfl
theorem iN_31_31 : iT 31 31 = none := rfl
theorem iN_31_35 : iT 31 35 = none := rfl
theorem iN_31_45 : iT 31 45 = none := rfl
theorem iN_31_60 : iT 31 60 = none := rfl
theorem iN_31_64 : iT 31 64 = none := rfl
theorem pw_31_0_15_31 {x : Int32} {a : Nat} {σ : CM} {fs : List Value} {K : CM → Prop} : pE 31 0 15 a (.int x) σ (some (.inl (31, fs))) K ↔ vin fs 3 = true ∧ K (pC σ a (.inl (31, fs.set 3 (.int x)))) := pE_I fpk_31_15_31 rfl rfl (by decide)
theorem iN_31_9 : iT 31 9 = none := rfl
theorem pw_31_9_3_31 {x : Nat} {a : Nat} {σ : CM} {fs : List Value} {K : CM → Prop} : pE 31 9 3 a (.ref x) σ (some (.inl (31, fs))) K ↔ vin fs 4 = true ∧ K (pC σ a (.inl (31, fs.set 4 (.ref x)))) := pE_O fpk_31_3_31 rfl rfl (by decide)
theorem pn_31_9_3_31 {a : Nat} {σ : CM} {fs : List Value} {K : CM → Prop} : pE 31 9 3 a .null σ (some (.inl (31, fs))) K ↔ vin fs 4 = true ∧ K (pC σ a (.inl (31, fs.set 4 .null))) := pE_ON fpk_31_3_31 rfl rfl (by decide)
theorem gw_32_3_32 {fs : List Value} {K : Value → Prop} : gE 32 3 (some (.inl (32, fs))) K = aE fs 3 K := gE_o fpk_32_3_32
theorem gw_32_23_31 {fs : List Value} {K : Value → Prop} : gE 32 23 (some (.inl (31, fs))) K = aE fs 1 K := gE_o fpk_32_23_31
theorem gw_32_23_32 {fs : List Value} {K : Value → Prop} : gE 32 23 (some (.inl (32, fs))) K = aE fs 1 K := gE_o fpk_32_23_32
theorem gw_32_35_3 {fs : List Value} {K : Value → Prop} : gE 32 35 (some (.inl (3, fs))) K = aE fs 0 K := gE_o fpk_32_35_3
theorem gw_32_47_31 {fs : List Value} {K : Value → Prop} : gE 32 47 (some (.inl (31, fs))) K = aE fs 0 K := gE_o fpk_32_47_31
theorem gw_32_47_32 {fs : List Value} {K : Value → Prop} : gE 32 47 (some (.inl (32, fs))) K = aE fs 0 K := gE_o fpk_32_47_32
theorem iN_32_15 : iT 32 15 = none := rfl
theorem iN_32_19 : iT 32 19 = none := rfl
theorem iN_32_27 : iT 32 27 = none := rfl
theorem iN_32_31 : iT 32 31 = none := rfl
theorem iN_32_41 : iT 32 41 = none := rfl
theorem iN_32_51 : iT 32 51 = none := rfl
theorem iN_32_9 : iT 32 9 = none := rfl
theorem pw_32_9_3_32 {x : Nat} {a : Nat} {σ : CM} {fs : List Value} {K : CM → Prop} : pE 32 9 3 a (.ref x) σ (some (.inl (32, fs))) K ↔ vin fs 3 = true ∧ K (pC σ a (.inl (32, fs.set 3 (.ref x)))) := pE_O fpk_32_3_32 rfl rfl (by decide)
theorem pn_32_9_3_32 {a : Nat} {σ : CM} {fs : List Value} {K : CM → Prop} : pE 32 9 3 a .null σ (some (.inl (32, fs))) K ↔ vin fs 3 = true ∧ K (pC σ a (.inl (32, fs.set 3 .null))) := pE_ON fpk_32_3_32 rfl rfl (by decide)
theorem gw_33_3_33 {fs : List Value} {K : Value → Prop} : gE 33 3 (some (.inl (33, fs))) K = aE fs 5 K := gE_o fpk_33_3_33
theorem gw_33_17_33 {fs : List Value} {K : Value → Prop} : gE 33 17 (some (.inl (33, fs))) K = aE fs 0 K := gE_o fpk_33_17_33
theorem gw_33_20_33 {fs : List Value} {K : Value → Prop} : gE 33 20 (some (.inl (33, fs))) K = aE fs 1 K := gE_o fpk_33_20_33
theorem gw_33_24_0 {fs : List Value} {K : Value → Prop} : gE 33 24 (some (.inl (0, fs))) K = aE fs 1 K := gE_o fpk_33_24_0
theorem gw_33_28_2 {fs : List Value} {K : Value → Prop} : gE 33 28 (some (.inl (2, fs))) K = aE fs 3 K := gE_o fpk_33_28_2
theorem gw_33_34_33 {fs : List Value} {K : Value → Prop} : gE 33 34 (some (.inl (33, fs))) K = aE fs 2 K := gE_o fpk_33_34_33
theorem gw_33_47_33 {fs : List Value} {K : Value → Prop} : gE 33 47 (some (.inl (33, fs))) K = aE fs 3 K := gE_o fpk_33_47_33
theorem gw_33_58_5 {fs : List Value} {K : Value → Prop} : gE 33 58 (some (.inl (5, fs))) K = aE fs 0 K := gE_o fpk_33_58_5
theorem gw_33_84_3 {fs : List Value} {K : Value → Prop} : gE 33 84 (some (.inl (3, fs))) K = aE fs 0 K := gE_o fpk_33_84_3
theorem gw_33_101_5 {fs : List Value} {K : Value → Prop} : gE 33 101 (some (.inl (5, fs))) K = aE fs 4 K := gE_o fpk_33_101_5
theorem iN_33_38 : iT 33 38 = none := rfl
theorem iN_33_50 : iT 33 50 = none := rfl
theorem iN_33_54 : iT 33 54 = none := rfl
theorem iN_33_64 : iT 33 64 = none := rfl
theorem iN_33_68 : iT 33 68 = none := rfl
theorem iN_33_73 : iT 33 73 = none := rfl
theorem iN_33_76 : iT 33 76 = none := rfl
theorem iN_33_80 : iT 33 80 = none := rfl
theorem iN_33_90 : iT 33 90 = none := rfl
theorem iN_33_98 : iT 33 98 = none := rfl
theorem iN_33_105 : iT 33 105 = none := rfl
theorem pw_33_0_34_33 {x : Nat} {a : Nat} {σ : CM} {fs : List Value} {K : CM → Prop} : pE 33 0 34 a (.ref x) σ (some (.inl (33, fs))) K ↔ vin fs 2 = true ∧ K (pC σ a (.inl (33, fs.set 2 (.ref x)))) := pE_O fpk_33_34_33 rfl rfl (by decide)
theorem pn_33_0_34_33 {a : Nat} {σ : CM} {fs : List Value} {K : CM → Prop} : pE 33 0 34 a .null σ (some (.inl (33, fs))) K ↔ vin fs 2 = true ∧ K (pC σ a (.inl (33, fs.set 2 .null))) := pE_ON fpk_33_34_33 rfl rfl (by decide)
theorem pw_33_0_42_33 {x : Int32} {a : Nat} {σ : CM} {fs : List Value} {K : CM → Prop} : pE 33 0 42 a (.int x) σ (some (.inl (33, fs))) K ↔ vin fs 4 = true ∧ K (pC σ a (.inl (33, fs.set 4 (.int x)))) := pE_I fpk_33_42_33 rfl rfl (by decide)
theorem pw_33_0_47_33 {x : Int32} {a : Nat} {σ : CM} {fs : List Value} {K : CM → Prop} : pE 33 0 47 a (.int x) σ (some (.inl (33, fs))) K ↔ vin fs 3 = true ∧ K (pC σ a (.inl (33, fs.set 3 (.int x)))) := pE_I fpk_33_47_33 rfl rfl (by decide)
theorem pw_33_9_3_33 {x : Nat} {a : Nat} {σ : CM} {fs : List Value} {K : CM → Prop} : pE 33 9 3 a (.ref x) σ (some (.inl (33, fs))) K ↔ vin fs 5 = true ∧ K (pC σ a (.inl (33, fs.set 5 (.ref x)))) := pE_O fpk_33_3_33 rfl rfl (by decide)
theorem pn_33_9_3_33 {a : Nat} {σ : CM} {fs : List Value} {K : CM → Prop} : pE 33 9 3 a .null σ (some (.inl (33, fs))) K ↔ vin fs 5 = true ∧ K (pC σ a (.inl (33, fs.set 5 .null))) := pE_ON fpk_33_3_33 rfl rfl (by decide)
theorem pw_33_9_17_33 {x : Nat} {a : Nat} {σ : CM} {fs : List Value} {K : CM → Prop} : pE 33 9 17 a (.ref x) σ (some (.inl (33, fs))) K ↔ vin fs 0 = true ∧ K (pC σ a (.inl (33, fs.set 0 (.ref x)))) := pE_A fpk_33_17_33 rfl rfl (by decide)
theorem pw_33_9_20_33 {x : Nat} {a : Nat} {σ : CM} {fs : List Value} {K : CM → Prop} : pE 33 9 20 a (.ref x) σ (some (.inl (33, fs))) K ↔ vin fs 1 = true ∧ K (pC σ a (.inl (33, fs.set 1 (.ref x)))) := pE_A fpk_33_20_33 rfl rfl (by decide)
theorem gw_34_3_34 {fs : List Value} {K : Value → Prop} : gE 34 3 (some (.inl (34, fs))) K = aE fs 2 K := gE_o fpk_34_3_34
theorem gw_34_15_34 {fs : List Value} {K : Value → Prop} : gE 34 15 (some (.inl (34, fs))) K = aE fs 0 K := gE_o fpk_34_15_34
theorem gw_34_19_34 {fs : List Value} {K : Value → Prop} : gE 34 19 (some (.inl (34, fs))) K = aE fs 1 K := gE_o fpk_34_19_34
theorem gw_34_22_0 {fs : List Value} {K : Value → Prop} : gE 34 22 (some (.inl (0, fs))) K = aE fs 1 K := gE_o fpk_34_22_0
theorem gw_34_26_2 {fs : List Value} {K : Value → Prop} : gE 34 26 (some (.inl (2, fs))) K = aE fs 3 K := gE_o fpk_34_26_2
theorem gw_34_46_3 {fs : List Value} {K : Value → Prop} : gE 34 46 (some (.inl (3, fs))) K = aE fs 0 K := gE_o fpk_34_46_3
theorem iN_34_32 : iT 34 32 = none := rfl
theorem iN_34_42 : iT 34 42 = none := rfl
theorem iN_34_52 : iT 34 52 = none := rfl
theorem iN_34_58 : iT 34 58 = none := rfl
theorem iN_34_64 : iT 34 64 = none := rfl
theorem iN_34_68 : iT 34 68 = none := rfl
theorem iN_34_72 : iT 34 72 = none := rfl
theorem iN_34_75 : iT 34 75 = none := rfl
theorem iN_34_79 : iT 34 79 = none := rfl
theorem pw_34_0_38_5 {x : Int32} {a : Nat} {σ : CM} {fs : List Value} {K : CM → Prop} : pE 34 0 38 a (.int x) σ (some (.inl (5, fs))) K ↔ vin fs 1 = true ∧ K (pC σ a (.inl (5, fs.set 1 (.int x)))) := pE_I fpk_34_38_5 rfl rfl (by decide)
theorem pw_34_9_3_34 {x : Nat} {a : Nat} {σ : CM} {fs : List Value} {K : CM → Prop} : pE 34 9 3 a (.ref x) σ (some (.inl (34, fs))) K ↔ vin fs 2 = true ∧ K (pC σ a (.inl (34, fs.set 2 (.ref x)))) := pE_O fpk_34_3_34 rfl rfl (by decide)
theorem pn_34_9_3_34 {a : Nat} {σ : CM} {fs : List Value} {K : CM → Prop} : pE 34 9 3 a .null σ (some (.inl (34, fs))) K ↔ vin fs 2 = true ∧ K (pC σ a (.inl (34, fs.set 2 .null))) := pE_ON fpk_34_3_34 rfl rfl (by decide)
theorem pw_34_9_15_34 {x : Nat} {a : Nat} {σ : CM} {fs : List Value} {K : CM → Prop} : pE 34 9 15 a (.ref x) σ (some (.inl (34, fs))) K ↔ vin fs 0 = true ∧ K (pC σ a (.inl (34, fs.set 0 (.ref x)))) := pE_A fpk_34_15_34 rfl rfl (by decide)
theorem pw_34_9_19_34 {x : Nat} {a : Nat} {σ : CM} {fs : List Value} {K : CM → Prop} : pE 34 9 19 a (.ref x) σ (some (.inl (34, fs))) K ↔ vin fs 1 = true ∧ K (pC σ a (.inl (34, fs.set 1 (.ref x)))) := pE_A fpk_34_19_34 rfl rfl (by decide)
theorem pw_35_9_7_35 {x : Int32} {a : Nat} {σ : CM} {fs : List Value} {K : CM → Prop} : pE 35 9 7 a (.int x) σ (some (.inl (35, fs))) K ↔ vin fs 6 = true ∧ K (pC σ a (.inl (35, fs.set 6 (.int x)))) := pE_I fpk_35_7_35 rfl rfl (by decide)
theorem gw_36_9_36 {fs : List Value} {K : Value → Prop} : gE 36 9 (some (.inl (36, fs))) K = aE fs 1 K := gE_o fpk_36_9_36
theorem gw_36_48_36 {fs : List Value} {K : Value → Prop} : gE 36 48 (some (.inl (36, fs))) K = aE fs 2 K := gE_o fpk_36_48_36
theorem gw_36_63_36 {fs : List Value} {K : Value → Prop} : gE 36 63 (some (.inl (36, fs))) K = aE fs 0 K := gE_o fpk_36_63_36
theorem iN_36_73 : iT 36 73 = none := rfl
theorem iN_36_118 : iT 36 118 = none := rfl
theorem iN_36_69 : iT 36 69 = none := rfl
theorem iN_36_123 : iT 36 123 = none := rfl
theorem iN_36_129 : iT 36 129 = none := rfl
theorem iN_36_131 : iT 36 131 = none := rfl
theorem iN_36_144 : iT 36 144 = none := rfl
theorem pw_36_0_9_36 {x : Nat} {a : Nat} {σ : CM} {fs : List Value} {K : CM → Prop} : pE 36 0 9 a (.ref x) σ (some (.inl (36, fs))) K ↔ vin fs 1 = true ∧ K (pC σ a (.inl (36, fs.set 1 (.ref x)))) := pE_A fpk_36_9_36 rfl rfl (by decide)
theorem pw_36_0_48_36 {x : Int32} {a : Nat} {σ : CM} {fs : List Value} {K : CM → Prop} : pE 36 0 48 a (.int x) σ (some (.inl (36, fs))) K ↔ vin fs 2 = true ∧ K (pC σ a (.inl (36, fs.set 2 (.int x)))) := pE_I fpk_36_48_36 rfl rfl (by decide)
theorem pw_36_0_63_36 {x : Int32} {a : Nat} {σ : CM} {fs : List Value} {K : CM → Prop} : pE 36 0 63 a (.int x) σ (some (.inl (36, fs))) K ↔ vin fs 0 = true ∧ K (pC σ a (.inl (36, fs.set 0 (.int x)))) := pE_I fpk_36_63_36 rfl rfl (by decide)
theorem iN_36_1 : iT 36 1 = none := rfl
theorem iN_36_22 : iT 36 22 = none := rfl
theorem iN_36_36 : iT 36 36 = none := rfl
theorem iN_36_25 : iT 36 25 = none := rfl
theorem iN_36_29 : iT 36 29 = none := rfl
theorem iN_36_32 : iT 36 32 = none := rfl
theorem pw_36_9_9_36 {x : Nat} {a : Nat} {σ : CM} {fs : List Value} {K : CM → Prop} : pE 36 9 9 a (.ref x) σ (some (.inl (36, fs))) K ↔ vin fs 1 = true ∧ K (pC σ a (.inl (36, fs.set 1 (.ref x)))) := pE_A fpk_36_9_36 rfl rfl (by decide)
theorem gw_37_273_37 {fs : List Value} {K : Value → Prop} : gE 37 273 (some (.inl (37, fs))) K = aE fs 0 K := gE_o fpk_37_273_37
theorem gw_37_273_39 {fs : List Value} {K : Value → Prop} : gE 37 273 (some (.inl (39, fs))) K = aE fs 0 K := gE_o fpk_37_273_39
theorem gw_40_7_21 {fs : List Value} {K : Value → Prop} : gE 40 7 (some (.inl (21, fs))) K = aE fs 0 K := gE_o fpk_40_7_21
theorem gw_40_7_22 {fs : List Value} {K : Value → Prop} : gE 40 7 (some (.inl (22, fs))) K = aE fs 0 K := gE_o fpk_40_7_22
theorem gw_40_7_23 {fs : List Value} {K : Value → Prop} : gE 40 7 (some (.inl (23, fs))) K = aE fs 0 K := gE_o fpk_40_7_23
theorem gw_40_7_24 {fs : List Value} {K : Value → Prop} : gE 40 7 (some (.inl (24, fs))) K = aE fs 0 K := gE_o fpk_40_7_24
theorem gw_40_7_25 {fs : List Value} {K : Value → Prop} : gE 40 7 (some (.inl (25, fs))) K = aE fs 0 K := gE_o fpk_40_7_25
theorem gw_40_7_26 {fs : List Value} {K : Value → Prop} : gE 40 7 (some (.inl (26, fs))) K = aE fs 0 K := gE_o fpk_40_7_26
theorem gw_40_7_27 {fs : List Value} {K : Value → Prop} : gE 40 7 (some (.inl (27, fs))) K = aE fs 0 K := gE_o fpk_40_7_27
theorem iN_40_13 : iT 40 13 = none := rfl
theorem iN_40_19 : iT 40 19 = none := rfl
theorem pw_40_9_7_21 {x : Nat} {a : Nat} {σ : CM} {fs : List Value} {K : CM → Prop} : pE 40 9 7 a (.ref x) σ (some (.inl (21, fs))) K ↔ vin fs 0 = true ∧ K (pC σ a (.inl (21, fs.set 0 (.ref x)))) := pE_O fpk_40_7_21 rfl rfl (by decide)
theorem pn_40_9_7_21 {a : Nat} {σ : CM} {fs : List Value} {K : CM → Prop} : pE 40 9 7 a .null σ (some (.inl (21, fs))) K ↔ vin fs 0 = true ∧ K (pC σ a (.inl (21, fs.set 0 .null))) := pE_ON fpk_40_7_21 rfl rfl (by decide)
theorem pw_40_9_7_22 {x : Nat} {a : Nat} {σ : CM} {fs : List Value} {K : CM → Prop} : pE 40 9 7 a (.ref x) σ (some (.inl (22, fs))) K ↔ vin fs 0 = true ∧ K (pC σ a (.inl (22, fs.set 0 (.ref x)))) := pE_O fpk_40_7_22 rfl rfl (by decide)
theorem pn_40_9_7_22 {a : Nat} {σ : CM} {fs : List Value} {K : CM → Prop} : pE 40 9 7 a .null σ (some (.inl (22, fs))) K ↔ vin fs 0 = true ∧ K (pC σ a (.inl (22, fs.set 0 .null))) := pE_ON fpk_40_7_22 rfl rfl (by decide)
theorem pw_40_9_7_23 {x : Nat} {a : Nat} {σ : CM} {fs : List Value} {K : CM → Prop} : pE 40 9 7 a (.ref x) σ (some (.inl (23, fs))) K ↔ vin fs 0 = true ∧ K (pC σ a (.inl (23, fs.set 0 (.ref x)))) := pE_O fpk_40_7_23 rfl rfl (by decide)
theorem pn_40_9_7_23 {a : Nat} {σ : CM} {fs : List Value} {K : CM → Prop} : pE 40 9 7 a .null σ (some (.inl (23, fs))) K ↔ vin fs 0 = true ∧ K (pC σ a (.inl (23, fs.set 0 .null))) := pE_ON fpk_40_7_23 rfl rfl (by decide)
theorem pw_40_9_7_24 {x : Nat} {a : Nat} {σ : CM} {fs : List Value} {K : CM → Prop} : pE 40 9 7 a (.ref x) σ (some (.inl (24, fs))) K ↔ vin fs 0 = true ∧ K (pC σ a (.inl (24, fs.set 0 (.ref x)))) := pE_O fpk_40_7_24 rfl rfl (by decide)
theorem pn_40_9_7_24 {a : Nat} {σ : CM} {fs : List Value} {K : CM → Prop} : pE 40 9 7 a .null σ (some (.inl (24, fs))) K ↔ vin fs 0 = true ∧ K (pC σ a (.inl (24, fs.set 0 .null))) := pE_ON fpk_40_7_24 rfl rfl (by decide)
theorem pw_40_9_7_25 {x : Nat} {a : Nat} {σ : CM} {fs : List Value} {K : CM → Prop} : pE 40 9 7 a (.ref x) σ (some (.inl (25, fs))) K ↔ vin fs 0 = true ∧ K (pC σ a (.inl (25, fs.set 0 (.ref x)))) := pE_O fpk_40_7_25 rfl rfl (by decide)
theorem pn_40_9_7_25 {a : Nat} {σ : CM} {fs : List Value} {K : CM → Prop} : pE 40 9 7 a .null σ (some (.inl (25, fs))) K ↔ vin fs 0 = true ∧ K (pC σ a (.inl (25, fs.set 0 .null))) := pE_ON fpk_40_7_25 rfl rfl (by decide)
theorem pw_40_9_7_26 {x : Nat} {a : Nat} {σ : CM} {fs : List Value} {K : CM → Prop} : pE 40 9 7 a (.ref x) σ (some (.inl (26, fs))) K ↔ vin fs 0 = true ∧ K (pC σ a (.inl (26, fs.set 0 (.ref x)))) := pE_O fpk_40_7_26 rfl rfl (by decide)
theorem pn_40_9_7_26 {a : Nat} {σ : CM} {fs : List Value} {K : CM → Prop} : pE 40 9 7 a .null σ (some (.inl (26, fs))) K ↔ vin fs 0 = true ∧ K (pC σ a (.inl (26, fs.set 0 .null))) := pE_ON fpk_40_7_26 rfl rfl (by decide)
theorem pw_40_9_7_27 {x : Nat} {a : Nat} {σ : CM} {fs : List Value} {K : CM → Prop} : pE 40 9 7 a (.ref x) σ (some (.inl (27, fs))) K ↔ vin fs 0 = true ∧ K (pC σ a (.inl (27, fs.set 0 (.ref x)))) := pE_O fpk_40_7_27 rfl rfl (by decide)
theorem pn_40_9_7_27 {a : Nat} {σ : CM} {fs : List Value} {K : CM → Prop} : pE 40 9 7 a .null σ (some (.inl (27, fs))) K ↔ vin fs 0 = true ∧ K (pC σ a (.inl (27, fs.set 0 .null))) := pE_ON fpk_40_7_27 rfl rfl (by decide)
theorem iN_42_1 : iT 42 1 = none := rfl
theorem gw_43_3_31 {fs : List Value} {K : Value → Prop} : gE 43 3 (some (.inl (31, fs))) K = aE fs 2 K := gE_o fpk_43_3_31
theorem gw_43_3_32 {fs : List Value} {K : Value → Prop} : gE 43 3 (some (.inl (32, fs))) K = aE fs 2 K := gE_o fpk_43_3_32
theorem gw_43_21_31 {fs : List Value} {K : Value → Prop} : gE 43 21 (some (.inl (31, fs))) K = aE fs 1 K := gE_o fpk_43_21_31
theorem gw_43_21_32 {fs : List Value} {K : Value → Prop} : gE 43 21 (some (.inl (32, fs))) K = aE fs 1 K := gE_o fpk_43_21_32
theorem gw_43_25_0 {fs : List Value} {K : Value → Prop} : gE 43 25 (some (.inl (0, fs))) K = aE fs 1 K := gE_o fpk_43_25_0
theorem gw_43_29_2 {fs : List Value} {K : Value → Prop} : gE 43 29 (some (.inl (2, fs))) K = aE fs 3 K := gE_o fpk_43_29_2
theorem iN_43_32 : iT 43 32 = none := rfl
theorem iN_43_36 : iT 43 36 = none := rfl
theorem iN_43_40 : iT 43 40 = none := rfl
theorem pw_43_9_3_31 {x : Nat} {a : Nat} {σ : CM} {fs : List Value} {K : CM → Prop} : pE 43 9 3 a (.ref x) σ (some (.inl (31, fs))) K ↔ vin fs 2 = true ∧ K (pC σ a (.inl (31, fs.set 2 (.ref x)))) := pE_O fpk_43_3_31 rfl rfl (by decide)
theorem pn_43_9_3_31 {a : Nat} {σ : CM} {fs : List Value} {K : CM → Prop} : pE 43 9 3 a .null σ (some (.inl (31, fs))) K ↔ vin fs 2 = true ∧ K (pC σ a (.inl (31, fs.set 2 .null))) := pE_ON fpk_43_3_31 rfl rfl (by decide)
theorem pw_43_9_3_32 {x : Nat} {a : Nat} {σ : CM} {fs : List Value} {K : CM → Prop} : pE 43 9 3 a (.ref x) σ (some (.inl (32, fs))) K ↔ vin fs 2 = true ∧ K (pC σ a (.inl (32, fs.set 2 (.ref x)))) := pE_O fpk_43_3_32 rfl rfl (by decide)
theorem pn_43_9_3_32 {a : Nat} {σ : CM} {fs : List Value} {K : CM → Prop} : pE 43 9 3 a .null σ (some (.inl (32, fs))) K ↔ vin fs 2 = true ∧ K (pC σ a (.inl (32, fs.set 2 .null))) := pE_ON fpk_43_3_32 rfl rfl (by decide)
theorem pw_43_9_15_31 {x : Nat} {a : Nat} {σ : CM} {fs : List Value} {K : CM → Prop} : pE 43 9 15 a (.ref x) σ (some (.inl (31, fs))) K ↔ vin fs 0 = true ∧ K (pC σ a (.inl (31, fs.set 0 (.ref x)))) := pE_A fpk_43_15_31 rfl rfl (by decide)
theorem pw_43_9_15_32 {x : Nat} {a : Nat} {σ : CM} {fs : List Value} {K : CM → Prop} : pE 43 9 15 a (.ref x) σ (some (.inl (32, fs))) K ↔ vin fs 0 = true ∧ K (pC σ a (.inl (32, fs.set 0 (.ref x)))) := pE_A fpk_43_15_32 rfl rfl (by decide)
theorem pw_43_9_21_31 {x : Nat} {a : Nat} {σ : CM} {fs : List Value} {K : CM → Prop} : pE 43 9 21 a (.ref x) σ (some (.inl (31, fs))) K ↔ vin fs 1 = true ∧ K (pC σ a (.inl (31, fs.set 1 (.ref x)))) := pE_A fpk_43_21_31 rfl rfl (by decide)
theorem pw_43_9_21_32 {x : Nat} {a : Nat} {σ : CM} {fs : List Value} {K : CM → Prop} : pE 43 9 21 a (.ref x) σ (some (.inl (32, fs))) K ↔ vin fs 1 = true ∧ K (pC σ a (.inl (32, fs.set 1 (.ref x)))) := pE_A fpk_43_21_32 rfl rfl (by decide)
theorem iN_44_1 : iT 44 1 = none := rfl
theorem pw_44_9_7_36 {x : Int32} {a : Nat} {σ : CM} {fs : List Value} {K : CM → Prop} : pE 44 9 7 a (.int x) σ (some (.inl (36, fs))) K ↔ vin fs 0 = true ∧ K (pC σ a (.inl (36, fs.set 0 (.int x)))) := pE_I fpk_44_7_36 rfl rfl (by decide)
theorem iN_46_105 : iT 46 105 = none := rfl
theorem iN_47_95 : iT 47 95 = none := rfl
theorem iN_48_91 : iT 48 91 = none := rfl
theorem iN_48_212 : iT 48 212 = none := rfl
theorem iN_48_201 : iT 48 201 = none := rfl
theorem iN_48_94 : iT 48 94 = none := rfl
theorem iN_48_98 : iT 48 98 = none := rfl
theorem iN_48_101 : iT 48 101 = none := rfl
theorem raE_4 {n : Nat} {i : Int32} {f : Nat → Option Nat} {K : Value → Prop} : raE i (some (.inr (4, n, .inr (.inr (.inr (.inr f)))))) K ↔ inb i n = true ∧ K (va_rf (f i.toNatClampNeg)) := raE_r rfl rfl
theorem raE_5 {n : Nat} {i : Int32} {f : Nat → Option Nat} {K : Value → Prop} : raE i (some (.inr (5, n, .inr (.inr (.inr (.inr f)))))) K ↔ inb i n = true ∧ K (va_rf (f i.toNatClampNeg)) := raE_r rfl rfl
theorem raE_6 {n : Nat} {i : Int32} {f : Nat → Option Nat} {K : Value → Prop} : raE i (some (.inr (6, n, .inr (.inr (.inr (.inr f)))))) K ↔ inb i n = true ∧ K (va_rf (f i.toNatClampNeg)) := raE_r rfl rfl
theorem raE_7 {n : Nat} {i : Int32} {f : Nat → Option Nat} {K : Value → Prop} : raE i (some (.inr (7, n, .inr (.inr (.inr (.inr f)))))) K ↔ inb i n = true ∧ K (va_rf (f i.toNatClampNeg)) := raE_r rfl rfl
theorem raE_8 {n : Nat} {i : Int32} {f : Nat → Option Nat} {K : Value → Prop} : raE i (some (.inr (8, n, .inr (.inr (.inr (.inr f)))))) K ↔ inb i n = true ∧ K (va_rf (f i.toNatClampNeg)) := raE_r rfl rfl
theorem nsE_4 {a n : Nat} {i : Int32} {σ : CM} {f : Nat → Option Nat} {K : CM → Prop} : nsE a i σ (some (.inr (4, n, .inr (.inr (.inr (.inr f)))))) K ↔ inb i n = true ∧ K (pC σ a (.inr (4, n, .inr (.inr (.inr (.inr (va_up f i.toNatClampNeg none))))))) := nsE_r rfl rfl
theorem nsE_5 {a n : Nat} {i : Int32} {σ : CM} {f : Nat → Option Nat} {K : CM → Prop} : nsE a i σ (some (.inr (5, n, .inr (.inr (.inr (.inr f)))))) K ↔ inb i n = true ∧ K (pC σ a (.inr (5, n, .inr (.inr (.inr (.inr (va_up f i.toNatClampNeg none))))))) := nsE_r rfl rfl
theorem nsE_6 {a n : Nat} {i : Int32} {σ : CM} {f : Nat → Option Nat} {K : CM → Prop} : nsE a i σ (some (.inr (6, n, .inr (.inr (.inr (.inr f)))))) K ↔ inb i n = true ∧ K (pC σ a (.inr (6, n, .inr (.inr (.inr (.inr (va_up f i.toNatClampNeg none))))))) := nsE_r rfl rfl
theorem nsE_7 {a n : Nat} {i : Int32} {σ : CM} {f : Nat → Option Nat} {K : CM → Prop} : nsE a i σ (some (.inr (7, n, .inr (.inr (.inr (.inr f)))))) K ↔ inb i n = true ∧ K (pC σ a (.inr (7, n, .inr (.inr (.inr (.inr (va_up f i.toNatClampNeg none))))))) := nsE_r rfl rfl
theorem leE_0 {y : vp_A} {K : Nat → Prop} : leE (some (.inr (0, y))) K ↔ K y.1 := leE_a rfl
theorem leE_2 {y : vp_A} {K : Nat → Prop} : leE (some (.inr (2, y))) K ↔ K y.1 := leE_a rfl
theorem leE_4 {y : vp_A} {K : Nat → Prop} : leE (some (.inr (4, y))) K ↔ K y.1 := leE_a rfl
theorem leE_5 {y : vp_A} {K : Nat → Prop} : leE (some (.inr (5, y))) K ↔ K y.1 := leE_a rfl
theorem leE_7 {y : vp_A} {K : Nat → Prop} : leE (some (.inr (7, y))) K ↔ K y.1 := leE_a rfl
theorem va_rf_s {a : Nat} : va_rf (some a) = .ref a := rfl
theorem va_rf_n : va_rf none = .null := rfl
theorem pC_1 {σ : CM} {a : Nat} {c : Cl} : (pC σ a c).1 = σ.1 := rfl
theorem pC_21 {σ : CM} {a : Nat} {c : Cl} : (pC σ a c).2.1 = σ.2.1 := rfl
theorem aC_1 {σ : CM} {k : Nat} {c : Cl} : (aC σ k c).1 = σ.1 + 1 := rfl
theorem aC_21 {σ : CM} {k : Nat} {c : Cl} : (aC σ k c).2.1 = σ.2.1 + k := rfl
theorem cat1_u : cat1 .null = true := rfl
theorem catB_u {l : List Value} {n : Nat} : catB (.null :: l) (n + 1) = catB l n := by simp [catB, Value.category]
