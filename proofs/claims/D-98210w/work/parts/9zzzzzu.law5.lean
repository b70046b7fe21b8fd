set_option maxRecDepth 100000
/-! THE LAW: feed, mark, years -/
def lgW (a b : Int32) : Int64 := (a.toInt64 <<< ((32 : Int32).toInt64 &&& 63)) ||| (b.toInt64 &&& 4294967295)
theorem cs_feed : CaseOK 172 := by
  intro D ac DM cs zs b L xs x0 mb p l e s m args below meth c H locs cells slots Q σ M w LS i u v G a B F h hcs hsl hL hi hI hB hr1 hr2 kk
  have hx := F.1.1
  have hb := F.1.2.1
  obtain ⟨r, σ', G', M', a', hE1, hE2, hI', hG⟩ := pr_feed (mb := mb) (y := lgW (xs (i + 1)) (xs (i + 2))) (b := lgW (xs (i + 3)) (xs (i + 4))) (c := lgW (xs (i + 5)) (xs (i + 6))) σ G M a B hI hB
  have g1 := hG.1.1
  have g2 := hG.1.2
  have g3 := hG.2.1
  have g4 := hG.2.2
  have hdm : dmM σ σ' := hE1.dom
  have ec : cells + (σ'.1 - σ.1) = σ'.1 - s.heap.size := by omega
  have es : slots + (σ'.2.1 - σ.2.1) = σ'.2.1 := by omega
  refine lv_aload_n hx hb dL_law_172 rfl (hL.at rfl) ?_
  refine lv_aload_n hx hb dL_law_173 rfl (hL.at rfl) ?_
  refine lv_iload hx hb dL_law_174 (hL.at rfl) ?_
  refine lv_iconst (v := nI 1) hx hb dL_law_176 rfl ?_
  refine lv_iadd hx hb dL_law_177 ?_
  refine lw_ld F h hi (by decide) dL_law_178 ?_
  refine lv_i2l hx hb dL_law_179 rfl ?_
  refine lv_bipush (v := 32) hx hb dL_law_180 rfl ?_
  refine lv_lshl hx hb dL_law_182 rfl ?_
  refine lv_aload_n hx hb dL_law_183 rfl (hL.at rfl) ?_
  refine lv_iload hx hb dL_law_184 (hL.at rfl) ?_
  refine lv_iconst (v := nI 2) hx hb dL_law_186 rfl ?_
  refine lv_iadd hx hb dL_law_187 ?_
  refine lw_ld F h hi (by decide) dL_law_188 ?_
  refine lv_i2l hx hb dL_law_189 rfl ?_
  refine lv_ldc2 (v := 4294967295) hx hb F.1.2.2.2.1 (F.1.2.2.2.2 _ (lw_g (lw_at lw_m12 46 rfl) rfl)) dL_law_190 ?_
  refine lv_land hx hb dL_law_193 ?_
  refine lv_lor hx hb dL_law_194 ?_
  refine lv_aload_n hx hb dL_law_195 rfl (hL.at rfl) ?_
  refine lv_iload hx hb dL_law_196 (hL.at rfl) ?_
  refine lv_iconst (v := nI 3) hx hb dL_law_198 rfl ?_
  refine lv_iadd hx hb dL_law_199 ?_
  refine lw_ld F h hi (by decide) dL_law_200 ?_
  refine lv_i2l hx hb dL_law_201 rfl ?_
  refine lv_bipush (v := 32) hx hb dL_law_202 rfl ?_
  refine lv_lshl hx hb dL_law_204 rfl ?_
  refine lv_aload_n hx hb dL_law_205 rfl (hL.at rfl) ?_
  refine lv_iload hx hb dL_law_206 (hL.at rfl) ?_
  refine lv_iconst (v := nI 4) hx hb dL_law_208 rfl ?_
  refine lv_iadd hx hb dL_law_209 ?_
  refine lw_ld F h hi (by decide) dL_law_210 ?_
  refine lv_i2l hx hb dL_law_211 rfl ?_
  refine lv_ldc2 (v := 4294967295) hx hb F.1.2.2.2.1 (F.1.2.2.2.2 _ (lw_g (lw_at lw_m12 46 rfl) rfl)) dL_law_212 ?_
  refine lv_land hx hb dL_law_215 ?_
  refine lv_lor hx hb dL_law_216 ?_
  refine lv_aload_n hx hb dL_law_217 rfl (hL.at rfl) ?_
  refine lv_iload hx hb dL_law_218 (hL.at rfl) ?_
  refine lv_iconst (v := nI 5) hx hb dL_law_220 rfl ?_
  refine lv_iadd hx hb dL_law_221 ?_
  refine lw_ld F h hi (by decide) dL_law_222 ?_
  refine lv_i2l hx hb dL_law_223 rfl ?_
  refine lv_bipush (v := 32) hx hb dL_law_224 rfl ?_
  refine lv_lshl hx hb dL_law_226 rfl ?_
  refine lv_aload_n hx hb dL_law_227 rfl (hL.at rfl) ?_
  refine lv_iload hx hb dL_law_228 (hL.at rfl) ?_
  refine lv_bipush (v := nI 6) hx hb dL_law_230 rfl ?_
  refine lv_iadd hx hb dL_law_232 ?_
  refine lw_ld F h hi (by decide) dL_law_233 ?_
  refine lv_i2l hx hb dL_law_234 rfl ?_
  refine lv_ldc2 (v := 4294967295) hx hb F.1.2.2.2.1 (F.1.2.2.2.2 _ (lw_g (lw_at lw_m12 46 rfl) rfl)) dL_law_235 ?_
  refine lv_land hx hb dL_law_238 ?_
  refine lv_lor hx hb dL_law_239 ?_
  refine lw_behC (rest := []) h hdm (lw_run (vs := [.long (lgW (xs (i + 1)) (xs (i + 2))), .long (lgW (xs (i + 3)) (xs (i + 4))), .long (lgW (xs (i + 5)) (xs (i + 6)))]) F h cw_feed hE1 rfl (by show 7 ≤ 7; decide) hI.1.rt hL.2.1 (by decide) dL_law_240 (by omega) (by omega)) (fun H1 locs1 S1 => ?_)
  rw [ec, es]
  refine lv_aload_n hx hb dL_law_243 rfl (hL.at rfl) ?_
  refine lv_aload_n hx hb dL_law_244 rfl (hL.at rfl) ?_
  refine lv_iload hx hb dL_law_245 (hL.at rfl) ?_
  refine lv_iconst (v := nI 1) hx hb dL_law_247 rfl ?_
  refine lv_iadd hx hb dL_law_248 ?_
  refine lw_ld F S1 hi (by decide) dL_law_249 ?_
  refine lv_i2l hx hb dL_law_250 rfl ?_
  refine lv_bipush (v := 32) hx hb dL_law_251 rfl ?_
  refine lv_lshl hx hb dL_law_253 rfl ?_
  refine lv_aload_n hx hb dL_law_254 rfl (hL.at rfl) ?_
  refine lv_iload hx hb dL_law_255 (hL.at rfl) ?_
  refine lv_iconst (v := nI 2) hx hb dL_law_257 rfl ?_
  refine lv_iadd hx hb dL_law_258 ?_
  refine lw_ld F S1 hi (by decide) dL_law_259 ?_
  refine lv_i2l hx hb dL_law_260 rfl ?_
  refine lv_ldc2 (v := 4294967295) hx hb F.1.2.2.2.1 (F.1.2.2.2.2 _ (lw_g (lw_at lw_m12 46 rfl) rfl)) dL_law_261 ?_
  refine lv_land hx hb dL_law_264 ?_
  refine lv_lor hx hb dL_law_265 ?_
  refine lv_aload_n hx hb dL_law_266 rfl (hL.at rfl) ?_
  refine lv_iload hx hb dL_law_267 (hL.at rfl) ?_
  refine lv_iconst (v := nI 3) hx hb dL_law_269 rfl ?_
  refine lv_iadd hx hb dL_law_270 ?_
  refine lw_ld F S1 hi (by decide) dL_law_271 ?_
  refine lv_i2l hx hb dL_law_272 rfl ?_
  refine lv_bipush (v := 32) hx hb dL_law_273 rfl ?_
  refine lv_lshl hx hb dL_law_275 rfl ?_
  refine lv_aload_n hx hb dL_law_276 rfl (hL.at rfl) ?_
  refine lv_iload hx hb dL_law_277 (hL.at rfl) ?_
  refine lv_iconst (v := nI 4) hx hb dL_law_279 rfl ?_
  refine lv_iadd hx hb dL_law_280 ?_
  refine lw_ld F S1 hi (by decide) dL_law_281 ?_
  refine lv_i2l hx hb dL_law_282 rfl ?_
  refine lv_ldc2 (v := 4294967295) hx hb F.1.2.2.2.1 (F.1.2.2.2.2 _ (lw_g (lw_at lw_m12 46 rfl) rfl)) dL_law_283 ?_
  refine lv_land hx hb dL_law_286 ?_
  refine lv_lor hx hb dL_law_287 ?_
  refine lv_aload_n hx hb dL_law_288 rfl (hL.at rfl) ?_
  refine lv_iload hx hb dL_law_289 (hL.at rfl) ?_
  refine lv_iconst (v := nI 5) hx hb dL_law_291 rfl ?_
  refine lv_iadd hx hb dL_law_292 ?_
  refine lw_ld F S1 hi (by decide) dL_law_293 ?_
  refine lv_i2l hx hb dL_law_294 rfl ?_
  refine lv_bipush (v := 32) hx hb dL_law_295 rfl ?_
  refine lv_lshl hx hb dL_law_297 rfl ?_
  refine lv_aload_n hx hb dL_law_298 rfl (hL.at rfl) ?_
  refine lv_iload hx hb dL_law_299 (hL.at rfl) ?_
  refine lv_bipush (v := nI 6) hx hb dL_law_301 rfl ?_
  refine lv_iadd hx hb dL_law_303 ?_
  refine lw_ld F S1 hi (by decide) dL_law_304 ?_
  refine lv_i2l hx hb dL_law_305 rfl ?_
  refine lv_ldc2 (v := 4294967295) hx hb F.1.2.2.2.1 (F.1.2.2.2.2 _ (lw_g (lw_at lw_m12 46 rfl) rfl)) dL_law_306 ?_
  refine lv_land hx hb dL_law_309 ?_
  refine lv_lor hx hb dL_law_310 ?_
  refine lw_behM (rest := [.int r]) S1 (by omega) F.2.2.2.2 (lw_runM (vs := [.long (lgW (xs (i + 1)) (xs (i + 2))), .long (lgW (xs (i + 3)) (xs (i + 4))), .long (lgW (xs (i + 5)) (xs (i + 6)))]) F S1 mw_feed hE2 rfl (by show 7 ≤ 11; decide) hL.2.1 (by show 1 ≤ 8; omega) dL_law_311 (by omega) (by omega)) (fun H2 locs2 S2 => ?_)
  exact lv_icmp_eq (tgt := 1426) hx hb dL_law_314 (by decide) (fun _ => kk σ' G' M' a' w LS u v H2 locs2 hI' hG S2 hL) (fun z => absurd rfl z)
section
variable {p : Program} {l : Launch} {e : Env} {R : Room} {s : State} {m : MethodId} {args : Array Value} {below : List Frame} {meth : Method} {c : Code} {H : Heap} {locs : List Loc} {cells slots : Nat} {Q : State → Prop} {LS : Array Slot} {pc : Nat} {st : List Value}
/-- an int as a truth -/
theorem lw_bl {t : Int32} (hx : p.tables.exec = Jvm.exec) (hb : c.code = code) (d0 : decode code pc = .ok (.ifCond .eq 7, 3)) (d1 : decode code (pc + 3) = .ok (.iconst 1, 1)) (d2 : decode code (pc + 4) = .ok (.goto 4, 3)) (d3 : decode code (pc + 7) = .ok (.iconst 0, 1)) (kk : W p l e R s m args below meth c H locs cells slots Q (F0 m (pc + 8) LS (.int (bI (decide (¬ t = 0))) :: st))) : W p l e R s m args below meth c H locs cells slots Q (F0 m pc LS (.int t :: st)) := by
  refine lv_if_eq (tgt := pc + 7) hx hb d0 (by omega) (fun z => ?_) (fun z => ?_)
  · refine lv_iconst (v := bI (decide (¬ t = 0))) hx hb d3 (by rw [decide_eq_false (fun h => h z)]; rfl) kk
  · refine lv_iconst (v := bI (decide (¬ t = 0))) hx hb d1 (by rw [decide_eq_true z]; rfl) ?_
    exact lv_goto (tgt := pc + 8) hx hb d2 (by omega) kk
end
theorem cs_mark : CaseOK 1348 := by
  intro D ac DM cs zs b L xs x0 mb p l e s m args below meth c H locs cells slots Q σ M w LS i u v G a B F h hcs hsl hL hi hI hB hr1 hr2 kk
  have hx := F.1.1
  have hb := F.1.2.1
  obtain ⟨r, σ', G', M', a', hE1, hE2, hI', hG⟩ := pr_mark (mb := mb) (v := xs (i + 1)) (b := decide (¬ xs (i + 2) = 0)) σ G M a B hI hB
  have g1 := hG.1.1
  have g2 := hG.1.2
  have g3 := hG.2.1
  have g4 := hG.2.2
  have hdm : dmM σ σ' := hE1.dom
  have ec : cells + (σ'.1 - σ.1) = σ'.1 - s.heap.size := by omega
  have es : slots + (σ'.2.1 - σ.2.1) = σ'.2.1 := by omega
  refine lv_aload_n hx hb dL_law_1348 rfl (hL.at rfl) ?_
  refine lv_aload_n hx hb dL_law_1349 rfl (hL.at rfl) ?_
  refine lv_iload hx hb dL_law_1350 (hL.at rfl) ?_
  refine lv_iconst (v := nI 1) hx hb dL_law_1352 rfl ?_
  refine lv_iadd hx hb dL_law_1353 ?_
  refine lw_ld F h hi (by decide) dL_law_1354 ?_
  refine lv_aload_n hx hb dL_law_1355 rfl (hL.at rfl) ?_
  refine lv_iload hx hb dL_law_1356 (hL.at rfl) ?_
  refine lv_iconst (v := nI 2) hx hb dL_law_1358 rfl ?_
  refine lv_iadd hx hb dL_law_1359 ?_
  refine lw_ld F h hi (by decide) dL_law_1360 ?_
  refine lw_bl hx hb dL_law_1361 dL_law_1364 dL_law_1365 dL_law_1368 ?_
  refine lw_behC (rest := []) h hdm (lw_run (vs := [.int (xs (i + 1)), .int (bI (decide (¬ xs (i + 2) = 0)))]) F h cw_mark hE1 rfl (by show 3 ≤ 3; decide) hI.1.rt hL.2.1 (by decide) dL_law_1369 (by omega) (by omega)) (fun H1 locs1 S1 => ?_)
  rw [ec, es]
  refine lv_aload_n hx hb dL_law_1372 rfl (hL.at rfl) ?_
  refine lv_aload_n hx hb dL_law_1373 rfl (hL.at rfl) ?_
  refine lv_iload hx hb dL_law_1374 (hL.at rfl) ?_
  refine lv_iconst (v := nI 1) hx hb dL_law_1376 rfl ?_
  refine lv_iadd hx hb dL_law_1377 ?_
  refine lw_ld F S1 hi (by decide) dL_law_1378 ?_
  refine lv_aload_n hx hb dL_law_1379 rfl (hL.at rfl) ?_
  refine lv_iload hx hb dL_law_1380 (hL.at rfl) ?_
  refine lv_iconst (v := nI 2) hx hb dL_law_1382 rfl ?_
  refine lv_iadd hx hb dL_law_1383 ?_
  refine lw_ld F S1 hi (by decide) dL_law_1384 ?_
  refine lw_bl hx hb dL_law_1385 dL_law_1388 dL_law_1389 dL_law_1392 ?_
  refine lw_behM (rest := [.int r]) S1 (by omega) F.2.2.2.2 (lw_runM (vs := [.int (xs (i + 1)), .int (bI (decide (¬ xs (i + 2) = 0)))]) F S1 mw_mark hE2 rfl (by show 3 ≤ 3; decide) hL.2.1 (by show 1 ≤ 8; omega) dL_law_1393 (by omega) (by omega)) (fun H2 locs2 S2 => ?_)
  exact lv_icmp_eq (tgt := 1426) hx hb dL_law_1396 (by decide) (fun _ => kk σ' G' M' a' w LS u v H2 locs2 hI' hG S2 hL) (fun z => absurd rfl z)
theorem ly_good : GoodIn lw_all (va_wsS R_law 132 yLY (wsW_ yLY cX0_years 6 (some .int) [(0, 12, 15, 13)])) := lw_SW (lw_g (lw_at lw_m9 46 rfl) rfl) (lw_g (lw_at lw_m9 47 rfl) rfl) (lw_g (lw_at lw_m1 0 rfl) rfl) (lw_g (lw_at lw_m9 48 rfl) rfl)
/-- a long against itself -/
theorem cmp00 {x : Int64} : lg_cmp x x = 0 := by
  unfold lg_cmp
  rw [if_neg Int64.lt_irrefl, if_pos rfl]
theorem cs_years : CaseOK 1268 := by
  intro D ac DM cs zs b L xs x0 mb p l e s m args below meth c H locs cells slots Q σ M w LS i u v G a B F h hcs hsl hL hi hI hB hr1 hr2 kk
  have hx := F.1.1
  have hb := F.1.2.1
  obtain ⟨r, σ', G', M', hE2, ht0, hI', hG, hcase⟩ := pr_years (mb := mb) (y := xs (i + 1)) (b := xs (i + 2)) (c := xs (i + 3)) hI hB
  have g1 := hG.1.1
  have g2 := hG.1.2
  have g3 := hG.2.1
  have g4 := hG.2.2
  have hdm : dmM σ σ' := by
    rcases hcase with ⟨-, z⟩ | ⟨-, -, z⟩
    · exact z.dom
    · exact z.dom
  have ec : cells + (σ'.1 - σ.1) = σ'.1 - s.heap.size := by omega
  have es : slots + (σ'.2.1 - σ.2.1) = σ'.2.1 := by omega
  have hA0 : ¬ lwA s.heap.size mb (mb + 47) := fun z => z.2 ⟨by omega, by omega⟩
  refine lv_aload_n hx hb dL_law_1268 rfl (hL.at rfl) ?_
  refine lv_aload_n hx hb dL_law_1269 rfl (hL.at rfl) ?_
  refine lv_iload hx hb dL_law_1270 (hL.at rfl) ?_
  refine lv_iconst (v := nI 1) hx hb dL_law_1272 rfl ?_
  refine lv_iadd hx hb dL_law_1273 ?_
  refine lw_ld F h hi (by decide) dL_law_1274 ?_
  refine lv_aload_n hx hb dL_law_1275 rfl (hL.at rfl) ?_
  refine lv_iload hx hb dL_law_1276 (hL.at rfl) ?_
  refine lv_iconst (v := nI 2) hx hb dL_law_1278 rfl ?_
  refine lv_iadd hx hb dL_law_1279 ?_
  refine lw_ld F h hi (by decide) dL_law_1280 ?_
  refine lv_aload_n hx hb dL_law_1281 rfl (hL.at rfl) ?_
  refine lv_iload hx hb dL_law_1282 (hL.at rfl) ?_
  refine lv_iconst (v := nI 3) hx hb dL_law_1284 rfl ?_
  refine lv_iadd hx hb dL_law_1285 ?_
  refine lw_ld F h hi (by decide) dL_law_1286 ?_
  refine lv_aload_n hx hb dL_law_1287 rfl (hL.at rfl) ?_
  -- both ways of the call
  have key : ∀ (rg : Option Value ⊕ Nat) (w' : Nat → Int64) (k0 : Int32), k0 = bI (!vYr a.q (xs (i + 1)) (xs (i + 2)) (xs (i + 3))) → (k0 = 0 → w' 0 = r.toInt64) → dmM σ σ' → leM σ σ' → Met l yLY (wsW_ yLY cX0_years 6 (some .int) [(0, 12, 15, 13)]) (rmY (σ'.1 - σ.1) (σ'.2.1 - σ.2.1)) (lyPc D ac DM cs (lwA s.heap.size mb) zs (mb + 47) w [.ref x0, .int (xs (i + 1)), .int (xs (i + 2)), .int (xs (i + 3)), .ref (mb + 47)] σ) (lyQc D ac DM cs (lwA s.heap.size mb) (mb + 47) w' σ' k0) (σ'.1 - σ.1) (σ'.2.1 - σ.2.1) (fun q => lwA s.heap.size mb q ∨ q = mb + 47) → W p l e room_1 s m args below meth c H locs cells slots Q (F0 m 1288 LS [.ref (mb + 47), .int (xs (i + 3)), .int (xs (i + 2)), .int (xs (i + 1)), .ref x0]) := by
    intro rg w' k0 hk0 hw' hdm hle hM
    have hrun := wk_sw (p := p) (e := e) (below := below) (meth := meth) (H := H) (locs := locs) (cells := cells) (slots := slots) (R := room_1) (As := [.ref x0, .int (xs (i + 1)), .int (xs (i + 2)), .int (xs (i + 3)), .ref (mb + 47)]) (rest := []) (pc := 1288) (LS := LS) (n := 5) F.1 hM ly_good rfl rfl ⟨by decide, by decide, by decide +kernel⟩ ⟨by show 220 + 1 ≤ 2048; omega, by show 8 + (6 + 11) + 64 * 220 ≤ 84000; omega⟩ ⟨lyPc_blind, fun U hU hW => ⟨rfl, ⟨by rw [hU]; exact h.1, va_K.moved hW.alike F.2.2.1.1, F.2.1.2.1.warm hW, F.2.1.2.2.1.go hW h.S hU⟩, by rw [hU]; exact h.2.2.1, va_K.moved hW.alike F.2.2.1.2⟩⟩ rfl hL.2.1 (by decide) dL_law_1288 ⟨by show cells + (σ'.1 - σ.1) ≤ 631120; omega, by show slots + (σ'.2.1 - σ.2.1) ≤ 7202743; omega⟩
    intro T hT X
    obtain ⟨v', st₀, t, T', L', h0, X', hLf, e1, e2, ⟨hv, hp, ho, hz, hk⟩, st⟩ := hrun T hT X
    cases hv
    rw [h0] at hz hk
    have hS := h.2.2.2.1
    have S1 : LSt D ac DM cs s mb σ' M w' T'.heap (locs ++ L') := by
      refine ⟨by rw [e1]; exact hp, h.2.1.kept (fun k x hx => by
        have hm := (mws_D mb cs M).2 k x hx
        have hlt := (h.2.1 k x hx).lt
        unfold mA at hm
        rw [e1]
        exact hk _ hlt (fun z => by
          rcases z with z | z
          · exact z.2 ⟨hm.1, by omega⟩
          · omega)), by rw [e1]; exact ho, ⟨Nat.le_trans hS.1 (by rw [e1]; exact hz), fun q h1 h2 => ?_, fun q hq => ?_⟩, Nat.le_trans h.2.2.2.2.1 hle.1, fun q h1 h2 => hdm.2 q (by have := h.2.2.2.2.1; omega) (h.2.2.2.2.2 q h1 h2)⟩
      · rw [e1, hk q (Nat.lt_of_lt_of_le h1 hS.1) (fun z => by
          rcases z with z | z
          · exact h2 z.1
          · exact h2 (by have := F.2.2.2.2; omega))]
        exact hS.2.1 q h1 h2
      · rcases List.mem_append.mp hq with hq | hq
        · exact hS.2.2 q hq
        · rcases hLf q hq with z | z
          · exact z.1
          · have z : q.base = mb + 47 := z
            show s.heap.size ≤ q.base
            rw [z]
            have := F.2.2.2.2
            omega
    have kgo : W p l e room_1 s m args below meth c T'.heap (locs ++ L') (cells + (σ'.1 - σ.1)) (slots + (σ'.2.1 - σ.2.1)) Q (F0 m (1288 + 3) LS [.int k0]) := by
      rw [ec, es]
      refine stp_sound hx hb dL_law_1291 (q := (1293, lwL b x0 mb i (some (.int k0)) v, [])) rfl hL (fun LS2 hL2 => ?_)
      refine lv_aload_n hx hb dL_law_1293 rfl (hL2.at rfl) ?_
      refine lw_args F S1 hL2 hi [1, 2, 3] 1294 [.ref mb] ⟨⟨by decide, dL_law_1294, dL_law_1295, dL_law_1297, dL_law_1298, dL_law_1299⟩, ⟨by decide, dL_law_1300, dL_law_1301, dL_law_1303, dL_law_1304, dL_law_1305⟩, ⟨by decide, dL_law_1306, dL_law_1307, dL_law_1309, dL_law_1310, dL_law_1311⟩, trivial⟩ ?_
      refine lw_behM (rest := []) S1 (by omega) F.2.2.2.2 (lw_runM (vs := [.int (xs (i + 1)), .int (xs (i + 2)), .int (xs (i + 3))]) F S1 mw_years hE2 rfl (by show 4 ≤ 13; decide) hL2.2.1 (by show 0 ≤ 8; decide) dL_law_1312 (by omega) (by omega)) (fun H2 locs2 S2 => ?_)
      refine stp_sound hx hb dL_law_1315 (q := (1317, lwL b x0 mb i (some (.int k0)) (some (.int r)), [])) rfl hL2 (fun LS3 hL3 => ?_)
      refine lv_aload_n hx hb dL_law_1317 rfl (hL3.at rfl) ?_
      refine lw_behM (rest := []) S2 (by omega) F.2.2.2.2 (lw_runM (vs := []) F S2 mw_thrown (m_thrown.mpr rfl) rfl (by show 1 ≤ 1; decide) hL3.2.1 (by show 0 ≤ 8; decide) dL_law_1318 (by omega) (by omega)) (fun H3 locs3 S3 => ?_)
      refine lv_iload hx hb dL_law_1321 (hL3.at rfl) ?_
      refine lv_icmp_eq (tgt := 1328) hx hb dL_law_1323 (by rfl) (fun _ => ?_) (fun z => absurd (ht0.trans hk0.symm) z)
      refine lv_iload hx hb dL_law_1328 (hL3.at rfl) ?_
      have fin : W p l e room_1 s m args below meth c H3 locs3 (σ'.1 - s.heap.size) σ'.2.1 Q (F0 m 1345 LS3 []) := lv_goto (tgt := 1426) hx hb dL_law_1345 (by rfl) (kk σ' G' M' a w' LS3 _ _ H3 locs3 hI' hG S3 hL3)
      refine lv_if_ne (tgt := 1345) hx hb dL_law_1330 (by rfl) (fun _ => fin) (fun z => ?_)
      refine lv_aload_n hx hb dL_law_1333 rfl (hL3.at rfl) ?_
      refine lv_iconst (v := 0) hx hb dL_law_1334 rfl ?_
      refine va_lald hx hb F.2.2.1.2 S3.2.2.1 0 2 rfl rfl (i := 0) (show ¬ ((0 : Int32) < 0 ∨ 1 ≤ (0 : Int32).toNatClampNeg) by decide) dL_law_1335 ?_
      refine lv_iload hx hb dL_law_1336 (hL3.at rfl) ?_
      refine lv_i2l hx hb dL_law_1338 rfl ?_
      refine W.lcmp hx hb dL_law_1339 ?_
      refine lv_if_eq (tgt := 1345) hx hb dL_law_1340 (by rfl) (fun _ => fin) (fun z9 => absurd ?_ z9)
      show lg_cmp (w' 0) r.toInt64 = 0
      rw [hw' z]
      exact cmp00
    obtain ⟨t2, a1, b1⟩ := kgo T' rfl X'
    exact ⟨t2, st t2 a1, b1⟩
  rcases hcase with ⟨hv, hE1⟩ | ⟨hv, hf, hE1⟩
  · obtain ⟨hm, hM⟩ := ly_met (DM := DM) (cs := cs) (w := w) (A := lwA s.heap.size mb) (D := D) (ac := ac) (o := mb + 47) F.2.1.1 hE1 hI.1.rt hA0 (hdm.2 _ (by have := h.2.2.2.2.1; omega) (h.2.2.2.2.2 _ (by omega) (by omega))) (Or.inl ⟨_, rfl⟩)
    exact key (.inl (some (.int r))) _ 0 (by rw [hv]; rfl) (fun _ => if_pos rfl) hdm hm hM
  · obtain ⟨hm, hM⟩ := ly_met (DM := DM) (cs := cs) (w := w) (A := lwA s.heap.size mb) (D := D) (ac := ac) (o := mb + 47) F.2.1.1 hE1 hI.1.rt hA0 (hdm.2 _ (by have := h.2.2.2.2.1; omega) (h.2.2.2.2.2 _ (by omega) (by omega))) (Or.inr ⟨rfl, hf⟩)
    exact key (.inr σ.1) _ 1 (by rw [hv]; rfl) (fun z => by cases z) hdm hm hM
